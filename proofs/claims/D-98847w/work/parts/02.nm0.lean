/-! DECODE ROWS BY BYTES: one lemma an opcode; a method's code is cut into short pieces once, and a row reads its own piece alone. -/
set_option maxRecDepth 100000
/-- the code has just these bytes from pc on -/
def DkAt (code : ByteArray) (pc : Nat) (bs : List UInt8) : Prop := ∀ (j : Nat) (b : UInt8), bs[j]? = some b → code.data.toList[pc + j]? = some b
/-- the piece W has the bytes bs from its place j on -/
def dkIn (W : List UInt8) (j : Nat) (bs : List UInt8) : Bool := decide ((W.drop j).take bs.length = bs)
theorem dk_seg {l W T : List UInt8} {o o2 : Nat} (h : l.drop o = W ++ T) (n : Nat) (hn : W.length = n) (ho : o + n = o2) : l.drop o2 = T := by
  subst ho
  rw [← List.drop_drop, h, List.drop_left' hn]
theorem dk_at {code : ByteArray} {W T bs : List UInt8} {o pc : Nat} (h : code.data.toList.drop o = W ++ T) (j : Nat) (hp : o + j = pc) (hw : dkIn W j bs = true) : DkAt code pc bs := by
  subst hp
  intro i b e
  have h1 := of_decide_eq_true hw
  have h2 : i < bs.length := (List.getElem?_eq_some_iff.mp e).1
  have h3 : W[j + i]? = some b := by
    rw [← h1, List.getElem?_take, if_pos h2, List.getElem?_drop] at e
    exact e
  have h4 : j + i < W.length := (List.getElem?_eq_some_iff.mp h3).1
  have h5 : (code.data.toList.drop o)[j + i]? = some b := by
    rw [h, List.getElem?_append_left h4]
    exact h3
  rw [List.getElem?_drop, ← Nat.add_assoc] at h5
  exact h5
theorem dk_u1 {A : ByteArray} {p : Nat} {b : UInt8} (h : A.data.toList[p]? = some b) : (Reader.u1 : Reader DecodeError Nat) A p = .ok (b.toNat, p + 1) := by
  obtain ⟨h1, h2⟩ := List.getElem?_eq_some_iff.mp h
  have h3 : p < A.size := by simpa using h1
  have h4 : A[p]'h3 = b := h2
  have e : (Reader.u1 : Reader DecodeError Nat) A p = (if h : p < A.size then .ok (A[p].toNat, p + 1) else .error (HasTruncated.truncated p)) := by
    show (do if h : p < A.size then do set (p + 1); Pure.pure A[p].toNat else MonadExcept.throw (HasTruncated.truncated p) : Reader DecodeError Nat) A p = _
    by_cases hi : p < A.size
    · rw [dif_pos hi, dif_pos hi]; rfl
    · rw [dif_neg hi, dif_neg hi]; rfl
  rw [e, dif_pos h3, h4]
theorem dk_bind {α β : Type} {r : Reader DecodeError α} {f : α → Reader DecodeError β} {A : ByteArray} {p s : Nat} {a : α} (h : r A p = .ok (a, s)) : (r >>= f) A p = f a A s := by
  show (do let (a, s) ← r A p; f a A s : Except DecodeError (β × Nat)) = _
  rw [h]
  rfl
theorem dk_map {α β : Type} {r : Reader DecodeError α} {g : α → β} {A : ByteArray} {p s : Nat} {a : α} (h : r A p = .ok (a, s)) : (g <$> r) A p = .ok (g a, s) := by
  show (do let (a, s) ← r A p; .ok (g a, s) : Except DecodeError (β × Nat)) = _
  rw [h]
  rfl
theorem dk_u2 {A : ByteArray} {p : Nat} {a b : UInt8} (h : A.data.toList[p]? = some a) (h2 : A.data.toList[p + 1]? = some b) : (Reader.u2 : Reader DecodeError Nat) A p = .ok (a.toNat * 256 + b.toNat, p + 2) := by
  show (Reader.u1 >>= fun hi => Reader.u1 >>= fun lo => Pure.pure (hi * 256 + lo) : Reader DecodeError Nat) A p = _
  rw [dk_bind (dk_u1 h), dk_bind (dk_u1 h2)]
  rfl
theorem dk_of {code : ByteArray} {pc n : Nat} {i : Instr} (h : Decoder.instr pc code pc = .ok (i, pc + n)) : decode code pc = .ok (i, n) := by
  have e : decode code pc = (match Decoder.instr pc code pc with | .error x => .error x | .ok (j, s) => .ok (j, s - pc)) := by
    show (do let (j, s) ← Decoder.instr pc code pc; Pure.pure (j, s - pc) : Except DecodeError (Instr × Nat)) = _
    cases Decoder.instr pc code pc <;> rfl
  rw [e, h]
  show Except.ok (i, pc + n - pc) = _
  rw [Nat.add_sub_cancel_left]
theorem dk_1 {code : ByteArray} {pc : Nat} (h : DkAt code pc [1]) : decode code pc = .ok (.aconst_null, 1) := dk_of ((dk_bind (dk_u1 (h 0 _ rfl))).trans rfl)
theorem dk_2 {code : ByteArray} {pc : Nat} (h : DkAt code pc [2]) : decode code pc = .ok (.iconst (-1), 1) := dk_of ((dk_bind (dk_u1 (h 0 _ rfl))).trans rfl)
theorem dk_3 {code : ByteArray} {pc : Nat} (h : DkAt code pc [3]) : decode code pc = .ok (.iconst 0, 1) := dk_of ((dk_bind (dk_u1 (h 0 _ rfl))).trans rfl)
theorem dk_4 {code : ByteArray} {pc : Nat} (h : DkAt code pc [4]) : decode code pc = .ok (.iconst 1, 1) := dk_of ((dk_bind (dk_u1 (h 0 _ rfl))).trans rfl)
theorem dk_5 {code : ByteArray} {pc : Nat} (h : DkAt code pc [5]) : decode code pc = .ok (.iconst 2, 1) := dk_of ((dk_bind (dk_u1 (h 0 _ rfl))).trans rfl)
theorem dk_6 {code : ByteArray} {pc : Nat} (h : DkAt code pc [6]) : decode code pc = .ok (.iconst 3, 1) := dk_of ((dk_bind (dk_u1 (h 0 _ rfl))).trans rfl)
theorem dk_7 {code : ByteArray} {pc : Nat} (h : DkAt code pc [7]) : decode code pc = .ok (.iconst 4, 1) := dk_of ((dk_bind (dk_u1 (h 0 _ rfl))).trans rfl)
theorem dk_8 {code : ByteArray} {pc : Nat} (h : DkAt code pc [8]) : decode code pc = .ok (.iconst 5, 1) := dk_of ((dk_bind (dk_u1 (h 0 _ rfl))).trans rfl)
theorem dk_9 {code : ByteArray} {pc : Nat} (h : DkAt code pc [9]) : decode code pc = .ok (.lconst 0, 1) := dk_of ((dk_bind (dk_u1 (h 0 _ rfl))).trans rfl)
theorem dk_10 {code : ByteArray} {pc : Nat} (h : DkAt code pc [10]) : decode code pc = .ok (.lconst 1, 1) := dk_of ((dk_bind (dk_u1 (h 0 _ rfl))).trans rfl)
theorem dk_16 {code : ByteArray} {pc : Nat} (a : UInt8) (h : DkAt code pc [16, a]) : decode code pc = .ok (.bipush (Reader.signed 8 a.toNat), 2) := dk_of ((dk_bind (dk_u1 (h 0 _ rfl))).trans ((dk_bind (dk_map (dk_u1 (h 1 _ rfl)))).trans rfl))
theorem dk_17 {code : ByteArray} {pc : Nat} (a b : UInt8) (h : DkAt code pc [17, a, b]) : decode code pc = .ok (.sipush (Reader.signed 16 (a.toNat * 256 + b.toNat)), 3) := dk_of ((dk_bind (dk_u1 (h 0 _ rfl))).trans ((dk_bind (dk_map (dk_u2 (h 1 _ rfl) (h 2 _ rfl)))).trans rfl))
theorem dk_18 {code : ByteArray} {pc : Nat} (a : UInt8) (h : DkAt code pc [18, a]) : decode code pc = .ok (.ldc a.toNat, 2) := dk_of ((dk_bind (dk_u1 (h 0 _ rfl))).trans ((dk_bind (dk_u1 (h 1 _ rfl))).trans rfl))
theorem dk_19 {code : ByteArray} {pc : Nat} (a b : UInt8) (h : DkAt code pc [19, a, b]) : decode code pc = .ok (.ldc_w (a.toNat * 256 + b.toNat), 3) := dk_of ((dk_bind (dk_u1 (h 0 _ rfl))).trans ((dk_bind (dk_u2 (h 1 _ rfl) (h 2 _ rfl))).trans rfl))
theorem dk_20 {code : ByteArray} {pc : Nat} (a b : UInt8) (h : DkAt code pc [20, a, b]) : decode code pc = .ok (.ldc2_w (a.toNat * 256 + b.toNat), 3) := dk_of ((dk_bind (dk_u1 (h 0 _ rfl))).trans ((dk_bind (dk_u2 (h 1 _ rfl) (h 2 _ rfl))).trans rfl))
theorem dk_21 {code : ByteArray} {pc : Nat} (a : UInt8) (h : DkAt code pc [21, a]) : decode code pc = .ok (.iload a.toNat, 2) := dk_of ((dk_bind (dk_u1 (h 0 _ rfl))).trans ((dk_bind (dk_u1 (h 1 _ rfl))).trans rfl))
theorem dk_22 {code : ByteArray} {pc : Nat} (a : UInt8) (h : DkAt code pc [22, a]) : decode code pc = .ok (.lload a.toNat, 2) := dk_of ((dk_bind (dk_u1 (h 0 _ rfl))).trans ((dk_bind (dk_u1 (h 1 _ rfl))).trans rfl))
theorem dk_25 {code : ByteArray} {pc : Nat} (a : UInt8) (h : DkAt code pc [25, a]) : decode code pc = .ok (.aload a.toNat, 2) := dk_of ((dk_bind (dk_u1 (h 0 _ rfl))).trans ((dk_bind (dk_u1 (h 1 _ rfl))).trans rfl))
theorem dk_26 {code : ByteArray} {pc : Nat} (h : DkAt code pc [26]) : decode code pc = .ok (.iload_n 0, 1) := dk_of ((dk_bind (dk_u1 (h 0 _ rfl))).trans rfl)
theorem dk_27 {code : ByteArray} {pc : Nat} (h : DkAt code pc [27]) : decode code pc = .ok (.iload_n 1, 1) := dk_of ((dk_bind (dk_u1 (h 0 _ rfl))).trans rfl)
theorem dk_28 {code : ByteArray} {pc : Nat} (h : DkAt code pc [28]) : decode code pc = .ok (.iload_n 2, 1) := dk_of ((dk_bind (dk_u1 (h 0 _ rfl))).trans rfl)
theorem dk_29 {code : ByteArray} {pc : Nat} (h : DkAt code pc [29]) : decode code pc = .ok (.iload_n 3, 1) := dk_of ((dk_bind (dk_u1 (h 0 _ rfl))).trans rfl)
theorem dk_30 {code : ByteArray} {pc : Nat} (h : DkAt code pc [30]) : decode code pc = .ok (.lload_n 0, 1) := dk_of ((dk_bind (dk_u1 (h 0 _ rfl))).trans rfl)
theorem dk_31 {code : ByteArray} {pc : Nat} (h : DkAt code pc [31]) : decode code pc = .ok (.lload_n 1, 1) := dk_of ((dk_bind (dk_u1 (h 0 _ rfl))).trans rfl)
theorem dk_32 {code : ByteArray} {pc : Nat} (h : DkAt code pc [32]) : decode code pc = .ok (.lload_n 2, 1) := dk_of ((dk_bind (dk_u1 (h 0 _ rfl))).trans rfl)
theorem dk_42 {code : ByteArray} {pc : Nat} (h : DkAt code pc [42]) : decode code pc = .ok (.aload_n 0, 1) := dk_of ((dk_bind (dk_u1 (h 0 _ rfl))).trans rfl)
theorem dk_43 {code : ByteArray} {pc : Nat} (h : DkAt code pc [43]) : decode code pc = .ok (.aload_n 1, 1) := dk_of ((dk_bind (dk_u1 (h 0 _ rfl))).trans rfl)
theorem dk_44 {code : ByteArray} {pc : Nat} (h : DkAt code pc [44]) : decode code pc = .ok (.aload_n 2, 1) := dk_of ((dk_bind (dk_u1 (h 0 _ rfl))).trans rfl)
theorem dk_45 {code : ByteArray} {pc : Nat} (h : DkAt code pc [45]) : decode code pc = .ok (.aload_n 3, 1) := dk_of ((dk_bind (dk_u1 (h 0 _ rfl))).trans rfl)
theorem dk_46 {code : ByteArray} {pc : Nat} (h : DkAt code pc [46]) : decode code pc = .ok (.iaload, 1) := dk_of ((dk_bind (dk_u1 (h 0 _ rfl))).trans rfl)
theorem dk_47 {code : ByteArray} {pc : Nat} (h : DkAt code pc [47]) : decode code pc = .ok (.laload, 1) := dk_of ((dk_bind (dk_u1 (h 0 _ rfl))).trans rfl)
theorem dk_50 {code : ByteArray} {pc : Nat} (h : DkAt code pc [50]) : decode code pc = .ok (.aaload, 1) := dk_of ((dk_bind (dk_u1 (h 0 _ rfl))).trans rfl)
theorem dk_51 {code : ByteArray} {pc : Nat} (h : DkAt code pc [51]) : decode code pc = .ok (.baload, 1) := dk_of ((dk_bind (dk_u1 (h 0 _ rfl))).trans rfl)
theorem dk_54 {code : ByteArray} {pc : Nat} (a : UInt8) (h : DkAt code pc [54, a]) : decode code pc = .ok (.istore a.toNat, 2) := dk_of ((dk_bind (dk_u1 (h 0 _ rfl))).trans ((dk_bind (dk_u1 (h 1 _ rfl))).trans rfl))
theorem dk_55 {code : ByteArray} {pc : Nat} (a : UInt8) (h : DkAt code pc [55, a]) : decode code pc = .ok (.lstore a.toNat, 2) := dk_of ((dk_bind (dk_u1 (h 0 _ rfl))).trans ((dk_bind (dk_u1 (h 1 _ rfl))).trans rfl))
theorem dk_58 {code : ByteArray} {pc : Nat} (a : UInt8) (h : DkAt code pc [58, a]) : decode code pc = .ok (.astore a.toNat, 2) := dk_of ((dk_bind (dk_u1 (h 0 _ rfl))).trans ((dk_bind (dk_u1 (h 1 _ rfl))).trans rfl))
theorem dk_59 {code : ByteArray} {pc : Nat} (h : DkAt code pc [59]) : decode code pc = .ok (.istore_n 0, 1) := dk_of ((dk_bind (dk_u1 (h 0 _ rfl))).trans rfl)
theorem dk_60 {code : ByteArray} {pc : Nat} (h : DkAt code pc [60]) : decode code pc = .ok (.istore_n 1, 1) := dk_of ((dk_bind (dk_u1 (h 0 _ rfl))).trans rfl)
theorem dk_61 {code : ByteArray} {pc : Nat} (h : DkAt code pc [61]) : decode code pc = .ok (.istore_n 2, 1) := dk_of ((dk_bind (dk_u1 (h 0 _ rfl))).trans rfl)
theorem dk_62 {code : ByteArray} {pc : Nat} (h : DkAt code pc [62]) : decode code pc = .ok (.istore_n 3, 1) := dk_of ((dk_bind (dk_u1 (h 0 _ rfl))).trans rfl)
theorem dk_64 {code : ByteArray} {pc : Nat} (h : DkAt code pc [64]) : decode code pc = .ok (.lstore_n 1, 1) := dk_of ((dk_bind (dk_u1 (h 0 _ rfl))).trans rfl)
theorem dk_65 {code : ByteArray} {pc : Nat} (h : DkAt code pc [65]) : decode code pc = .ok (.lstore_n 2, 1) := dk_of ((dk_bind (dk_u1 (h 0 _ rfl))).trans rfl)
theorem dk_76 {code : ByteArray} {pc : Nat} (h : DkAt code pc [76]) : decode code pc = .ok (.astore_n 1, 1) := dk_of ((dk_bind (dk_u1 (h 0 _ rfl))).trans rfl)
theorem dk_77 {code : ByteArray} {pc : Nat} (h : DkAt code pc [77]) : decode code pc = .ok (.astore_n 2, 1) := dk_of ((dk_bind (dk_u1 (h 0 _ rfl))).trans rfl)
theorem dk_78 {code : ByteArray} {pc : Nat} (h : DkAt code pc [78]) : decode code pc = .ok (.astore_n 3, 1) := dk_of ((dk_bind (dk_u1 (h 0 _ rfl))).trans rfl)
theorem dk_79 {code : ByteArray} {pc : Nat} (h : DkAt code pc [79]) : decode code pc = .ok (.iastore, 1) := dk_of ((dk_bind (dk_u1 (h 0 _ rfl))).trans rfl)
theorem dk_80 {code : ByteArray} {pc : Nat} (h : DkAt code pc [80]) : decode code pc = .ok (.lastore, 1) := dk_of ((dk_bind (dk_u1 (h 0 _ rfl))).trans rfl)
theorem dk_83 {code : ByteArray} {pc : Nat} (h : DkAt code pc [83]) : decode code pc = .ok (.aastore, 1) := dk_of ((dk_bind (dk_u1 (h 0 _ rfl))).trans rfl)
theorem dk_84 {code : ByteArray} {pc : Nat} (h : DkAt code pc [84]) : decode code pc = .ok (.bastore, 1) := dk_of ((dk_bind (dk_u1 (h 0 _ rfl))).trans rfl)
theorem dk_87 {code : ByteArray} {pc : Nat} (h : DkAt code pc [87]) : decode code pc = .ok (.pop, 1) := dk_of ((dk_bind (dk_u1 (h 0 _ rfl))).trans rfl)
theorem dk_89 {code : ByteArray} {pc : Nat} (h : DkAt code pc [89]) : decode code pc = .ok (.dup, 1) := dk_of ((dk_bind (dk_u1 (h 0 _ rfl))).trans rfl)
theorem dk_90 {code : ByteArray} {pc : Nat} (h : DkAt code pc [90]) : decode code pc = .ok (.dup_x1, 1) := dk_of ((dk_bind (dk_u1 (h 0 _ rfl))).trans rfl)
theorem dk_92 {code : ByteArray} {pc : Nat} (h : DkAt code pc [92]) : decode code pc = .ok (.dup2, 1) := dk_of ((dk_bind (dk_u1 (h 0 _ rfl))).trans rfl)
theorem dk_96 {code : ByteArray} {pc : Nat} (h : DkAt code pc [96]) : decode code pc = .ok (.iadd, 1) := dk_of ((dk_bind (dk_u1 (h 0 _ rfl))).trans rfl)
theorem dk_97 {code : ByteArray} {pc : Nat} (h : DkAt code pc [97]) : decode code pc = .ok (.ladd, 1) := dk_of ((dk_bind (dk_u1 (h 0 _ rfl))).trans rfl)
theorem dk_100 {code : ByteArray} {pc : Nat} (h : DkAt code pc [100]) : decode code pc = .ok (.isub, 1) := dk_of ((dk_bind (dk_u1 (h 0 _ rfl))).trans rfl)
theorem dk_104 {code : ByteArray} {pc : Nat} (h : DkAt code pc [104]) : decode code pc = .ok (.imul, 1) := dk_of ((dk_bind (dk_u1 (h 0 _ rfl))).trans rfl)
theorem dk_105 {code : ByteArray} {pc : Nat} (h : DkAt code pc [105]) : decode code pc = .ok (.lmul, 1) := dk_of ((dk_bind (dk_u1 (h 0 _ rfl))).trans rfl)
theorem dk_108 {code : ByteArray} {pc : Nat} (h : DkAt code pc [108]) : decode code pc = .ok (.idiv, 1) := dk_of ((dk_bind (dk_u1 (h 0 _ rfl))).trans rfl)
theorem dk_109 {code : ByteArray} {pc : Nat} (h : DkAt code pc [109]) : decode code pc = .ok (.ldiv, 1) := dk_of ((dk_bind (dk_u1 (h 0 _ rfl))).trans rfl)
theorem dk_112 {code : ByteArray} {pc : Nat} (h : DkAt code pc [112]) : decode code pc = .ok (.irem, 1) := dk_of ((dk_bind (dk_u1 (h 0 _ rfl))).trans rfl)
theorem dk_113 {code : ByteArray} {pc : Nat} (h : DkAt code pc [113]) : decode code pc = .ok (.lrem, 1) := dk_of ((dk_bind (dk_u1 (h 0 _ rfl))).trans rfl)
theorem dk_116 {code : ByteArray} {pc : Nat} (h : DkAt code pc [116]) : decode code pc = .ok (.ineg, 1) := dk_of ((dk_bind (dk_u1 (h 0 _ rfl))).trans rfl)
theorem dk_120 {code : ByteArray} {pc : Nat} (h : DkAt code pc [120]) : decode code pc = .ok (.ishl, 1) := dk_of ((dk_bind (dk_u1 (h 0 _ rfl))).trans rfl)
theorem dk_121 {code : ByteArray} {pc : Nat} (h : DkAt code pc [121]) : decode code pc = .ok (.lshl, 1) := dk_of ((dk_bind (dk_u1 (h 0 _ rfl))).trans rfl)
theorem dk_122 {code : ByteArray} {pc : Nat} (h : DkAt code pc [122]) : decode code pc = .ok (.ishr, 1) := dk_of ((dk_bind (dk_u1 (h 0 _ rfl))).trans rfl)
theorem dk_124 {code : ByteArray} {pc : Nat} (h : DkAt code pc [124]) : decode code pc = .ok (.iushr, 1) := dk_of ((dk_bind (dk_u1 (h 0 _ rfl))).trans rfl)
theorem dk_126 {code : ByteArray} {pc : Nat} (h : DkAt code pc [126]) : decode code pc = .ok (.iand, 1) := dk_of ((dk_bind (dk_u1 (h 0 _ rfl))).trans rfl)
theorem dk_128 {code : ByteArray} {pc : Nat} (h : DkAt code pc [128]) : decode code pc = .ok (.ior, 1) := dk_of ((dk_bind (dk_u1 (h 0 _ rfl))).trans rfl)
theorem dk_129 {code : ByteArray} {pc : Nat} (h : DkAt code pc [129]) : decode code pc = .ok (.lor, 1) := dk_of ((dk_bind (dk_u1 (h 0 _ rfl))).trans rfl)
theorem dk_130 {code : ByteArray} {pc : Nat} (h : DkAt code pc [130]) : decode code pc = .ok (.ixor, 1) := dk_of ((dk_bind (dk_u1 (h 0 _ rfl))).trans rfl)
theorem dk_132 {code : ByteArray} {pc : Nat} (a b : UInt8) (h : DkAt code pc [132, a, b]) : decode code pc = .ok (.iinc a.toNat (Reader.signed 8 b.toNat), 3) := dk_of ((dk_bind (dk_u1 (h 0 _ rfl))).trans ((dk_bind (dk_u1 (h 1 _ rfl))).trans ((dk_bind (dk_map (dk_u1 (h 2 _ rfl)))).trans rfl)))
theorem dk_133 {code : ByteArray} {pc : Nat} (h : DkAt code pc [133]) : decode code pc = .ok (.i2l, 1) := dk_of ((dk_bind (dk_u1 (h 0 _ rfl))).trans rfl)
theorem dk_145 {code : ByteArray} {pc : Nat} (h : DkAt code pc [145]) : decode code pc = .ok (.i2b, 1) := dk_of ((dk_bind (dk_u1 (h 0 _ rfl))).trans rfl)
theorem dk_146 {code : ByteArray} {pc : Nat} (h : DkAt code pc [146]) : decode code pc = .ok (.i2c, 1) := dk_of ((dk_bind (dk_u1 (h 0 _ rfl))).trans rfl)
theorem dk_148 {code : ByteArray} {pc : Nat} (h : DkAt code pc [148]) : decode code pc = .ok (.lcmp, 1) := dk_of ((dk_bind (dk_u1 (h 0 _ rfl))).trans rfl)
theorem dk_153 {code : ByteArray} {pc : Nat} (a b : UInt8) (h : DkAt code pc [153, a, b]) : decode code pc = .ok (.ifCond .eq (Reader.signed 16 (a.toNat * 256 + b.toNat)), 3) := dk_of ((dk_bind (dk_u1 (h 0 _ rfl))).trans ((dk_bind (dk_map (dk_u2 (h 1 _ rfl) (h 2 _ rfl)))).trans rfl))
theorem dk_154 {code : ByteArray} {pc : Nat} (a b : UInt8) (h : DkAt code pc [154, a, b]) : decode code pc = .ok (.ifCond .ne (Reader.signed 16 (a.toNat * 256 + b.toNat)), 3) := dk_of ((dk_bind (dk_u1 (h 0 _ rfl))).trans ((dk_bind (dk_map (dk_u2 (h 1 _ rfl) (h 2 _ rfl)))).trans rfl))
theorem dk_155 {code : ByteArray} {pc : Nat} (a b : UInt8) (h : DkAt code pc [155, a, b]) : decode code pc = .ok (.ifCond .lt (Reader.signed 16 (a.toNat * 256 + b.toNat)), 3) := dk_of ((dk_bind (dk_u1 (h 0 _ rfl))).trans ((dk_bind (dk_map (dk_u2 (h 1 _ rfl) (h 2 _ rfl)))).trans rfl))
theorem dk_156 {code : ByteArray} {pc : Nat} (a b : UInt8) (h : DkAt code pc [156, a, b]) : decode code pc = .ok (.ifCond .ge (Reader.signed 16 (a.toNat * 256 + b.toNat)), 3) := dk_of ((dk_bind (dk_u1 (h 0 _ rfl))).trans ((dk_bind (dk_map (dk_u2 (h 1 _ rfl) (h 2 _ rfl)))).trans rfl))
theorem dk_157 {code : ByteArray} {pc : Nat} (a b : UInt8) (h : DkAt code pc [157, a, b]) : decode code pc = .ok (.ifCond .gt (Reader.signed 16 (a.toNat * 256 + b.toNat)), 3) := dk_of ((dk_bind (dk_u1 (h 0 _ rfl))).trans ((dk_bind (dk_map (dk_u2 (h 1 _ rfl) (h 2 _ rfl)))).trans rfl))
theorem dk_158 {code : ByteArray} {pc : Nat} (a b : UInt8) (h : DkAt code pc [158, a, b]) : decode code pc = .ok (.ifCond .le (Reader.signed 16 (a.toNat * 256 + b.toNat)), 3) := dk_of ((dk_bind (dk_u1 (h 0 _ rfl))).trans ((dk_bind (dk_map (dk_u2 (h 1 _ rfl) (h 2 _ rfl)))).trans rfl))
theorem dk_159 {code : ByteArray} {pc : Nat} (a b : UInt8) (h : DkAt code pc [159, a, b]) : decode code pc = .ok (.if_icmp .eq (Reader.signed 16 (a.toNat * 256 + b.toNat)), 3) := dk_of ((dk_bind (dk_u1 (h 0 _ rfl))).trans ((dk_bind (dk_map (dk_u2 (h 1 _ rfl) (h 2 _ rfl)))).trans rfl))
theorem dk_160 {code : ByteArray} {pc : Nat} (a b : UInt8) (h : DkAt code pc [160, a, b]) : decode code pc = .ok (.if_icmp .ne (Reader.signed 16 (a.toNat * 256 + b.toNat)), 3) := dk_of ((dk_bind (dk_u1 (h 0 _ rfl))).trans ((dk_bind (dk_map (dk_u2 (h 1 _ rfl) (h 2 _ rfl)))).trans rfl))
theorem dk_161 {code : ByteArray} {pc : Nat} (a b : UInt8) (h : DkAt code pc [161, a, b]) : decode code pc = .ok (.if_icmp .lt (Reader.signed 16 (a.toNat * 256 + b.toNat)), 3) := dk_of ((dk_bind (dk_u1 (h 0 _ rfl))).trans ((dk_bind (dk_map (dk_u2 (h 1 _ rfl) (h 2 _ rfl)))).trans rfl))
theorem dk_162 {code : ByteArray} {pc : Nat} (a b : UInt8) (h : DkAt code pc [162, a, b]) : decode code pc = .ok (.if_icmp .ge (Reader.signed 16 (a.toNat * 256 + b.toNat)), 3) := dk_of ((dk_bind (dk_u1 (h 0 _ rfl))).trans ((dk_bind (dk_map (dk_u2 (h 1 _ rfl) (h 2 _ rfl)))).trans rfl))
theorem dk_163 {code : ByteArray} {pc : Nat} (a b : UInt8) (h : DkAt code pc [163, a, b]) : decode code pc = .ok (.if_icmp .gt (Reader.signed 16 (a.toNat * 256 + b.toNat)), 3) := dk_of ((dk_bind (dk_u1 (h 0 _ rfl))).trans ((dk_bind (dk_map (dk_u2 (h 1 _ rfl) (h 2 _ rfl)))).trans rfl))
theorem dk_164 {code : ByteArray} {pc : Nat} (a b : UInt8) (h : DkAt code pc [164, a, b]) : decode code pc = .ok (.if_icmp .le (Reader.signed 16 (a.toNat * 256 + b.toNat)), 3) := dk_of ((dk_bind (dk_u1 (h 0 _ rfl))).trans ((dk_bind (dk_map (dk_u2 (h 1 _ rfl) (h 2 _ rfl)))).trans rfl))
theorem dk_165 {code : ByteArray} {pc : Nat} (a b : UInt8) (h : DkAt code pc [165, a, b]) : decode code pc = .ok (.if_acmp .eq (Reader.signed 16 (a.toNat * 256 + b.toNat)), 3) := dk_of ((dk_bind (dk_u1 (h 0 _ rfl))).trans ((dk_bind (dk_map (dk_u2 (h 1 _ rfl) (h 2 _ rfl)))).trans rfl))
theorem dk_166 {code : ByteArray} {pc : Nat} (a b : UInt8) (h : DkAt code pc [166, a, b]) : decode code pc = .ok (.if_acmp .ne (Reader.signed 16 (a.toNat * 256 + b.toNat)), 3) := dk_of ((dk_bind (dk_u1 (h 0 _ rfl))).trans ((dk_bind (dk_map (dk_u2 (h 1 _ rfl) (h 2 _ rfl)))).trans rfl))
theorem dk_167 {code : ByteArray} {pc : Nat} (a b : UInt8) (h : DkAt code pc [167, a, b]) : decode code pc = .ok (.goto (Reader.signed 16 (a.toNat * 256 + b.toNat)), 3) := dk_of ((dk_bind (dk_u1 (h 0 _ rfl))).trans ((dk_bind (dk_map (dk_u2 (h 1 _ rfl) (h 2 _ rfl)))).trans rfl))
theorem dk_172 {code : ByteArray} {pc : Nat} (h : DkAt code pc [172]) : decode code pc = .ok (.ireturn, 1) := dk_of ((dk_bind (dk_u1 (h 0 _ rfl))).trans rfl)
theorem dk_173 {code : ByteArray} {pc : Nat} (h : DkAt code pc [173]) : decode code pc = .ok (.lreturn, 1) := dk_of ((dk_bind (dk_u1 (h 0 _ rfl))).trans rfl)
theorem dk_176 {code : ByteArray} {pc : Nat} (h : DkAt code pc [176]) : decode code pc = .ok (.areturn, 1) := dk_of ((dk_bind (dk_u1 (h 0 _ rfl))).trans rfl)
theorem dk_177 {code : ByteArray} {pc : Nat} (h : DkAt code pc [177]) : decode code pc = .ok (.return_, 1) := dk_of ((dk_bind (dk_u1 (h 0 _ rfl))).trans rfl)
theorem dk_178 {code : ByteArray} {pc : Nat} (a b : UInt8) (h : DkAt code pc [178, a, b]) : decode code pc = .ok (.getstatic (a.toNat * 256 + b.toNat), 3) := dk_of ((dk_bind (dk_u1 (h 0 _ rfl))).trans ((dk_bind (dk_u2 (h 1 _ rfl) (h 2 _ rfl))).trans rfl))
theorem dk_180 {code : ByteArray} {pc : Nat} (a b : UInt8) (h : DkAt code pc [180, a, b]) : decode code pc = .ok (.getfield (a.toNat * 256 + b.toNat), 3) := dk_of ((dk_bind (dk_u1 (h 0 _ rfl))).trans ((dk_bind (dk_u2 (h 1 _ rfl) (h 2 _ rfl))).trans rfl))
theorem dk_181 {code : ByteArray} {pc : Nat} (a b : UInt8) (h : DkAt code pc [181, a, b]) : decode code pc = .ok (.putfield (a.toNat * 256 + b.toNat), 3) := dk_of ((dk_bind (dk_u1 (h 0 _ rfl))).trans ((dk_bind (dk_u2 (h 1 _ rfl) (h 2 _ rfl))).trans rfl))
theorem dk_182 {code : ByteArray} {pc : Nat} (a b : UInt8) (h : DkAt code pc [182, a, b]) : decode code pc = .ok (.invokevirtual (a.toNat * 256 + b.toNat), 3) := dk_of ((dk_bind (dk_u1 (h 0 _ rfl))).trans ((dk_bind (dk_u2 (h 1 _ rfl) (h 2 _ rfl))).trans rfl))
theorem dk_183 {code : ByteArray} {pc : Nat} (a b : UInt8) (h : DkAt code pc [183, a, b]) : decode code pc = .ok (.invokespecial (a.toNat * 256 + b.toNat), 3) := dk_of ((dk_bind (dk_u1 (h 0 _ rfl))).trans ((dk_bind (dk_u2 (h 1 _ rfl) (h 2 _ rfl))).trans rfl))
theorem dk_184 {code : ByteArray} {pc : Nat} (a b : UInt8) (h : DkAt code pc [184, a, b]) : decode code pc = .ok (.invokestatic (a.toNat * 256 + b.toNat), 3) := dk_of ((dk_bind (dk_u1 (h 0 _ rfl))).trans ((dk_bind (dk_u2 (h 1 _ rfl) (h 2 _ rfl))).trans rfl))
theorem dk_187 {code : ByteArray} {pc : Nat} (a b : UInt8) (h : DkAt code pc [187, a, b]) : decode code pc = .ok (.new (a.toNat * 256 + b.toNat), 3) := dk_of ((dk_bind (dk_u1 (h 0 _ rfl))).trans ((dk_bind (dk_u2 (h 1 _ rfl) (h 2 _ rfl))).trans rfl))
theorem dk_188_4 {code : ByteArray} {pc : Nat} (h : DkAt code pc [188, 4]) : decode code pc = .ok (.newarray .boolean, 2) := dk_of ((dk_bind (dk_u1 (h 0 _ rfl))).trans ((dk_bind (dk_u1 (h 1 _ rfl))).trans rfl))
theorem dk_188_8 {code : ByteArray} {pc : Nat} (h : DkAt code pc [188, 8]) : decode code pc = .ok (.newarray .byte, 2) := dk_of ((dk_bind (dk_u1 (h 0 _ rfl))).trans ((dk_bind (dk_u1 (h 1 _ rfl))).trans rfl))
theorem dk_188_10 {code : ByteArray} {pc : Nat} (h : DkAt code pc [188, 10]) : decode code pc = .ok (.newarray .int, 2) := dk_of ((dk_bind (dk_u1 (h 0 _ rfl))).trans ((dk_bind (dk_u1 (h 1 _ rfl))).trans rfl))
theorem dk_188_11 {code : ByteArray} {pc : Nat} (h : DkAt code pc [188, 11]) : decode code pc = .ok (.newarray .long, 2) := dk_of ((dk_bind (dk_u1 (h 0 _ rfl))).trans ((dk_bind (dk_u1 (h 1 _ rfl))).trans rfl))
theorem dk_189 {code : ByteArray} {pc : Nat} (a b : UInt8) (h : DkAt code pc [189, a, b]) : decode code pc = .ok (.anewarray (a.toNat * 256 + b.toNat), 3) := dk_of ((dk_bind (dk_u1 (h 0 _ rfl))).trans ((dk_bind (dk_u2 (h 1 _ rfl) (h 2 _ rfl))).trans rfl))
theorem dk_190 {code : ByteArray} {pc : Nat} (h : DkAt code pc [190]) : decode code pc = .ok (.arraylength, 1) := dk_of ((dk_bind (dk_u1 (h 0 _ rfl))).trans rfl)
theorem dk_191 {code : ByteArray} {pc : Nat} (h : DkAt code pc [191]) : decode code pc = .ok (.athrow, 1) := dk_of ((dk_bind (dk_u1 (h 0 _ rfl))).trans rfl)
theorem dk_192 {code : ByteArray} {pc : Nat} (a b : UInt8) (h : DkAt code pc [192, a, b]) : decode code pc = .ok (.checkcast (a.toNat * 256 + b.toNat), 3) := dk_of ((dk_bind (dk_u1 (h 0 _ rfl))).trans ((dk_bind (dk_u2 (h 1 _ rfl) (h 2 _ rfl))).trans rfl))
theorem dk_199 {code : ByteArray} {pc : Nat} (a b : UInt8) (h : DkAt code pc [199, a, b]) : decode code pc = .ok (.ifnonnull (Reader.signed 16 (a.toNat * 256 + b.toNat)), 3) := dk_of ((dk_bind (dk_u1 (h 0 _ rfl))).trans ((dk_bind (dk_map (dk_u2 (h 1 _ rfl) (h 2 _ rfl)))).trans rfl))
/-! java/util/AbstractCollection -/
set_option maxRecDepth 100000
def RJ0 : String := "java/util/AbstractCollection"
abbrev cJ0_init : ByteArray := prog_36_method_1_code
def yJ0_init : MethodName := ⟨RJ0, "<init>", "()V"⟩
theorem dJ0_init_0 : decode cJ0_init 0 = .ok (.aload_n 0, 1) := by decide +kernel
theorem dJ0_init_1 : decode cJ0_init 1 = .ok (.invokespecial 1, 3) := by decide +kernel
theorem dJ0_init_4 : decode cJ0_init 4 = .ok (.return_, 1) := by decide +kernel
theorem q119 : (Jvm.Cond.initialized "java/util/AbstractCollection") ∈ lw_all := lw_g (lw_at lw_m1 3 rfl) rfl
theorem q178 : (Jvm.Cond.instanceMethod ({ cls := "java/util/AbstractCollection", name := "<init>", desc := "()V" } : Jvm.MethodName)) ∈ lw_all := lw_g (lw_at lw_m1 62 rfl) rfl
theorem q179 : (Jvm.Cond.code ({ cls := "java/util/AbstractCollection", name := "<init>", desc := "()V" } : Jvm.MethodName) prog_36_method_1_code (1 : Nat) (Option.none : Option Jvm.ClassFile.FieldType)) ∈ lw_all := lw_g (lw_at lw_m1 63 rfl) rfl
theorem q180 : (Jvm.Cond.methodLink "java/util/AbstractCollection" (1 : Nat) ({ cls := "java/lang/Object", name := "<init>", desc := "()V" } : Jvm.MethodName)) ∈ lw_all := lw_g (lw_at lw_m1 64 rfl) rfl
/-! java/util/AbstractList -/
set_option maxRecDepth 100000
def RJ1 : String := "java/util/AbstractList"
abbrev cJ1_init : ByteArray := prog_37_method_1_code
def yJ1_init : MethodName := ⟨RJ1, "<init>", "()V"⟩
def dkwJ1_init_0 : List UInt8 := [42, 183, 0, 1, 42, 3, 181, 0, 7, 177]
abbrev dktJ1_init_0 : List UInt8 := dkwJ1_init_0 ++ []
theorem dksJ1_init_0 : cJ1_init.data.toList.drop 0 = dktJ1_init_0 := by decide +kernel
theorem dJ1_init_0 : decode cJ1_init 0 = .ok (.aload_n 0, 1) := dk_42 (dk_at dksJ1_init_0 0 rfl rfl)
theorem dJ1_init_1 : decode cJ1_init 1 = .ok (.invokespecial 1, 3) := dk_183 0 1 (dk_at dksJ1_init_0 1 rfl rfl)
theorem dJ1_init_4 : decode cJ1_init 4 = .ok (.aload_n 0, 1) := dk_42 (dk_at dksJ1_init_0 4 rfl rfl)
theorem dJ1_init_5 : decode cJ1_init 5 = .ok (.iconst 0, 1) := dk_3 (dk_at dksJ1_init_0 5 rfl rfl)
theorem dJ1_init_6 : decode cJ1_init 6 = .ok (.putfield 7, 3) := dk_181 0 7 (dk_at dksJ1_init_0 6 rfl rfl)
theorem dJ1_init_9 : decode cJ1_init 9 = .ok (.return_, 1) := dk_177 (dk_at dksJ1_init_0 9 rfl rfl)
theorem q120 : (Jvm.Cond.initialized "java/util/AbstractList") ∈ lw_all := lw_g (lw_at lw_m1 4 rfl) rfl
theorem q175 : (Jvm.Cond.instanceMethod ({ cls := "java/util/AbstractList", name := "<init>", desc := "()V" } : Jvm.MethodName)) ∈ lw_all := lw_g (lw_at lw_m1 59 rfl) rfl
theorem q176 : (Jvm.Cond.code ({ cls := "java/util/AbstractList", name := "<init>", desc := "()V" } : Jvm.MethodName) prog_37_method_1_code (1 : Nat) (Option.none : Option Jvm.ClassFile.FieldType)) ∈ lw_all := lw_g (lw_at lw_m1 60 rfl) rfl
theorem q177 : (Jvm.Cond.methodLink "java/util/AbstractList" (1 : Nat) ({ cls := "java/util/AbstractCollection", name := "<init>", desc := "()V" } : Jvm.MethodName)) ∈ lw_all := lw_g (lw_at lw_m1 61 rfl) rfl
theorem q185 : (Jvm.Cond.fieldLink "java/util/AbstractList" (7 : Nat) "java/util/AbstractList" "modCount" "I") ∈ lw_all := lw_g (lw_at lw_m1 69 rfl) rfl
theorem q193 : (Jvm.Cond.soleField "java/util/AbstractList" "modCount") ∈ lw_all := lw_g (lw_at lw_m1 77 rfl) rfl
/-! jdk/internal/util/ArraysSupport -/
set_option maxRecDepth 100000
def RJ10 : String := "jdk/internal/util/ArraysSupport"
abbrev cJ10_newLength : ByteArray := prog_45_method_27_code
def yJ10_newLength : MethodName := ⟨RJ10, "newLength", "(III)I"⟩
def dkwJ10_newLength_1 : List UInt8 := [184, 0, 201, 172]
abbrev dktJ10_newLength_1 : List UInt8 := dkwJ10_newLength_1 ++ []
def dkwJ10_newLength_0 : List UInt8 := [26, 27, 28, 184, 0, 194, 96, 62, 3, 29, 162, 0, 11, 29, 18, 200, 163, 0, 5, 29, 172, 26, 27]
abbrev dktJ10_newLength_0 : List UInt8 := dkwJ10_newLength_0 ++ dktJ10_newLength_1
theorem dksJ10_newLength_0 : cJ10_newLength.data.toList.drop 0 = dktJ10_newLength_0 := by decide +kernel
theorem dksJ10_newLength_1 : cJ10_newLength.data.toList.drop 23 = dktJ10_newLength_1 := dk_seg dksJ10_newLength_0 23 rfl rfl
theorem dJ10_newLength_0 : decode cJ10_newLength 0 = .ok (.iload_n 0, 1) := dk_26 (dk_at dksJ10_newLength_0 0 rfl rfl)
theorem dJ10_newLength_1 : decode cJ10_newLength 1 = .ok (.iload_n 1, 1) := dk_27 (dk_at dksJ10_newLength_0 1 rfl rfl)
theorem dJ10_newLength_2 : decode cJ10_newLength 2 = .ok (.iload_n 2, 1) := dk_28 (dk_at dksJ10_newLength_0 2 rfl rfl)
theorem dJ10_newLength_3 : decode cJ10_newLength 3 = .ok (.invokestatic 194, 3) := dk_184 0 194 (dk_at dksJ10_newLength_0 3 rfl rfl)
theorem dJ10_newLength_6 : decode cJ10_newLength 6 = .ok (.iadd, 1) := dk_96 (dk_at dksJ10_newLength_0 6 rfl rfl)
theorem dJ10_newLength_7 : decode cJ10_newLength 7 = .ok (.istore_n 3, 1) := dk_62 (dk_at dksJ10_newLength_0 7 rfl rfl)
theorem dJ10_newLength_8 : decode cJ10_newLength 8 = .ok (.iconst 0, 1) := dk_3 (dk_at dksJ10_newLength_0 8 rfl rfl)
theorem dJ10_newLength_9 : decode cJ10_newLength 9 = .ok (.iload_n 3, 1) := dk_29 (dk_at dksJ10_newLength_0 9 rfl rfl)
theorem dJ10_newLength_10 : decode cJ10_newLength 10 = .ok (.if_icmp .ge 11, 3) := dk_162 0 11 (dk_at dksJ10_newLength_0 10 rfl rfl)
theorem dJ10_newLength_13 : decode cJ10_newLength 13 = .ok (.iload_n 3, 1) := dk_29 (dk_at dksJ10_newLength_0 13 rfl rfl)
theorem dJ10_newLength_14 : decode cJ10_newLength 14 = .ok (.ldc 200, 2) := dk_18 200 (dk_at dksJ10_newLength_0 14 rfl rfl)
theorem dJ10_newLength_16 : decode cJ10_newLength 16 = .ok (.if_icmp .gt 5, 3) := dk_163 0 5 (dk_at dksJ10_newLength_0 16 rfl rfl)
theorem dJ10_newLength_19 : decode cJ10_newLength 19 = .ok (.iload_n 3, 1) := dk_29 (dk_at dksJ10_newLength_0 19 rfl rfl)
theorem dJ10_newLength_20 : decode cJ10_newLength 20 = .ok (.ireturn, 1) := dk_172 (dk_at dksJ10_newLength_0 20 rfl rfl)
theorem dJ10_newLength_21 : decode cJ10_newLength 21 = .ok (.iload_n 0, 1) := dk_26 (dk_at dksJ10_newLength_0 21 rfl rfl)
theorem dJ10_newLength_22 : decode cJ10_newLength 22 = .ok (.iload_n 1, 1) := dk_27 (dk_at dksJ10_newLength_0 22 rfl rfl)
theorem dJ10_newLength_23 : decode cJ10_newLength 23 = .ok (.invokestatic 201, 3) := dk_184 0 201 (dk_at dksJ10_newLength_1 0 rfl rfl)
theorem dJ10_newLength_26 : decode cJ10_newLength 26 = .ok (.ireturn, 1) := dk_172 (dk_at dksJ10_newLength_1 3 rfl rfl)
abbrev cJ10_hugeLength : ByteArray := prog_45_method_28_code
def yJ10_hugeLength : MethodName := ⟨RJ10, "hugeLength", "(II)I"⟩
def dkwJ10_hugeLength_2 : List UInt8 := [191, 28, 18, 200, 163, 0, 6, 18, 200, 172, 28, 172]
abbrev dktJ10_hugeLength_2 : List UInt8 := dkwJ10_hugeLength_2 ++ []
def dkwJ10_hugeLength_1 : List UInt8 := [26, 182, 0, 98, 18, 208, 182, 0, 94, 27, 182, 0, 98, 18, 210, 182, 0, 94, 182, 0, 101, 183, 0, 212]
abbrev dktJ10_hugeLength_1 : List UInt8 := dkwJ10_hugeLength_1 ++ dktJ10_hugeLength_2
def dkwJ10_hugeLength_0 : List UInt8 := [26, 27, 96, 61, 28, 156, 0, 44, 187, 0, 204, 89, 187, 0, 89, 89, 183, 0, 91, 18, 206, 182, 0, 94]
abbrev dktJ10_hugeLength_0 : List UInt8 := dkwJ10_hugeLength_0 ++ dktJ10_hugeLength_1
theorem dksJ10_hugeLength_0 : cJ10_hugeLength.data.toList.drop 0 = dktJ10_hugeLength_0 := by decide +kernel
theorem dksJ10_hugeLength_1 : cJ10_hugeLength.data.toList.drop 24 = dktJ10_hugeLength_1 := dk_seg dksJ10_hugeLength_0 24 rfl rfl
theorem dksJ10_hugeLength_2 : cJ10_hugeLength.data.toList.drop 48 = dktJ10_hugeLength_2 := dk_seg dksJ10_hugeLength_1 24 rfl rfl
theorem dJ10_hugeLength_0 : decode cJ10_hugeLength 0 = .ok (.iload_n 0, 1) := dk_26 (dk_at dksJ10_hugeLength_0 0 rfl rfl)
theorem dJ10_hugeLength_1 : decode cJ10_hugeLength 1 = .ok (.iload_n 1, 1) := dk_27 (dk_at dksJ10_hugeLength_0 1 rfl rfl)
theorem dJ10_hugeLength_2 : decode cJ10_hugeLength 2 = .ok (.iadd, 1) := dk_96 (dk_at dksJ10_hugeLength_0 2 rfl rfl)
theorem dJ10_hugeLength_3 : decode cJ10_hugeLength 3 = .ok (.istore_n 2, 1) := dk_61 (dk_at dksJ10_hugeLength_0 3 rfl rfl)
theorem dJ10_hugeLength_4 : decode cJ10_hugeLength 4 = .ok (.iload_n 2, 1) := dk_28 (dk_at dksJ10_hugeLength_0 4 rfl rfl)
theorem dJ10_hugeLength_5 : decode cJ10_hugeLength 5 = .ok (.ifCond .ge 44, 3) := dk_156 0 44 (dk_at dksJ10_hugeLength_0 5 rfl rfl)
theorem dJ10_hugeLength_8 : decode cJ10_hugeLength 8 = .ok (.new 204, 3) := dk_187 0 204 (dk_at dksJ10_hugeLength_0 8 rfl rfl)
theorem dJ10_hugeLength_11 : decode cJ10_hugeLength 11 = .ok (.dup, 1) := dk_89 (dk_at dksJ10_hugeLength_0 11 rfl rfl)
theorem dJ10_hugeLength_12 : decode cJ10_hugeLength 12 = .ok (.new 89, 3) := dk_187 0 89 (dk_at dksJ10_hugeLength_0 12 rfl rfl)
theorem dJ10_hugeLength_15 : decode cJ10_hugeLength 15 = .ok (.dup, 1) := dk_89 (dk_at dksJ10_hugeLength_0 15 rfl rfl)
theorem dJ10_hugeLength_16 : decode cJ10_hugeLength 16 = .ok (.invokespecial 91, 3) := dk_183 0 91 (dk_at dksJ10_hugeLength_0 16 rfl rfl)
theorem dJ10_hugeLength_19 : decode cJ10_hugeLength 19 = .ok (.ldc 206, 2) := dk_18 206 (dk_at dksJ10_hugeLength_0 19 rfl rfl)
theorem dJ10_hugeLength_21 : decode cJ10_hugeLength 21 = .ok (.invokevirtual 94, 3) := dk_182 0 94 (dk_at dksJ10_hugeLength_0 21 rfl rfl)
theorem dJ10_hugeLength_24 : decode cJ10_hugeLength 24 = .ok (.iload_n 0, 1) := dk_26 (dk_at dksJ10_hugeLength_1 0 rfl rfl)
theorem dJ10_hugeLength_25 : decode cJ10_hugeLength 25 = .ok (.invokevirtual 98, 3) := dk_182 0 98 (dk_at dksJ10_hugeLength_1 1 rfl rfl)
theorem dJ10_hugeLength_28 : decode cJ10_hugeLength 28 = .ok (.ldc 208, 2) := dk_18 208 (dk_at dksJ10_hugeLength_1 4 rfl rfl)
theorem dJ10_hugeLength_30 : decode cJ10_hugeLength 30 = .ok (.invokevirtual 94, 3) := dk_182 0 94 (dk_at dksJ10_hugeLength_1 6 rfl rfl)
theorem dJ10_hugeLength_33 : decode cJ10_hugeLength 33 = .ok (.iload_n 1, 1) := dk_27 (dk_at dksJ10_hugeLength_1 9 rfl rfl)
theorem dJ10_hugeLength_34 : decode cJ10_hugeLength 34 = .ok (.invokevirtual 98, 3) := dk_182 0 98 (dk_at dksJ10_hugeLength_1 10 rfl rfl)
theorem dJ10_hugeLength_37 : decode cJ10_hugeLength 37 = .ok (.ldc 210, 2) := dk_18 210 (dk_at dksJ10_hugeLength_1 13 rfl rfl)
theorem dJ10_hugeLength_39 : decode cJ10_hugeLength 39 = .ok (.invokevirtual 94, 3) := dk_182 0 94 (dk_at dksJ10_hugeLength_1 15 rfl rfl)
theorem dJ10_hugeLength_42 : decode cJ10_hugeLength 42 = .ok (.invokevirtual 101, 3) := dk_182 0 101 (dk_at dksJ10_hugeLength_1 18 rfl rfl)
theorem dJ10_hugeLength_45 : decode cJ10_hugeLength 45 = .ok (.invokespecial 212, 3) := dk_183 0 212 (dk_at dksJ10_hugeLength_1 21 rfl rfl)
theorem dJ10_hugeLength_48 : decode cJ10_hugeLength 48 = .ok (.athrow, 1) := dk_191 (dk_at dksJ10_hugeLength_2 0 rfl rfl)
theorem dJ10_hugeLength_49 : decode cJ10_hugeLength 49 = .ok (.iload_n 2, 1) := dk_28 (dk_at dksJ10_hugeLength_2 1 rfl rfl)
theorem dJ10_hugeLength_50 : decode cJ10_hugeLength 50 = .ok (.ldc 200, 2) := dk_18 200 (dk_at dksJ10_hugeLength_2 2 rfl rfl)
theorem dJ10_hugeLength_52 : decode cJ10_hugeLength 52 = .ok (.if_icmp .gt 6, 3) := dk_163 0 6 (dk_at dksJ10_hugeLength_2 4 rfl rfl)
theorem dJ10_hugeLength_55 : decode cJ10_hugeLength 55 = .ok (.ldc 200, 2) := dk_18 200 (dk_at dksJ10_hugeLength_2 7 rfl rfl)
theorem dJ10_hugeLength_57 : decode cJ10_hugeLength 57 = .ok (.ireturn, 1) := dk_172 (dk_at dksJ10_hugeLength_2 9 rfl rfl)
theorem dJ10_hugeLength_58 : decode cJ10_hugeLength 58 = .ok (.iload_n 2, 1) := dk_28 (dk_at dksJ10_hugeLength_2 10 rfl rfl)
theorem dJ10_hugeLength_59 : decode cJ10_hugeLength 59 = .ok (.ireturn, 1) := dk_172 (dk_at dksJ10_hugeLength_2 11 rfl rfl)
theorem q140 : (Jvm.Cond.initialized "jdk/internal/util/ArraysSupport") ∈ lw_all := lw_g (lw_at lw_m1 24 rfl) rfl
theorem q803 : (Jvm.Cond.static ({ cls := "jdk/internal/util/ArraysSupport", name := "newLength", desc := "(III)I" } : Jvm.MethodName)) ∈ lw_all := lw_g (lw_at lw_m3 207 rfl) rfl
theorem q804 : (Jvm.Cond.code ({ cls := "jdk/internal/util/ArraysSupport", name := "newLength", desc := "(III)I" } : Jvm.MethodName) prog_45_method_27_code (4 : Nat) (Option.some Jvm.ClassFile.FieldType.int)) ∈ lw_all := lw_g (lw_at lw_m3 208 rfl) rfl
theorem q805 : (Jvm.Cond.methodLink "jdk/internal/util/ArraysSupport" (194 : Nat) ({ cls := "java/lang/Math", name := "max", desc := "(II)I" } : Jvm.MethodName)) ∈ lw_all := lw_g (lw_at lw_m3 209 rfl) rfl
theorem q808 : (Jvm.Cond.constant "jdk/internal/util/ArraysSupport" (200 : Nat) (2147483639 : Int32)) ∈ lw_all := lw_g (lw_at lw_m3 212 rfl) rfl
theorem q809 : (Jvm.Cond.methodLink "jdk/internal/util/ArraysSupport" (201 : Nat) ({ cls := "jdk/internal/util/ArraysSupport", name := "hugeLength", desc := "(II)I" } : Jvm.MethodName)) ∈ lw_all := lw_g (lw_at lw_m3 213 rfl) rfl
theorem q810 : (Jvm.Cond.static ({ cls := "jdk/internal/util/ArraysSupport", name := "hugeLength", desc := "(II)I" } : Jvm.MethodName)) ∈ lw_all := lw_g (lw_at lw_m3 214 rfl) rfl
theorem q811 : (Jvm.Cond.code ({ cls := "jdk/internal/util/ArraysSupport", name := "hugeLength", desc := "(II)I" } : Jvm.MethodName) prog_45_method_28_code (3 : Nat) (Option.some Jvm.ClassFile.FieldType.int)) ∈ lw_all := lw_g (lw_at lw_m3 215 rfl) rfl
/-! java/lang/Math -/
set_option maxRecDepth 100000
def RJ11 : String := "java/lang/Math"
abbrev cJ11_max : ByteArray := prog_30_method_65_code
def yJ11_max : MethodName := ⟨RJ11, "max", "(II)I"⟩
def dkwJ11_max_0 : List UInt8 := [26, 27, 161, 0, 7, 26, 167, 0, 4, 27, 172]
abbrev dktJ11_max_0 : List UInt8 := dkwJ11_max_0 ++ []
theorem dksJ11_max_0 : cJ11_max.data.toList.drop 0 = dktJ11_max_0 := by decide +kernel
theorem dJ11_max_0 : decode cJ11_max 0 = .ok (.iload_n 0, 1) := dk_26 (dk_at dksJ11_max_0 0 rfl rfl)
theorem dJ11_max_1 : decode cJ11_max 1 = .ok (.iload_n 1, 1) := dk_27 (dk_at dksJ11_max_0 1 rfl rfl)
theorem dJ11_max_2 : decode cJ11_max 2 = .ok (.if_icmp .lt 7, 3) := dk_161 0 7 (dk_at dksJ11_max_0 2 rfl rfl)
theorem dJ11_max_5 : decode cJ11_max 5 = .ok (.iload_n 0, 1) := dk_26 (dk_at dksJ11_max_0 5 rfl rfl)
theorem dJ11_max_6 : decode cJ11_max 6 = .ok (.goto 4, 3) := dk_167 0 4 (dk_at dksJ11_max_0 6 rfl rfl)
theorem dJ11_max_9 : decode cJ11_max 9 = .ok (.iload_n 1, 1) := dk_27 (dk_at dksJ11_max_0 9 rfl rfl)
theorem dJ11_max_10 : decode cJ11_max 10 = .ok (.ireturn, 1) := dk_172 (dk_at dksJ11_max_0 10 rfl rfl)
abbrev cJ11_min : ByteArray := prog_30_method_69_code
def yJ11_min : MethodName := ⟨RJ11, "min", "(II)I"⟩
def dkwJ11_min_0 : List UInt8 := [26, 27, 163, 0, 7, 26, 167, 0, 4, 27, 172]
abbrev dktJ11_min_0 : List UInt8 := dkwJ11_min_0 ++ []
theorem dksJ11_min_0 : cJ11_min.data.toList.drop 0 = dktJ11_min_0 := by decide +kernel
theorem dJ11_min_0 : decode cJ11_min 0 = .ok (.iload_n 0, 1) := dk_26 (dk_at dksJ11_min_0 0 rfl rfl)
theorem dJ11_min_1 : decode cJ11_min 1 = .ok (.iload_n 1, 1) := dk_27 (dk_at dksJ11_min_0 1 rfl rfl)
theorem dJ11_min_2 : decode cJ11_min 2 = .ok (.if_icmp .gt 7, 3) := dk_163 0 7 (dk_at dksJ11_min_0 2 rfl rfl)
theorem dJ11_min_5 : decode cJ11_min 5 = .ok (.iload_n 0, 1) := dk_26 (dk_at dksJ11_min_0 5 rfl rfl)
theorem dJ11_min_6 : decode cJ11_min 6 = .ok (.goto 4, 3) := dk_167 0 4 (dk_at dksJ11_min_0 6 rfl rfl)
theorem dJ11_min_9 : decode cJ11_min 9 = .ok (.iload_n 1, 1) := dk_27 (dk_at dksJ11_min_0 9 rfl rfl)
theorem dJ11_min_10 : decode cJ11_min 10 = .ok (.ireturn, 1) := dk_172 (dk_at dksJ11_min_0 10 rfl rfl)
theorem q141 : (Jvm.Cond.initialized "java/lang/Math") ∈ lw_all := lw_g (lw_at lw_m1 25 rfl) rfl
theorem q806 : (Jvm.Cond.static ({ cls := "java/lang/Math", name := "max", desc := "(II)I" } : Jvm.MethodName)) ∈ lw_all := lw_g (lw_at lw_m3 210 rfl) rfl
theorem q807 : (Jvm.Cond.code ({ cls := "java/lang/Math", name := "max", desc := "(II)I" } : Jvm.MethodName) prog_30_method_65_code (2 : Nat) (Option.some Jvm.ClassFile.FieldType.int)) ∈ lw_all := lw_g (lw_at lw_m3 211 rfl) rfl
theorem q846 : (Jvm.Cond.static ({ cls := "java/lang/Math", name := "min", desc := "(II)I" } : Jvm.MethodName)) ∈ lw_all := lw_g (lw_at lw_m4 10 rfl) rfl
theorem q847 : (Jvm.Cond.code ({ cls := "java/lang/Math", name := "min", desc := "(II)I" } : Jvm.MethodName) prog_30_method_69_code (2 : Nat) (Option.some Jvm.ClassFile.FieldType.int)) ∈ lw_all := lw_g (lw_at lw_m4 11 rfl) rfl
/-! java/util/Arrays -/
set_option maxRecDepth 100000
def RJ12 : String := "java/util/Arrays"
abbrev cJ12_copyOf : ByteArray := prog_39_method_119_code
def yJ12_copyOf : MethodName := ⟨RJ12, "copyOf", "([Ljava/lang/Object;I)[Ljava/lang/Object;"⟩
def dkwJ12_copyOf_0 : List UInt8 := [42, 27, 42, 182, 0, 86, 184, 1, 44, 176]
abbrev dktJ12_copyOf_0 : List UInt8 := dkwJ12_copyOf_0 ++ []
theorem dksJ12_copyOf_0 : cJ12_copyOf.data.toList.drop 0 = dktJ12_copyOf_0 := by decide +kernel
theorem dJ12_copyOf_0 : decode cJ12_copyOf 0 = .ok (.aload_n 0, 1) := dk_42 (dk_at dksJ12_copyOf_0 0 rfl rfl)
theorem dJ12_copyOf_1 : decode cJ12_copyOf 1 = .ok (.iload_n 1, 1) := dk_27 (dk_at dksJ12_copyOf_0 1 rfl rfl)
theorem dJ12_copyOf_2 : decode cJ12_copyOf 2 = .ok (.aload_n 0, 1) := dk_42 (dk_at dksJ12_copyOf_0 2 rfl rfl)
theorem dJ12_copyOf_3 : decode cJ12_copyOf 3 = .ok (.invokevirtual 86, 3) := dk_182 0 86 (dk_at dksJ12_copyOf_0 3 rfl rfl)
theorem dJ12_copyOf_6 : decode cJ12_copyOf 6 = .ok (.invokestatic 300, 3) := dk_184 1 44 (dk_at dksJ12_copyOf_0 6 rfl rfl)
theorem dJ12_copyOf_9 : decode cJ12_copyOf 9 = .ok (.areturn, 1) := dk_176 (dk_at dksJ12_copyOf_0 9 rfl rfl)
abbrev cJ12_copyOf_2 : ByteArray := prog_39_method_120_code
def yJ12_copyOf_2 : MethodName := ⟨RJ12, "copyOf", "([Ljava/lang/Object;ILjava/lang/Class;)[Ljava/lang/Object;"⟩
def dkwJ12_copyOf_2_1 : List UInt8 := [78, 42, 3, 45, 3, 42, 190, 27, 184, 1, 48, 184, 0, 150, 45, 176]
abbrev dktJ12_copyOf_2_1 : List UInt8 := dkwJ12_copyOf_2_1 ++ []
def dkwJ12_copyOf_2_0 : List UInt8 := [44, 18, 110, 166, 0, 10, 27, 189, 0, 2, 167, 0, 14, 44, 182, 0, 90, 27, 184, 0, 95, 192, 0, 110]
abbrev dktJ12_copyOf_2_0 : List UInt8 := dkwJ12_copyOf_2_0 ++ dktJ12_copyOf_2_1
theorem dksJ12_copyOf_2_0 : cJ12_copyOf_2.data.toList.drop 0 = dktJ12_copyOf_2_0 := by decide +kernel
theorem dksJ12_copyOf_2_1 : cJ12_copyOf_2.data.toList.drop 24 = dktJ12_copyOf_2_1 := dk_seg dksJ12_copyOf_2_0 24 rfl rfl
theorem dJ12_copyOf_2_0 : decode cJ12_copyOf_2 0 = .ok (.aload_n 2, 1) := dk_44 (dk_at dksJ12_copyOf_2_0 0 rfl rfl)
theorem dJ12_copyOf_2_1 : decode cJ12_copyOf_2 1 = .ok (.ldc 110, 2) := dk_18 110 (dk_at dksJ12_copyOf_2_0 1 rfl rfl)
theorem dJ12_copyOf_2_3 : decode cJ12_copyOf_2 3 = .ok (.if_acmp .ne 10, 3) := dk_166 0 10 (dk_at dksJ12_copyOf_2_0 3 rfl rfl)
theorem dJ12_copyOf_2_6 : decode cJ12_copyOf_2 6 = .ok (.iload_n 1, 1) := dk_27 (dk_at dksJ12_copyOf_2_0 6 rfl rfl)
theorem dJ12_copyOf_2_7 : decode cJ12_copyOf_2 7 = .ok (.anewarray 2, 3) := dk_189 0 2 (dk_at dksJ12_copyOf_2_0 7 rfl rfl)
theorem dJ12_copyOf_2_10 : decode cJ12_copyOf_2 10 = .ok (.goto 14, 3) := dk_167 0 14 (dk_at dksJ12_copyOf_2_0 10 rfl rfl)
theorem dJ12_copyOf_2_13 : decode cJ12_copyOf_2 13 = .ok (.aload_n 2, 1) := dk_44 (dk_at dksJ12_copyOf_2_0 13 rfl rfl)
theorem dJ12_copyOf_2_14 : decode cJ12_copyOf_2 14 = .ok (.invokevirtual 90, 3) := dk_182 0 90 (dk_at dksJ12_copyOf_2_0 14 rfl rfl)
theorem dJ12_copyOf_2_17 : decode cJ12_copyOf_2 17 = .ok (.iload_n 1, 1) := dk_27 (dk_at dksJ12_copyOf_2_0 17 rfl rfl)
theorem dJ12_copyOf_2_18 : decode cJ12_copyOf_2 18 = .ok (.invokestatic 95, 3) := dk_184 0 95 (dk_at dksJ12_copyOf_2_0 18 rfl rfl)
theorem dJ12_copyOf_2_21 : decode cJ12_copyOf_2 21 = .ok (.checkcast 110, 3) := dk_192 0 110 (dk_at dksJ12_copyOf_2_0 21 rfl rfl)
theorem dJ12_copyOf_2_24 : decode cJ12_copyOf_2 24 = .ok (.astore_n 3, 1) := dk_78 (dk_at dksJ12_copyOf_2_1 0 rfl rfl)
theorem dJ12_copyOf_2_25 : decode cJ12_copyOf_2 25 = .ok (.aload_n 0, 1) := dk_42 (dk_at dksJ12_copyOf_2_1 1 rfl rfl)
theorem dJ12_copyOf_2_26 : decode cJ12_copyOf_2 26 = .ok (.iconst 0, 1) := dk_3 (dk_at dksJ12_copyOf_2_1 2 rfl rfl)
theorem dJ12_copyOf_2_27 : decode cJ12_copyOf_2 27 = .ok (.aload_n 3, 1) := dk_45 (dk_at dksJ12_copyOf_2_1 3 rfl rfl)
theorem dJ12_copyOf_2_28 : decode cJ12_copyOf_2 28 = .ok (.iconst 0, 1) := dk_3 (dk_at dksJ12_copyOf_2_1 4 rfl rfl)
theorem dJ12_copyOf_2_29 : decode cJ12_copyOf_2 29 = .ok (.aload_n 0, 1) := dk_42 (dk_at dksJ12_copyOf_2_1 5 rfl rfl)
theorem dJ12_copyOf_2_30 : decode cJ12_copyOf_2 30 = .ok (.arraylength, 1) := dk_190 (dk_at dksJ12_copyOf_2_1 6 rfl rfl)
theorem dJ12_copyOf_2_31 : decode cJ12_copyOf_2 31 = .ok (.iload_n 1, 1) := dk_27 (dk_at dksJ12_copyOf_2_1 7 rfl rfl)
theorem dJ12_copyOf_2_32 : decode cJ12_copyOf_2 32 = .ok (.invokestatic 304, 3) := dk_184 1 48 (dk_at dksJ12_copyOf_2_1 8 rfl rfl)
theorem dJ12_copyOf_2_35 : decode cJ12_copyOf_2 35 = .ok (.invokestatic 150, 3) := dk_184 0 150 (dk_at dksJ12_copyOf_2_1 11 rfl rfl)
theorem dJ12_copyOf_2_38 : decode cJ12_copyOf_2 38 = .ok (.aload_n 3, 1) := dk_45 (dk_at dksJ12_copyOf_2_1 14 rfl rfl)
theorem dJ12_copyOf_2_39 : decode cJ12_copyOf_2 39 = .ok (.areturn, 1) := dk_176 (dk_at dksJ12_copyOf_2_1 15 rfl rfl)
theorem q142 : (Jvm.Cond.initialized "java/util/Arrays") ∈ lw_all := lw_g (lw_at lw_m1 26 rfl) rfl
theorem q813 : (Jvm.Cond.static ({ cls := "java/util/Arrays", name := "copyOf", desc := "([Ljava/lang/Object;I)[Ljava/lang/Object;" } : Jvm.MethodName)) ∈ lw_all := lw_g (lw_at lw_m3 217 rfl) rfl
theorem q814 : (Jvm.Cond.code ({ cls := "java/util/Arrays", name := "copyOf", desc := "([Ljava/lang/Object;I)[Ljava/lang/Object;" } : Jvm.MethodName) prog_39_method_119_code (2 : Nat) (Option.some (Jvm.ClassFile.FieldType.array (Jvm.ClassFile.FieldType.object "java/lang/Object")))) ∈ lw_all := lw_g (lw_at lw_m3 218 rfl) rfl
theorem q815 : (Jvm.Cond.methodLink "java/util/Arrays" (86 : Nat) ({ cls := "java/lang/Object", name := "getClass", desc := "()Ljava/lang/Class;" } : Jvm.MethodName)) ∈ lw_all := lw_g (lw_at lw_m3 219 rfl) rfl
theorem q839 : (Jvm.Cond.methodLink "java/util/Arrays" (300 : Nat) ({ cls := "java/util/Arrays", name := "copyOf", desc := "([Ljava/lang/Object;ILjava/lang/Class;)[Ljava/lang/Object;" } : Jvm.MethodName)) ∈ lw_all := lw_g (lw_at lw_m4 3 rfl) rfl
theorem q840 : (Jvm.Cond.static ({ cls := "java/util/Arrays", name := "copyOf", desc := "([Ljava/lang/Object;ILjava/lang/Class;)[Ljava/lang/Object;" } : Jvm.MethodName)) ∈ lw_all := lw_g (lw_at lw_m4 4 rfl) rfl
theorem q841 : (Jvm.Cond.code ({ cls := "java/util/Arrays", name := "copyOf", desc := "([Ljava/lang/Object;ILjava/lang/Class;)[Ljava/lang/Object;" } : Jvm.MethodName) prog_39_method_120_code (4 : Nat) (Option.some (Jvm.ClassFile.FieldType.array (Jvm.ClassFile.FieldType.object "java/lang/Object")))) ∈ lw_all := lw_g (lw_at lw_m4 5 rfl) rfl
theorem q842 : (Jvm.Cond.classLink "java/util/Arrays" (110 : Nat) "[Ljava/lang/Object;") ∈ lw_all := lw_g (lw_at lw_m4 6 rfl) rfl
theorem q844 : (Jvm.Cond.classLink "java/util/Arrays" (2 : Nat) "java/lang/Object") ∈ lw_all := lw_g (lw_at lw_m4 8 rfl) rfl
theorem q845 : (Jvm.Cond.methodLink "java/util/Arrays" (304 : Nat) ({ cls := "java/lang/Math", name := "min", desc := "(II)I" } : Jvm.MethodName)) ∈ lw_all := lw_g (lw_at lw_m4 9 rfl) rfl
theorem q848 : (Jvm.Cond.methodLink "java/util/Arrays" (150 : Nat) ({ cls := "java/lang/System", name := "arraycopy", desc := "(Ljava/lang/Object;ILjava/lang/Object;II)V" } : Jvm.MethodName)) ∈ lw_all := lw_g (lw_at lw_m4 12 rfl) rfl
/-! java/lang/Integer -/
set_option maxRecDepth 100000
def RJ13 : String := "java/lang/Intege\x72"
abbrev cJ13_bitCount : ByteArray := prog_28_method_49_code
def yJ13_bitCount : MethodName := ⟨RJ13, "bitCount", "(I)I"⟩
def dkwJ13_bitCount_2 : List UInt8 := [26, 16, 63, 126, 172]
abbrev dktJ13_bitCount_2 : List UInt8 := dkwJ13_bitCount_2 ++ []
def dkwJ13_bitCount_1 : List UInt8 := [26, 26, 7, 124, 96, 19, 1, 11, 126, 59, 26, 26, 16, 8, 124, 96, 59, 26, 26, 16, 16, 124, 96, 59]
abbrev dktJ13_bitCount_1 : List UInt8 := dkwJ13_bitCount_1 ++ dktJ13_bitCount_2
def dkwJ13_bitCount_0 : List UInt8 := [26, 26, 4, 124, 19, 1, 9, 126, 100, 59, 26, 19, 1, 10, 126, 26, 5, 124, 19, 1, 10, 126, 96, 59]
abbrev dktJ13_bitCount_0 : List UInt8 := dkwJ13_bitCount_0 ++ dktJ13_bitCount_1
theorem dksJ13_bitCount_0 : cJ13_bitCount.data.toList.drop 0 = dktJ13_bitCount_0 := by decide +kernel
theorem dksJ13_bitCount_1 : cJ13_bitCount.data.toList.drop 24 = dktJ13_bitCount_1 := dk_seg dksJ13_bitCount_0 24 rfl rfl
theorem dksJ13_bitCount_2 : cJ13_bitCount.data.toList.drop 48 = dktJ13_bitCount_2 := dk_seg dksJ13_bitCount_1 24 rfl rfl
theorem dJ13_bitCount_0 : decode cJ13_bitCount 0 = .ok (.iload_n 0, 1) := dk_26 (dk_at dksJ13_bitCount_0 0 rfl rfl)
theorem dJ13_bitCount_1 : decode cJ13_bitCount 1 = .ok (.iload_n 0, 1) := dk_26 (dk_at dksJ13_bitCount_0 1 rfl rfl)
theorem dJ13_bitCount_2 : decode cJ13_bitCount 2 = .ok (.iconst 1, 1) := dk_4 (dk_at dksJ13_bitCount_0 2 rfl rfl)
theorem dJ13_bitCount_3 : decode cJ13_bitCount 3 = .ok (.iushr, 1) := dk_124 (dk_at dksJ13_bitCount_0 3 rfl rfl)
theorem dJ13_bitCount_4 : decode cJ13_bitCount 4 = .ok (.ldc_w 265, 3) := dk_19 1 9 (dk_at dksJ13_bitCount_0 4 rfl rfl)
theorem dJ13_bitCount_7 : decode cJ13_bitCount 7 = .ok (.iand, 1) := dk_126 (dk_at dksJ13_bitCount_0 7 rfl rfl)
theorem dJ13_bitCount_8 : decode cJ13_bitCount 8 = .ok (.isub, 1) := dk_100 (dk_at dksJ13_bitCount_0 8 rfl rfl)
theorem dJ13_bitCount_9 : decode cJ13_bitCount 9 = .ok (.istore_n 0, 1) := dk_59 (dk_at dksJ13_bitCount_0 9 rfl rfl)
theorem dJ13_bitCount_10 : decode cJ13_bitCount 10 = .ok (.iload_n 0, 1) := dk_26 (dk_at dksJ13_bitCount_0 10 rfl rfl)
theorem dJ13_bitCount_11 : decode cJ13_bitCount 11 = .ok (.ldc_w 266, 3) := dk_19 1 10 (dk_at dksJ13_bitCount_0 11 rfl rfl)
theorem dJ13_bitCount_14 : decode cJ13_bitCount 14 = .ok (.iand, 1) := dk_126 (dk_at dksJ13_bitCount_0 14 rfl rfl)
theorem dJ13_bitCount_15 : decode cJ13_bitCount 15 = .ok (.iload_n 0, 1) := dk_26 (dk_at dksJ13_bitCount_0 15 rfl rfl)
theorem dJ13_bitCount_16 : decode cJ13_bitCount 16 = .ok (.iconst 2, 1) := dk_5 (dk_at dksJ13_bitCount_0 16 rfl rfl)
theorem dJ13_bitCount_17 : decode cJ13_bitCount 17 = .ok (.iushr, 1) := dk_124 (dk_at dksJ13_bitCount_0 17 rfl rfl)
theorem dJ13_bitCount_18 : decode cJ13_bitCount 18 = .ok (.ldc_w 266, 3) := dk_19 1 10 (dk_at dksJ13_bitCount_0 18 rfl rfl)
theorem dJ13_bitCount_21 : decode cJ13_bitCount 21 = .ok (.iand, 1) := dk_126 (dk_at dksJ13_bitCount_0 21 rfl rfl)
theorem dJ13_bitCount_22 : decode cJ13_bitCount 22 = .ok (.iadd, 1) := dk_96 (dk_at dksJ13_bitCount_0 22 rfl rfl)
theorem dJ13_bitCount_23 : decode cJ13_bitCount 23 = .ok (.istore_n 0, 1) := dk_59 (dk_at dksJ13_bitCount_0 23 rfl rfl)
theorem dJ13_bitCount_24 : decode cJ13_bitCount 24 = .ok (.iload_n 0, 1) := dk_26 (dk_at dksJ13_bitCount_1 0 rfl rfl)
theorem dJ13_bitCount_25 : decode cJ13_bitCount 25 = .ok (.iload_n 0, 1) := dk_26 (dk_at dksJ13_bitCount_1 1 rfl rfl)
theorem dJ13_bitCount_26 : decode cJ13_bitCount 26 = .ok (.iconst 4, 1) := dk_7 (dk_at dksJ13_bitCount_1 2 rfl rfl)
theorem dJ13_bitCount_27 : decode cJ13_bitCount 27 = .ok (.iushr, 1) := dk_124 (dk_at dksJ13_bitCount_1 3 rfl rfl)
theorem dJ13_bitCount_28 : decode cJ13_bitCount 28 = .ok (.iadd, 1) := dk_96 (dk_at dksJ13_bitCount_1 4 rfl rfl)
theorem dJ13_bitCount_29 : decode cJ13_bitCount 29 = .ok (.ldc_w 267, 3) := dk_19 1 11 (dk_at dksJ13_bitCount_1 5 rfl rfl)
theorem dJ13_bitCount_32 : decode cJ13_bitCount 32 = .ok (.iand, 1) := dk_126 (dk_at dksJ13_bitCount_1 8 rfl rfl)
theorem dJ13_bitCount_33 : decode cJ13_bitCount 33 = .ok (.istore_n 0, 1) := dk_59 (dk_at dksJ13_bitCount_1 9 rfl rfl)
theorem dJ13_bitCount_34 : decode cJ13_bitCount 34 = .ok (.iload_n 0, 1) := dk_26 (dk_at dksJ13_bitCount_1 10 rfl rfl)
theorem dJ13_bitCount_35 : decode cJ13_bitCount 35 = .ok (.iload_n 0, 1) := dk_26 (dk_at dksJ13_bitCount_1 11 rfl rfl)
theorem dJ13_bitCount_36 : decode cJ13_bitCount 36 = .ok (.bipush 8, 2) := dk_16 8 (dk_at dksJ13_bitCount_1 12 rfl rfl)
theorem dJ13_bitCount_38 : decode cJ13_bitCount 38 = .ok (.iushr, 1) := dk_124 (dk_at dksJ13_bitCount_1 14 rfl rfl)
theorem dJ13_bitCount_39 : decode cJ13_bitCount 39 = .ok (.iadd, 1) := dk_96 (dk_at dksJ13_bitCount_1 15 rfl rfl)
theorem dJ13_bitCount_40 : decode cJ13_bitCount 40 = .ok (.istore_n 0, 1) := dk_59 (dk_at dksJ13_bitCount_1 16 rfl rfl)
theorem dJ13_bitCount_41 : decode cJ13_bitCount 41 = .ok (.iload_n 0, 1) := dk_26 (dk_at dksJ13_bitCount_1 17 rfl rfl)
theorem dJ13_bitCount_42 : decode cJ13_bitCount 42 = .ok (.iload_n 0, 1) := dk_26 (dk_at dksJ13_bitCount_1 18 rfl rfl)
theorem dJ13_bitCount_43 : decode cJ13_bitCount 43 = .ok (.bipush 16, 2) := dk_16 16 (dk_at dksJ13_bitCount_1 19 rfl rfl)
theorem dJ13_bitCount_45 : decode cJ13_bitCount 45 = .ok (.iushr, 1) := dk_124 (dk_at dksJ13_bitCount_1 21 rfl rfl)
theorem dJ13_bitCount_46 : decode cJ13_bitCount 46 = .ok (.iadd, 1) := dk_96 (dk_at dksJ13_bitCount_1 22 rfl rfl)
theorem dJ13_bitCount_47 : decode cJ13_bitCount 47 = .ok (.istore_n 0, 1) := dk_59 (dk_at dksJ13_bitCount_1 23 rfl rfl)
theorem dJ13_bitCount_48 : decode cJ13_bitCount 48 = .ok (.iload_n 0, 1) := dk_26 (dk_at dksJ13_bitCount_2 0 rfl rfl)
theorem dJ13_bitCount_49 : decode cJ13_bitCount 49 = .ok (.bipush 63, 2) := dk_16 63 (dk_at dksJ13_bitCount_2 1 rfl rfl)
theorem dJ13_bitCount_51 : decode cJ13_bitCount 51 = .ok (.iand, 1) := dk_126 (dk_at dksJ13_bitCount_2 3 rfl rfl)
theorem dJ13_bitCount_52 : decode cJ13_bitCount 52 = .ok (.ireturn, 1) := dk_172 (dk_at dksJ13_bitCount_2 4 rfl rfl)
theorem q153 : (Jvm.Cond.initialized "java/lang/Intege\x72") ∈ lw_all := lw_g (lw_at lw_m1 37 rfl) rfl
theorem q1224 : (Jvm.Cond.static ({ cls := "java/lang/Intege\x72", name := "bitCount", desc := "(I)I" } : Jvm.MethodName)) ∈ lw_all := lw_g (lw_at lw_m5 148 rfl) rfl
theorem q1225 : (Jvm.Cond.code ({ cls := "java/lang/Intege\x72", name := "bitCount", desc := "(I)I" } : Jvm.MethodName) prog_28_method_49_code (1 : Nat) (Option.some Jvm.ClassFile.FieldType.int)) ∈ lw_all := lw_g (lw_at lw_m5 149 rfl) rfl
theorem q1226 : (Jvm.Cond.constant "java/lang/Intege\x72" (265 : Nat) (1431655765 : Int32)) ∈ lw_all := lw_g (lw_at lw_m5 150 rfl) rfl
theorem q1227 : (Jvm.Cond.constant "java/lang/Intege\x72" (266 : Nat) (858993459 : Int32)) ∈ lw_all := lw_g (lw_at lw_m5 151 rfl) rfl
theorem q1228 : (Jvm.Cond.constant "java/lang/Intege\x72" (267 : Nat) (252645135 : Int32)) ∈ lw_all := lw_g (lw_at lw_m5 152 rfl) rfl
/-! java/lang/Object -/
set_option maxRecDepth 100000
def RJ14 : String := "java/lang/Object"
abbrev cJ14_init : ByteArray := object_method_1_code
def yJ14_init : MethodName := ⟨RJ14, "<init>", "()V"⟩
theorem dJ14_init_0 : decode cJ14_init 0 = .ok (.return_, 1) := by decide +kernel
theorem q161 : (Jvm.Cond.instanceMethod ({ cls := "java/lang/Object", name := "<init>", desc := "()V" } : Jvm.MethodName)) ∈ lw_all := lw_g (lw_at lw_m1 45 rfl) rfl
theorem q162 : (Jvm.Cond.code ({ cls := "java/lang/Object", name := "<init>", desc := "()V" } : Jvm.MethodName) object_method_1_code (1 : Nat) (Option.none : Option Jvm.ClassFile.FieldType)) ∈ lw_all := lw_g (lw_at lw_m1 46 rfl) rfl
theorem q816 : (Jvm.Cond.instanceMethod ({ cls := "java/lang/Object", name := "getClass", desc := "()Ljava/lang/Class;" } : Jvm.MethodName)) ∈ lw_all := lw_g (lw_at lw_m3 220 rfl) rfl
theorem q817 : (Jvm.Cond.sameMethod "java/lang/Object" "java/lang/Object" "getClass" "()Ljava/lang/Class;") ∈ lw_all := lw_g (lw_at lw_m3 221 rfl) rfl
theorem q838 : (Jvm.Cond.native ({ cls := "java/lang/Object", name := "getClass", desc := "()Ljava/lang/Class;" } : Jvm.MethodName)) ∈ lw_all := lw_g (lw_at lw_m4 2 rfl) rfl
theorem q2228 : (Jvm.Cond.declares ({ cls := "java/lang/Object", name := "getClass", desc := "()Ljava/lang/Class;" } : Jvm.MethodName)) ∈ lw_tbl := lw_at lw_m9 192 rfl
/-! java/util/ArrayList -/
set_option maxRecDepth 100000
def RJ2 : String := "java/util/ArrayList"
def TJ2 : u_T := fun k => match k with
  | 0 => ("java/util/AbstractList", "modCount", "I", false)
  | 1 => ("java/util/ArrayList", "elementData", "[Ljava/lang/Object;", false)
  | _ => ("java/util/ArrayList", "size", "I", false)
def tyJ2 : Nat → FieldType := fun k => match k with
  | 0 => .int
  | 1 => .array (.object "java/lang/Object")
  | _ => .int
abbrev wsJ20 : List Cond := u_ws RJ2 TJ2 3
theorem nmJ2 : ∀ a, a < 3 → ∀ b, b < 3 → a ≠ b → (TJ2 a).2.1 ≠ (TJ2 b).2.1 := by decide +kernel
theorem tyJ2_ok : ∀ k, k < 3 → parseFieldDescriptor (TJ2 k).2.2.1 = some (tyJ2 k) := by decide +kernel
abbrev cJ2_init : ByteArray := prog_38_method_2_code
def yJ2_init : MethodName := ⟨RJ2, "<init>", "()V"⟩
def dkwJ2_init_0 : List UInt8 := [42, 183, 0, 1, 42, 178, 0, 39, 181, 0, 9, 177]
abbrev dktJ2_init_0 : List UInt8 := dkwJ2_init_0 ++ []
theorem dksJ2_init_0 : cJ2_init.data.toList.drop 0 = dktJ2_init_0 := by decide +kernel
theorem dJ2_init_0 : decode cJ2_init 0 = .ok (.aload_n 0, 1) := dk_42 (dk_at dksJ2_init_0 0 rfl rfl)
theorem dJ2_init_1 : decode cJ2_init 1 = .ok (.invokespecial 1, 3) := dk_183 0 1 (dk_at dksJ2_init_0 1 rfl rfl)
theorem dJ2_init_4 : decode cJ2_init 4 = .ok (.aload_n 0, 1) := dk_42 (dk_at dksJ2_init_0 4 rfl rfl)
theorem dJ2_init_5 : decode cJ2_init 5 = .ok (.getstatic 39, 3) := dk_178 0 39 (dk_at dksJ2_init_0 5 rfl rfl)
theorem dJ2_init_8 : decode cJ2_init 8 = .ok (.putfield 9, 3) := dk_181 0 9 (dk_at dksJ2_init_0 8 rfl rfl)
theorem dJ2_init_11 : decode cJ2_init 11 = .ok (.return_, 1) := dk_177 (dk_at dksJ2_init_0 11 rfl rfl)
abbrev cJ2_size : ByteArray := prog_38_method_8_code
def yJ2_size : MethodName := ⟨RJ2, "size", "()I"⟩
theorem dJ2_size_0 : decode cJ2_size 0 = .ok (.aload_n 0, 1) := by decide +kernel
theorem dJ2_size_1 : decode cJ2_size 1 = .ok (.getfield 48, 3) := by decide +kernel
theorem dJ2_size_4 : decode cJ2_size 4 = .ok (.ireturn, 1) := by decide +kernel
abbrev cJ2_get : ByteArray := prog_38_method_20_code
def yJ2_get : MethodName := ⟨RJ2, "get", "(I)Ljava/lang/Object;"⟩
def dkwJ2_get_0 : List UInt8 := [27, 42, 180, 0, 48, 184, 0, 118, 87, 42, 27, 182, 0, 123, 176]
abbrev dktJ2_get_0 : List UInt8 := dkwJ2_get_0 ++ []
theorem dksJ2_get_0 : cJ2_get.data.toList.drop 0 = dktJ2_get_0 := by decide +kernel
theorem dJ2_get_0 : decode cJ2_get 0 = .ok (.iload_n 1, 1) := dk_27 (dk_at dksJ2_get_0 0 rfl rfl)
theorem dJ2_get_1 : decode cJ2_get 1 = .ok (.aload_n 0, 1) := dk_42 (dk_at dksJ2_get_0 1 rfl rfl)
theorem dJ2_get_2 : decode cJ2_get 2 = .ok (.getfield 48, 3) := dk_180 0 48 (dk_at dksJ2_get_0 2 rfl rfl)
theorem dJ2_get_5 : decode cJ2_get 5 = .ok (.invokestatic 118, 3) := dk_184 0 118 (dk_at dksJ2_get_0 5 rfl rfl)
theorem dJ2_get_8 : decode cJ2_get 8 = .ok (.pop, 1) := dk_87 (dk_at dksJ2_get_0 8 rfl rfl)
theorem dJ2_get_9 : decode cJ2_get 9 = .ok (.aload_n 0, 1) := dk_42 (dk_at dksJ2_get_0 9 rfl rfl)
theorem dJ2_get_10 : decode cJ2_get 10 = .ok (.iload_n 1, 1) := dk_27 (dk_at dksJ2_get_0 10 rfl rfl)
theorem dJ2_get_11 : decode cJ2_get 11 = .ok (.invokevirtual 123, 3) := dk_182 0 123 (dk_at dksJ2_get_0 11 rfl rfl)
theorem dJ2_get_14 : decode cJ2_get 14 = .ok (.areturn, 1) := dk_176 (dk_at dksJ2_get_0 14 rfl rfl)
abbrev cJ2_elementData : ByteArray := prog_38_method_18_code
def yJ2_elementData : MethodName := ⟨RJ2, "elementData", "(I)Ljava/lang/Object;"⟩
def dkwJ2_elementData_0 : List UInt8 := [42, 180, 0, 9, 27, 50, 176]
abbrev dktJ2_elementData_0 : List UInt8 := dkwJ2_elementData_0 ++ []
theorem dksJ2_elementData_0 : cJ2_elementData.data.toList.drop 0 = dktJ2_elementData_0 := by decide +kernel
theorem dJ2_elementData_0 : decode cJ2_elementData 0 = .ok (.aload_n 0, 1) := dk_42 (dk_at dksJ2_elementData_0 0 rfl rfl)
theorem dJ2_elementData_1 : decode cJ2_elementData 1 = .ok (.getfield 9, 3) := dk_180 0 9 (dk_at dksJ2_elementData_0 1 rfl rfl)
theorem dJ2_elementData_4 : decode cJ2_elementData 4 = .ok (.iload_n 1, 1) := dk_27 (dk_at dksJ2_elementData_0 4 rfl rfl)
theorem dJ2_elementData_5 : decode cJ2_elementData 5 = .ok (.aaload, 1) := dk_50 (dk_at dksJ2_elementData_0 5 rfl rfl)
theorem dJ2_elementData_6 : decode cJ2_elementData 6 = .ok (.areturn, 1) := dk_176 (dk_at dksJ2_elementData_0 6 rfl rfl)
abbrev cJ2_clear : ByteArray := prog_38_method_40_code
def yJ2_clear : MethodName := ⟨RJ2, "clea\x72", "()V"⟩
def dkwJ2_clear_1 : List UInt8 := [181, 0, 48, 62, 29, 28, 162, 0, 13, 43, 29, 1, 83, 132, 3, 1, 167, 255, 244, 177]
abbrev dktJ2_clear_1 : List UInt8 := dkwJ2_clear_1 ++ []
def dkwJ2_clear_0 : List UInt8 := [42, 89, 180, 0, 63, 4, 96, 181, 0, 63, 42, 180, 0, 9, 76, 42, 180, 0, 48, 61, 42, 3, 90]
abbrev dktJ2_clear_0 : List UInt8 := dkwJ2_clear_0 ++ dktJ2_clear_1
theorem dksJ2_clear_0 : cJ2_clear.data.toList.drop 0 = dktJ2_clear_0 := by decide +kernel
theorem dksJ2_clear_1 : cJ2_clear.data.toList.drop 23 = dktJ2_clear_1 := dk_seg dksJ2_clear_0 23 rfl rfl
theorem dJ2_clear_0 : decode cJ2_clear 0 = .ok (.aload_n 0, 1) := dk_42 (dk_at dksJ2_clear_0 0 rfl rfl)
theorem dJ2_clear_1 : decode cJ2_clear 1 = .ok (.dup, 1) := dk_89 (dk_at dksJ2_clear_0 1 rfl rfl)
theorem dJ2_clear_2 : decode cJ2_clear 2 = .ok (.getfield 63, 3) := dk_180 0 63 (dk_at dksJ2_clear_0 2 rfl rfl)
theorem dJ2_clear_5 : decode cJ2_clear 5 = .ok (.iconst 1, 1) := dk_4 (dk_at dksJ2_clear_0 5 rfl rfl)
theorem dJ2_clear_6 : decode cJ2_clear 6 = .ok (.iadd, 1) := dk_96 (dk_at dksJ2_clear_0 6 rfl rfl)
theorem dJ2_clear_7 : decode cJ2_clear 7 = .ok (.putfield 63, 3) := dk_181 0 63 (dk_at dksJ2_clear_0 7 rfl rfl)
theorem dJ2_clear_10 : decode cJ2_clear 10 = .ok (.aload_n 0, 1) := dk_42 (dk_at dksJ2_clear_0 10 rfl rfl)
theorem dJ2_clear_11 : decode cJ2_clear 11 = .ok (.getfield 9, 3) := dk_180 0 9 (dk_at dksJ2_clear_0 11 rfl rfl)
theorem dJ2_clear_14 : decode cJ2_clear 14 = .ok (.astore_n 1, 1) := dk_76 (dk_at dksJ2_clear_0 14 rfl rfl)
theorem dJ2_clear_15 : decode cJ2_clear 15 = .ok (.aload_n 0, 1) := dk_42 (dk_at dksJ2_clear_0 15 rfl rfl)
theorem dJ2_clear_16 : decode cJ2_clear 16 = .ok (.getfield 48, 3) := dk_180 0 48 (dk_at dksJ2_clear_0 16 rfl rfl)
theorem dJ2_clear_19 : decode cJ2_clear 19 = .ok (.istore_n 2, 1) := dk_61 (dk_at dksJ2_clear_0 19 rfl rfl)
theorem dJ2_clear_20 : decode cJ2_clear 20 = .ok (.aload_n 0, 1) := dk_42 (dk_at dksJ2_clear_0 20 rfl rfl)
theorem dJ2_clear_21 : decode cJ2_clear 21 = .ok (.iconst 0, 1) := dk_3 (dk_at dksJ2_clear_0 21 rfl rfl)
theorem dJ2_clear_22 : decode cJ2_clear 22 = .ok (.dup_x1, 1) := dk_90 (dk_at dksJ2_clear_0 22 rfl rfl)
theorem dJ2_clear_23 : decode cJ2_clear 23 = .ok (.putfield 48, 3) := dk_181 0 48 (dk_at dksJ2_clear_1 0 rfl rfl)
theorem dJ2_clear_26 : decode cJ2_clear 26 = .ok (.istore_n 3, 1) := dk_62 (dk_at dksJ2_clear_1 3 rfl rfl)
theorem dJ2_clear_27 : decode cJ2_clear 27 = .ok (.iload_n 3, 1) := dk_29 (dk_at dksJ2_clear_1 4 rfl rfl)
theorem dJ2_clear_28 : decode cJ2_clear 28 = .ok (.iload_n 2, 1) := dk_28 (dk_at dksJ2_clear_1 5 rfl rfl)
theorem dJ2_clear_29 : decode cJ2_clear 29 = .ok (.if_icmp .ge 13, 3) := dk_162 0 13 (dk_at dksJ2_clear_1 6 rfl rfl)
theorem dJ2_clear_32 : decode cJ2_clear 32 = .ok (.aload_n 1, 1) := dk_43 (dk_at dksJ2_clear_1 9 rfl rfl)
theorem dJ2_clear_33 : decode cJ2_clear 33 = .ok (.iload_n 3, 1) := dk_29 (dk_at dksJ2_clear_1 10 rfl rfl)
theorem dJ2_clear_34 : decode cJ2_clear 34 = .ok (.aconst_null, 1) := dk_1 (dk_at dksJ2_clear_1 11 rfl rfl)
theorem dJ2_clear_35 : decode cJ2_clear 35 = .ok (.aastore, 1) := dk_83 (dk_at dksJ2_clear_1 12 rfl rfl)
theorem dJ2_clear_36 : decode cJ2_clear 36 = .ok (.iinc 3 1, 3) := dk_132 3 1 (dk_at dksJ2_clear_1 13 rfl rfl)
theorem dJ2_clear_39 : decode cJ2_clear 39 = .ok (.goto (-12), 3) := dk_167 255 244 (dk_at dksJ2_clear_1 16 rfl rfl)
theorem dJ2_clear_42 : decode cJ2_clear 42 = .ok (.return_, 1) := dk_177 (dk_at dksJ2_clear_1 19 rfl rfl)
abbrev cJ2_add : ByteArray := prog_38_method_25_code
def yJ2_add : MethodName := ⟨RJ2, "add", "(Ljava/lang/Object;)Z"⟩
def dkwJ2_add_1 : List UInt8 := [172]
abbrev dktJ2_add_1 : List UInt8 := dkwJ2_add_1 ++ []
def dkwJ2_add_0 : List UInt8 := [42, 89, 180, 0, 63, 4, 96, 181, 0, 63, 42, 43, 42, 180, 0, 9, 42, 180, 0, 48, 182, 0, 131, 4]
abbrev dktJ2_add_0 : List UInt8 := dkwJ2_add_0 ++ dktJ2_add_1
theorem dksJ2_add_0 : cJ2_add.data.toList.drop 0 = dktJ2_add_0 := by decide +kernel
theorem dksJ2_add_1 : cJ2_add.data.toList.drop 24 = dktJ2_add_1 := dk_seg dksJ2_add_0 24 rfl rfl
theorem dJ2_add_0 : decode cJ2_add 0 = .ok (.aload_n 0, 1) := dk_42 (dk_at dksJ2_add_0 0 rfl rfl)
theorem dJ2_add_1 : decode cJ2_add 1 = .ok (.dup, 1) := dk_89 (dk_at dksJ2_add_0 1 rfl rfl)
theorem dJ2_add_2 : decode cJ2_add 2 = .ok (.getfield 63, 3) := dk_180 0 63 (dk_at dksJ2_add_0 2 rfl rfl)
theorem dJ2_add_5 : decode cJ2_add 5 = .ok (.iconst 1, 1) := dk_4 (dk_at dksJ2_add_0 5 rfl rfl)
theorem dJ2_add_6 : decode cJ2_add 6 = .ok (.iadd, 1) := dk_96 (dk_at dksJ2_add_0 6 rfl rfl)
theorem dJ2_add_7 : decode cJ2_add 7 = .ok (.putfield 63, 3) := dk_181 0 63 (dk_at dksJ2_add_0 7 rfl rfl)
theorem dJ2_add_10 : decode cJ2_add 10 = .ok (.aload_n 0, 1) := dk_42 (dk_at dksJ2_add_0 10 rfl rfl)
theorem dJ2_add_11 : decode cJ2_add 11 = .ok (.aload_n 1, 1) := dk_43 (dk_at dksJ2_add_0 11 rfl rfl)
theorem dJ2_add_12 : decode cJ2_add 12 = .ok (.aload_n 0, 1) := dk_42 (dk_at dksJ2_add_0 12 rfl rfl)
theorem dJ2_add_13 : decode cJ2_add 13 = .ok (.getfield 9, 3) := dk_180 0 9 (dk_at dksJ2_add_0 13 rfl rfl)
theorem dJ2_add_16 : decode cJ2_add 16 = .ok (.aload_n 0, 1) := dk_42 (dk_at dksJ2_add_0 16 rfl rfl)
theorem dJ2_add_17 : decode cJ2_add 17 = .ok (.getfield 48, 3) := dk_180 0 48 (dk_at dksJ2_add_0 17 rfl rfl)
theorem dJ2_add_20 : decode cJ2_add 20 = .ok (.invokevirtual 131, 3) := dk_182 0 131 (dk_at dksJ2_add_0 20 rfl rfl)
theorem dJ2_add_23 : decode cJ2_add 23 = .ok (.iconst 1, 1) := dk_4 (dk_at dksJ2_add_0 23 rfl rfl)
theorem dJ2_add_24 : decode cJ2_add 24 = .ok (.ireturn, 1) := dk_172 (dk_at dksJ2_add_1 0 rfl rfl)
abbrev cJ2_add_2 : ByteArray := prog_38_method_24_code
def yJ2_add_2 : MethodName := ⟨RJ2, "add", "(Ljava/lang/Object;[Ljava/lang/Object;I)V"⟩
def dkwJ2_add_2_0 : List UInt8 := [29, 44, 190, 160, 0, 8, 42, 182, 0, 129, 77, 44, 29, 43, 83, 42, 29, 4, 96, 181, 0, 48, 177]
abbrev dktJ2_add_2_0 : List UInt8 := dkwJ2_add_2_0 ++ []
theorem dksJ2_add_2_0 : cJ2_add_2.data.toList.drop 0 = dktJ2_add_2_0 := by decide +kernel
theorem dJ2_add_2_0 : decode cJ2_add_2 0 = .ok (.iload_n 3, 1) := dk_29 (dk_at dksJ2_add_2_0 0 rfl rfl)
theorem dJ2_add_2_1 : decode cJ2_add_2 1 = .ok (.aload_n 2, 1) := dk_44 (dk_at dksJ2_add_2_0 1 rfl rfl)
theorem dJ2_add_2_2 : decode cJ2_add_2 2 = .ok (.arraylength, 1) := dk_190 (dk_at dksJ2_add_2_0 2 rfl rfl)
theorem dJ2_add_2_3 : decode cJ2_add_2 3 = .ok (.if_icmp .ne 8, 3) := dk_160 0 8 (dk_at dksJ2_add_2_0 3 rfl rfl)
theorem dJ2_add_2_6 : decode cJ2_add_2 6 = .ok (.aload_n 0, 1) := dk_42 (dk_at dksJ2_add_2_0 6 rfl rfl)
theorem dJ2_add_2_7 : decode cJ2_add_2 7 = .ok (.invokevirtual 129, 3) := dk_182 0 129 (dk_at dksJ2_add_2_0 7 rfl rfl)
theorem dJ2_add_2_10 : decode cJ2_add_2 10 = .ok (.astore_n 2, 1) := dk_77 (dk_at dksJ2_add_2_0 10 rfl rfl)
theorem dJ2_add_2_11 : decode cJ2_add_2 11 = .ok (.aload_n 2, 1) := dk_44 (dk_at dksJ2_add_2_0 11 rfl rfl)
theorem dJ2_add_2_12 : decode cJ2_add_2 12 = .ok (.iload_n 3, 1) := dk_29 (dk_at dksJ2_add_2_0 12 rfl rfl)
theorem dJ2_add_2_13 : decode cJ2_add_2 13 = .ok (.aload_n 1, 1) := dk_43 (dk_at dksJ2_add_2_0 13 rfl rfl)
theorem dJ2_add_2_14 : decode cJ2_add_2 14 = .ok (.aastore, 1) := dk_83 (dk_at dksJ2_add_2_0 14 rfl rfl)
theorem dJ2_add_2_15 : decode cJ2_add_2 15 = .ok (.aload_n 0, 1) := dk_42 (dk_at dksJ2_add_2_0 15 rfl rfl)
theorem dJ2_add_2_16 : decode cJ2_add_2 16 = .ok (.iload_n 3, 1) := dk_29 (dk_at dksJ2_add_2_0 16 rfl rfl)
theorem dJ2_add_2_17 : decode cJ2_add_2 17 = .ok (.iconst 1, 1) := dk_4 (dk_at dksJ2_add_2_0 17 rfl rfl)
theorem dJ2_add_2_18 : decode cJ2_add_2 18 = .ok (.iadd, 1) := dk_96 (dk_at dksJ2_add_2_0 18 rfl rfl)
theorem dJ2_add_2_19 : decode cJ2_add_2 19 = .ok (.putfield 48, 3) := dk_181 0 48 (dk_at dksJ2_add_2_0 19 rfl rfl)
theorem dJ2_add_2_22 : decode cJ2_add_2 22 = .ok (.return_, 1) := dk_177 (dk_at dksJ2_add_2_0 22 rfl rfl)
abbrev cJ2_grow : ByteArray := prog_38_method_7_code
def yJ2_grow : MethodName := ⟨RJ2, "grow", "()[Ljava/lang/Object;"⟩
def dkwJ2_grow_0 : List UInt8 := [42, 42, 180, 0, 48, 4, 96, 182, 0, 69, 176]
abbrev dktJ2_grow_0 : List UInt8 := dkwJ2_grow_0 ++ []
theorem dksJ2_grow_0 : cJ2_grow.data.toList.drop 0 = dktJ2_grow_0 := by decide +kernel
theorem dJ2_grow_0 : decode cJ2_grow 0 = .ok (.aload_n 0, 1) := dk_42 (dk_at dksJ2_grow_0 0 rfl rfl)
theorem dJ2_grow_1 : decode cJ2_grow 1 = .ok (.aload_n 0, 1) := dk_42 (dk_at dksJ2_grow_0 1 rfl rfl)
theorem dJ2_grow_2 : decode cJ2_grow 2 = .ok (.getfield 48, 3) := dk_180 0 48 (dk_at dksJ2_grow_0 2 rfl rfl)
theorem dJ2_grow_5 : decode cJ2_grow 5 = .ok (.iconst 1, 1) := dk_4 (dk_at dksJ2_grow_0 5 rfl rfl)
theorem dJ2_grow_6 : decode cJ2_grow 6 = .ok (.iadd, 1) := dk_96 (dk_at dksJ2_grow_0 6 rfl rfl)
theorem dJ2_grow_7 : decode cJ2_grow 7 = .ok (.invokevirtual 69, 3) := dk_182 0 69 (dk_at dksJ2_grow_0 7 rfl rfl)
theorem dJ2_grow_10 : decode cJ2_grow 10 = .ok (.areturn, 1) := dk_176 (dk_at dksJ2_grow_0 10 rfl rfl)
abbrev cJ2_grow_2 : ByteArray := prog_38_method_6_code
def yJ2_grow_2 : MethodName := ⟨RJ2, "grow", "(I)[Ljava/lang/Object;"⟩
def dkwJ2_grow_2_2 : List UInt8 := [27, 184, 0, 79, 189, 0, 7, 90, 181, 0, 9, 176]
abbrev dktJ2_grow_2_2 : List UInt8 := dkwJ2_grow_2_2 ++ []
def dkwJ2_grow_2_1 : List UInt8 := [28, 4, 122, 184, 0, 73, 62, 42, 42, 180, 0, 9, 29, 184, 0, 66, 90, 181, 0, 9, 176, 42, 16, 10]
abbrev dktJ2_grow_2_1 : List UInt8 := dkwJ2_grow_2_1 ++ dktJ2_grow_2_2
def dkwJ2_grow_2_0 : List UInt8 := [42, 180, 0, 9, 190, 61, 28, 157, 0, 13, 42, 180, 0, 9, 178, 0, 39, 165, 0, 28, 28, 27, 28, 100]
abbrev dktJ2_grow_2_0 : List UInt8 := dkwJ2_grow_2_0 ++ dktJ2_grow_2_1
theorem dksJ2_grow_2_0 : cJ2_grow_2.data.toList.drop 0 = dktJ2_grow_2_0 := by decide +kernel
theorem dksJ2_grow_2_1 : cJ2_grow_2.data.toList.drop 24 = dktJ2_grow_2_1 := dk_seg dksJ2_grow_2_0 24 rfl rfl
theorem dksJ2_grow_2_2 : cJ2_grow_2.data.toList.drop 48 = dktJ2_grow_2_2 := dk_seg dksJ2_grow_2_1 24 rfl rfl
theorem dJ2_grow_2_0 : decode cJ2_grow_2 0 = .ok (.aload_n 0, 1) := dk_42 (dk_at dksJ2_grow_2_0 0 rfl rfl)
theorem dJ2_grow_2_1 : decode cJ2_grow_2 1 = .ok (.getfield 9, 3) := dk_180 0 9 (dk_at dksJ2_grow_2_0 1 rfl rfl)
theorem dJ2_grow_2_4 : decode cJ2_grow_2 4 = .ok (.arraylength, 1) := dk_190 (dk_at dksJ2_grow_2_0 4 rfl rfl)
theorem dJ2_grow_2_5 : decode cJ2_grow_2 5 = .ok (.istore_n 2, 1) := dk_61 (dk_at dksJ2_grow_2_0 5 rfl rfl)
theorem dJ2_grow_2_6 : decode cJ2_grow_2 6 = .ok (.iload_n 2, 1) := dk_28 (dk_at dksJ2_grow_2_0 6 rfl rfl)
theorem dJ2_grow_2_7 : decode cJ2_grow_2 7 = .ok (.ifCond .gt 13, 3) := dk_157 0 13 (dk_at dksJ2_grow_2_0 7 rfl rfl)
theorem dJ2_grow_2_10 : decode cJ2_grow_2 10 = .ok (.aload_n 0, 1) := dk_42 (dk_at dksJ2_grow_2_0 10 rfl rfl)
theorem dJ2_grow_2_11 : decode cJ2_grow_2 11 = .ok (.getfield 9, 3) := dk_180 0 9 (dk_at dksJ2_grow_2_0 11 rfl rfl)
theorem dJ2_grow_2_14 : decode cJ2_grow_2 14 = .ok (.getstatic 39, 3) := dk_178 0 39 (dk_at dksJ2_grow_2_0 14 rfl rfl)
theorem dJ2_grow_2_17 : decode cJ2_grow_2 17 = .ok (.if_acmp .eq 28, 3) := dk_165 0 28 (dk_at dksJ2_grow_2_0 17 rfl rfl)
theorem dJ2_grow_2_20 : decode cJ2_grow_2 20 = .ok (.iload_n 2, 1) := dk_28 (dk_at dksJ2_grow_2_0 20 rfl rfl)
theorem dJ2_grow_2_21 : decode cJ2_grow_2 21 = .ok (.iload_n 1, 1) := dk_27 (dk_at dksJ2_grow_2_0 21 rfl rfl)
theorem dJ2_grow_2_22 : decode cJ2_grow_2 22 = .ok (.iload_n 2, 1) := dk_28 (dk_at dksJ2_grow_2_0 22 rfl rfl)
theorem dJ2_grow_2_23 : decode cJ2_grow_2 23 = .ok (.isub, 1) := dk_100 (dk_at dksJ2_grow_2_0 23 rfl rfl)
theorem dJ2_grow_2_24 : decode cJ2_grow_2 24 = .ok (.iload_n 2, 1) := dk_28 (dk_at dksJ2_grow_2_1 0 rfl rfl)
theorem dJ2_grow_2_25 : decode cJ2_grow_2 25 = .ok (.iconst 1, 1) := dk_4 (dk_at dksJ2_grow_2_1 1 rfl rfl)
theorem dJ2_grow_2_26 : decode cJ2_grow_2 26 = .ok (.ishr, 1) := dk_122 (dk_at dksJ2_grow_2_1 2 rfl rfl)
theorem dJ2_grow_2_27 : decode cJ2_grow_2 27 = .ok (.invokestatic 73, 3) := dk_184 0 73 (dk_at dksJ2_grow_2_1 3 rfl rfl)
theorem dJ2_grow_2_30 : decode cJ2_grow_2 30 = .ok (.istore_n 3, 1) := dk_62 (dk_at dksJ2_grow_2_1 6 rfl rfl)
theorem dJ2_grow_2_31 : decode cJ2_grow_2 31 = .ok (.aload_n 0, 1) := dk_42 (dk_at dksJ2_grow_2_1 7 rfl rfl)
theorem dJ2_grow_2_32 : decode cJ2_grow_2 32 = .ok (.aload_n 0, 1) := dk_42 (dk_at dksJ2_grow_2_1 8 rfl rfl)
theorem dJ2_grow_2_33 : decode cJ2_grow_2 33 = .ok (.getfield 9, 3) := dk_180 0 9 (dk_at dksJ2_grow_2_1 9 rfl rfl)
theorem dJ2_grow_2_36 : decode cJ2_grow_2 36 = .ok (.iload_n 3, 1) := dk_29 (dk_at dksJ2_grow_2_1 12 rfl rfl)
theorem dJ2_grow_2_37 : decode cJ2_grow_2 37 = .ok (.invokestatic 66, 3) := dk_184 0 66 (dk_at dksJ2_grow_2_1 13 rfl rfl)
theorem dJ2_grow_2_40 : decode cJ2_grow_2 40 = .ok (.dup_x1, 1) := dk_90 (dk_at dksJ2_grow_2_1 16 rfl rfl)
theorem dJ2_grow_2_41 : decode cJ2_grow_2 41 = .ok (.putfield 9, 3) := dk_181 0 9 (dk_at dksJ2_grow_2_1 17 rfl rfl)
theorem dJ2_grow_2_44 : decode cJ2_grow_2 44 = .ok (.areturn, 1) := dk_176 (dk_at dksJ2_grow_2_1 20 rfl rfl)
theorem dJ2_grow_2_45 : decode cJ2_grow_2 45 = .ok (.aload_n 0, 1) := dk_42 (dk_at dksJ2_grow_2_1 21 rfl rfl)
theorem dJ2_grow_2_46 : decode cJ2_grow_2 46 = .ok (.bipush 10, 2) := dk_16 10 (dk_at dksJ2_grow_2_1 22 rfl rfl)
theorem dJ2_grow_2_48 : decode cJ2_grow_2 48 = .ok (.iload_n 1, 1) := dk_27 (dk_at dksJ2_grow_2_2 0 rfl rfl)
theorem dJ2_grow_2_49 : decode cJ2_grow_2 49 = .ok (.invokestatic 79, 3) := dk_184 0 79 (dk_at dksJ2_grow_2_2 1 rfl rfl)
theorem dJ2_grow_2_52 : decode cJ2_grow_2 52 = .ok (.anewarray 7, 3) := dk_189 0 7 (dk_at dksJ2_grow_2_2 4 rfl rfl)
theorem dJ2_grow_2_55 : decode cJ2_grow_2 55 = .ok (.dup_x1, 1) := dk_90 (dk_at dksJ2_grow_2_2 7 rfl rfl)
theorem dJ2_grow_2_56 : decode cJ2_grow_2 56 = .ok (.putfield 9, 3) := dk_181 0 9 (dk_at dksJ2_grow_2_2 8 rfl rfl)
theorem dJ2_grow_2_59 : decode cJ2_grow_2 59 = .ok (.areturn, 1) := dk_176 (dk_at dksJ2_grow_2_2 11 rfl rfl)
abbrev cJ2_remove : ByteArray := prog_38_method_29_code
def yJ2_remove : MethodName := ⟨RJ2, "remove", "(I)Ljava/lang/Object;"⟩
def dkwJ2_remove_1 : List UInt8 := [45, 176]
abbrev dktJ2_remove_1 : List UInt8 := dkwJ2_remove_1 ++ []
def dkwJ2_remove_0 : List UInt8 := [27, 42, 180, 0, 48, 184, 0, 118, 87, 42, 180, 0, 9, 77, 44, 27, 50, 78, 42, 44, 27, 182, 0, 144]
abbrev dktJ2_remove_0 : List UInt8 := dkwJ2_remove_0 ++ dktJ2_remove_1
theorem dksJ2_remove_0 : cJ2_remove.data.toList.drop 0 = dktJ2_remove_0 := by decide +kernel
theorem dksJ2_remove_1 : cJ2_remove.data.toList.drop 24 = dktJ2_remove_1 := dk_seg dksJ2_remove_0 24 rfl rfl
theorem dJ2_remove_0 : decode cJ2_remove 0 = .ok (.iload_n 1, 1) := dk_27 (dk_at dksJ2_remove_0 0 rfl rfl)
theorem dJ2_remove_1 : decode cJ2_remove 1 = .ok (.aload_n 0, 1) := dk_42 (dk_at dksJ2_remove_0 1 rfl rfl)
theorem dJ2_remove_2 : decode cJ2_remove 2 = .ok (.getfield 48, 3) := dk_180 0 48 (dk_at dksJ2_remove_0 2 rfl rfl)
theorem dJ2_remove_5 : decode cJ2_remove 5 = .ok (.invokestatic 118, 3) := dk_184 0 118 (dk_at dksJ2_remove_0 5 rfl rfl)
theorem dJ2_remove_8 : decode cJ2_remove 8 = .ok (.pop, 1) := dk_87 (dk_at dksJ2_remove_0 8 rfl rfl)
theorem dJ2_remove_9 : decode cJ2_remove 9 = .ok (.aload_n 0, 1) := dk_42 (dk_at dksJ2_remove_0 9 rfl rfl)
theorem dJ2_remove_10 : decode cJ2_remove 10 = .ok (.getfield 9, 3) := dk_180 0 9 (dk_at dksJ2_remove_0 10 rfl rfl)
theorem dJ2_remove_13 : decode cJ2_remove 13 = .ok (.astore_n 2, 1) := dk_77 (dk_at dksJ2_remove_0 13 rfl rfl)
theorem dJ2_remove_14 : decode cJ2_remove 14 = .ok (.aload_n 2, 1) := dk_44 (dk_at dksJ2_remove_0 14 rfl rfl)
theorem dJ2_remove_15 : decode cJ2_remove 15 = .ok (.iload_n 1, 1) := dk_27 (dk_at dksJ2_remove_0 15 rfl rfl)
theorem dJ2_remove_16 : decode cJ2_remove 16 = .ok (.aaload, 1) := dk_50 (dk_at dksJ2_remove_0 16 rfl rfl)
theorem dJ2_remove_17 : decode cJ2_remove 17 = .ok (.astore_n 3, 1) := dk_78 (dk_at dksJ2_remove_0 17 rfl rfl)
theorem dJ2_remove_18 : decode cJ2_remove 18 = .ok (.aload_n 0, 1) := dk_42 (dk_at dksJ2_remove_0 18 rfl rfl)
theorem dJ2_remove_19 : decode cJ2_remove 19 = .ok (.aload_n 2, 1) := dk_44 (dk_at dksJ2_remove_0 19 rfl rfl)
theorem dJ2_remove_20 : decode cJ2_remove 20 = .ok (.iload_n 1, 1) := dk_27 (dk_at dksJ2_remove_0 20 rfl rfl)
theorem dJ2_remove_21 : decode cJ2_remove 21 = .ok (.invokevirtual 144, 3) := dk_182 0 144 (dk_at dksJ2_remove_0 21 rfl rfl)
theorem dJ2_remove_24 : decode cJ2_remove 24 = .ok (.aload_n 3, 1) := dk_45 (dk_at dksJ2_remove_1 0 rfl rfl)
theorem dJ2_remove_25 : decode cJ2_remove 25 = .ok (.areturn, 1) := dk_176 (dk_at dksJ2_remove_1 1 rfl rfl)
abbrev cJ2_fastRemove : ByteArray := prog_38_method_39_code
def yJ2_fastRemove : MethodName := ⟨RJ2, "fastRemove", "([Ljava/lang/Object;I)V"⟩
def dkwJ2_fastRemove_1 : List UInt8 := [4, 96, 43, 28, 29, 28, 100, 184, 0, 112, 43, 42, 29, 90, 181, 0, 48, 1, 83, 177]
abbrev dktJ2_fastRemove_1 : List UInt8 := dkwJ2_fastRemove_1 ++ []
def dkwJ2_fastRemove_0 : List UInt8 := [42, 89, 180, 0, 63, 4, 96, 181, 0, 63, 42, 180, 0, 48, 4, 100, 89, 62, 28, 164, 0, 15, 43, 28]
abbrev dktJ2_fastRemove_0 : List UInt8 := dkwJ2_fastRemove_0 ++ dktJ2_fastRemove_1
theorem dksJ2_fastRemove_0 : cJ2_fastRemove.data.toList.drop 0 = dktJ2_fastRemove_0 := by decide +kernel
theorem dksJ2_fastRemove_1 : cJ2_fastRemove.data.toList.drop 24 = dktJ2_fastRemove_1 := dk_seg dksJ2_fastRemove_0 24 rfl rfl
theorem dJ2_fastRemove_0 : decode cJ2_fastRemove 0 = .ok (.aload_n 0, 1) := dk_42 (dk_at dksJ2_fastRemove_0 0 rfl rfl)
theorem dJ2_fastRemove_1 : decode cJ2_fastRemove 1 = .ok (.dup, 1) := dk_89 (dk_at dksJ2_fastRemove_0 1 rfl rfl)
theorem dJ2_fastRemove_2 : decode cJ2_fastRemove 2 = .ok (.getfield 63, 3) := dk_180 0 63 (dk_at dksJ2_fastRemove_0 2 rfl rfl)
theorem dJ2_fastRemove_5 : decode cJ2_fastRemove 5 = .ok (.iconst 1, 1) := dk_4 (dk_at dksJ2_fastRemove_0 5 rfl rfl)
theorem dJ2_fastRemove_6 : decode cJ2_fastRemove 6 = .ok (.iadd, 1) := dk_96 (dk_at dksJ2_fastRemove_0 6 rfl rfl)
theorem dJ2_fastRemove_7 : decode cJ2_fastRemove 7 = .ok (.putfield 63, 3) := dk_181 0 63 (dk_at dksJ2_fastRemove_0 7 rfl rfl)
theorem dJ2_fastRemove_10 : decode cJ2_fastRemove 10 = .ok (.aload_n 0, 1) := dk_42 (dk_at dksJ2_fastRemove_0 10 rfl rfl)
theorem dJ2_fastRemove_11 : decode cJ2_fastRemove 11 = .ok (.getfield 48, 3) := dk_180 0 48 (dk_at dksJ2_fastRemove_0 11 rfl rfl)
theorem dJ2_fastRemove_14 : decode cJ2_fastRemove 14 = .ok (.iconst 1, 1) := dk_4 (dk_at dksJ2_fastRemove_0 14 rfl rfl)
theorem dJ2_fastRemove_15 : decode cJ2_fastRemove 15 = .ok (.isub, 1) := dk_100 (dk_at dksJ2_fastRemove_0 15 rfl rfl)
theorem dJ2_fastRemove_16 : decode cJ2_fastRemove 16 = .ok (.dup, 1) := dk_89 (dk_at dksJ2_fastRemove_0 16 rfl rfl)
theorem dJ2_fastRemove_17 : decode cJ2_fastRemove 17 = .ok (.istore_n 3, 1) := dk_62 (dk_at dksJ2_fastRemove_0 17 rfl rfl)
theorem dJ2_fastRemove_18 : decode cJ2_fastRemove 18 = .ok (.iload_n 2, 1) := dk_28 (dk_at dksJ2_fastRemove_0 18 rfl rfl)
theorem dJ2_fastRemove_19 : decode cJ2_fastRemove 19 = .ok (.if_icmp .le 15, 3) := dk_164 0 15 (dk_at dksJ2_fastRemove_0 19 rfl rfl)
theorem dJ2_fastRemove_22 : decode cJ2_fastRemove 22 = .ok (.aload_n 1, 1) := dk_43 (dk_at dksJ2_fastRemove_0 22 rfl rfl)
theorem dJ2_fastRemove_23 : decode cJ2_fastRemove 23 = .ok (.iload_n 2, 1) := dk_28 (dk_at dksJ2_fastRemove_0 23 rfl rfl)
theorem dJ2_fastRemove_24 : decode cJ2_fastRemove 24 = .ok (.iconst 1, 1) := dk_4 (dk_at dksJ2_fastRemove_1 0 rfl rfl)
theorem dJ2_fastRemove_25 : decode cJ2_fastRemove 25 = .ok (.iadd, 1) := dk_96 (dk_at dksJ2_fastRemove_1 1 rfl rfl)
theorem dJ2_fastRemove_26 : decode cJ2_fastRemove 26 = .ok (.aload_n 1, 1) := dk_43 (dk_at dksJ2_fastRemove_1 2 rfl rfl)
theorem dJ2_fastRemove_27 : decode cJ2_fastRemove 27 = .ok (.iload_n 2, 1) := dk_28 (dk_at dksJ2_fastRemove_1 3 rfl rfl)
theorem dJ2_fastRemove_28 : decode cJ2_fastRemove 28 = .ok (.iload_n 3, 1) := dk_29 (dk_at dksJ2_fastRemove_1 4 rfl rfl)
theorem dJ2_fastRemove_29 : decode cJ2_fastRemove 29 = .ok (.iload_n 2, 1) := dk_28 (dk_at dksJ2_fastRemove_1 5 rfl rfl)
theorem dJ2_fastRemove_30 : decode cJ2_fastRemove 30 = .ok (.isub, 1) := dk_100 (dk_at dksJ2_fastRemove_1 6 rfl rfl)
theorem dJ2_fastRemove_31 : decode cJ2_fastRemove 31 = .ok (.invokestatic 112, 3) := dk_184 0 112 (dk_at dksJ2_fastRemove_1 7 rfl rfl)
theorem dJ2_fastRemove_34 : decode cJ2_fastRemove 34 = .ok (.aload_n 1, 1) := dk_43 (dk_at dksJ2_fastRemove_1 10 rfl rfl)
theorem dJ2_fastRemove_35 : decode cJ2_fastRemove 35 = .ok (.aload_n 0, 1) := dk_42 (dk_at dksJ2_fastRemove_1 11 rfl rfl)
theorem dJ2_fastRemove_36 : decode cJ2_fastRemove 36 = .ok (.iload_n 3, 1) := dk_29 (dk_at dksJ2_fastRemove_1 12 rfl rfl)
theorem dJ2_fastRemove_37 : decode cJ2_fastRemove 37 = .ok (.dup_x1, 1) := dk_90 (dk_at dksJ2_fastRemove_1 13 rfl rfl)
theorem dJ2_fastRemove_38 : decode cJ2_fastRemove 38 = .ok (.putfield 48, 3) := dk_181 0 48 (dk_at dksJ2_fastRemove_1 14 rfl rfl)
theorem dJ2_fastRemove_41 : decode cJ2_fastRemove 41 = .ok (.aconst_null, 1) := dk_1 (dk_at dksJ2_fastRemove_1 17 rfl rfl)
theorem dJ2_fastRemove_42 : decode cJ2_fastRemove 42 = .ok (.aastore, 1) := dk_83 (dk_at dksJ2_fastRemove_1 18 rfl rfl)
theorem dJ2_fastRemove_43 : decode cJ2_fastRemove 43 = .ok (.return_, 1) := dk_177 (dk_at dksJ2_fastRemove_1 19 rfl rfl)
abbrev cJ2_isEmpty : ByteArray := prog_38_method_9_code
def yJ2_isEmpty : MethodName := ⟨RJ2, "isEmpty", "()Z"⟩
def dkwJ2_isEmpty_0 : List UInt8 := [42, 180, 0, 48, 154, 0, 7, 4, 167, 0, 4, 3, 172]
abbrev dktJ2_isEmpty_0 : List UInt8 := dkwJ2_isEmpty_0 ++ []
theorem dksJ2_isEmpty_0 : cJ2_isEmpty.data.toList.drop 0 = dktJ2_isEmpty_0 := by decide +kernel
theorem dJ2_isEmpty_0 : decode cJ2_isEmpty 0 = .ok (.aload_n 0, 1) := dk_42 (dk_at dksJ2_isEmpty_0 0 rfl rfl)
theorem dJ2_isEmpty_1 : decode cJ2_isEmpty 1 = .ok (.getfield 48, 3) := dk_180 0 48 (dk_at dksJ2_isEmpty_0 1 rfl rfl)
theorem dJ2_isEmpty_4 : decode cJ2_isEmpty 4 = .ok (.ifCond .ne 7, 3) := dk_154 0 7 (dk_at dksJ2_isEmpty_0 4 rfl rfl)
theorem dJ2_isEmpty_7 : decode cJ2_isEmpty 7 = .ok (.iconst 1, 1) := dk_4 (dk_at dksJ2_isEmpty_0 7 rfl rfl)
theorem dJ2_isEmpty_8 : decode cJ2_isEmpty 8 = .ok (.goto 4, 3) := dk_167 0 4 (dk_at dksJ2_isEmpty_0 8 rfl rfl)
theorem dJ2_isEmpty_11 : decode cJ2_isEmpty 11 = .ok (.iconst 0, 1) := dk_3 (dk_at dksJ2_isEmpty_0 11 rfl rfl)
theorem dJ2_isEmpty_12 : decode cJ2_isEmpty 12 = .ok (.ireturn, 1) := dk_172 (dk_at dksJ2_isEmpty_0 12 rfl rfl)
theorem q121 : (Jvm.Cond.initialized "java/util/ArrayList") ∈ lw_all := lw_g (lw_at lw_m1 5 rfl) rfl
theorem q170 : (Jvm.Cond.instantiable "java/util/ArrayList" (3 : Nat)) ∈ lw_all := lw_g (lw_at lw_m1 54 rfl) rfl
theorem q172 : (Jvm.Cond.instanceMethod ({ cls := "java/util/ArrayList", name := "<init>", desc := "()V" } : Jvm.MethodName)) ∈ lw_all := lw_g (lw_at lw_m1 56 rfl) rfl
theorem q173 : (Jvm.Cond.code ({ cls := "java/util/ArrayList", name := "<init>", desc := "()V" } : Jvm.MethodName) prog_38_method_2_code (1 : Nat) (Option.none : Option Jvm.ClassFile.FieldType)) ∈ lw_all := lw_g (lw_at lw_m1 57 rfl) rfl
theorem q174 : (Jvm.Cond.methodLink "java/util/ArrayList" (1 : Nat) ({ cls := "java/util/AbstractList", name := "<init>", desc := "()V" } : Jvm.MethodName)) ∈ lw_all := lw_g (lw_at lw_m1 58 rfl) rfl
theorem q181 : (Jvm.Cond.fieldLink "java/util/ArrayList" (39 : Nat) "java/util/ArrayList" "DEFAULTCAPACITY_EMPTY_ELEMENTDATA" "[Ljava/lang/Object;") ∈ lw_all := lw_g (lw_at lw_m1 65 rfl) rfl
theorem q182 : (Jvm.Cond.laysStatic "java/util/ArrayList" "DEFAULTCAPACITY_EMPTY_ELEMENTDATA" "[Ljava/lang/Object;") ∈ lw_tbl := lw_at lw_m1 66 rfl
theorem q183 : (Jvm.Cond.fieldLink "java/util/ArrayList" (9 : Nat) "java/util/ArrayList" "elementData" "[Ljava/lang/Object;") ∈ lw_all := lw_g (lw_at lw_m1 67 rfl) rfl
theorem q184 : (Jvm.Cond.fieldLink "java/util/ArrayList" (48 : Nat) "java/util/ArrayList" "size" "I") ∈ lw_all := lw_g (lw_at lw_m1 68 rfl) rfl
theorem q186 : (Jvm.Cond.fieldLink "java/util/ArrayList" (63 : Nat) "java/util/ArrayList" "modCount" "I") ∈ lw_all := lw_g (lw_at lw_m1 70 rfl) rfl
theorem q187 : (Jvm.Cond.sameField "java/util/ArrayList" "java/util/AbstractList" "modCount" "I") ∈ lw_all := lw_g (lw_at lw_m1 71 rfl) rfl
theorem q188 : (Jvm.Cond.lays "java/util/ArrayList" "java/util/ArrayList" "elementData" "[Ljava/lang/Object;") ∈ lw_all := lw_g (lw_at lw_m1 72 rfl) rfl
theorem q189 : (Jvm.Cond.soleField "java/util/ArrayList" "elementData") ∈ lw_all := lw_g (lw_at lw_m1 73 rfl) rfl
theorem q190 : (Jvm.Cond.lays "java/util/ArrayList" "java/util/ArrayList" "size" "I") ∈ lw_all := lw_g (lw_at lw_m1 74 rfl) rfl
theorem q191 : (Jvm.Cond.soleField "java/util/ArrayList" "size") ∈ lw_all := lw_g (lw_at lw_m1 75 rfl) rfl
theorem q192 : (Jvm.Cond.lays "java/util/ArrayList" "java/util/AbstractList" "modCount" "I") ∈ lw_all := lw_g (lw_at lw_m1 76 rfl) rfl
theorem q194 : (Jvm.Cond.superclass "java/util/ArrayList" "java/util/AbstractList") ∈ lw_all := lw_g (lw_at lw_m1 78 rfl) rfl
theorem q466 : (Jvm.Cond.instanceMethod ({ cls := "java/util/ArrayList", name := "size", desc := "()I" } : Jvm.MethodName)) ∈ lw_all := lw_g (lw_at lw_m2 110 rfl) rfl
theorem q467 : (Jvm.Cond.selects "java/util/ArrayList" ({ cls := "java/util/ArrayList", name := "size", desc := "()I" } : Jvm.MethodName) ({ cls := "java/util/ArrayList", name := "size", desc := "()I" } : Jvm.MethodName)) ∈ lw_all := lw_g (lw_at lw_m2 111 rfl) rfl
theorem q468 : (Jvm.Cond.code ({ cls := "java/util/ArrayList", name := "size", desc := "()I" } : Jvm.MethodName) prog_38_method_8_code (1 : Nat) (Option.some Jvm.ClassFile.FieldType.int)) ∈ lw_all := lw_g (lw_at lw_m2 112 rfl) rfl
theorem q470 : (Jvm.Cond.instanceMethod ({ cls := "java/util/ArrayList", name := "get", desc := "(I)Ljava/lang/Object;" } : Jvm.MethodName)) ∈ lw_all := lw_g (lw_at lw_m2 114 rfl) rfl
theorem q471 : (Jvm.Cond.selects "java/util/ArrayList" ({ cls := "java/util/ArrayList", name := "get", desc := "(I)Ljava/lang/Object;" } : Jvm.MethodName) ({ cls := "java/util/ArrayList", name := "get", desc := "(I)Ljava/lang/Object;" } : Jvm.MethodName)) ∈ lw_all := lw_g (lw_at lw_m2 115 rfl) rfl
theorem q472 : (Jvm.Cond.code ({ cls := "java/util/ArrayList", name := "get", desc := "(I)Ljava/lang/Object;" } : Jvm.MethodName) prog_38_method_20_code (2 : Nat) (Option.some (Jvm.ClassFile.FieldType.object "java/lang/Object"))) ∈ lw_all := lw_g (lw_at lw_m2 116 rfl) rfl
theorem q473 : (Jvm.Cond.methodLink "java/util/ArrayList" (118 : Nat) ({ cls := "java/util/Objects", name := "checkIndex", desc := "(II)I" } : Jvm.MethodName)) ∈ lw_all := lw_g (lw_at lw_m2 117 rfl) rfl
theorem q479 : (Jvm.Cond.methodLink "java/util/ArrayList" (123 : Nat) ({ cls := "java/util/ArrayList", name := "elementData", desc := "(I)Ljava/lang/Object;" } : Jvm.MethodName)) ∈ lw_all := lw_g (lw_at lw_m2 123 rfl) rfl
theorem q480 : (Jvm.Cond.instanceMethod ({ cls := "java/util/ArrayList", name := "elementData", desc := "(I)Ljava/lang/Object;" } : Jvm.MethodName)) ∈ lw_all := lw_g (lw_at lw_m2 124 rfl) rfl
theorem q481 : (Jvm.Cond.selects "java/util/ArrayList" ({ cls := "java/util/ArrayList", name := "elementData", desc := "(I)Ljava/lang/Object;" } : Jvm.MethodName) ({ cls := "java/util/ArrayList", name := "elementData", desc := "(I)Ljava/lang/Object;" } : Jvm.MethodName)) ∈ lw_all := lw_g (lw_at lw_m2 125 rfl) rfl
theorem q482 : (Jvm.Cond.code ({ cls := "java/util/ArrayList", name := "elementData", desc := "(I)Ljava/lang/Object;" } : Jvm.MethodName) prog_38_method_18_code (2 : Nat) (Option.some (Jvm.ClassFile.FieldType.object "java/lang/Object"))) ∈ lw_all := lw_g (lw_at lw_m2 126 rfl) rfl
theorem q485 : (Jvm.Cond.instanceMethod ({ cls := "java/util/ArrayList", name := "clea\x72", desc := "()V" } : Jvm.MethodName)) ∈ lw_all := lw_g (lw_at lw_m2 129 rfl) rfl
theorem q486 : (Jvm.Cond.selects "java/util/ArrayList" ({ cls := "java/util/ArrayList", name := "clea\x72", desc := "()V" } : Jvm.MethodName) ({ cls := "java/util/ArrayList", name := "clea\x72", desc := "()V" } : Jvm.MethodName)) ∈ lw_all := lw_g (lw_at lw_m2 130 rfl) rfl
theorem q487 : (Jvm.Cond.code ({ cls := "java/util/ArrayList", name := "clea\x72", desc := "()V" } : Jvm.MethodName) prog_38_method_40_code (4 : Nat) (Option.none : Option Jvm.ClassFile.FieldType)) ∈ lw_all := lw_g (lw_at lw_m2 131 rfl) rfl
theorem q787 : (Jvm.Cond.instanceMethod ({ cls := "java/util/ArrayList", name := "add", desc := "(Ljava/lang/Object;)Z" } : Jvm.MethodName)) ∈ lw_all := lw_g (lw_at lw_m3 191 rfl) rfl
theorem q788 : (Jvm.Cond.selects "java/util/ArrayList" ({ cls := "java/util/ArrayList", name := "add", desc := "(Ljava/lang/Object;)Z" } : Jvm.MethodName) ({ cls := "java/util/ArrayList", name := "add", desc := "(Ljava/lang/Object;)Z" } : Jvm.MethodName)) ∈ lw_all := lw_g (lw_at lw_m3 192 rfl) rfl
theorem q789 : (Jvm.Cond.code ({ cls := "java/util/ArrayList", name := "add", desc := "(Ljava/lang/Object;)Z" } : Jvm.MethodName) prog_38_method_25_code (2 : Nat) (Option.some Jvm.ClassFile.FieldType.boolean)) ∈ lw_all := lw_g (lw_at lw_m3 193 rfl) rfl
theorem q790 : (Jvm.Cond.methodLink "java/util/ArrayList" (131 : Nat) ({ cls := "java/util/ArrayList", name := "add", desc := "(Ljava/lang/Object;[Ljava/lang/Object;I)V" } : Jvm.MethodName)) ∈ lw_all := lw_g (lw_at lw_m3 194 rfl) rfl
theorem q791 : (Jvm.Cond.privateMethod ({ cls := "java/util/ArrayList", name := "add", desc := "(Ljava/lang/Object;[Ljava/lang/Object;I)V" } : Jvm.MethodName)) ∈ lw_tbl := lw_at lw_m3 195 rfl
theorem q792 : (Jvm.Cond.instanceMethod ({ cls := "java/util/ArrayList", name := "add", desc := "(Ljava/lang/Object;[Ljava/lang/Object;I)V" } : Jvm.MethodName)) ∈ lw_all := lw_g (lw_at lw_m3 196 rfl) rfl
theorem q793 : (Jvm.Cond.code ({ cls := "java/util/ArrayList", name := "add", desc := "(Ljava/lang/Object;[Ljava/lang/Object;I)V" } : Jvm.MethodName) prog_38_method_24_code (4 : Nat) (Option.none : Option Jvm.ClassFile.FieldType)) ∈ lw_all := lw_g (lw_at lw_m3 197 rfl) rfl
theorem q794 : (Jvm.Cond.methodLink "java/util/ArrayList" (129 : Nat) ({ cls := "java/util/ArrayList", name := "grow", desc := "()[Ljava/lang/Object;" } : Jvm.MethodName)) ∈ lw_all := lw_g (lw_at lw_m3 198 rfl) rfl
theorem q795 : (Jvm.Cond.privateMethod ({ cls := "java/util/ArrayList", name := "grow", desc := "()[Ljava/lang/Object;" } : Jvm.MethodName)) ∈ lw_tbl := lw_at lw_m3 199 rfl
theorem q796 : (Jvm.Cond.instanceMethod ({ cls := "java/util/ArrayList", name := "grow", desc := "()[Ljava/lang/Object;" } : Jvm.MethodName)) ∈ lw_all := lw_g (lw_at lw_m3 200 rfl) rfl
theorem q797 : (Jvm.Cond.code ({ cls := "java/util/ArrayList", name := "grow", desc := "()[Ljava/lang/Object;" } : Jvm.MethodName) prog_38_method_7_code (1 : Nat) (Option.some (Jvm.ClassFile.FieldType.array (Jvm.ClassFile.FieldType.object "java/lang/Object")))) ∈ lw_all := lw_g (lw_at lw_m3 201 rfl) rfl
theorem q798 : (Jvm.Cond.methodLink "java/util/ArrayList" (69 : Nat) ({ cls := "java/util/ArrayList", name := "grow", desc := "(I)[Ljava/lang/Object;" } : Jvm.MethodName)) ∈ lw_all := lw_g (lw_at lw_m3 202 rfl) rfl
theorem q799 : (Jvm.Cond.privateMethod ({ cls := "java/util/ArrayList", name := "grow", desc := "(I)[Ljava/lang/Object;" } : Jvm.MethodName)) ∈ lw_tbl := lw_at lw_m3 203 rfl
theorem q800 : (Jvm.Cond.instanceMethod ({ cls := "java/util/ArrayList", name := "grow", desc := "(I)[Ljava/lang/Object;" } : Jvm.MethodName)) ∈ lw_all := lw_g (lw_at lw_m3 204 rfl) rfl
theorem q801 : (Jvm.Cond.code ({ cls := "java/util/ArrayList", name := "grow", desc := "(I)[Ljava/lang/Object;" } : Jvm.MethodName) prog_38_method_6_code (4 : Nat) (Option.some (Jvm.ClassFile.FieldType.array (Jvm.ClassFile.FieldType.object "java/lang/Object")))) ∈ lw_all := lw_g (lw_at lw_m3 205 rfl) rfl
theorem q802 : (Jvm.Cond.methodLink "java/util/ArrayList" (73 : Nat) ({ cls := "jdk/internal/util/ArraysSupport", name := "newLength", desc := "(III)I" } : Jvm.MethodName)) ∈ lw_all := lw_g (lw_at lw_m3 206 rfl) rfl
theorem q812 : (Jvm.Cond.methodLink "java/util/ArrayList" (66 : Nat) ({ cls := "java/util/Arrays", name := "copyOf", desc := "([Ljava/lang/Object;I)[Ljava/lang/Object;" } : Jvm.MethodName)) ∈ lw_all := lw_g (lw_at lw_m3 216 rfl) rfl
theorem q837 : (Jvm.Cond.selects "java/util/ArrayList" ({ cls := "java/lang/Object", name := "getClass", desc := "()Ljava/lang/Class;" } : Jvm.MethodName) ({ cls := "java/lang/Object", name := "getClass", desc := "()Ljava/lang/Class;" } : Jvm.MethodName)) ∈ lw_all := lw_g (lw_at lw_m4 1 rfl) rfl
theorem q851 : (Jvm.Cond.methodLink "java/util/ArrayList" (79 : Nat) ({ cls := "java/lang/Math", name := "max", desc := "(II)I" } : Jvm.MethodName)) ∈ lw_all := lw_g (lw_at lw_m4 15 rfl) rfl
theorem q852 : (Jvm.Cond.classLink "java/util/ArrayList" (7 : Nat) "java/lang/Object") ∈ lw_all := lw_g (lw_at lw_m4 16 rfl) rfl
theorem q1109 : (Jvm.Cond.instanceMethod ({ cls := "java/util/ArrayList", name := "remove", desc := "(I)Ljava/lang/Object;" } : Jvm.MethodName)) ∈ lw_all := lw_g (lw_at lw_m5 33 rfl) rfl
theorem q1110 : (Jvm.Cond.selects "java/util/ArrayList" ({ cls := "java/util/ArrayList", name := "remove", desc := "(I)Ljava/lang/Object;" } : Jvm.MethodName) ({ cls := "java/util/ArrayList", name := "remove", desc := "(I)Ljava/lang/Object;" } : Jvm.MethodName)) ∈ lw_all := lw_g (lw_at lw_m5 34 rfl) rfl
theorem q1111 : (Jvm.Cond.code ({ cls := "java/util/ArrayList", name := "remove", desc := "(I)Ljava/lang/Object;" } : Jvm.MethodName) prog_38_method_29_code (4 : Nat) (Option.some (Jvm.ClassFile.FieldType.object "java/lang/Object"))) ∈ lw_all := lw_g (lw_at lw_m5 35 rfl) rfl
theorem q1112 : (Jvm.Cond.methodLink "java/util/ArrayList" (144 : Nat) ({ cls := "java/util/ArrayList", name := "fastRemove", desc := "([Ljava/lang/Object;I)V" } : Jvm.MethodName)) ∈ lw_all := lw_g (lw_at lw_m5 36 rfl) rfl
theorem q1113 : (Jvm.Cond.privateMethod ({ cls := "java/util/ArrayList", name := "fastRemove", desc := "([Ljava/lang/Object;I)V" } : Jvm.MethodName)) ∈ lw_tbl := lw_at lw_m5 37 rfl
theorem q1114 : (Jvm.Cond.instanceMethod ({ cls := "java/util/ArrayList", name := "fastRemove", desc := "([Ljava/lang/Object;I)V" } : Jvm.MethodName)) ∈ lw_all := lw_g (lw_at lw_m5 38 rfl) rfl
theorem q1115 : (Jvm.Cond.code ({ cls := "java/util/ArrayList", name := "fastRemove", desc := "([Ljava/lang/Object;I)V" } : Jvm.MethodName) prog_38_method_39_code (4 : Nat) (Option.none : Option Jvm.ClassFile.FieldType)) ∈ lw_all := lw_g (lw_at lw_m5 39 rfl) rfl
theorem q1116 : (Jvm.Cond.methodLink "java/util/ArrayList" (112 : Nat) ({ cls := "java/lang/System", name := "arraycopy", desc := "(Ljava/lang/Object;ILjava/lang/Object;II)V" } : Jvm.MethodName)) ∈ lw_all := lw_g (lw_at lw_m5 40 rfl) rfl
theorem q1196 : (Jvm.Cond.instanceMethod ({ cls := "java/util/ArrayList", name := "isEmpty", desc := "()Z" } : Jvm.MethodName)) ∈ lw_all := lw_g (lw_at lw_m5 120 rfl) rfl
theorem q1197 : (Jvm.Cond.selects "java/util/ArrayList" ({ cls := "java/util/ArrayList", name := "isEmpty", desc := "()Z" } : Jvm.MethodName) ({ cls := "java/util/ArrayList", name := "isEmpty", desc := "()Z" } : Jvm.MethodName)) ∈ lw_all := lw_g (lw_at lw_m5 121 rfl) rfl
theorem q1198 : (Jvm.Cond.code ({ cls := "java/util/ArrayList", name := "isEmpty", desc := "()Z" } : Jvm.MethodName) prog_38_method_9_code (1 : Nat) (Option.some Jvm.ClassFile.FieldType.boolean)) ∈ lw_all := lw_g (lw_at lw_m5 122 rfl) rfl
theorem q2208 : (Jvm.Cond.castable "java/util/ArrayList" "java/lang/Object") ∈ lw_tbl := lw_at lw_m9 172 rfl
theorem in_J2 : ∀ w ∈ wsJ20, w ∈ lw_all := lw_in wsJ20 [192, 188, 190] (by decide +kernel) (by decide +kernel)
/-! java/lang/Throwable -/
set_option maxRecDepth 100000
def RJ3 : String := "java/lang/Throwable"
def TJ3 : u_T := fun k => match k with
  | 0 => ("java/lang/Throwable", "cause", "Ljava/lang/Throwable;", false)
  | 1 => ("java/lang/Throwable", "stackTrace", "[Ljava/lang/StackTraceElement;", false)
  | 2 => ("java/lang/Throwable", "suppressedExceptions", "Ljava/util/List;", false)
  | 3 => ("java/lang/Throwable", "detailMessage", "Ljava/lang/String;", false)
  | _ => ("java/lang/Throwable", "backtrace", "Ljava/lang/Object;", false)
def tyJ3 : Nat → FieldType := fun k => match k with
  | 0 => .object "java/lang/Throwable"
  | 1 => .array (.object "java/lang/StackTraceElement")
  | 2 => .object "java/util/List"
  | 3 => .object "java/lang/String"
  | _ => .object "java/lang/Object"
abbrev wsJ30 : List Cond := u_ws RJ3 TJ3 5
theorem nmJ3 : ∀ a, a < 5 → ∀ b, b < 5 → a ≠ b → (TJ3 a).2.1 ≠ (TJ3 b).2.1 := by decide +kernel
theorem tyJ3_ok : ∀ k, k < 5 → parseFieldDescriptor (TJ3 k).2.2.1 = some (tyJ3 k) := by decide +kernel
abbrev cJ3_init : ByteArray := prog_35_method_1_code
def yJ3_init : MethodName := ⟨RJ3, "<init>", "()V"⟩
def dkwJ3_init_1 : List UInt8 := [182, 0, 27, 87, 177]
abbrev dktJ3_init_1 : List UInt8 := dkwJ3_init_1 ++ []
def dkwJ3_init_0 : List UInt8 := [42, 183, 0, 1, 42, 42, 181, 0, 7, 42, 178, 0, 13, 181, 0, 17, 42, 178, 0, 20, 181, 0, 24, 42]
abbrev dktJ3_init_0 : List UInt8 := dkwJ3_init_0 ++ dktJ3_init_1
theorem dksJ3_init_0 : cJ3_init.data.toList.drop 0 = dktJ3_init_0 := by decide +kernel
theorem dksJ3_init_1 : cJ3_init.data.toList.drop 24 = dktJ3_init_1 := dk_seg dksJ3_init_0 24 rfl rfl
theorem dJ3_init_0 : decode cJ3_init 0 = .ok (.aload_n 0, 1) := dk_42 (dk_at dksJ3_init_0 0 rfl rfl)
theorem dJ3_init_1 : decode cJ3_init 1 = .ok (.invokespecial 1, 3) := dk_183 0 1 (dk_at dksJ3_init_0 1 rfl rfl)
theorem dJ3_init_4 : decode cJ3_init 4 = .ok (.aload_n 0, 1) := dk_42 (dk_at dksJ3_init_0 4 rfl rfl)
theorem dJ3_init_5 : decode cJ3_init 5 = .ok (.aload_n 0, 1) := dk_42 (dk_at dksJ3_init_0 5 rfl rfl)
theorem dJ3_init_6 : decode cJ3_init 6 = .ok (.putfield 7, 3) := dk_181 0 7 (dk_at dksJ3_init_0 6 rfl rfl)
theorem dJ3_init_9 : decode cJ3_init 9 = .ok (.aload_n 0, 1) := dk_42 (dk_at dksJ3_init_0 9 rfl rfl)
theorem dJ3_init_10 : decode cJ3_init 10 = .ok (.getstatic 13, 3) := dk_178 0 13 (dk_at dksJ3_init_0 10 rfl rfl)
theorem dJ3_init_13 : decode cJ3_init 13 = .ok (.putfield 17, 3) := dk_181 0 17 (dk_at dksJ3_init_0 13 rfl rfl)
theorem dJ3_init_16 : decode cJ3_init 16 = .ok (.aload_n 0, 1) := dk_42 (dk_at dksJ3_init_0 16 rfl rfl)
theorem dJ3_init_17 : decode cJ3_init 17 = .ok (.getstatic 20, 3) := dk_178 0 20 (dk_at dksJ3_init_0 17 rfl rfl)
theorem dJ3_init_20 : decode cJ3_init 20 = .ok (.putfield 24, 3) := dk_181 0 24 (dk_at dksJ3_init_0 20 rfl rfl)
theorem dJ3_init_23 : decode cJ3_init 23 = .ok (.aload_n 0, 1) := dk_42 (dk_at dksJ3_init_0 23 rfl rfl)
theorem dJ3_init_24 : decode cJ3_init 24 = .ok (.invokevirtual 27, 3) := dk_182 0 27 (dk_at dksJ3_init_1 0 rfl rfl)
theorem dJ3_init_27 : decode cJ3_init 27 = .ok (.pop, 1) := dk_87 (dk_at dksJ3_init_1 3 rfl rfl)
theorem dJ3_init_28 : decode cJ3_init 28 = .ok (.return_, 1) := dk_177 (dk_at dksJ3_init_1 4 rfl rfl)
theorem q123 : (Jvm.Cond.initialized "java/lang/Throwable") ∈ lw_all := lw_g (lw_at lw_m1 7 rfl) rfl
theorem q295 : (Jvm.Cond.declares ({ cls := "java/lang/Throwable", name := "<init>", desc := "()V" } : Jvm.MethodName)) ∈ lw_tbl := lw_at lw_m1 179 rfl
theorem q296 : (Jvm.Cond.declares ({ cls := "java/lang/Throwable", name := "<init>", desc := "(Ljava/lang/String;)V" } : Jvm.MethodName)) ∈ lw_tbl := lw_at lw_m1 180 rfl
theorem q300 : (Jvm.Cond.lays "java/lang/Throwable" "java/lang/Throwable" "cause" "Ljava/lang/Throwable;") ∈ lw_all := lw_g (lw_at lw_m1 184 rfl) rfl
theorem q302 : (Jvm.Cond.lays "java/lang/Throwable" "java/lang/Throwable" "stackTrace" "[Ljava/lang/StackTraceElement;") ∈ lw_all := lw_g (lw_at lw_m1 186 rfl) rfl
theorem q304 : (Jvm.Cond.lays "java/lang/Throwable" "java/lang/Throwable" "suppressedExceptions" "Ljava/util/List;") ∈ lw_all := lw_g (lw_at lw_m1 188 rfl) rfl
theorem q306 : (Jvm.Cond.lays "java/lang/Throwable" "java/lang/Throwable" "detailMessage" "Ljava/lang/String;") ∈ lw_all := lw_g (lw_at lw_m1 190 rfl) rfl
theorem q308 : (Jvm.Cond.lays "java/lang/Throwable" "java/lang/Throwable" "backtrace" "Ljava/lang/Object;") ∈ lw_all := lw_g (lw_at lw_m1 192 rfl) rfl
theorem q309 : (Jvm.Cond.fieldLink "java/lang/Throwable" (198 : Nat) "java/lang/Throwable" "backtrace" "Ljava/lang/Object;") ∈ lw_all := lw_g (lw_at lw_m1 193 rfl) rfl
theorem q310 : (Jvm.Cond.superclass "java/lang/Throwable" "java/lang/Object") ∈ lw_all := lw_g (lw_at lw_m1 194 rfl) rfl
theorem q311 : (Jvm.Cond.instanceMethod ({ cls := "java/lang/Throwable", name := "<init>", desc := "()V" } : Jvm.MethodName)) ∈ lw_all := lw_g (lw_at lw_m1 195 rfl) rfl
theorem q312 : (Jvm.Cond.code ({ cls := "java/lang/Throwable", name := "<init>", desc := "()V" } : Jvm.MethodName) prog_35_method_1_code (1 : Nat) (Option.none : Option Jvm.ClassFile.FieldType)) ∈ lw_all := lw_g (lw_at lw_m1 196 rfl) rfl
theorem q313 : (Jvm.Cond.methodLink "java/lang/Throwable" (1 : Nat) ({ cls := "java/lang/Object", name := "<init>", desc := "()V" } : Jvm.MethodName)) ∈ lw_all := lw_g (lw_at lw_m1 197 rfl) rfl
theorem q314 : (Jvm.Cond.fieldLink "java/lang/Throwable" (13 : Nat) "java/lang/Throwable" "UNASSIGNED_STACK" "[Ljava/lang/StackTraceElement;") ∈ lw_all := lw_g (lw_at lw_m1 198 rfl) rfl
theorem q315 : (Jvm.Cond.laysStatic "java/lang/Throwable" "UNASSIGNED_STACK" "[Ljava/lang/StackTraceElement;") ∈ lw_tbl := lw_at lw_m1 199 rfl
theorem q316 : (Jvm.Cond.fieldLink "java/lang/Throwable" (20 : Nat) "java/lang/Throwable" "SUPPRESSED_SENTINEL" "Ljava/util/List;") ∈ lw_all := lw_g (lw_at lw_m1 200 rfl) rfl
theorem q317 : (Jvm.Cond.laysStatic "java/lang/Throwable" "SUPPRESSED_SENTINEL" "Ljava/util/List;") ∈ lw_tbl := lw_at lw_m1 201 rfl
theorem q318 : (Jvm.Cond.methodLink "java/lang/Throwable" (27 : Nat) ({ cls := "java/lang/Throwable", name := "fillInStackTrace", desc := "()Ljava/lang/Throwable;" } : Jvm.MethodName)) ∈ lw_all := lw_g (lw_at lw_m1 202 rfl) rfl
theorem q319 : (Jvm.Cond.instanceMethod ({ cls := "java/lang/Throwable", name := "fillInStackTrace", desc := "()Ljava/lang/Throwable;" } : Jvm.MethodName)) ∈ lw_all := lw_g (lw_at lw_m1 203 rfl) rfl
theorem q320 : (Jvm.Cond.sameMethod "java/lang/Throwable" "java/lang/Throwable" "fillInStackTrace" "()Ljava/lang/Throwable;") ∈ lw_all := lw_g (lw_at lw_m1 204 rfl) rfl
theorem q321 : (Jvm.Cond.codeSync ({ cls := "java/lang/Throwable", name := "fillInStackTrace", desc := "()Ljava/lang/Throwable;" } : Jvm.MethodName) prog_35_method_18_code (1 : Nat) (Option.some (Jvm.ClassFile.FieldType.object "java/lang/Throwable"))) ∈ lw_all := lw_g (lw_at lw_m1 205 rfl) rfl
theorem q322 : (Jvm.Cond.methodLink "java/lang/Throwable" (202 : Nat) ({ cls := "java/lang/Throwable", name := "fillInStackTrace", desc := "(I)Ljava/lang/Throwable;" } : Jvm.MethodName)) ∈ lw_all := lw_g (lw_at lw_m1 206 rfl) rfl
theorem q323 : (Jvm.Cond.privateMethod ({ cls := "java/lang/Throwable", name := "fillInStackTrace", desc := "(I)Ljava/lang/Throwable;" } : Jvm.MethodName)) ∈ lw_tbl := lw_at lw_m1 207 rfl
theorem q324 : (Jvm.Cond.instanceMethod ({ cls := "java/lang/Throwable", name := "fillInStackTrace", desc := "(I)Ljava/lang/Throwable;" } : Jvm.MethodName)) ∈ lw_all := lw_g (lw_at lw_m1 208 rfl) rfl
theorem q325 : (Jvm.Cond.instantiable "java/lang/Throwable" (6 : Nat)) ∈ lw_all := lw_g (lw_at lw_m1 209 rfl) rfl
theorem q326 : (Jvm.Cond.native ({ cls := "java/lang/Throwable", name := "fillInStackTrace", desc := "(I)Ljava/lang/Throwable;" } : Jvm.MethodName)) ∈ lw_all := lw_g (lw_at lw_m1 210 rfl) rfl
theorem q338 : (Jvm.Cond.fieldLink "java/lang/Throwable" (198 : Nat) "java/lang/Throwable" "backtrace" "Ljava/lang/Object;") ∈ lw_all := lw_g (lw_at lw_m1 222 rfl) rfl
theorem q339 : (Jvm.Cond.fieldLink "java/lang/Throwable" (7 : Nat) "java/lang/Throwable" "cause" "Ljava/lang/Throwable;") ∈ lw_all := lw_g (lw_at lw_m1 223 rfl) rfl
theorem q340 : (Jvm.Cond.fieldLink "java/lang/Throwable" (17 : Nat) "java/lang/Throwable" "stackTrace" "[Ljava/lang/StackTraceElement;") ∈ lw_all := lw_g (lw_at lw_m1 224 rfl) rfl
theorem q341 : (Jvm.Cond.fieldLink "java/lang/Throwable" (24 : Nat) "java/lang/Throwable" "suppressedExceptions" "Ljava/util/List;") ∈ lw_all := lw_g (lw_at lw_m1 225 rfl) rfl
theorem q346 : (Jvm.Cond.soleField "java/lang/Throwable" "backtrace") ∈ lw_all := lw_g (lw_at lw_m1 230 rfl) rfl
theorem q347 : (Jvm.Cond.soleField "java/lang/Throwable" "detailMessage") ∈ lw_all := lw_g (lw_at lw_m1 231 rfl) rfl
theorem q348 : (Jvm.Cond.soleField "java/lang/Throwable" "cause") ∈ lw_all := lw_g (lw_at lw_m1 232 rfl) rfl
theorem q349 : (Jvm.Cond.soleField "java/lang/Throwable" "stackTrace") ∈ lw_all := lw_g (lw_at lw_m1 233 rfl) rfl
theorem q351 : (Jvm.Cond.soleField "java/lang/Throwable" "depth") ∈ lw_all := lw_g (lw_at lw_m1 235 rfl) rfl
theorem q352 : (Jvm.Cond.soleField "java/lang/Throwable" "suppressedExceptions") ∈ lw_all := lw_g (lw_at lw_m1 236 rfl) rfl
theorem q2196 : (Jvm.Cond.sameMethod "java/lang/Throwable" "java/lang/Throwable" "fillInStackTrace" "(I)Ljava/lang/Throwable;") ∈ lw_all := lw_g (lw_at lw_m9 160 rfl) rfl
theorem q2225 : (Jvm.Cond.castable "java/lang/Throwable" "java/lang/Object") ∈ lw_tbl := lw_at lw_m9 189 rfl
theorem in_J3 : ∀ w ∈ wsJ30, w ∈ lw_all := lw_in wsJ30 [300, 302, 304, 306, 308] (by decide +kernel) (by decide +kernel)
/-! java/lang/Exception -/
set_option maxRecDepth 100000
def RJ4 : String := "java/lang/Exception"
abbrev cJ4_init : ByteArray := prog_27_method_1_code
def yJ4_init : MethodName := ⟨RJ4, "<init>", "()V"⟩
theorem dJ4_init_0 : decode cJ4_init 0 = .ok (.aload_n 0, 1) := by decide +kernel
theorem dJ4_init_1 : decode cJ4_init 1 = .ok (.invokespecial 1, 3) := by decide +kernel
theorem dJ4_init_4 : decode cJ4_init 4 = .ok (.return_, 1) := by decide +kernel
theorem q124 : (Jvm.Cond.initialized "java/lang/Exception") ∈ lw_all := lw_g (lw_at lw_m1 8 rfl) rfl
theorem q293 : (Jvm.Cond.declares ({ cls := "java/lang/Exception", name := "<init>", desc := "()V" } : Jvm.MethodName)) ∈ lw_tbl := lw_at lw_m1 177 rfl
theorem q294 : (Jvm.Cond.declares ({ cls := "java/lang/Exception", name := "<init>", desc := "(Ljava/lang/String;)V" } : Jvm.MethodName)) ∈ lw_tbl := lw_at lw_m1 178 rfl
theorem q331 : (Jvm.Cond.instanceMethod ({ cls := "java/lang/Exception", name := "<init>", desc := "()V" } : Jvm.MethodName)) ∈ lw_all := lw_g (lw_at lw_m1 215 rfl) rfl
theorem q332 : (Jvm.Cond.code ({ cls := "java/lang/Exception", name := "<init>", desc := "()V" } : Jvm.MethodName) prog_27_method_1_code (1 : Nat) (Option.none : Option Jvm.ClassFile.FieldType)) ∈ lw_all := lw_g (lw_at lw_m1 216 rfl) rfl
theorem q333 : (Jvm.Cond.methodLink "java/lang/Exception" (1 : Nat) ({ cls := "java/lang/Throwable", name := "<init>", desc := "()V" } : Jvm.MethodName)) ∈ lw_all := lw_g (lw_at lw_m1 217 rfl) rfl
/-! java/util/Objects -/
set_option maxRecDepth 100000
def RJ5 : String := "java/util/Objects"
abbrev cJ5_checkIndex : ByteArray := prog_42_method_17_code
def yJ5_checkIndex : MethodName := ⟨RJ5, "checkIndex", "(II)I"⟩
def dkwJ5_checkIndex_0 : List UInt8 := [26, 27, 1, 184, 0, 105, 172]
abbrev dktJ5_checkIndex_0 : List UInt8 := dkwJ5_checkIndex_0 ++ []
theorem dksJ5_checkIndex_0 : cJ5_checkIndex.data.toList.drop 0 = dktJ5_checkIndex_0 := by decide +kernel
theorem dJ5_checkIndex_0 : decode cJ5_checkIndex 0 = .ok (.iload_n 0, 1) := dk_26 (dk_at dksJ5_checkIndex_0 0 rfl rfl)
theorem dJ5_checkIndex_1 : decode cJ5_checkIndex 1 = .ok (.iload_n 1, 1) := dk_27 (dk_at dksJ5_checkIndex_0 1 rfl rfl)
theorem dJ5_checkIndex_2 : decode cJ5_checkIndex 2 = .ok (.aconst_null, 1) := dk_1 (dk_at dksJ5_checkIndex_0 2 rfl rfl)
theorem dJ5_checkIndex_3 : decode cJ5_checkIndex 3 = .ok (.invokestatic 105, 3) := dk_184 0 105 (dk_at dksJ5_checkIndex_0 3 rfl rfl)
theorem dJ5_checkIndex_6 : decode cJ5_checkIndex 6 = .ok (.ireturn, 1) := dk_172 (dk_at dksJ5_checkIndex_0 6 rfl rfl)
theorem q131 : (Jvm.Cond.initialized "java/util/Objects") ∈ lw_all := lw_g (lw_at lw_m1 15 rfl) rfl
theorem q474 : (Jvm.Cond.static ({ cls := "java/util/Objects", name := "checkIndex", desc := "(II)I" } : Jvm.MethodName)) ∈ lw_all := lw_g (lw_at lw_m2 118 rfl) rfl
theorem q475 : (Jvm.Cond.code ({ cls := "java/util/Objects", name := "checkIndex", desc := "(II)I" } : Jvm.MethodName) prog_42_method_17_code (2 : Nat) (Option.some Jvm.ClassFile.FieldType.int)) ∈ lw_all := lw_g (lw_at lw_m2 119 rfl) rfl
theorem q476 : (Jvm.Cond.methodLink "java/util/Objects" (105 : Nat) ({ cls := "jdk/internal/util/Preconditions", name := "checkIndex", desc := "(IILjava/util/function/BiFunction;)I" } : Jvm.MethodName)) ∈ lw_all := lw_g (lw_at lw_m2 120 rfl) rfl
/-! jdk/internal/util/Preconditions -/
set_option maxRecDepth 100000
def RJ6 : String := "jdk/internal/util/Preconditions"
abbrev cJ6_checkIndex : ByteArray := prog_46_method_11_code
def yJ6_checkIndex : MethodName := ⟨RJ6, "checkIndex", "(IILjava/util/function/BiFunction;)I"⟩
def dkwJ6_checkIndex_0 : List UInt8 := [26, 155, 0, 8, 26, 27, 161, 0, 10, 44, 26, 27, 184, 0, 95, 191, 26, 172]
abbrev dktJ6_checkIndex_0 : List UInt8 := dkwJ6_checkIndex_0 ++ []
theorem dksJ6_checkIndex_0 : cJ6_checkIndex.data.toList.drop 0 = dktJ6_checkIndex_0 := by decide +kernel
theorem dJ6_checkIndex_0 : decode cJ6_checkIndex 0 = .ok (.iload_n 0, 1) := dk_26 (dk_at dksJ6_checkIndex_0 0 rfl rfl)
theorem dJ6_checkIndex_1 : decode cJ6_checkIndex 1 = .ok (.ifCond .lt 8, 3) := dk_155 0 8 (dk_at dksJ6_checkIndex_0 1 rfl rfl)
theorem dJ6_checkIndex_4 : decode cJ6_checkIndex 4 = .ok (.iload_n 0, 1) := dk_26 (dk_at dksJ6_checkIndex_0 4 rfl rfl)
theorem dJ6_checkIndex_5 : decode cJ6_checkIndex 5 = .ok (.iload_n 1, 1) := dk_27 (dk_at dksJ6_checkIndex_0 5 rfl rfl)
theorem dJ6_checkIndex_6 : decode cJ6_checkIndex 6 = .ok (.if_icmp .lt 10, 3) := dk_161 0 10 (dk_at dksJ6_checkIndex_0 6 rfl rfl)
theorem dJ6_checkIndex_9 : decode cJ6_checkIndex 9 = .ok (.aload_n 2, 1) := dk_44 (dk_at dksJ6_checkIndex_0 9 rfl rfl)
theorem dJ6_checkIndex_10 : decode cJ6_checkIndex 10 = .ok (.iload_n 0, 1) := dk_26 (dk_at dksJ6_checkIndex_0 10 rfl rfl)
theorem dJ6_checkIndex_11 : decode cJ6_checkIndex 11 = .ok (.iload_n 1, 1) := dk_27 (dk_at dksJ6_checkIndex_0 11 rfl rfl)
theorem dJ6_checkIndex_12 : decode cJ6_checkIndex 12 = .ok (.invokestatic 95, 3) := dk_184 0 95 (dk_at dksJ6_checkIndex_0 12 rfl rfl)
theorem dJ6_checkIndex_15 : decode cJ6_checkIndex 15 = .ok (.athrow, 1) := dk_191 (dk_at dksJ6_checkIndex_0 15 rfl rfl)
theorem dJ6_checkIndex_16 : decode cJ6_checkIndex 16 = .ok (.iload_n 0, 1) := dk_26 (dk_at dksJ6_checkIndex_0 16 rfl rfl)
theorem dJ6_checkIndex_17 : decode cJ6_checkIndex 17 = .ok (.ireturn, 1) := dk_172 (dk_at dksJ6_checkIndex_0 17 rfl rfl)
theorem q132 : (Jvm.Cond.initialized "jdk/internal/util/Preconditions") ∈ lw_all := lw_g (lw_at lw_m1 16 rfl) rfl
theorem q477 : (Jvm.Cond.static ({ cls := "jdk/internal/util/Preconditions", name := "checkIndex", desc := "(IILjava/util/function/BiFunction;)I" } : Jvm.MethodName)) ∈ lw_all := lw_g (lw_at lw_m2 121 rfl) rfl
theorem q478 : (Jvm.Cond.code ({ cls := "jdk/internal/util/Preconditions", name := "checkIndex", desc := "(IILjava/util/function/BiFunction;)I" } : Jvm.MethodName) prog_46_method_11_code (3 : Nat) (Option.some Jvm.ClassFile.FieldType.int)) ∈ lw_all := lw_g (lw_at lw_m2 122 rfl) rfl
theorem q679 : (Jvm.Cond.laysStatic "jdk/internal/util/Preconditions" "SIOOBE_FORMATTER" "Ljava/util/function/BiFunction;") ∈ lw_tbl := lw_at lw_m3 83 rfl
/-! java/lang/String -/
set_option maxRecDepth 100000
def RJ7 : String := "java/lang/String"
abbrev cJ7_length : ByteArray := prog_31_method_54_code
def yJ7_length : MethodName := ⟨RJ7, "length", "()I"⟩
def dkwJ7_length_0 : List UInt8 := [42, 180, 0, 9, 190, 42, 182, 1, 79, 122, 172]
abbrev dktJ7_length_0 : List UInt8 := dkwJ7_length_0 ++ []
theorem dksJ7_length_0 : cJ7_length.data.toList.drop 0 = dktJ7_length_0 := by decide +kernel
theorem dJ7_length_0 : decode cJ7_length 0 = .ok (.aload_n 0, 1) := dk_42 (dk_at dksJ7_length_0 0 rfl rfl)
theorem dJ7_length_1 : decode cJ7_length 1 = .ok (.getfield 9, 3) := dk_180 0 9 (dk_at dksJ7_length_0 1 rfl rfl)
theorem dJ7_length_4 : decode cJ7_length 4 = .ok (.arraylength, 1) := dk_190 (dk_at dksJ7_length_0 4 rfl rfl)
theorem dJ7_length_5 : decode cJ7_length 5 = .ok (.aload_n 0, 1) := dk_42 (dk_at dksJ7_length_0 5 rfl rfl)
theorem dJ7_length_6 : decode cJ7_length 6 = .ok (.invokevirtual 335, 3) := dk_182 1 79 (dk_at dksJ7_length_0 6 rfl rfl)
theorem dJ7_length_9 : decode cJ7_length 9 = .ok (.ishr, 1) := dk_122 (dk_at dksJ7_length_0 9 rfl rfl)
theorem dJ7_length_10 : decode cJ7_length 10 = .ok (.ireturn, 1) := dk_172 (dk_at dksJ7_length_0 10 rfl rfl)
abbrev cJ7_coder : ByteArray := prog_31_method_152_code
def yJ7_coder : MethodName := ⟨RJ7, "code\x72", "()B"⟩
def dkwJ7_coder_0 : List UInt8 := [178, 0, 38, 153, 0, 10, 42, 180, 0, 15, 167, 0, 4, 4, 172]
abbrev dktJ7_coder_0 : List UInt8 := dkwJ7_coder_0 ++ []
theorem dksJ7_coder_0 : cJ7_coder.data.toList.drop 0 = dktJ7_coder_0 := by decide +kernel
theorem dJ7_coder_0 : decode cJ7_coder 0 = .ok (.getstatic 38, 3) := dk_178 0 38 (dk_at dksJ7_coder_0 0 rfl rfl)
theorem dJ7_coder_3 : decode cJ7_coder 3 = .ok (.ifCond .eq 10, 3) := dk_153 0 10 (dk_at dksJ7_coder_0 3 rfl rfl)
theorem dJ7_coder_6 : decode cJ7_coder 6 = .ok (.aload_n 0, 1) := dk_42 (dk_at dksJ7_coder_0 6 rfl rfl)
theorem dJ7_coder_7 : decode cJ7_coder 7 = .ok (.getfield 15, 3) := dk_180 0 15 (dk_at dksJ7_coder_0 7 rfl rfl)
theorem dJ7_coder_10 : decode cJ7_coder 10 = .ok (.goto 4, 3) := dk_167 0 4 (dk_at dksJ7_coder_0 10 rfl rfl)
theorem dJ7_coder_13 : decode cJ7_coder 13 = .ok (.iconst 1, 1) := dk_4 (dk_at dksJ7_coder_0 13 rfl rfl)
theorem dJ7_coder_14 : decode cJ7_coder 14 = .ok (.ireturn, 1) := dk_172 (dk_at dksJ7_coder_0 14 rfl rfl)
abbrev cJ7_charAt : ByteArray := prog_31_method_56_code
def yJ7_charAt : MethodName := ⟨RJ7, "charAt", "(I)C"⟩
def dkwJ7_charAt_1 : List UInt8 := [172]
abbrev dktJ7_charAt_1 : List UInt8 := dkwJ7_charAt_1 ++ []
def dkwJ7_charAt_0 : List UInt8 := [42, 182, 1, 236, 153, 0, 12, 42, 180, 0, 9, 27, 184, 1, 239, 172, 42, 180, 0, 9, 27, 184, 1, 242]
abbrev dktJ7_charAt_0 : List UInt8 := dkwJ7_charAt_0 ++ dktJ7_charAt_1
theorem dksJ7_charAt_0 : cJ7_charAt.data.toList.drop 0 = dktJ7_charAt_0 := by decide +kernel
theorem dksJ7_charAt_1 : cJ7_charAt.data.toList.drop 24 = dktJ7_charAt_1 := dk_seg dksJ7_charAt_0 24 rfl rfl
theorem dJ7_charAt_0 : decode cJ7_charAt 0 = .ok (.aload_n 0, 1) := dk_42 (dk_at dksJ7_charAt_0 0 rfl rfl)
theorem dJ7_charAt_1 : decode cJ7_charAt 1 = .ok (.invokevirtual 492, 3) := dk_182 1 236 (dk_at dksJ7_charAt_0 1 rfl rfl)
theorem dJ7_charAt_4 : decode cJ7_charAt 4 = .ok (.ifCond .eq 12, 3) := dk_153 0 12 (dk_at dksJ7_charAt_0 4 rfl rfl)
theorem dJ7_charAt_7 : decode cJ7_charAt 7 = .ok (.aload_n 0, 1) := dk_42 (dk_at dksJ7_charAt_0 7 rfl rfl)
theorem dJ7_charAt_8 : decode cJ7_charAt 8 = .ok (.getfield 9, 3) := dk_180 0 9 (dk_at dksJ7_charAt_0 8 rfl rfl)
theorem dJ7_charAt_11 : decode cJ7_charAt 11 = .ok (.iload_n 1, 1) := dk_27 (dk_at dksJ7_charAt_0 11 rfl rfl)
theorem dJ7_charAt_12 : decode cJ7_charAt 12 = .ok (.invokestatic 495, 3) := dk_184 1 239 (dk_at dksJ7_charAt_0 12 rfl rfl)
theorem dJ7_charAt_15 : decode cJ7_charAt 15 = .ok (.ireturn, 1) := dk_172 (dk_at dksJ7_charAt_0 15 rfl rfl)
theorem dJ7_charAt_16 : decode cJ7_charAt 16 = .ok (.aload_n 0, 1) := dk_42 (dk_at dksJ7_charAt_0 16 rfl rfl)
theorem dJ7_charAt_17 : decode cJ7_charAt 17 = .ok (.getfield 9, 3) := dk_180 0 9 (dk_at dksJ7_charAt_0 17 rfl rfl)
theorem dJ7_charAt_20 : decode cJ7_charAt 20 = .ok (.iload_n 1, 1) := dk_27 (dk_at dksJ7_charAt_0 20 rfl rfl)
theorem dJ7_charAt_21 : decode cJ7_charAt 21 = .ok (.invokestatic 498, 3) := dk_184 1 242 (dk_at dksJ7_charAt_0 21 rfl rfl)
theorem dJ7_charAt_24 : decode cJ7_charAt 24 = .ok (.ireturn, 1) := dk_172 (dk_at dksJ7_charAt_1 0 rfl rfl)
abbrev cJ7_isLatin1 : ByteArray := prog_31_method_154_code
def yJ7_isLatin1 : MethodName := ⟨RJ7, "isLatin1", "()Z"⟩
def dkwJ7_isLatin1_0 : List UInt8 := [178, 0, 38, 153, 0, 14, 42, 180, 0, 15, 154, 0, 7, 4, 167, 0, 4, 3, 172]
abbrev dktJ7_isLatin1_0 : List UInt8 := dkwJ7_isLatin1_0 ++ []
theorem dksJ7_isLatin1_0 : cJ7_isLatin1.data.toList.drop 0 = dktJ7_isLatin1_0 := by decide +kernel
theorem dJ7_isLatin1_0 : decode cJ7_isLatin1 0 = .ok (.getstatic 38, 3) := dk_178 0 38 (dk_at dksJ7_isLatin1_0 0 rfl rfl)
theorem dJ7_isLatin1_3 : decode cJ7_isLatin1 3 = .ok (.ifCond .eq 14, 3) := dk_153 0 14 (dk_at dksJ7_isLatin1_0 3 rfl rfl)
theorem dJ7_isLatin1_6 : decode cJ7_isLatin1 6 = .ok (.aload_n 0, 1) := dk_42 (dk_at dksJ7_isLatin1_0 6 rfl rfl)
theorem dJ7_isLatin1_7 : decode cJ7_isLatin1 7 = .ok (.getfield 15, 3) := dk_180 0 15 (dk_at dksJ7_isLatin1_0 7 rfl rfl)
theorem dJ7_isLatin1_10 : decode cJ7_isLatin1 10 = .ok (.ifCond .ne 7, 3) := dk_154 0 7 (dk_at dksJ7_isLatin1_0 10 rfl rfl)
theorem dJ7_isLatin1_13 : decode cJ7_isLatin1 13 = .ok (.iconst 1, 1) := dk_4 (dk_at dksJ7_isLatin1_0 13 rfl rfl)
theorem dJ7_isLatin1_14 : decode cJ7_isLatin1 14 = .ok (.goto 4, 3) := dk_167 0 4 (dk_at dksJ7_isLatin1_0 14 rfl rfl)
theorem dJ7_isLatin1_17 : decode cJ7_isLatin1 17 = .ok (.iconst 0, 1) := dk_3 (dk_at dksJ7_isLatin1_0 17 rfl rfl)
theorem dJ7_isLatin1_18 : decode cJ7_isLatin1 18 = .ok (.ireturn, 1) := dk_172 (dk_at dksJ7_isLatin1_0 18 rfl rfl)
abbrev cJ7_checkIndex : ByteArray := prog_31_method_155_code
def yJ7_checkIndex : MethodName := ⟨RJ7, "checkIndex", "(II)V"⟩
def dkwJ7_checkIndex_0 : List UInt8 := [26, 27, 178, 4, 29, 184, 4, 35, 87, 177]
abbrev dktJ7_checkIndex_0 : List UInt8 := dkwJ7_checkIndex_0 ++ []
theorem dksJ7_checkIndex_0 : cJ7_checkIndex.data.toList.drop 0 = dktJ7_checkIndex_0 := by decide +kernel
theorem dJ7_checkIndex_0 : decode cJ7_checkIndex 0 = .ok (.iload_n 0, 1) := dk_26 (dk_at dksJ7_checkIndex_0 0 rfl rfl)
theorem dJ7_checkIndex_1 : decode cJ7_checkIndex 1 = .ok (.iload_n 1, 1) := dk_27 (dk_at dksJ7_checkIndex_0 1 rfl rfl)
theorem dJ7_checkIndex_2 : decode cJ7_checkIndex 2 = .ok (.getstatic 1053, 3) := dk_178 4 29 (dk_at dksJ7_checkIndex_0 2 rfl rfl)
theorem dJ7_checkIndex_5 : decode cJ7_checkIndex 5 = .ok (.invokestatic 1059, 3) := dk_184 4 35 (dk_at dksJ7_checkIndex_0 5 rfl rfl)
theorem dJ7_checkIndex_8 : decode cJ7_checkIndex 8 = .ok (.pop, 1) := dk_87 (dk_at dksJ7_checkIndex_0 8 rfl rfl)
theorem dJ7_checkIndex_9 : decode cJ7_checkIndex 9 = .ok (.return_, 1) := dk_177 (dk_at dksJ7_checkIndex_0 9 rfl rfl)
theorem q135 : (Jvm.Cond.initialized "java/lang/String") ∈ lw_all := lw_g (lw_at lw_m1 19 rfl) rfl
theorem q655 : (Jvm.Cond.instanceMethod ({ cls := "java/lang/String", name := "length", desc := "()I" } : Jvm.MethodName)) ∈ lw_all := lw_g (lw_at lw_m3 59 rfl) rfl
theorem q656 : (Jvm.Cond.selects "java/lang/String" ({ cls := "java/lang/String", name := "length", desc := "()I" } : Jvm.MethodName) ({ cls := "java/lang/String", name := "length", desc := "()I" } : Jvm.MethodName)) ∈ lw_all := lw_g (lw_at lw_m3 60 rfl) rfl
theorem q657 : (Jvm.Cond.code ({ cls := "java/lang/String", name := "length", desc := "()I" } : Jvm.MethodName) prog_31_method_54_code (1 : Nat) (Option.some Jvm.ClassFile.FieldType.int)) ∈ lw_all := lw_g (lw_at lw_m3 61 rfl) rfl
theorem q658 : (Jvm.Cond.methodLink "java/lang/String" (335 : Nat) ({ cls := "java/lang/String", name := "code\x72", desc := "()B" } : Jvm.MethodName)) ∈ lw_all := lw_g (lw_at lw_m3 62 rfl) rfl
theorem q659 : (Jvm.Cond.instanceMethod ({ cls := "java/lang/String", name := "code\x72", desc := "()B" } : Jvm.MethodName)) ∈ lw_all := lw_g (lw_at lw_m3 63 rfl) rfl
theorem q660 : (Jvm.Cond.selects "java/lang/String" ({ cls := "java/lang/String", name := "code\x72", desc := "()B" } : Jvm.MethodName) ({ cls := "java/lang/String", name := "code\x72", desc := "()B" } : Jvm.MethodName)) ∈ lw_all := lw_g (lw_at lw_m3 64 rfl) rfl
theorem q661 : (Jvm.Cond.code ({ cls := "java/lang/String", name := "code\x72", desc := "()B" } : Jvm.MethodName) prog_31_method_152_code (1 : Nat) (Option.some Jvm.ClassFile.FieldType.byte)) ∈ lw_all := lw_g (lw_at lw_m3 65 rfl) rfl
theorem q662 : (Jvm.Cond.fieldLink "java/lang/String" (38 : Nat) "java/lang/String" "COMPACT_STRINGS" "Z") ∈ lw_all := lw_g (lw_at lw_m3 66 rfl) rfl
theorem q663 : (Jvm.Cond.laysStatic "java/lang/String" "COMPACT_STRINGS" "Z") ∈ lw_tbl := lw_at lw_m3 67 rfl
theorem q665 : (Jvm.Cond.instanceMethod ({ cls := "java/lang/String", name := "charAt", desc := "(I)C" } : Jvm.MethodName)) ∈ lw_all := lw_g (lw_at lw_m3 69 rfl) rfl
theorem q666 : (Jvm.Cond.selects "java/lang/String" ({ cls := "java/lang/String", name := "charAt", desc := "(I)C" } : Jvm.MethodName) ({ cls := "java/lang/String", name := "charAt", desc := "(I)C" } : Jvm.MethodName)) ∈ lw_all := lw_g (lw_at lw_m3 70 rfl) rfl
theorem q667 : (Jvm.Cond.code ({ cls := "java/lang/String", name := "charAt", desc := "(I)C" } : Jvm.MethodName) prog_31_method_56_code (2 : Nat) (Option.some Jvm.ClassFile.FieldType.char)) ∈ lw_all := lw_g (lw_at lw_m3 71 rfl) rfl
theorem q668 : (Jvm.Cond.methodLink "java/lang/String" (492 : Nat) ({ cls := "java/lang/String", name := "isLatin1", desc := "()Z" } : Jvm.MethodName)) ∈ lw_all := lw_g (lw_at lw_m3 72 rfl) rfl
theorem q669 : (Jvm.Cond.instanceMethod ({ cls := "java/lang/String", name := "isLatin1", desc := "()Z" } : Jvm.MethodName)) ∈ lw_all := lw_g (lw_at lw_m3 73 rfl) rfl
theorem q670 : (Jvm.Cond.selects "java/lang/String" ({ cls := "java/lang/String", name := "isLatin1", desc := "()Z" } : Jvm.MethodName) ({ cls := "java/lang/String", name := "isLatin1", desc := "()Z" } : Jvm.MethodName)) ∈ lw_all := lw_g (lw_at lw_m3 74 rfl) rfl
theorem q671 : (Jvm.Cond.code ({ cls := "java/lang/String", name := "isLatin1", desc := "()Z" } : Jvm.MethodName) prog_31_method_154_code (1 : Nat) (Option.some Jvm.ClassFile.FieldType.boolean)) ∈ lw_all := lw_g (lw_at lw_m3 75 rfl) rfl
theorem q672 : (Jvm.Cond.methodLink "java/lang/String" (495 : Nat) ({ cls := "java/lang/StringLatin1", name := "charAt", desc := "([BI)C" } : Jvm.MethodName)) ∈ lw_all := lw_g (lw_at lw_m3 76 rfl) rfl
theorem q676 : (Jvm.Cond.static ({ cls := "java/lang/String", name := "checkIndex", desc := "(II)V" } : Jvm.MethodName)) ∈ lw_all := lw_g (lw_at lw_m3 80 rfl) rfl
theorem q677 : (Jvm.Cond.code ({ cls := "java/lang/String", name := "checkIndex", desc := "(II)V" } : Jvm.MethodName) prog_31_method_155_code (2 : Nat) (Option.none : Option Jvm.ClassFile.FieldType)) ∈ lw_all := lw_g (lw_at lw_m3 81 rfl) rfl
theorem q678 : (Jvm.Cond.fieldLink "java/lang/String" (1053 : Nat) "jdk/internal/util/Preconditions" "SIOOBE_FORMATTER" "Ljava/util/function/BiFunction;") ∈ lw_all := lw_g (lw_at lw_m3 82 rfl) rfl
theorem q680 : (Jvm.Cond.methodLink "java/lang/String" (1059 : Nat) ({ cls := "jdk/internal/util/Preconditions", name := "checkIndex", desc := "(IILjava/util/function/BiFunction;)I" } : Jvm.MethodName)) ∈ lw_all := lw_g (lw_at lw_m3 84 rfl) rfl
theorem q681 : (Jvm.Cond.methodLink "java/lang/String" (498 : Nat) ({ cls := "java/lang/StringUTF16", name := "charAt", desc := "([BI)C" } : Jvm.MethodName)) ∈ lw_all := lw_g (lw_at lw_m3 85 rfl) rfl
theorem q2205 : (Jvm.Cond.castable "java/lang/String" "java/lang/Object") ∈ lw_tbl := lw_at lw_m9 169 rfl
theorem q2236 : (Jvm.Cond.fieldLink "java/lang/String" (9 : Nat) "java/lang/String" "value" "[B") ∈ lw_all := lw_g (lw_at lw_m9 200 rfl) rfl
theorem q2237 : (Jvm.Cond.fieldLink "java/lang/String" (15 : Nat) "java/lang/String" "code\x72" "B") ∈ lw_all := lw_g (lw_at lw_m9 201 rfl) rfl
/-! java/lang/StringLatin1 -/
set_option maxRecDepth 100000
def RJ8 : String := "java/lang/StringLatin1"
abbrev cJ8_charAt : ByteArray := prog_32_method_2_code
def yJ8_charAt : MethodName := ⟨RJ8, "charAt", "([BI)C"⟩
def dkwJ8_charAt_0 : List UInt8 := [27, 42, 190, 184, 0, 9, 42, 27, 51, 17, 0, 255, 126, 146, 172]
abbrev dktJ8_charAt_0 : List UInt8 := dkwJ8_charAt_0 ++ []
theorem dksJ8_charAt_0 : cJ8_charAt.data.toList.drop 0 = dktJ8_charAt_0 := by decide +kernel
theorem dJ8_charAt_0 : decode cJ8_charAt 0 = .ok (.iload_n 1, 1) := dk_27 (dk_at dksJ8_charAt_0 0 rfl rfl)
theorem dJ8_charAt_1 : decode cJ8_charAt 1 = .ok (.aload_n 0, 1) := dk_42 (dk_at dksJ8_charAt_0 1 rfl rfl)
theorem dJ8_charAt_2 : decode cJ8_charAt 2 = .ok (.arraylength, 1) := dk_190 (dk_at dksJ8_charAt_0 2 rfl rfl)
theorem dJ8_charAt_3 : decode cJ8_charAt 3 = .ok (.invokestatic 9, 3) := dk_184 0 9 (dk_at dksJ8_charAt_0 3 rfl rfl)
theorem dJ8_charAt_6 : decode cJ8_charAt 6 = .ok (.aload_n 0, 1) := dk_42 (dk_at dksJ8_charAt_0 6 rfl rfl)
theorem dJ8_charAt_7 : decode cJ8_charAt 7 = .ok (.iload_n 1, 1) := dk_27 (dk_at dksJ8_charAt_0 7 rfl rfl)
theorem dJ8_charAt_8 : decode cJ8_charAt 8 = .ok (.baload, 1) := dk_51 (dk_at dksJ8_charAt_0 8 rfl rfl)
theorem dJ8_charAt_9 : decode cJ8_charAt 9 = .ok (.sipush 255, 3) := dk_17 0 255 (dk_at dksJ8_charAt_0 9 rfl rfl)
theorem dJ8_charAt_12 : decode cJ8_charAt 12 = .ok (.iand, 1) := dk_126 (dk_at dksJ8_charAt_0 12 rfl rfl)
theorem dJ8_charAt_13 : decode cJ8_charAt 13 = .ok (.i2c, 1) := dk_146 (dk_at dksJ8_charAt_0 13 rfl rfl)
theorem dJ8_charAt_14 : decode cJ8_charAt 14 = .ok (.ireturn, 1) := dk_172 (dk_at dksJ8_charAt_0 14 rfl rfl)
theorem q136 : (Jvm.Cond.initialized "java/lang/StringLatin1") ∈ lw_all := lw_g (lw_at lw_m1 20 rfl) rfl
theorem q673 : (Jvm.Cond.static ({ cls := "java/lang/StringLatin1", name := "charAt", desc := "([BI)C" } : Jvm.MethodName)) ∈ lw_all := lw_g (lw_at lw_m3 77 rfl) rfl
theorem q674 : (Jvm.Cond.code ({ cls := "java/lang/StringLatin1", name := "charAt", desc := "([BI)C" } : Jvm.MethodName) prog_32_method_2_code (2 : Nat) (Option.some Jvm.ClassFile.FieldType.char)) ∈ lw_all := lw_g (lw_at lw_m3 78 rfl) rfl
theorem q675 : (Jvm.Cond.methodLink "java/lang/StringLatin1" (9 : Nat) ({ cls := "java/lang/String", name := "checkIndex", desc := "(II)V" } : Jvm.MethodName)) ∈ lw_all := lw_g (lw_at lw_m3 79 rfl) rfl
/-! java/lang/StringUTF16 -/
set_option maxRecDepth 100000
def RJ9 : String := "java/lang/StringUTF16"
abbrev cJ9_charAt : ByteArray := prog_33_method_83_code
def yJ9_charAt : MethodName := ⟨RJ9, "charAt", "([BI)C"⟩
def dkwJ9_charAt_0 : List UInt8 := [27, 42, 184, 0, 67, 42, 27, 184, 0, 71, 172]
abbrev dktJ9_charAt_0 : List UInt8 := dkwJ9_charAt_0 ++ []
theorem dksJ9_charAt_0 : cJ9_charAt.data.toList.drop 0 = dktJ9_charAt_0 := by decide +kernel
theorem dJ9_charAt_0 : decode cJ9_charAt 0 = .ok (.iload_n 1, 1) := dk_27 (dk_at dksJ9_charAt_0 0 rfl rfl)
theorem dJ9_charAt_1 : decode cJ9_charAt 1 = .ok (.aload_n 0, 1) := dk_42 (dk_at dksJ9_charAt_0 1 rfl rfl)
theorem dJ9_charAt_2 : decode cJ9_charAt 2 = .ok (.invokestatic 67, 3) := dk_184 0 67 (dk_at dksJ9_charAt_0 2 rfl rfl)
theorem dJ9_charAt_5 : decode cJ9_charAt 5 = .ok (.aload_n 0, 1) := dk_42 (dk_at dksJ9_charAt_0 5 rfl rfl)
theorem dJ9_charAt_6 : decode cJ9_charAt 6 = .ok (.iload_n 1, 1) := dk_27 (dk_at dksJ9_charAt_0 6 rfl rfl)
theorem dJ9_charAt_7 : decode cJ9_charAt 7 = .ok (.invokestatic 71, 3) := dk_184 0 71 (dk_at dksJ9_charAt_0 7 rfl rfl)
theorem dJ9_charAt_10 : decode cJ9_charAt 10 = .ok (.ireturn, 1) := dk_172 (dk_at dksJ9_charAt_0 10 rfl rfl)
abbrev cJ9_checkIndex : ByteArray := prog_33_method_91_code
def yJ9_checkIndex : MethodName := ⟨RJ9, "checkIndex", "(I[B)V"⟩
def dkwJ9_checkIndex_0 : List UInt8 := [26, 43, 184, 0, 48, 184, 1, 158, 177]
abbrev dktJ9_checkIndex_0 : List UInt8 := dkwJ9_checkIndex_0 ++ []
theorem dksJ9_checkIndex_0 : cJ9_checkIndex.data.toList.drop 0 = dktJ9_checkIndex_0 := by decide +kernel
theorem dJ9_checkIndex_0 : decode cJ9_checkIndex 0 = .ok (.iload_n 0, 1) := dk_26 (dk_at dksJ9_checkIndex_0 0 rfl rfl)
theorem dJ9_checkIndex_1 : decode cJ9_checkIndex 1 = .ok (.aload_n 1, 1) := dk_43 (dk_at dksJ9_checkIndex_0 1 rfl rfl)
theorem dJ9_checkIndex_2 : decode cJ9_checkIndex 2 = .ok (.invokestatic 48, 3) := dk_184 0 48 (dk_at dksJ9_checkIndex_0 2 rfl rfl)
theorem dJ9_checkIndex_5 : decode cJ9_checkIndex 5 = .ok (.invokestatic 414, 3) := dk_184 1 158 (dk_at dksJ9_checkIndex_0 5 rfl rfl)
theorem dJ9_checkIndex_8 : decode cJ9_checkIndex 8 = .ok (.return_, 1) := dk_177 (dk_at dksJ9_checkIndex_0 8 rfl rfl)
abbrev cJ9_length : ByteArray := prog_33_method_6_code
def yJ9_length : MethodName := ⟨RJ9, "length", "([B)I"⟩
def dkwJ9_length_0 : List UInt8 := [42, 190, 4, 122, 172]
abbrev dktJ9_length_0 : List UInt8 := dkwJ9_length_0 ++ []
theorem dksJ9_length_0 : cJ9_length.data.toList.drop 0 = dktJ9_length_0 := by decide +kernel
theorem dJ9_length_0 : decode cJ9_length 0 = .ok (.aload_n 0, 1) := dk_42 (dk_at dksJ9_length_0 0 rfl rfl)
theorem dJ9_length_1 : decode cJ9_length 1 = .ok (.arraylength, 1) := dk_190 (dk_at dksJ9_length_0 1 rfl rfl)
theorem dJ9_length_2 : decode cJ9_length 2 = .ok (.iconst 1, 1) := dk_4 (dk_at dksJ9_length_0 2 rfl rfl)
theorem dJ9_length_3 : decode cJ9_length 3 = .ok (.ishr, 1) := dk_122 (dk_at dksJ9_length_0 3 rfl rfl)
theorem dJ9_length_4 : decode cJ9_length 4 = .ok (.ireturn, 1) := dk_172 (dk_at dksJ9_length_0 4 rfl rfl)
abbrev cJ9_getChar : ByteArray := prog_33_method_5_code
def yJ9_getChar : MethodName := ⟨RJ9, "getCha\x72", "([BI)C"⟩
def dkwJ9_getChar_2 : List UInt8 := [51, 17, 0, 255, 126, 178, 0, 63, 120, 128, 146, 172]
abbrev dktJ9_getChar_2 : List UInt8 := dkwJ9_getChar_2 ++ []
def dkwJ9_getChar_1 : List UInt8 := [183, 0, 56, 191, 27, 4, 120, 60, 42, 27, 132, 1, 1, 51, 17, 0, 255, 126, 178, 0, 59, 120, 42, 27]
abbrev dktJ9_getChar_1 : List UInt8 := dkwJ9_getChar_1 ++ dktJ9_getChar_2
def dkwJ9_getChar_0 : List UInt8 := [178, 0, 44, 154, 0, 25, 27, 155, 0, 11, 27, 42, 184, 0, 48, 161, 0, 13, 187, 0, 52, 89, 18, 54]
abbrev dktJ9_getChar_0 : List UInt8 := dkwJ9_getChar_0 ++ dktJ9_getChar_1
theorem dksJ9_getChar_0 : cJ9_getChar.data.toList.drop 0 = dktJ9_getChar_0 := by decide +kernel
theorem dksJ9_getChar_1 : cJ9_getChar.data.toList.drop 24 = dktJ9_getChar_1 := dk_seg dksJ9_getChar_0 24 rfl rfl
theorem dksJ9_getChar_2 : cJ9_getChar.data.toList.drop 48 = dktJ9_getChar_2 := dk_seg dksJ9_getChar_1 24 rfl rfl
theorem dJ9_getChar_0 : decode cJ9_getChar 0 = .ok (.getstatic 44, 3) := dk_178 0 44 (dk_at dksJ9_getChar_0 0 rfl rfl)
theorem dJ9_getChar_3 : decode cJ9_getChar 3 = .ok (.ifCond .ne 25, 3) := dk_154 0 25 (dk_at dksJ9_getChar_0 3 rfl rfl)
theorem dJ9_getChar_6 : decode cJ9_getChar 6 = .ok (.iload_n 1, 1) := dk_27 (dk_at dksJ9_getChar_0 6 rfl rfl)
theorem dJ9_getChar_7 : decode cJ9_getChar 7 = .ok (.ifCond .lt 11, 3) := dk_155 0 11 (dk_at dksJ9_getChar_0 7 rfl rfl)
theorem dJ9_getChar_10 : decode cJ9_getChar 10 = .ok (.iload_n 1, 1) := dk_27 (dk_at dksJ9_getChar_0 10 rfl rfl)
theorem dJ9_getChar_11 : decode cJ9_getChar 11 = .ok (.aload_n 0, 1) := dk_42 (dk_at dksJ9_getChar_0 11 rfl rfl)
theorem dJ9_getChar_12 : decode cJ9_getChar 12 = .ok (.invokestatic 48, 3) := dk_184 0 48 (dk_at dksJ9_getChar_0 12 rfl rfl)
theorem dJ9_getChar_15 : decode cJ9_getChar 15 = .ok (.if_icmp .lt 13, 3) := dk_161 0 13 (dk_at dksJ9_getChar_0 15 rfl rfl)
theorem dJ9_getChar_18 : decode cJ9_getChar 18 = .ok (.new 52, 3) := dk_187 0 52 (dk_at dksJ9_getChar_0 18 rfl rfl)
theorem dJ9_getChar_21 : decode cJ9_getChar 21 = .ok (.dup, 1) := dk_89 (dk_at dksJ9_getChar_0 21 rfl rfl)
theorem dJ9_getChar_22 : decode cJ9_getChar 22 = .ok (.ldc 54, 2) := dk_18 54 (dk_at dksJ9_getChar_0 22 rfl rfl)
theorem dJ9_getChar_24 : decode cJ9_getChar 24 = .ok (.invokespecial 56, 3) := dk_183 0 56 (dk_at dksJ9_getChar_1 0 rfl rfl)
theorem dJ9_getChar_27 : decode cJ9_getChar 27 = .ok (.athrow, 1) := dk_191 (dk_at dksJ9_getChar_1 3 rfl rfl)
theorem dJ9_getChar_28 : decode cJ9_getChar 28 = .ok (.iload_n 1, 1) := dk_27 (dk_at dksJ9_getChar_1 4 rfl rfl)
theorem dJ9_getChar_29 : decode cJ9_getChar 29 = .ok (.iconst 1, 1) := dk_4 (dk_at dksJ9_getChar_1 5 rfl rfl)
theorem dJ9_getChar_30 : decode cJ9_getChar 30 = .ok (.ishl, 1) := dk_120 (dk_at dksJ9_getChar_1 6 rfl rfl)
theorem dJ9_getChar_31 : decode cJ9_getChar 31 = .ok (.istore_n 1, 1) := dk_60 (dk_at dksJ9_getChar_1 7 rfl rfl)
theorem dJ9_getChar_32 : decode cJ9_getChar 32 = .ok (.aload_n 0, 1) := dk_42 (dk_at dksJ9_getChar_1 8 rfl rfl)
theorem dJ9_getChar_33 : decode cJ9_getChar 33 = .ok (.iload_n 1, 1) := dk_27 (dk_at dksJ9_getChar_1 9 rfl rfl)
theorem dJ9_getChar_34 : decode cJ9_getChar 34 = .ok (.iinc 1 1, 3) := dk_132 1 1 (dk_at dksJ9_getChar_1 10 rfl rfl)
theorem dJ9_getChar_37 : decode cJ9_getChar 37 = .ok (.baload, 1) := dk_51 (dk_at dksJ9_getChar_1 13 rfl rfl)
theorem dJ9_getChar_38 : decode cJ9_getChar 38 = .ok (.sipush 255, 3) := dk_17 0 255 (dk_at dksJ9_getChar_1 14 rfl rfl)
theorem dJ9_getChar_41 : decode cJ9_getChar 41 = .ok (.iand, 1) := dk_126 (dk_at dksJ9_getChar_1 17 rfl rfl)
theorem dJ9_getChar_42 : decode cJ9_getChar 42 = .ok (.getstatic 59, 3) := dk_178 0 59 (dk_at dksJ9_getChar_1 18 rfl rfl)
theorem dJ9_getChar_45 : decode cJ9_getChar 45 = .ok (.ishl, 1) := dk_120 (dk_at dksJ9_getChar_1 21 rfl rfl)
theorem dJ9_getChar_46 : decode cJ9_getChar 46 = .ok (.aload_n 0, 1) := dk_42 (dk_at dksJ9_getChar_1 22 rfl rfl)
theorem dJ9_getChar_47 : decode cJ9_getChar 47 = .ok (.iload_n 1, 1) := dk_27 (dk_at dksJ9_getChar_1 23 rfl rfl)
theorem dJ9_getChar_48 : decode cJ9_getChar 48 = .ok (.baload, 1) := dk_51 (dk_at dksJ9_getChar_2 0 rfl rfl)
theorem dJ9_getChar_49 : decode cJ9_getChar 49 = .ok (.sipush 255, 3) := dk_17 0 255 (dk_at dksJ9_getChar_2 1 rfl rfl)
theorem dJ9_getChar_52 : decode cJ9_getChar 52 = .ok (.iand, 1) := dk_126 (dk_at dksJ9_getChar_2 4 rfl rfl)
theorem dJ9_getChar_53 : decode cJ9_getChar 53 = .ok (.getstatic 63, 3) := dk_178 0 63 (dk_at dksJ9_getChar_2 5 rfl rfl)
theorem dJ9_getChar_56 : decode cJ9_getChar 56 = .ok (.ishl, 1) := dk_120 (dk_at dksJ9_getChar_2 8 rfl rfl)
theorem dJ9_getChar_57 : decode cJ9_getChar 57 = .ok (.ior, 1) := dk_128 (dk_at dksJ9_getChar_2 9 rfl rfl)
theorem dJ9_getChar_58 : decode cJ9_getChar 58 = .ok (.i2c, 1) := dk_146 (dk_at dksJ9_getChar_2 10 rfl rfl)
theorem dJ9_getChar_59 : decode cJ9_getChar 59 = .ok (.ireturn, 1) := dk_172 (dk_at dksJ9_getChar_2 11 rfl rfl)
theorem q137 : (Jvm.Cond.initialized "java/lang/StringUTF16") ∈ lw_all := lw_g (lw_at lw_m1 21 rfl) rfl
theorem q682 : (Jvm.Cond.static ({ cls := "java/lang/StringUTF16", name := "charAt", desc := "([BI)C" } : Jvm.MethodName)) ∈ lw_all := lw_g (lw_at lw_m3 86 rfl) rfl
theorem q683 : (Jvm.Cond.code ({ cls := "java/lang/StringUTF16", name := "charAt", desc := "([BI)C" } : Jvm.MethodName) prog_33_method_83_code (2 : Nat) (Option.some Jvm.ClassFile.FieldType.char)) ∈ lw_all := lw_g (lw_at lw_m3 87 rfl) rfl
theorem q684 : (Jvm.Cond.methodLink "java/lang/StringUTF16" (67 : Nat) ({ cls := "java/lang/StringUTF16", name := "checkIndex", desc := "(I[B)V" } : Jvm.MethodName)) ∈ lw_all := lw_g (lw_at lw_m3 88 rfl) rfl
theorem q685 : (Jvm.Cond.static ({ cls := "java/lang/StringUTF16", name := "checkIndex", desc := "(I[B)V" } : Jvm.MethodName)) ∈ lw_all := lw_g (lw_at lw_m3 89 rfl) rfl
theorem q686 : (Jvm.Cond.code ({ cls := "java/lang/StringUTF16", name := "checkIndex", desc := "(I[B)V" } : Jvm.MethodName) prog_33_method_91_code (2 : Nat) (Option.none : Option Jvm.ClassFile.FieldType)) ∈ lw_all := lw_g (lw_at lw_m3 90 rfl) rfl
theorem q687 : (Jvm.Cond.methodLink "java/lang/StringUTF16" (48 : Nat) ({ cls := "java/lang/StringUTF16", name := "length", desc := "([B)I" } : Jvm.MethodName)) ∈ lw_all := lw_g (lw_at lw_m3 91 rfl) rfl
theorem q688 : (Jvm.Cond.static ({ cls := "java/lang/StringUTF16", name := "length", desc := "([B)I" } : Jvm.MethodName)) ∈ lw_all := lw_g (lw_at lw_m3 92 rfl) rfl
theorem q689 : (Jvm.Cond.code ({ cls := "java/lang/StringUTF16", name := "length", desc := "([B)I" } : Jvm.MethodName) prog_33_method_6_code (1 : Nat) (Option.some Jvm.ClassFile.FieldType.int)) ∈ lw_all := lw_g (lw_at lw_m3 93 rfl) rfl
theorem q690 : (Jvm.Cond.methodLink "java/lang/StringUTF16" (414 : Nat) ({ cls := "java/lang/String", name := "checkIndex", desc := "(II)V" } : Jvm.MethodName)) ∈ lw_all := lw_g (lw_at lw_m3 94 rfl) rfl
theorem q691 : (Jvm.Cond.methodLink "java/lang/StringUTF16" (71 : Nat) ({ cls := "java/lang/StringUTF16", name := "getCha\x72", desc := "([BI)C" } : Jvm.MethodName)) ∈ lw_all := lw_g (lw_at lw_m3 95 rfl) rfl
theorem q692 : (Jvm.Cond.static ({ cls := "java/lang/StringUTF16", name := "getCha\x72", desc := "([BI)C" } : Jvm.MethodName)) ∈ lw_all := lw_g (lw_at lw_m3 96 rfl) rfl
theorem q693 : (Jvm.Cond.code ({ cls := "java/lang/StringUTF16", name := "getCha\x72", desc := "([BI)C" } : Jvm.MethodName) prog_33_method_5_code (2 : Nat) (Option.some Jvm.ClassFile.FieldType.char)) ∈ lw_all := lw_g (lw_at lw_m3 97 rfl) rfl
theorem q694 : (Jvm.Cond.fieldLink "java/lang/StringUTF16" (44 : Nat) "java/lang/StringUTF16" "$assertionsDisabled" "Z") ∈ lw_all := lw_g (lw_at lw_m3 98 rfl) rfl
theorem q695 : (Jvm.Cond.laysStatic "java/lang/StringUTF16" "$assertionsDisabled" "Z") ∈ lw_tbl := lw_at lw_m3 99 rfl
theorem q696 : (Jvm.Cond.fieldLink "java/lang/StringUTF16" (59 : Nat) "java/lang/StringUTF16" "HI_BYTE_SHIFT" "I") ∈ lw_all := lw_g (lw_at lw_m3 100 rfl) rfl
theorem q697 : (Jvm.Cond.laysStatic "java/lang/StringUTF16" "HI_BYTE_SHIFT" "I") ∈ lw_tbl := lw_at lw_m3 101 rfl
theorem q698 : (Jvm.Cond.fieldLink "java/lang/StringUTF16" (63 : Nat) "java/lang/StringUTF16" "LO_BYTE_SHIFT" "I") ∈ lw_all := lw_g (lw_at lw_m3 102 rfl) rfl
theorem q699 : (Jvm.Cond.laysStatic "java/lang/StringUTF16" "LO_BYTE_SHIFT" "I") ∈ lw_tbl := lw_at lw_m3 103 rfl
theorem q116 : (Jvm.Cond.initialized "OathButtonsLaw") ∈ lw_all := lw_g (lw_at lw_m1 0 rfl) rfl
set_option maxRecDepth 100000
theorem q155 : (Jvm.Cond.classLink "OathButtonsLaw" (7 : Nat) "OathButtons") ∈ lw_all := lw_g (lw_at lw_m1 39 rfl) rfl
theorem q157 : (Jvm.Cond.methodLink "OathButtonsLaw" (9 : Nat) ({ cls := "OathButtons", name := "<init>", desc := "()V" } : Jvm.MethodName)) ∈ lw_all := lw_g (lw_at lw_m1 41 rfl) rfl
theorem q554 : (Jvm.Cond.methodLink "OathButtonsLaw" (13 : Nat) ({ cls := "OathButtons", name := "feed", desc := "(IIIII)I" } : Jvm.MethodName)) ∈ lw_all := lw_g (lw_at lw_m2 198 rfl) rfl
theorem q562 : (Jvm.Cond.methodLink "OathButtonsLaw" (18 : Nat) ({ cls := "OathButtons", name := "end", desc := "(I)I" } : Jvm.MethodName)) ∈ lw_all := lw_g (lw_at lw_m2 206 rfl) rfl
theorem q566 : (Jvm.Cond.methodLink "OathButtonsLaw" (23 : Nat) ({ cls := "OathButtons", name := "regiment", desc := "()I" } : Jvm.MethodName)) ∈ lw_all := lw_g (lw_at lw_m2 210 rfl) rfl
theorem q1048 : (Jvm.Cond.methodLink "OathButtonsLaw" (28 : Nat) ({ cls := "OathButtons", name := "fault", desc := "(I)I" } : Jvm.MethodName)) ∈ lw_all := lw_g (lw_at lw_m4 212 rfl) rfl
theorem q1052 : (Jvm.Cond.methodLink "OathButtonsLaw" (32 : Nat) ({ cls := "OathButtons", name := "button", desc := "(II)I" } : Jvm.MethodName)) ∈ lw_all := lw_g (lw_at lw_m4 216 rfl) rfl
theorem q1072 : (Jvm.Cond.methodLink "OathButtonsLaw" (37 : Nat) ({ cls := "OathButtons", name := "coat", desc := "(II)I" } : Jvm.MethodName)) ∈ lw_all := lw_g (lw_at lw_m4 236 rfl) rfl
theorem q1080 : (Jvm.Cond.methodLink "OathButtonsLaw" (41 : Nat) ({ cls := "OathButtons", name := "free", desc := "()I" } : Jvm.MethodName)) ∈ lw_all := lw_g (lw_at lw_m5 4 rfl) rfl
theorem q1088 : (Jvm.Cond.methodLink "OathButtonsLaw" (45 : Nat) ({ cls := "OathButtons", name := "sworn", desc := "(II)I" } : Jvm.MethodName)) ∈ lw_all := lw_g (lw_at lw_m5 12 rfl) rfl
theorem q1096 : (Jvm.Cond.methodLink "OathButtonsLaw" (49 : Nat) ({ cls := "OathButtons", name := "many", desc := "(I)I" } : Jvm.MethodName)) ∈ lw_all := lw_g (lw_at lw_m5 20 rfl) rfl
theorem q1100 : (Jvm.Cond.methodLink "OathButtonsLaw" (53 : Nat) ({ cls := "OathButtons", name := "does", desc := "(II)I" } : Jvm.MethodName)) ∈ lw_all := lw_g (lw_at lw_m5 24 rfl) rfl
theorem q1133 : (Jvm.Cond.methodLink "OathButtonsLaw" (57 : Nat) ({ cls := "OathButtons", name := "undoes", desc := "(I)Z" } : Jvm.MethodName)) ∈ lw_all := lw_g (lw_at lw_m5 57 rfl) rfl
theorem q1137 : (Jvm.Cond.methodLink "OathButtonsLaw" (62 : Nat) ({ cls := "OathButtons", name := "cut", desc := "(I)I" } : Jvm.MethodName)) ∈ lw_all := lw_g (lw_at lw_m5 61 rfl) rfl
theorem q1141 : (Jvm.Cond.methodLink "OathButtonsLaw" (66 : Nat) ({ cls := "OathButtons", name := "sew", desc := "(I)I" } : Jvm.MethodName)) ∈ lw_all := lw_g (lw_at lw_m5 65 rfl) rfl
theorem q1145 : (Jvm.Cond.methodLink "OathButtonsLaw" (70 : Nat) ({ cls := "OathButtons", name := "day", desc := "()I" } : Jvm.MethodName)) ∈ lw_all := lw_g (lw_at lw_m5 69 rfl) rfl
theorem q1191 : (Jvm.Cond.methodLink "OathButtonsLaw" (74 : Nat) ({ cls := "OathButtons", name := "undo", desc := "()Z" } : Jvm.MethodName)) ∈ lw_all := lw_g (lw_at lw_m5 115 rfl) rfl
theorem q1203 : (Jvm.Cond.methodLink "OathButtonsLaw" (79 : Nat) ({ cls := "OathButtons", name := "redo", desc := "()Z" } : Jvm.MethodName)) ∈ lw_all := lw_g (lw_at lw_m5 127 rfl) rfl
theorem q1207 : (Jvm.Cond.methodLink "OathButtonsLaw" (137 : Nat) ({ cls := "OathButtons", name := "lies", desc := "(I)I" } : Jvm.MethodName)) ∈ lw_all := lw_g (lw_at lw_m5 131 rfl) rfl
theorem q1211 : (Jvm.Cond.methodLink "OathButtonsLaw" (83 : Nat) ({ cls := "OathButtons", name := "keep", desc := "(II)I" } : Jvm.MethodName)) ∈ lw_all := lw_g (lw_at lw_m5 135 rfl) rfl
theorem q1247 : (Jvm.Cond.methodLink "OathButtonsLaw" (87 : Nat) ({ cls := "OathButtons", name := "rest", desc := "(I)I" } : Jvm.MethodName)) ∈ lw_all := lw_g (lw_at lw_m5 171 rfl) rfl
theorem q1251 : (Jvm.Cond.methodLink "OathButtonsLaw" (91 : Nat) ({ cls := "OathButtons", name := "ties", desc := "(II)I" } : Jvm.MethodName)) ∈ lw_all := lw_g (lw_at lw_m5 175 rfl) rfl
theorem q1255 : (Jvm.Cond.methodLink "OathButtonsLaw" (95 : Nat) ({ cls := "OathButtons", name := "clash", desc := "(II)I" } : Jvm.MethodName)) ∈ lw_all := lw_g (lw_at lw_m5 179 rfl) rfl
theorem q1268 : (Jvm.Cond.methodLink "OathButtonsLaw" (99 : Nat) ({ cls := "OathButtons", name := "leave", desc := "(II)I" } : Jvm.MethodName)) ∈ lw_all := lw_g (lw_at lw_m5 192 rfl) rfl
theorem q1277 : (Jvm.Cond.methodLink "OathButtonsLaw" (103 : Nat) ({ cls := "OathButtons", name := "asked", desc := "(II)I" } : Jvm.MethodName)) ∈ lw_all := lw_g (lw_at lw_m5 201 rfl) rfl
theorem q1281 : (Jvm.Cond.methodLink "OathButtonsLaw" (107 : Nat) ({ cls := "OathButtons", name := "holds", desc := "(III)I" } : Jvm.MethodName)) ∈ lw_all := lw_g (lw_at lw_m5 205 rfl) rfl
theorem q1286 : (Jvm.Cond.methodLink "OathButtonsLaw" (112 : Nat) ({ cls := "OathButtons", name := "odds", desc := "(III)J" } : Jvm.MethodName)) ∈ lw_all := lw_g (lw_at lw_m5 210 rfl) rfl
theorem q1295 : (Jvm.Cond.methodLink "OathButtonsLaw" (117 : Nat) ({ cls := "OathButtons", name := "first", desc := "(I)I" } : Jvm.MethodName)) ∈ lw_all := lw_g (lw_at lw_m5 219 rfl) rfl
theorem q1300 : (Jvm.Cond.methodLink "OathButtonsLaw" (121 : Nat) ({ cls := "OathButtons", name := "will", desc := "(II)I" } : Jvm.MethodName)) ∈ lw_all := lw_g (lw_at lw_m5 224 rfl) rfl
theorem q1304 : (Jvm.Cond.methodLink "OathButtonsLaw" (125 : Nat) ({ cls := "OathButtons", name := "truce", desc := "()I" } : Jvm.MethodName)) ∈ lw_all := lw_g (lw_at lw_m5 228 rfl) rfl
theorem q1344 : (Jvm.Cond.methodLink "OathButtonsLaw" (129 : Nat) ({ cls := "OathButtons", name := "calm", desc := "()I" } : Jvm.MethodName)) ∈ lw_all := lw_g (lw_at lw_m6 28 rfl) rfl
theorem q1355 : (Jvm.Cond.methodLink "OathButtonsLaw" (133 : Nat) ({ cls := "OathButtons", name := "likes", desc := "(II)I" } : Jvm.MethodName)) ∈ lw_all := lw_g (lw_at lw_m6 39 rfl) rfl
theorem q1360 : (Jvm.Cond.methodLink "OathButtonsLaw" (141 : Nat) ({ cls := "OathButtons", name := "tug", desc := "(IIZ)I" } : Jvm.MethodName)) ∈ lw_all := lw_g (lw_at lw_m6 44 rfl) rfl
theorem q1387 : (Jvm.Cond.methodLink "OathButtonsLaw" (146 : Nat) ({ cls := "OathButtons", name := "untell", desc := "(I)Z" } : Jvm.MethodName)) ∈ lw_all := lw_g (lw_at lw_m6 71 rfl) rfl
theorem q1391 : (Jvm.Cond.methodLink "OathButtonsLaw" (150 : Nat) ({ cls := "OathButtons", name := "late\x72", desc := "(I)I" } : Jvm.MethodName)) ∈ lw_all := lw_g (lw_at lw_m6 75 rfl) rfl
theorem q1396 : (Jvm.Cond.methodLink "OathButtonsLaw" (154 : Nat) ({ cls := "OathButtons", name := "swore", desc := "(I)I" } : Jvm.MethodName)) ∈ lw_all := lw_g (lw_at lw_m6 80 rfl) rfl
theorem q1409 : (Jvm.Cond.methodLink "OathButtonsLaw" (158 : Nat) ({ cls := "OathButtons", name := "ask", desc := "(II)I" } : Jvm.MethodName)) ∈ lw_all := lw_g (lw_at lw_m6 93 rfl) rfl
theorem q1420 : (Jvm.Cond.methodLink "OathButtonsLaw" (162 : Nat) ({ cls := "OathButtons", name := "image", desc := "(I)I" } : Jvm.MethodName)) ∈ lw_all := lw_g (lw_at lw_m6 104 rfl) rfl
theorem q1424 : (Jvm.Cond.methodLink "OathButtonsLaw" (166 : Nat) ({ cls := "OathButtons", name := "back", desc := "(I)I" } : Jvm.MethodName)) ∈ lw_all := lw_g (lw_at lw_m6 108 rfl) rfl
theorem q1428 : (Jvm.Cond.methodLink "OathButtonsLaw" (170 : Nat) ({ cls := "OathButtons", name := "about", desc := "(I)I" } : Jvm.MethodName)) ∈ lw_all := lw_g (lw_at lw_m6 112 rfl) rfl
theorem q1432 : (Jvm.Cond.classLink "OathButtonsLaw" (10 : Nat) "OathButtonsModel") ∈ lw_all := lw_g (lw_at lw_m6 116 rfl) rfl
theorem q1434 : (Jvm.Cond.methodLink "OathButtonsLaw" (12 : Nat) ({ cls := "OathButtonsModel", name := "<init>", desc := "()V" } : Jvm.MethodName)) ∈ lw_all := lw_g (lw_at lw_m6 118 rfl) rfl
theorem q1730 : (Jvm.Cond.methodLink "OathButtonsLaw" (17 : Nat) ({ cls := "OathButtonsModel", name := "feed", desc := "(IIIII)I" } : Jvm.MethodName)) ∈ lw_all := lw_g (lw_at lw_m7 174 rfl) rfl
theorem q1738 : (Jvm.Cond.methodLink "OathButtonsLaw" (22 : Nat) ({ cls := "OathButtonsModel", name := "end", desc := "(I)I" } : Jvm.MethodName)) ∈ lw_all := lw_g (lw_at lw_m7 182 rfl) rfl
theorem q1742 : (Jvm.Cond.methodLink "OathButtonsLaw" (27 : Nat) ({ cls := "OathButtonsModel", name := "regiment", desc := "()I" } : Jvm.MethodName)) ∈ lw_all := lw_g (lw_at lw_m7 186 rfl) rfl
theorem q1907 : (Jvm.Cond.methodLink "OathButtonsLaw" (31 : Nat) ({ cls := "OathButtonsModel", name := "fault", desc := "(I)I" } : Jvm.MethodName)) ∈ lw_all := lw_g (lw_at lw_m8 111 rfl) rfl
theorem q1911 : (Jvm.Cond.methodLink "OathButtonsLaw" (36 : Nat) ({ cls := "OathButtonsModel", name := "button", desc := "(II)I" } : Jvm.MethodName)) ∈ lw_all := lw_g (lw_at lw_m8 115 rfl) rfl
theorem q1922 : (Jvm.Cond.methodLink "OathButtonsLaw" (40 : Nat) ({ cls := "OathButtonsModel", name := "coat", desc := "(II)I" } : Jvm.MethodName)) ∈ lw_all := lw_g (lw_at lw_m8 126 rfl) rfl
theorem q1930 : (Jvm.Cond.methodLink "OathButtonsLaw" (44 : Nat) ({ cls := "OathButtonsModel", name := "free", desc := "()I" } : Jvm.MethodName)) ∈ lw_all := lw_g (lw_at lw_m8 134 rfl) rfl
theorem q1935 : (Jvm.Cond.methodLink "OathButtonsLaw" (48 : Nat) ({ cls := "OathButtonsModel", name := "sworn", desc := "(II)I" } : Jvm.MethodName)) ∈ lw_all := lw_g (lw_at lw_m8 139 rfl) rfl
theorem q1947 : (Jvm.Cond.methodLink "OathButtonsLaw" (52 : Nat) ({ cls := "OathButtonsModel", name := "many", desc := "(I)I" } : Jvm.MethodName)) ∈ lw_all := lw_g (lw_at lw_m8 151 rfl) rfl
theorem q1951 : (Jvm.Cond.methodLink "OathButtonsLaw" (56 : Nat) ({ cls := "OathButtonsModel", name := "does", desc := "(II)I" } : Jvm.MethodName)) ∈ lw_all := lw_g (lw_at lw_m8 155 rfl) rfl
theorem q1959 : (Jvm.Cond.methodLink "OathButtonsLaw" (61 : Nat) ({ cls := "OathButtonsModel", name := "undoes", desc := "(I)Z" } : Jvm.MethodName)) ∈ lw_all := lw_g (lw_at lw_m8 163 rfl) rfl
theorem q1963 : (Jvm.Cond.methodLink "OathButtonsLaw" (65 : Nat) ({ cls := "OathButtonsModel", name := "cut", desc := "(I)I" } : Jvm.MethodName)) ∈ lw_all := lw_g (lw_at lw_m8 167 rfl) rfl
theorem q1967 : (Jvm.Cond.methodLink "OathButtonsLaw" (69 : Nat) ({ cls := "OathButtonsModel", name := "sew", desc := "(I)I" } : Jvm.MethodName)) ∈ lw_all := lw_g (lw_at lw_m8 171 rfl) rfl
theorem q1971 : (Jvm.Cond.methodLink "OathButtonsLaw" (73 : Nat) ({ cls := "OathButtonsModel", name := "day", desc := "()I" } : Jvm.MethodName)) ∈ lw_all := lw_g (lw_at lw_m8 175 rfl) rfl
theorem q1990 : (Jvm.Cond.methodLink "OathButtonsLaw" (78 : Nat) ({ cls := "OathButtonsModel", name := "undo", desc := "()Z" } : Jvm.MethodName)) ∈ lw_all := lw_g (lw_at lw_m8 194 rfl) rfl
theorem q1998 : (Jvm.Cond.methodLink "OathButtonsLaw" (82 : Nat) ({ cls := "OathButtonsModel", name := "redo", desc := "()Z" } : Jvm.MethodName)) ∈ lw_all := lw_g (lw_at lw_m8 202 rfl) rfl
theorem q2002 : (Jvm.Cond.methodLink "OathButtonsLaw" (86 : Nat) ({ cls := "OathButtonsModel", name := "keep", desc := "(II)I" } : Jvm.MethodName)) ∈ lw_all := lw_g (lw_at lw_m8 206 rfl) rfl
theorem q2045 : (Jvm.Cond.methodLink "OathButtonsLaw" (90 : Nat) ({ cls := "OathButtonsModel", name := "rest", desc := "(I)I" } : Jvm.MethodName)) ∈ lw_all := lw_g (lw_at lw_m9 9 rfl) rfl
theorem q2049 : (Jvm.Cond.methodLink "OathButtonsLaw" (94 : Nat) ({ cls := "OathButtonsModel", name := "ties", desc := "(II)I" } : Jvm.MethodName)) ∈ lw_all := lw_g (lw_at lw_m9 13 rfl) rfl
theorem q2053 : (Jvm.Cond.methodLink "OathButtonsLaw" (98 : Nat) ({ cls := "OathButtonsModel", name := "clash", desc := "(II)I" } : Jvm.MethodName)) ∈ lw_all := lw_g (lw_at lw_m9 17 rfl) rfl
theorem q2061 : (Jvm.Cond.methodLink "OathButtonsLaw" (102 : Nat) ({ cls := "OathButtonsModel", name := "leave", desc := "(II)I" } : Jvm.MethodName)) ∈ lw_all := lw_g (lw_at lw_m9 25 rfl) rfl
theorem q2069 : (Jvm.Cond.methodLink "OathButtonsLaw" (106 : Nat) ({ cls := "OathButtonsModel", name := "asked", desc := "(II)I" } : Jvm.MethodName)) ∈ lw_all := lw_g (lw_at lw_m9 33 rfl) rfl
theorem q2073 : (Jvm.Cond.methodLink "OathButtonsLaw" (111 : Nat) ({ cls := "OathButtonsModel", name := "holds", desc := "(III)I" } : Jvm.MethodName)) ∈ lw_all := lw_g (lw_at lw_m9 37 rfl) rfl
theorem q2081 : (Jvm.Cond.methodLink "OathButtonsLaw" (116 : Nat) ({ cls := "OathButtonsModel", name := "odds", desc := "(III)J" } : Jvm.MethodName)) ∈ lw_all := lw_g (lw_at lw_m9 45 rfl) rfl
theorem q2094 : (Jvm.Cond.methodLink "OathButtonsLaw" (120 : Nat) ({ cls := "OathButtonsModel", name := "first", desc := "(I)I" } : Jvm.MethodName)) ∈ lw_all := lw_g (lw_at lw_m9 58 rfl) rfl
theorem q2103 : (Jvm.Cond.methodLink "OathButtonsLaw" (124 : Nat) ({ cls := "OathButtonsModel", name := "will", desc := "(II)I" } : Jvm.MethodName)) ∈ lw_all := lw_g (lw_at lw_m9 67 rfl) rfl
theorem q2107 : (Jvm.Cond.methodLink "OathButtonsLaw" (128 : Nat) ({ cls := "OathButtonsModel", name := "truce", desc := "()I" } : Jvm.MethodName)) ∈ lw_all := lw_g (lw_at lw_m9 71 rfl) rfl
theorem q2131 : (Jvm.Cond.methodLink "OathButtonsLaw" (132 : Nat) ({ cls := "OathButtonsModel", name := "calm", desc := "()I" } : Jvm.MethodName)) ∈ lw_all := lw_g (lw_at lw_m9 95 rfl) rfl
theorem q2139 : (Jvm.Cond.methodLink "OathButtonsLaw" (136 : Nat) ({ cls := "OathButtonsModel", name := "likes", desc := "(II)I" } : Jvm.MethodName)) ∈ lw_all := lw_g (lw_at lw_m9 103 rfl) rfl
theorem q2143 : (Jvm.Cond.methodLink "OathButtonsLaw" (140 : Nat) ({ cls := "OathButtonsModel", name := "lies", desc := "(I)I" } : Jvm.MethodName)) ∈ lw_all := lw_g (lw_at lw_m9 107 rfl) rfl
theorem q2147 : (Jvm.Cond.methodLink "OathButtonsLaw" (145 : Nat) ({ cls := "OathButtonsModel", name := "tug", desc := "(IIZ)I" } : Jvm.MethodName)) ∈ lw_all := lw_g (lw_at lw_m9 111 rfl) rfl
theorem q2151 : (Jvm.Cond.methodLink "OathButtonsLaw" (149 : Nat) ({ cls := "OathButtonsModel", name := "untell", desc := "(I)Z" } : Jvm.MethodName)) ∈ lw_all := lw_g (lw_at lw_m9 115 rfl) rfl
theorem q2155 : (Jvm.Cond.methodLink "OathButtonsLaw" (153 : Nat) ({ cls := "OathButtonsModel", name := "late\x72", desc := "(I)I" } : Jvm.MethodName)) ∈ lw_all := lw_g (lw_at lw_m9 119 rfl) rfl
theorem q2160 : (Jvm.Cond.methodLink "OathButtonsLaw" (157 : Nat) ({ cls := "OathButtonsModel", name := "swore", desc := "(I)I" } : Jvm.MethodName)) ∈ lw_all := lw_g (lw_at lw_m9 124 rfl) rfl
theorem q2172 : (Jvm.Cond.methodLink "OathButtonsLaw" (161 : Nat) ({ cls := "OathButtonsModel", name := "ask", desc := "(II)I" } : Jvm.MethodName)) ∈ lw_all := lw_g (lw_at lw_m9 136 rfl) rfl
theorem q2181 : (Jvm.Cond.methodLink "OathButtonsLaw" (165 : Nat) ({ cls := "OathButtonsModel", name := "image", desc := "(I)I" } : Jvm.MethodName)) ∈ lw_all := lw_g (lw_at lw_m9 145 rfl) rfl
theorem q2188 : (Jvm.Cond.methodLink "OathButtonsLaw" (169 : Nat) ({ cls := "OathButtonsModel", name := "back", desc := "(I)I" } : Jvm.MethodName)) ∈ lw_all := lw_g (lw_at lw_m9 152 rfl) rfl
theorem q2192 : (Jvm.Cond.methodLink "OathButtonsLaw" (173 : Nat) ({ cls := "OathButtonsModel", name := "about", desc := "(I)I" } : Jvm.MethodName)) ∈ lw_all := lw_g (lw_at lw_m9 156 rfl) rfl
theorem q2230 : (Jvm.Cond.castable "[B" "java/lang/Object") ∈ lw_tbl := lw_at lw_m9 194 rfl
set_option maxRecDepth 100000
theorem q2229 : (Jvm.Cond.castable "[I" "java/lang/Object") ∈ lw_tbl := lw_at lw_m9 193 rfl
set_option maxRecDepth 100000
theorem q2232 : (Jvm.Cond.castable "[J" "java/lang/Object") ∈ lw_tbl := lw_at lw_m9 196 rfl
set_option maxRecDepth 100000
theorem q2233 : (Jvm.Cond.castable "[LOathButtons$Kept;" "java/lang/Object") ∈ lw_tbl := lw_at lw_m9 197 rfl
set_option maxRecDepth 100000
theorem q2226 : (Jvm.Cond.sameMethod "[Ljava/lang/Object;" "java/lang/Object" "getClass" "()Ljava/lang/Class;") ∈ lw_all := lw_g (lw_at lw_m9 190 rfl) rfl
set_option maxRecDepth 100000
theorem q2227 : (Jvm.Cond.selects "[Ljava/lang/Object;" ({ cls := "java/lang/Object", name := "getClass", desc := "()Ljava/lang/Class;" } : Jvm.MethodName) ({ cls := "java/lang/Object", name := "getClass", desc := "()Ljava/lang/Class;" } : Jvm.MethodName)) ∈ lw_all := lw_g (lw_at lw_m9 191 rfl) rfl
theorem q2234 : (Jvm.Cond.castable "[Ljava/lang/Object;" "java/lang/Object") ∈ lw_tbl := lw_at lw_m9 198 rfl
theorem q2235 : (Jvm.Cond.castable "[Ljava/lang/String;" "java/lang/Object") ∈ lw_tbl := lw_at lw_m9 199 rfl
set_option maxRecDepth 100000
theorem q2231 : (Jvm.Cond.castable "[Z" "java/lang/Object") ∈ lw_tbl := lw_at lw_m9 195 rfl
set_option maxRecDepth 100000
theorem q143 : (Jvm.Cond.initialized "java/lang/System") ∈ lw_all := lw_g (lw_at lw_m1 27 rfl) rfl
set_option maxRecDepth 100000
theorem q849 : (Jvm.Cond.static ({ cls := "java/lang/System", name := "arraycopy", desc := "(Ljava/lang/Object;ILjava/lang/Object;II)V" } : Jvm.MethodName)) ∈ lw_all := lw_g (lw_at lw_m4 13 rfl) rfl
theorem q850 : (Jvm.Cond.native ({ cls := "java/lang/System", name := "arraycopy", desc := "(Ljava/lang/Object;ILjava/lang/Object;II)V" } : Jvm.MethodName)) ∈ lw_all := lw_g (lw_at lw_m4 14 rfl) rfl
theorem q260 : (Jvm.Cond.arrayClass Jvm.ClassFile.FieldType.int) ∈ lw_all := lw_g (lw_at lw_m1 144 rfl) rfl
set_option maxRecDepth 100000
theorem q354 : (Jvm.Cond.arrayClass Jvm.ClassFile.FieldType.byte) ∈ lw_all := lw_g (lw_at lw_m1 238 rfl) rfl
theorem q399 : (Jvm.Cond.arrayClass Jvm.ClassFile.FieldType.boolean) ∈ lw_all := lw_g (lw_at lw_m2 43 rfl) rfl
theorem q429 : (Jvm.Cond.arrayClass Jvm.ClassFile.FieldType.long) ∈ lw_all := lw_g (lw_at lw_m2 73 rfl) rfl
theorem q446 : (Jvm.Cond.arrayOver (Jvm.ClassFile.FieldType.object "OathButtons$Kept")) ∈ lw_tbl := lw_at lw_m2 90 rfl
theorem q843 : (Jvm.Cond.arrayOver (Jvm.ClassFile.FieldType.object "java/lang/Object")) ∈ lw_tbl := lw_at lw_m4 7 rfl
theorem q2238 : (Jvm.Cond.arrayOver (Jvm.ClassFile.FieldType.object "java/lang/String")) ∈ lw_tbl := lw_at lw_m9 202 rfl
