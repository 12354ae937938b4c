/-! ORDERS of deeds, purely: all orders, longer ones behind their beginnings -/
/-- an order: its deeds, hours, kept buttons -/
abbrev ord : Type := List Nat × Int32 × Int32
def oDay (V : am_M) (bd e : Int32) : Int32 := bd + (e - 1) / V 0 60
def oMt (V : am_M) (man : Int32) (d : Nat) (dy : Int32) (b : Nat) : Bool := decide (V 34 b = 0) && decide (V 26 b = man) && decide (V 28 b = nI d) && decide (dy ≤ V 29 b)
def oForb (V : am_M) (nB : Nat) (man : Int32) (d : Nat) (dy : Int32) : Bool := anyB (fun b => oMt V man d dy b && decide (V 33 b = 0)) nB
def oKept (V : am_M) (nB : Nat) (man : Int32) (d : Nat) (dy : Int32) : Int32 := bs (fun b => oMt V man d dy b && !decide (V 33 b = 0)) nB
def child (V : am_M) (nB : Nat) (man bd : Int32) (o : ord) (d : Nat) : Option ord := if o.1.contains d = true then none else if oForb V nB man d (oDay V bd (o.2.1 + V 18 d)) = true then none else some (o.1 ++ [d], o.2.1 + V 18 d, o.2.2 ||| oKept V nB man d (oDay V bd (o.2.1 + V 18 d)))
/-- all that begin with one, it ahead -/
def dl (V : am_M) (nB nD : Nat) (man bd : Int32) : Nat → ord → List ord
  | 0, o => [o]
  | n + 1, o => o :: (List.range nD).flatMap (fun d => match child V nB man bd o d with
    | none => []
    | some p => dl V nB nD man bd n p)
/-- those of the first k deeds -/
def kd (V : am_M) (nB nD : Nat) (man bd : Int32) (n : Nat) (o : ord) (k : Nat) : List ord := (List.range k).flatMap (fun d => match child V nB man bd o d with
    | none => []
    | some p => dl V nB nD man bd n p)
section Ords
variable {V : am_M} {nB nD : Nat} {man bd : Int32}
theorem dl_s {n : Nat} {o : ord} : dl V nB nD man bd (n + 1) o = o :: kd V nB nD man bd n o nD := rfl
theorem kd_0 {n : Nat} {o : ord} : kd V nB nD man bd n o 0 = [] := rfl
theorem kd_none {n k : Nat} {o : ord} (h : child V nB man bd o k = none) : kd V nB nD man bd n o (k + 1) = kd V nB nD man bd n o k := by
  unfold kd
  rw [List.range_succ, List.flatMap_append, List.flatMap_singleton, h, List.append_nil]
theorem kd_some {n k : Nat} {o p : ord} (h : child V nB man bd o k = some p) : kd V nB nD man bd n o (k + 1) = kd V nB nD man bd n o k ++ dl V nB nD man bd n p := by
  unfold kd
  rw [List.range_succ, List.flatMap_append, List.flatMap_singleton, h]
/-- how many deeds are not in it -/
def fc (nD : Nat) (l : List Nat) : Nat := ((List.range nD).filter (fun d => !l.contains d)).length
theorem fc_nil : fc nD [] = nD := by
  unfold fc
  rw [List.filter_eq_self.mpr (fun a _ => by simp), List.length_range]
theorem fc_add {l : List Nat} {d : Nat} (hd : d < nD) (hn : l.contains d = false) : fc nD (l ++ [d]) + 1 = fc nD l := by
  unfold fc
  have key : ∀ n, ((List.range n).filter (fun e => !(l ++ [d]).contains e)).length + (if d < n then 1 else 0) = ((List.range n).filter (fun e => !l.contains e)).length := by
    intro n
    induction n with
    | zero => rfl
    | succ n ih =>
      rw [List.range_succ, List.filter_append, List.filter_append, List.length_append, List.length_append]
      by_cases e : n = d
      · subst e
        rw [if_neg (by omega)] at ih
        rw [if_pos (by omega)]
        simp [hn] at ih ⊢
        have hn' : ¬ n ∈ l := by simpa using hn
        simp [hn']
        omega
      · have e2 : (l ++ [d]).contains n = l.contains n := by
          simp [e]
        simp only [List.filter_cons, List.filter_nil, e2]
        by_cases e3 : d < n
        · rw [if_pos e3] at ih
          rw [if_pos (show d < n + 1 by omega)]
          omega
        · rw [if_neg e3] at ih
          rw [if_neg (show ¬ d < n + 1 by omega)]
          omega
  have := key nD
  rw [if_pos hd] at this
  exact this
theorem fc_pos {l : List Nat} {d : Nat} (hd : d < nD) (hn : l.contains d = false) : 0 < fc nD l := by
  have := fc_add hd hn; omega
theorem child_some {o p : ord} {d : Nat} (h : child V nB man bd o d = some p) : o.1.contains d = false ∧ p.1 = o.1 ++ [d] ∧ p.2.1 = o.2.1 + V 18 d := by
  unfold child at h
  by_cases e : o.1.contains d = true
  · rw [if_pos e] at h; cases h
  · rw [if_neg e] at h
    by_cases e2 : oForb V nB man d (oDay V bd (o.2.1 + V 18 d)) = true
    · rw [if_pos e2] at h; cases h
    · rw [if_neg e2] at h
      cases h
      exact ⟨by simpa using e, rfl, rfl⟩
/-- how many of a set -/
def pc (s : Int32) : Int32 := cntB (fun k => tb s k) 10
/-- the better of the best one and another: the one that is found first stays -/
def updB (b : Option ord) (o : ord) : Option ord := match b with
  | none => some o
  | some b => if pc b.2.2 < pc o.2.2 then some o else if pc o.2.2 = pc b.2.2 then (if b.2.1 ≤ o.2.1 then some b else some o) else some b
/-- a set of buttons below ten -/
def s10 (s : Int32) : Prop := ∀ a, 10 ≤ a → tb s a = false
theorem s10_nat {s : Int32} (h : s10 s) : ∃ j, j < 1024 ∧ s = nI j := by
  refine ⟨s.toBitVec.toNat, ?_, ?_⟩
  · have : s.toBitVec.toNat < 2 ^ 10 := Nat.lt_pow_two_of_testBit _ (fun i hi => by
      have := h i hi
      unfold tb at this
      rw [BitVec.getLsbD] at this
      exact this)
    exact this
  · apply Int32.toBitVec_inj.mp
    unfold nI
    rw [Int32.toBitVec_ofNat']
    simp
theorem s10_0 : s10 0 := fun a _ => tb_0 a
theorem s10_or {s t : Int32} (h1 : s10 s) (h2 : s10 t) : s10 (s ||| t) := fun a ha => by rw [tb_or, h1 a ha, h2 a ha]; rfl
theorem s10_bs {p : Nat → Bool} {n : Nat} (hn : n ≤ 10) : s10 (bs p n) := fun a ha => by rw [tb_bs (by omega), decide_eq_false (by omega), Bool.false_and]
theorem s10_child {o p : ord} {d : Nat} (hB : nB ≤ 10) (h : child V nB man bd o d = some p) (hs : s10 o.2.2) : s10 p.2.2 := by
  unfold child at h
  by_cases e : o.1.contains d = true
  · rw [if_pos e] at h; cases h
  · rw [if_neg e] at h
    by_cases e2 : oForb V nB man d (oDay V bd (o.2.1 + V 18 d)) = true
    · rw [if_pos e2] at h; cases h
    · rw [if_neg e2] at h
      cases h
      exact s10_or hs (s10_bs hB)
end Ords
/-- what 'bitCount' makes of a number -/
def bc1 (v : Int32) : Int32 := v - f_and (f_ushr v 1) 1431655765
def bc2 (v : Int32) : Int32 := f_and v 858993459 + f_and (f_ushr v 2) 858993459
def bc3 (v : Int32) : Int32 := f_and (v + f_ushr v 4) 252645135
def bc4 (v : Int32) : Int32 := v + f_ushr v 8
def bc5 (v : Int32) : Int32 := v + f_ushr v 16
theorem bc_all : ∀ j, j < 1024 → f_and (bc5 (bc4 (bc3 (bc2 (bc1 (nI j)))))) 63 = pc (nI j) := by decide +kernel
section BitC
variable {d : Nat} {h : am_H} {k : Int32 → am_H → Prop}
theorem J_bitCount {s : Int32} (hs : s10 s) (hk : k (pc s) h) : Rn d n_J13_bitCount 0 [am_i s] [] h (kI k) := by
  obtain ⟨j, hj, rfl⟩ := s10_nat hs
  rw [← bc_all j hj] at hk
  refine rw_iload f_J13_bitCount_0 rfl ?_
  refine rw_iload f_J13_bitCount_1 rfl ?_
  refine rw_const f_J13_bitCount_2 ?_
  refine rw_bin f_J13_bitCount_3 ?_
  refine rw_const f_J13_bitCount_4 ?_
  refine rw_iand f_J13_bitCount_7 ?_
  refine rw_isub f_J13_bitCount_8 ?_
  refine rw_istore f_J13_bitCount_9 rfl rfl ?_
  refine rw_iload f_J13_bitCount_10 rfl ?_
  refine rw_const f_J13_bitCount_11 ?_
  refine rw_iand f_J13_bitCount_14 ?_
  refine rw_iload f_J13_bitCount_15 rfl ?_
  refine rw_const f_J13_bitCount_16 ?_
  refine rw_bin f_J13_bitCount_17 ?_
  refine rw_const f_J13_bitCount_18 ?_
  refine rw_iand f_J13_bitCount_21 ?_
  refine rw_iadd f_J13_bitCount_22 ?_
  refine rw_istore f_J13_bitCount_23 rfl rfl ?_
  refine rw_iload f_J13_bitCount_24 rfl ?_
  refine rw_iload f_J13_bitCount_25 rfl ?_
  refine rw_const f_J13_bitCount_26 ?_
  refine rw_bin f_J13_bitCount_27 ?_
  refine rw_iadd f_J13_bitCount_28 ?_
  refine rw_const f_J13_bitCount_29 ?_
  refine rw_iand f_J13_bitCount_32 ?_
  refine rw_istore f_J13_bitCount_33 rfl rfl ?_
  refine rw_iload f_J13_bitCount_34 rfl ?_
  refine rw_iload f_J13_bitCount_35 rfl ?_
  refine rw_const f_J13_bitCount_36 ?_
  refine rw_bin f_J13_bitCount_38 ?_
  refine rw_iadd f_J13_bitCount_39 ?_
  refine rw_istore f_J13_bitCount_40 rfl rfl ?_
  refine rw_iload f_J13_bitCount_41 rfl ?_
  refine rw_iload f_J13_bitCount_42 rfl ?_
  refine rw_const f_J13_bitCount_43 ?_
  refine rw_bin f_J13_bitCount_45 ?_
  refine rw_iadd f_J13_bitCount_46 ?_
  refine rw_istore f_J13_bitCount_47 rfl rfl ?_
  refine rw_iload f_J13_bitCount_48 rfl ?_
  refine rw_const f_J13_bitCount_49 ?_
  refine rw_iand f_J13_bitCount_51 ?_
  refine rw_iret f_J13_bitCount_52 ?_
  exact hk
end BitC
