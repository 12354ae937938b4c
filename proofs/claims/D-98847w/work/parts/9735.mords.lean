/-! THE MODEL: orders of deeds -/
section MOrds
variable {d : Nat} {h : am_H} {m : Nat} {V W : am_M} {k : Int32 → am_H → Prop} {nM nD nB nA nU nT nL : Nat} {man bd : Int32}
theorem m_doneOn (hW : MW h m) (h0 : ¬ V 0 60 = 0) {e : Int32} (hk : k (oDay V (V 0 80) e) (mh h m V)) : Rn d n_X9_doneOn 0 [am_r m, am_i e] [] (mh h m V) (kI k) := by
  refine rw_aload f_X9_doneOn_0 rfl ?_
  refine rm_getI f_X9_doneOn_1 hW ?_
  refine rw_iload f_X9_doneOn_4 rfl ?_
  refine rw_const f_X9_doneOn_5 ?_
  refine rw_isub f_X9_doneOn_6 ?_
  refine rw_aload f_X9_doneOn_7 rfl ?_
  refine rm_getI f_X9_doneOn_8 hW ?_
  refine rw_idiv f_X9_doneOn_11 h0 ?_
  refine rw_iadd f_X9_doneOn_12 ?_
  refine rw_iret f_X9_doneOn_13 ?_
  exact hk
theorem m_isForbidden (hW : MW h m) (hB : V 0 58 = nI nB) (hB10 : nB ≤ 10) {e : Nat} {dy : Int32} (hk : k (bI (oForb V nB man e dy)) (mh h m V)) : Rn (d + 1) n_X9_isForbidden 0 [am_r m, am_i man, am_i (nI e), am_i dy, am_u, am_u] [] (mh h m V) (kI k) := by
  unfold oForb at hk
  refine rw_const f_X9_isForbidden_0 ?_
  refine rw_istore f_X9_isForbidden_1 rfl rfl ?_
  refine rw_const f_X9_isForbidden_3 ?_
  refine rw_istore f_X9_isForbidden_4 rfl rfl ?_
  refine rn_for (N := nB) (fun b => [am_r m, am_i man, am_i (nI e), am_i dy, am_i (bI (anyB (fun b => oMt V man e dy b && decide (V 33 b = 0)) b)), am_i (nI b)]) (fun _ => mh h m V) (fun b hb ih => ?_) ?_
  · have ih' : ∀ v, v = bI (anyB (fun b => oMt V man e dy b && decide (V 33 b = 0)) b || (oMt V man e dy b && decide (V 33 b = 0))) → Rn (d + 1) n_X9_isForbidden 6 [am_r m, am_i man, am_i (nI e), am_i dy, am_i v, am_i (nI (b + 1))] [] (mh h m V) (kI k) := fun v hv => by rw [hv]; exact ih
    clear ih
    generalize anyB (fun b => oMt V man e dy b && decide (V 33 b = 0)) b = A at ih' ⊢
    refine rw_iload f_X9_isForbidden_6 rfl ?_
    refine rw_aload f_X9_isForbidden_8 rfl ?_
    refine rm_getI f_X9_isForbidden_9 hW ?_
    rw [hB]
    refine rw_icmpF f_X9_isForbidden_12 (decide_eq_false (nI_ge hb (by omega))) ?_
    refine rw_iload f_X9_isForbidden_15 rfl ?_
    first | refine rw_ne0B f_X9_isForbidden_17 (fun c1 => ?_) (fun c1 => ?_) | refine rw_ne0 f_X9_isForbidden_17 (fun c1 => ?_) (fun c1 => ?_)
    · refine rw_const f_X9_isForbidden_72 ?_
      refine rw_goto f_X9_isForbidden_73 ?_
      refine rw_istore f_X9_isForbidden_77 rfl rfl ?_
      refine rw_iinc f_X9_isForbidden_79 rfl rfl ?_
      refine rw_goto f_X9_isForbidden_82 ?_
      rw [nI_1']
      first | exact ih' _ (by simp [oMt, c1, bI]) | (simp only [Int32.not_lt] at *; exact ih' _ (by simp [oMt, c1, bI])) | (simp only [← Int32.not_le] at *; exact ih' _ (by simp [oMt, c1, bI]))
    · refine rw_aload f_X9_isForbidden_20 rfl ?_
      refine rw_iload f_X9_isForbidden_21 rfl ?_
      refine rw_callV f_X9_isForbidden_23 rfl hW.1 hW.2.1 rfl rfl rfl rfl (rn_ki (m_isOn hW (by omega) ?_))
      first | refine rw_eq0B f_X9_isForbidden_26 (fun c2 => ?_) (fun c2 => ?_) | refine rw_eq0 f_X9_isForbidden_26 (fun c2 => ?_) (fun c2 => ?_)
      · refine rw_const f_X9_isForbidden_76 ?_
        refine rw_istore f_X9_isForbidden_77 rfl rfl ?_
        refine rw_iinc f_X9_isForbidden_79 rfl rfl ?_
        refine rw_goto f_X9_isForbidden_82 ?_
        rw [nI_1']
        first | exact ih' _ (by simp [oMt, c1, c2, bI]) | (simp only [Int32.not_lt] at *; exact ih' _ (by simp [oMt, c1, c2, bI])) | (simp only [← Int32.not_le] at *; exact ih' _ (by simp [oMt, c1, c2, bI]))
      · refine rw_aload f_X9_isForbidden_29 rfl ?_
        refine rm_getR f_X9_isForbidden_30 hW rfl ?_
        refine rw_iload f_X9_isForbidden_33 rfl ?_
        refine rm_xald f_X9_isForbidden_35 hW (by exact rfl) rfl (by omega) ?_
        refine rw_iload f_X9_isForbidden_36 rfl ?_
        refine rw_ne f_X9_isForbidden_37 (fun c3 => ?_) (fun c3 => ?_)
        · refine rw_const f_X9_isForbidden_76 ?_
          refine rw_istore f_X9_isForbidden_77 rfl rfl ?_
          refine rw_iinc f_X9_isForbidden_79 rfl rfl ?_
          refine rw_goto f_X9_isForbidden_82 ?_
          rw [nI_1']
          first | exact ih' _ (by simp [oMt, c1, c2, c3, bI]) | (simp only [Int32.not_lt] at *; exact ih' _ (by simp [oMt, c1, c2, c3, bI])) | (simp only [← Int32.not_le] at *; exact ih' _ (by simp [oMt, c1, c2, c3, bI]))
        · refine rw_aload f_X9_isForbidden_40 rfl ?_
          refine rm_getR f_X9_isForbidden_41 hW rfl ?_
          refine rw_iload f_X9_isForbidden_44 rfl ?_
          refine rm_xald f_X9_isForbidden_46 hW (by exact rfl) rfl (by omega) ?_
          refine rw_iload f_X9_isForbidden_47 rfl ?_
          refine rw_ne f_X9_isForbidden_48 (fun c4 => ?_) (fun c4 => ?_)
          · refine rw_const f_X9_isForbidden_76 ?_
            refine rw_istore f_X9_isForbidden_77 rfl rfl ?_
            refine rw_iinc f_X9_isForbidden_79 rfl rfl ?_
            refine rw_goto f_X9_isForbidden_82 ?_
            rw [nI_1']
            first | exact ih' _ (by simp [oMt, c1, c2, c3, c4, bI]) | (simp only [Int32.not_lt] at *; exact ih' _ (by simp [oMt, c1, c2, c3, c4, bI])) | (simp only [← Int32.not_le] at *; exact ih' _ (by simp [oMt, c1, c2, c3, c4, bI]))
          · refine rw_aload f_X9_isForbidden_51 rfl ?_
            refine rm_getR f_X9_isForbidden_52 hW rfl ?_
            refine rw_iload f_X9_isForbidden_55 rfl ?_
            refine rm_xald f_X9_isForbidden_57 hW (by exact rfl) rfl (by omega) ?_
            first | refine rw_ne0B f_X9_isForbidden_58 (fun c5 => ?_) (fun c5 => ?_) | refine rw_ne0 f_X9_isForbidden_58 (fun c5 => ?_) (fun c5 => ?_)
            · refine rw_const f_X9_isForbidden_76 ?_
              refine rw_istore f_X9_isForbidden_77 rfl rfl ?_
              refine rw_iinc f_X9_isForbidden_79 rfl rfl ?_
              refine rw_goto f_X9_isForbidden_82 ?_
              rw [nI_1']
              first | exact ih' _ (by simp [oMt, c1, c2, c3, c4, c5, bI]) | (simp only [Int32.not_lt] at *; exact ih' _ (by simp [oMt, c1, c2, c3, c4, c5, bI])) | (simp only [← Int32.not_le] at *; exact ih' _ (by simp [oMt, c1, c2, c3, c4, c5, bI]))
            · refine rw_aload f_X9_isForbidden_61 rfl ?_
              refine rm_getR f_X9_isForbidden_62 hW rfl ?_
              refine rw_iload f_X9_isForbidden_65 rfl ?_
              refine rm_xald f_X9_isForbidden_67 hW (by exact rfl) rfl (by omega) ?_
              refine rw_iload f_X9_isForbidden_68 rfl ?_
              refine rw_lt f_X9_isForbidden_69 (fun c6 => ?_) (fun c6 => ?_)
              · refine rw_const f_X9_isForbidden_76 ?_
                refine rw_istore f_X9_isForbidden_77 rfl rfl ?_
                refine rw_iinc f_X9_isForbidden_79 rfl rfl ?_
                refine rw_goto f_X9_isForbidden_82 ?_
                rw [nI_1']
                first | exact ih' _ (by simp [oMt, c1, c2, c3, c4, c5, c6, bI]) | (simp only [Int32.not_lt] at *; exact ih' _ (by simp [oMt, c1, c2, c3, c4, c5, c6, bI])) | (simp only [← Int32.not_le] at *; exact ih' _ (by simp [oMt, c1, c2, c3, c4, c5, c6, bI]))
              · refine rw_const f_X9_isForbidden_72 ?_
                refine rw_goto f_X9_isForbidden_73 ?_
                refine rw_istore f_X9_isForbidden_77 rfl rfl ?_
                refine rw_iinc f_X9_isForbidden_79 rfl rfl ?_
                refine rw_goto f_X9_isForbidden_82 ?_
                rw [nI_1']
                first | exact ih' _ (by simp [oMt, c1, c2, c3, c4, c5, c6, bI]) | (simp only [Int32.not_lt] at *; exact ih' _ (by simp [oMt, c1, c2, c3, c4, c5, c6, bI])) | (simp only [← Int32.not_le] at *; exact ih' _ (by simp [oMt, c1, c2, c3, c4, c5, c6, bI]))
  · refine rw_iload f_X9_isForbidden_6 rfl ?_
    refine rw_aload f_X9_isForbidden_8 rfl ?_
    refine rm_getI f_X9_isForbidden_9 hW ?_
    rw [hB]
    refine rw_icmpT f_X9_isForbidden_12 (decide_eq_true (Int32.le_refl _)) ?_
    refine rw_iload f_X9_isForbidden_85 rfl ?_
    refine rw_zret f_X9_isForbidden_87 (by first | exact Or.inl rfl | exact Or.inr rfl | exact bI_01 _ | assumption) ?_
    exact hk
theorem m_keptOf (hW : MW h m) (hB : V 0 58 = nI nB) (hB10 : nB ≤ 10) {e : Nat} {dy : Int32} (hk : k (oKept V nB man e dy) (mh h m V)) : Rn (d + 1) n_X9_keptOf 0 [am_r m, am_i man, am_i (nI e), am_i dy, am_u, am_u] [] (mh h m V) (kI k) := by
  unfold oKept at hk
  refine rw_const f_X9_keptOf_0 ?_
  refine rw_istore f_X9_keptOf_1 rfl rfl ?_
  refine rw_const f_X9_keptOf_3 ?_
  refine rw_istore f_X9_keptOf_4 rfl rfl ?_
  refine rn_for (N := nB) (fun b => [am_r m, am_i man, am_i (nI e), am_i dy, am_i (bs (fun b => oMt V man e dy b && !decide (V 33 b = 0)) b), am_i (nI b)]) (fun _ => mh h m V) (fun b hb ih => ?_) ?_
  · refine rw_iload f_X9_keptOf_6 rfl ?_
    refine rw_aload f_X9_keptOf_8 rfl ?_
    refine rm_getI f_X9_keptOf_9 hW ?_
    rw [hB]
    refine rw_icmpF f_X9_keptOf_12 (decide_eq_false (nI_ge hb (by omega))) ?_
    refine rw_iload f_X9_keptOf_15 rfl ?_
    refine rw_aload f_X9_keptOf_17 rfl ?_
    refine rw_iload f_X9_keptOf_18 rfl ?_
    refine rw_callV f_X9_keptOf_20 rfl hW.1 hW.2.1 rfl rfl rfl rfl (rn_ki (m_isOn hW (by omega) ?_))
    first | refine rw_eq0B f_X9_keptOf_23 (fun c1 => ?_) (fun c1 => ?_) | refine rw_eq0 f_X9_keptOf_23 (fun c1 => ?_) (fun c1 => ?_)
    · refine rw_const f_X9_keptOf_73 ?_
      refine rw_callS f_X9_keptOf_74 rfl rfl rfl (rn_ki (M_truthX (by first | exact Or.inl rfl | exact Or.inr rfl | exact bI_01 _) ?_))
      refine rw_iload f_X9_keptOf_77 rfl ?_
      refine rw_ishl f_X9_keptOf_79 ?_
      refine rw_ior f_X9_keptOf_80 ?_
      refine rw_istore f_X9_keptOf_81 rfl rfl ?_
      refine rw_iinc f_X9_keptOf_83 rfl rfl ?_
      refine rw_goto f_X9_keptOf_86 ?_
      rw [nI_1']
      simp only [decide_eq_true_eq, decide_eq_false_iff_not] at c1
      rw [bs_step (by simp [oMt, c1, bI])]
      exact ih
    · refine rw_aload f_X9_keptOf_26 rfl ?_
      refine rm_getR f_X9_keptOf_27 hW rfl ?_
      refine rw_iload f_X9_keptOf_30 rfl ?_
      refine rm_xald f_X9_keptOf_32 hW (by exact rfl) rfl (by omega) ?_
      refine rw_iload f_X9_keptOf_33 rfl ?_
      refine rw_ne f_X9_keptOf_34 (fun c2 => ?_) (fun c2 => ?_)
      · refine rw_const f_X9_keptOf_73 ?_
        refine rw_callS f_X9_keptOf_74 rfl rfl rfl (rn_ki (M_truthX (by first | exact Or.inl rfl | exact Or.inr rfl | exact bI_01 _) ?_))
        refine rw_iload f_X9_keptOf_77 rfl ?_
        refine rw_ishl f_X9_keptOf_79 ?_
        refine rw_ior f_X9_keptOf_80 ?_
        refine rw_istore f_X9_keptOf_81 rfl rfl ?_
        refine rw_iinc f_X9_keptOf_83 rfl rfl ?_
        refine rw_goto f_X9_keptOf_86 ?_
        rw [nI_1']
        simp only [decide_eq_true_eq, decide_eq_false_iff_not] at c1
        rw [bs_step (by simp [oMt, c1, c2, bI])]
        exact ih
      · refine rw_aload f_X9_keptOf_37 rfl ?_
        refine rm_getR f_X9_keptOf_38 hW rfl ?_
        refine rw_iload f_X9_keptOf_41 rfl ?_
        refine rm_xald f_X9_keptOf_43 hW (by exact rfl) rfl (by omega) ?_
        refine rw_iload f_X9_keptOf_44 rfl ?_
        refine rw_ne f_X9_keptOf_45 (fun c3 => ?_) (fun c3 => ?_)
        · refine rw_const f_X9_keptOf_73 ?_
          refine rw_callS f_X9_keptOf_74 rfl rfl rfl (rn_ki (M_truthX (by first | exact Or.inl rfl | exact Or.inr rfl | exact bI_01 _) ?_))
          refine rw_iload f_X9_keptOf_77 rfl ?_
          refine rw_ishl f_X9_keptOf_79 ?_
          refine rw_ior f_X9_keptOf_80 ?_
          refine rw_istore f_X9_keptOf_81 rfl rfl ?_
          refine rw_iinc f_X9_keptOf_83 rfl rfl ?_
          refine rw_goto f_X9_keptOf_86 ?_
          rw [nI_1']
          simp only [decide_eq_true_eq, decide_eq_false_iff_not] at c1
          rw [bs_step (by simp [oMt, c1, c2, c3, bI])]
          exact ih
        · refine rw_aload f_X9_keptOf_48 rfl ?_
          refine rm_getR f_X9_keptOf_49 hW rfl ?_
          refine rw_iload f_X9_keptOf_52 rfl ?_
          refine rm_xald f_X9_keptOf_54 hW (by exact rfl) rfl (by omega) ?_
          first | refine rw_eq0B f_X9_keptOf_55 (fun c4 => ?_) (fun c4 => ?_) | refine rw_eq0 f_X9_keptOf_55 (fun c4 => ?_) (fun c4 => ?_)
          · refine rw_const f_X9_keptOf_73 ?_
            refine rw_callS f_X9_keptOf_74 rfl rfl rfl (rn_ki (M_truthX (by first | exact Or.inl rfl | exact Or.inr rfl | exact bI_01 _) ?_))
            refine rw_iload f_X9_keptOf_77 rfl ?_
            refine rw_ishl f_X9_keptOf_79 ?_
            refine rw_ior f_X9_keptOf_80 ?_
            refine rw_istore f_X9_keptOf_81 rfl rfl ?_
            refine rw_iinc f_X9_keptOf_83 rfl rfl ?_
            refine rw_goto f_X9_keptOf_86 ?_
            rw [nI_1']
            simp only [decide_eq_true_eq, decide_eq_false_iff_not] at c1
            rw [bs_step (by simp [oMt, c1, c2, c3, c4, bI])]
            exact ih
          · refine rw_aload f_X9_keptOf_58 rfl ?_
            refine rm_getR f_X9_keptOf_59 hW rfl ?_
            refine rw_iload f_X9_keptOf_62 rfl ?_
            refine rm_xald f_X9_keptOf_64 hW (by exact rfl) rfl (by omega) ?_
            refine rw_iload f_X9_keptOf_65 rfl ?_
            refine rw_lt f_X9_keptOf_66 (fun c5 => ?_) (fun c5 => ?_)
            · refine rw_const f_X9_keptOf_73 ?_
              refine rw_callS f_X9_keptOf_74 rfl rfl rfl (rn_ki (M_truthX (by first | exact Or.inl rfl | exact Or.inr rfl | exact bI_01 _) ?_))
              refine rw_iload f_X9_keptOf_77 rfl ?_
              refine rw_ishl f_X9_keptOf_79 ?_
              refine rw_ior f_X9_keptOf_80 ?_
              refine rw_istore f_X9_keptOf_81 rfl rfl ?_
              refine rw_iinc f_X9_keptOf_83 rfl rfl ?_
              refine rw_goto f_X9_keptOf_86 ?_
              rw [nI_1']
              simp only [decide_eq_true_eq, decide_eq_false_iff_not] at c1
              rw [bs_step (by simp [oMt, c1, c2, c3, c4, c5, bI])]
              exact ih
            · refine rw_const f_X9_keptOf_69 ?_
              refine rw_goto f_X9_keptOf_70 ?_
              refine rw_callS f_X9_keptOf_74 rfl rfl rfl (rn_ki (M_truthX (by first | exact Or.inl rfl | exact Or.inr rfl | exact bI_01 _) ?_))
              refine rw_iload f_X9_keptOf_77 rfl ?_
              refine rw_ishl f_X9_keptOf_79 ?_
              refine rw_ior f_X9_keptOf_80 ?_
              refine rw_istore f_X9_keptOf_81 rfl rfl ?_
              refine rw_iinc f_X9_keptOf_83 rfl rfl ?_
              refine rw_goto f_X9_keptOf_86 ?_
              rw [nI_1']
              simp only [decide_eq_true_eq, decide_eq_false_iff_not] at c1
              rw [bs_step (by simp [oMt, c1, c2, c3, c4, c5, bI])]
              exact ih
  · refine rw_iload f_X9_keptOf_6 rfl ?_
    refine rw_aload f_X9_keptOf_8 rfl ?_
    refine rm_getI f_X9_keptOf_9 hW ?_
    rw [hB]
    refine rw_icmpT f_X9_keptOf_12 (decide_eq_true (Int32.le_refl _)) ?_
    refine rw_iload f_X9_keptOf_89 rfl ?_
    refine rw_iret f_X9_keptOf_91 ?_
    exact hk
/-- scratch of orders -/
def osc (a j : Nat) : Prop := (38 ≤ a ∧ a ≤ 41) ∨ a = 43 ∨ (a = 0 ∧ 79 ≤ j ∧ j ≤ 83)
def So (V W : am_M) : Prop := ∀ a j, ¬ osc a j → W a j = V a j
theorem So.refl : So V V := fun _ _ _ => rfl
theorem So.tr {V1 V2 : am_M} (p : So V V1) (q : So V1 V2) : So V V2 := fun a j e => (q a j e).trans (p a j e)
theorem So.up {a k : Nat} {v : Int32} (p : So V W) (e : osc a k) : So V (am_up W a k v) := fun b j r => by
  rw [up_ne (fun z => r (by rw [z.1, z.2]; exact e))]
  exact p b j r
theorem rel_osc {a j : Nat} (e : relV a j = true) : ¬ osc a j := by
  revert e
  unfold relV osc
  simp only [List.contains_cons, List.contains_nil, Bool.or_eq_true, Bool.and_eq_true, beq_iff_eq, Nat.beq_eq, Bool.or_false, Bool.false_eq_true, or_false]
  intro e
  omega
theorem So.eqv (p : So V W) : Eqv V W := fun a j e => p a j (rel_osc e)
theorem So.reg (p : So V W) : ∀ a j, regA a j = true → W a j = V a j := p.eqv.reg
theorem So.now (p : So V W) : ∀ j, W 34 j = V 34 j := fun j => p _ _ (by unfold osc; omega)
/-- the orders at hand, one below another -/
def PO (W : am_M) : List ord → Prop
  | [] => True
  | o :: P => W 39 P.length = o.2.1 ∧ W 40 P.length = o.2.2 ∧ (∀ i e, o.1[i]? = some e → W 38 i = nI e) ∧ PO W P
/-- all of the orders at hand -/
def POs (V W : am_M) (nB nD : Nat) (man bd : Int32) (o : ord) (P : List ord) : Prop := So V W ∧ Pth V nB nD man bd (o :: P) ∧ PO W (o :: P) ∧ W 0 79 = nI P.length ∧ W 0 80 = bd
/-- what putting changes -/
def OpM (W W' : am_M) : Prop := ∀ a j, ¬ (a = 38 ∨ a = 39 ∨ a = 40 ∨ (a = 0 ∧ j = 79)) → W' a j = W a j
theorem OpM.refl : OpM W W := fun _ _ _ => rfl
theorem OpM.tr {V1 V2 : am_M} (p : OpM V V1) (q : OpM V1 V2) : OpM V V2 := fun a j e => (q a j e).trans (p a j e)
theorem OpM.up {V W : am_M} {a k : Nat} {v : Int32} (p : OpM V W) (e : a = 38 ∨ a = 39 ∨ a = 40 ∨ (a = 0 ∧ k = 79)) : OpM V (am_up W a k v) := fun b j r => by
  rw [up_ne (fun z => r (by rw [z.1, z.2]; exact e))]
  exact p b j r
theorem Pth_pre {o : ord} {P : List ord} (h : Pth V nB nD man bd (o :: P)) : ∀ q ∈ P, ∃ x, o.1 = q.1 ++ x := by
  induction P generalizing o with
  | nil => intro q hq; cases hq
  | cons p P ih =>
    obtain ⟨⟨e, he, hc⟩, h2⟩ := h
    intro q hq
    rw [List.mem_cons] at hq
    rcases hq with hq | hq
    · exact ⟨[e], by rw [hq]; exact (child_some hc).2.1⟩
    · obtain ⟨x, hx⟩ := ih h2 q hq
      exact ⟨x ++ [e], by rw [(child_some hc).2.1, hx, List.append_assoc]⟩
/-- orders below, behind a put -/
theorem PO_put {P : List ord} {n e : Nat} {v w : Int32} (h : PO W P) (hn : P.length ≤ n) (hl : ∀ q ∈ P, q.1.length < n) : PO (am_up (am_up (am_up W 38 (n - 1) (nI e)) 39 n v) 40 n w) P := by
  induction P with
  | nil => trivial
  | cons q P ih =>
    obtain ⟨h1, h2, h3, h4⟩ := h
    rw [List.length_cons] at hn
    refine ⟨?_, ?_, fun i e' hi => ?_, ih h4 (by omega) (fun q hq => hl q (List.mem_cons_of_mem _ hq))⟩
    · rw [up_row (by decide), up_at, if_neg (by omega), up_row (by decide)]; exact h1
    · rw [up_at, if_neg (by omega), up_row (by decide), up_row (by decide)]; exact h2
    · have := hl q List.mem_cons_self
      have hi2 : i < q.1.length := by
        apply Classical.byContradiction
        intro c
        rw [List.getElem?_eq_none (by omega)] at hi
        cases hi
      rw [up_row (by decide), up_row (by decide), up_at, if_neg (by omega)]; exact h3 i e' hi
theorem PO_o0 {P : List ord} {j : Nat} {v : Int32} (h : PO W P) : PO (am_up W 0 j v) P := by
  induction P with
  | nil => trivial
  | cons q P ih =>
    obtain ⟨h1, h2, h3, h4⟩ := h
    exact ⟨by rw [up_row (by decide)]; exact h1, by rw [up_row (by decide)]; exact h2, fun i e hi => by rw [up_row (by decide)]; exact h3 i e hi, ih h4⟩
theorem PO_row {P : List ord} {a j : Nat} {v : Int32} (ha : 40 < a) (h : PO W P) : PO (am_up W a j v) P := by
  induction P with
  | nil => trivial
  | cons q P ih =>
    obtain ⟨h1, h2, h3, h4⟩ := h
    exact ⟨by rw [up_row (by omega)]; exact h1, by rw [up_row (by omega)]; exact h2, fun i e hi => by rw [up_row (by omega)]; exact h3 i e hi, ih h4⟩
theorem PO_eq {X : am_M} {P : List ord} (e : ∀ a j, (38 ≤ a ∧ a ≤ 40) → X a j = W a j) (h : PO W P) : PO X P := by
  induction P with
  | nil => trivial
  | cons q P ih =>
    obtain ⟨h1, h2, h3, h4⟩ := h
    exact ⟨by rw [e _ _ (by omega)]; exact h1, by rw [e _ _ (by omega)]; exact h2, fun i x hi => by rw [e _ _ (by omega)]; exact h3 i x hi, ih h4⟩
theorem Pth_len {o : ord} {P : List ord} (h : Pth V nB nD man bd (o :: P)) : P.length ≤ nD := by
  have := (Pth_ok h)
  have := this.1.1
  omega
theorem Pth_short {o : ord} {P : List ord} (h : Pth V nB nD man bd (o :: P)) : ∀ q ∈ o :: P, q.1.length ≤ P.length := by
  intro q hq
  have e := (Pth_ok h).2
  rw [List.mem_cons] at hq
  rcases hq with hq | hq
  · rw [hq]; omega
  · obtain ⟨x, hx⟩ := Pth_pre h q hq
    have := congrArg List.length hx
    rw [List.length_append] at this
    omega
theorem m_canPut (hW : MW h m) (hB : WB V nM nD nB) {o : ord} {P : List ord} (hp : POs V W nB nD man bd o P) {e : Nat} (he : e < nD) (hk0 : child V nB man bd o e = none → k 0 (mh h m W)) (hk1 : ∀ c, child V nB man bd o e = some c → ∀ X, OpM W X → POs V X nB nD man bd c (o :: P) → k 1 (mh h m X)) : Rn (d + 2) n_X9_canPut 0 [am_r m, am_i man, am_i (nI e), am_u] [] (mh h m W) (kI k) := by
  obtain ⟨so, pth, po, om, eb⟩ := hp
  have hB' : WB W nM nD nB := WB_V so.reg hB
  obtain ⟨⟨fM, fM6, fD, fD6, fB, fB10⟩, fO, ⟨⟨hh, hh0, hh24, ehh⟩, -⟩, -⟩ := hB'
  obtain ⟨p1, p2, p3, p4⟩ := po
  have lo := (Pth_ok pth).2
  have ln := Pth_len pth
  have h0 : ¬ W 0 60 = 0 := by rw [ehh]; exact nI_ne0 hh0 (by omega)
  have el : ∀ i, i < P.length → ∃ x, o.1[i]? = some x := fun i hi => ⟨o.1[i]'(by omega), List.getElem?_eq_getElem (by omega)⟩
  have eo : ∀ i x, o.1[i]? = some x → x < nD := fun i x hx => (Pth_ok pth).1.2 x (List.mem_of_getElem? hx)
  rw [← child_V (V' := W) so.reg so.now] at hk0
  have hk1' : ∀ c, child W nB man bd o e = some c → ∀ X, OpM W X → POs V X nB nD man bd c (o :: P) → k 1 (mh h m X) := fun c hc => hk1 c (by rw [← hc]; exact (child_V (V' := W) so.reg so.now o e).symm)
  unfold child at hk0 hk1'
  have rest : o.1.contains e = false → Rn (d + 2) n_X9_canPut 28 [am_r m, am_i man, am_i (nI e), am_i (nI P.length)] [] (mh h m W) (kI k) := by
    intro hc
    rw [if_neg (by rw [hc]; decide)] at hk0 hk1'
    have hlt : P.length < nD := by
      have := fc_pos he hc
      have := (Pth_ok pth).1.1
      omega
    have put : oForb W nB man e (oDay W bd (o.2.1 + W 18 e)) = false → k 1 (mh h m (am_up (am_up (am_up (am_up W 38 P.length (nI e)) 39 (P.length + 1) (o.2.1 + W 18 e)) 40 (P.length + 1) (o.2.2 ||| oKept W nB man e (oDay W bd (o.2.1 + W 18 e)))) 0 79 (nI (P.length + 1)))) := by
      intro hf
      have hf' : ¬ oForb W nB man e (oDay W bd (o.2.1 + W 18 e)) = true := by rw [hf]; decide
      rw [if_neg hf'] at hk0 hk1'
      have hch : child V nB man bd o e = some (o.1 ++ [e], o.2.1 + W 18 e, o.2.2 ||| oKept W nB man e (oDay W bd (o.2.1 + W 18 e))) := by
        rw [← child_V (V' := W) so.reg so.now]
        unfold child
        rw [if_neg (by rw [hc]; decide), if_neg hf']
      refine hk1' _ rfl _ ((((OpM.refl.up (Or.inl rfl)).up (Or.inr (Or.inl rfl))).up (Or.inr (Or.inr (Or.inl rfl)))).up (Or.inr (Or.inr (Or.inr ⟨rfl, rfl⟩)))) ⟨?_, ⟨⟨e, he, hch⟩, pth⟩, ?_, ?_, ?_⟩
      · exact (((so.up (by unfold osc; omega)).up (by unfold osc; omega)).up (by unfold osc; omega)).up (by unfold osc; omega)
      · refine PO_o0 ⟨?_, ?_, fun i x hi => ?_, ?_⟩
        · rw [up_row (by decide), List.length_cons, up_at, if_pos rfl]
        · rw [List.length_cons, up_at, if_pos rfl]
        · rw [up_row (by decide), up_row (by decide), up_at]
          by_cases c : i = P.length
          · rw [if_pos c]
            rw [c, ← lo, List.getElem?_concat_length] at hi
            cases hi; rfl
          · rw [if_neg c]
            have hi2 : i < o.1.length := by
              apply Classical.byContradiction
              intro c2
              rw [List.getElem?_eq_none (by rw [List.length_append, List.length_singleton]; omega)] at hi
              cases hi
            rw [List.getElem?_append_left hi2] at hi
            exact p3 i x hi
        · have := PO_put (W := W) (P := o :: P) (n := P.length + 1) (e := e) (v := o.2.1 + W 18 e) (w := o.2.2 ||| oKept W nB man e (oDay W bd (o.2.1 + W 18 e))) ⟨p1, p2, p3, p4⟩ (by rw [List.length_cons]; omega) (fun q hq => by have := Pth_short pth q hq; omega)
          rw [Nat.add_sub_cancel] at this
          exact this
      · rw [up_same, List.length_cons]
      · rw [up_ne (by decide), up_row (by decide), up_row (by decide), up_row (by decide)]; exact eb
    refine rw_aload f_X9_canPut_28 rfl ?_
    refine rm_getR f_X9_canPut_29 hW rfl ?_
    refine rw_aload f_X9_canPut_32 rfl ?_
    refine rm_getI f_X9_canPut_33 hW ?_
    rw [om]
    refine rm_xald (j := P.length) f_X9_canPut_36 hW (by exact rfl) (by first | rfl | exact nI_addl _ _ | (simp only [nI, Int32.ofNat_add, Int32.ofNat_mul]; rfl) | (simp only [nI_addl, nI_mull, nI_lit, nI_1']; done) | (simp only [nI_1, nI_0, nI_addl, nI_mull, ← nI_succ]; rfl)) (by omega) ?_
    refine rw_aload f_X9_canPut_37 rfl ?_
    refine rm_getR f_X9_canPut_38 hW rfl ?_
    refine rw_iload f_X9_canPut_41 rfl ?_
    refine rm_xald f_X9_canPut_42 hW (by exact rfl) rfl (by omega) ?_
    rw [p1]
    refine rw_iadd f_X9_canPut_43 ?_
    refine rw_istore f_X9_canPut_44 rfl rfl ?_
    refine rw_aload f_X9_canPut_45 rfl ?_
    refine rw_iload f_X9_canPut_46 rfl ?_
    refine rw_iload f_X9_canPut_47 rfl ?_
    refine rw_aload f_X9_canPut_48 rfl ?_
    refine rw_iload f_X9_canPut_49 rfl ?_
    refine rw_callV f_X9_canPut_50 rfl hW.1 hW.2.1 rfl rfl rfl rfl (rn_ki (m_doneOn hW h0 ?_))
    rw [eb]
    refine rw_callV f_X9_canPut_53 rfl hW.1 hW.2.1 rfl rfl rfl rfl (rn_ki (m_isForbidden hW fB fB10 ?_))
    first | refine rw_eq0B f_X9_canPut_56 (fun c1 => ?_) (fun c1 => ?_) | refine rw_eq0 f_X9_canPut_56 (fun c1 => ?_) (fun c1 => ?_)
    rotate_left
    · refine rw_const f_X9_canPut_59 ?_
      refine rw_zret f_X9_canPut_60 (by first | exact Or.inl rfl | exact Or.inr rfl | exact bI_01 _ | assumption) ?_
      exact hk0 (by rw [if_pos c1])
    refine rw_aload f_X9_canPut_61 rfl ?_
    refine rm_getR f_X9_canPut_62 hW rfl ?_
    refine rw_aload f_X9_canPut_65 rfl ?_
    refine rm_getI f_X9_canPut_66 hW ?_
    rw [om]
    refine rw_iload f_X9_canPut_69 rfl ?_
    refine rm_iast (j := P.length) f_X9_canPut_70 hW (by exact rfl) (by first | rfl | exact nI_addl _ _ | (simp only [nI, Int32.ofNat_add, Int32.ofNat_mul]; rfl) | (simp only [nI_addl, nI_mull, nI_lit, nI_1']; done) | (simp only [nI_1, nI_0, nI_addl, nI_mull, ← nI_succ]; rfl)) (by omega) ?_
    refine rw_aload f_X9_canPut_71 rfl ?_
    refine rm_getR f_X9_canPut_72 hW rfl ?_
    refine rw_aload f_X9_canPut_75 rfl ?_
    refine rm_getI f_X9_canPut_76 hW ?_
    rw [up_row (by decide), om]
    refine rw_const f_X9_canPut_79 ?_
    refine rw_iadd f_X9_canPut_80 ?_
    refine rw_iload f_X9_canPut_81 rfl ?_
    refine rm_iast (j := P.length + 1) f_X9_canPut_82 hW (by exact rfl) (by first | rfl | exact nI_addl _ _ | (simp only [nI, Int32.ofNat_add, Int32.ofNat_mul]; rfl) | (simp only [nI_addl, nI_mull, nI_lit, nI_1']; done) | (simp only [nI_1, nI_0, nI_addl, nI_mull, ← nI_succ]; rfl)) (by omega) ?_
    refine rw_aload f_X9_canPut_83 rfl ?_
    refine rm_getR f_X9_canPut_84 hW rfl ?_
    refine rw_aload f_X9_canPut_87 rfl ?_
    refine rm_getI f_X9_canPut_88 hW ?_
    rw [up_row (by decide), up_row (by decide), om]
    refine rw_const f_X9_canPut_91 ?_
    refine rw_iadd f_X9_canPut_92 ?_
    refine rw_aload f_X9_canPut_93 rfl ?_
    refine rm_getR f_X9_canPut_94 hW rfl ?_
    refine rw_aload f_X9_canPut_97 rfl ?_
    refine rm_getI f_X9_canPut_98 hW ?_
    rw [up_row (by decide), up_row (by decide), om]
    refine rm_xald (j := P.length) f_X9_canPut_101 hW (by exact rfl) (by first | rfl | exact nI_addl _ _ | (simp only [nI, Int32.ofNat_add, Int32.ofNat_mul]; rfl) | (simp only [nI_addl, nI_mull, nI_lit, nI_1']; done) | (simp only [nI_1, nI_0, nI_addl, nI_mull, ← nI_succ]; rfl)) (by omega) ?_
    rw [up_row (by decide), up_row (by decide), p2]
    refine rw_aload f_X9_canPut_102 rfl ?_
    refine rw_iload f_X9_canPut_103 rfl ?_
    refine rw_iload f_X9_canPut_104 rfl ?_
    refine rw_aload f_X9_canPut_105 rfl ?_
    refine rw_iload f_X9_canPut_106 rfl ?_
    refine rw_callV f_X9_canPut_107 rfl hW.1 hW.2.1 rfl rfl rfl rfl (rn_ki (m_doneOn hW (by rw [up_row (by decide), up_row (by decide)]; exact h0) ?_))
    refine rw_callV f_X9_canPut_110 rfl hW.1 hW.2.1 rfl rfl rfl rfl (rn_ki (m_keptOf hW (by rw [up_row (by decide), up_row (by decide)]; exact fB) fB10 ?_))
    refine rw_ior f_X9_canPut_113 ?_
    refine rm_iast (j := P.length + 1) f_X9_canPut_114 hW (by exact rfl) (by first | rfl | exact nI_addl _ _ | (simp only [nI, Int32.ofNat_add, Int32.ofNat_mul]; rfl) | (simp only [nI_addl, nI_mull, nI_lit, nI_1']; done) | (simp only [nI_1, nI_0, nI_addl, nI_mull, ← nI_succ]; rfl)) (by omega) ?_
    refine rw_aload f_X9_canPut_115 rfl ?_
    first | refine rw_dupr f_X9_canPut_116 ?_ | refine rw_dupi f_X9_canPut_116 ?_
    refine rm_getI f_X9_canPut_117 hW ?_
    rw [up_row (by decide), up_row (by decide), up_row (by decide), om]
    refine rw_const f_X9_canPut_120 ?_
    refine rw_iadd f_X9_canPut_121 ?_
    rw [nI_1']
    refine rm_putI f_X9_canPut_122 hW ?_
    skip
    have e1 : oDay (am_up (am_up W 38 P.length (nI e)) 39 (P.length + 1) (o.2.1 + W 18 e)) (W 0 80) (o.2.1 + W 18 e) = oDay W bd (o.2.1 + W 18 e) := by
      unfold oDay
      rw [up_row (by decide), up_row (by decide), eb]
    have e2 : ∀ dy, oKept (am_up (am_up W 38 P.length (nI e)) 39 (P.length + 1) (o.2.1 + W 18 e)) nB man e dy = oKept W nB man e dy := by
      intro dy
      unfold oKept oMt
      rw [up_row (by decide), up_row (by decide), up_row (by decide), up_row (by decide), up_row (by decide), up_row (by decide), up_row (by decide), up_row (by decide), up_row (by decide), up_row (by decide)]
    rw [e1, e2]
    refine rw_const f_X9_canPut_125 ?_
    refine rw_zret f_X9_canPut_126 (by first | exact Or.inl rfl | exact Or.inr rfl | exact bI_01 _ | assumption) ?_
    exact put c1
  refine rw_const f_X9_canPut_0 ?_
  refine rw_istore f_X9_canPut_1 rfl rfl ?_
  cases hc : o.1.contains e with
  | false =>
    refine rn_for (N := P.length) (fun b => [am_r m, am_i man, am_i (nI e), am_i (nI b)]) (fun _ => mh h m W) (fun b hb ih => ?_) ?_
    · obtain ⟨x, hx⟩ := el b hb
      have ne : ¬ nI x = nI e := fun z => by
        have := nI_inj (by have := eo b x hx; omega) (by omega) z
        subst this
        have : o.1.contains x = true := by simpa using List.mem_of_getElem? hx
        rw [hc] at this; cases this
      refine rw_iload f_X9_canPut_2 rfl ?_
      refine rw_aload f_X9_canPut_3 rfl ?_
      refine rm_getI f_X9_canPut_4 hW ?_
      rw [om]
      refine rw_icmpF f_X9_canPut_7 (decide_eq_false (nI_ge hb (by omega))) ?_
      refine rw_aload f_X9_canPut_10 rfl ?_
      refine rm_getR f_X9_canPut_11 hW rfl ?_
      refine rw_iload f_X9_canPut_14 rfl ?_
      refine rm_xald (j := b) f_X9_canPut_15 hW (by exact rfl) (by first | rfl | exact nI_addl _ _ | (simp only [nI, Int32.ofNat_add, Int32.ofNat_mul]; rfl) | (simp only [nI_addl, nI_mull, nI_lit, nI_1']; done) | (simp only [nI_1, nI_0, nI_addl, nI_mull, ← nI_succ]; rfl)) (by omega) ?_
      rw [p3 b x hx]
      refine rw_iload f_X9_canPut_16 rfl ?_
      refine rw_icmpT f_X9_canPut_17 (decide_eq_true ne) ?_
      refine rw_iinc f_X9_canPut_22 rfl rfl ?_
      refine rw_goto f_X9_canPut_25 ?_
      rw [nI_1']
      exact ih
    · refine rw_iload f_X9_canPut_2 rfl ?_
      refine rw_aload f_X9_canPut_3 rfl ?_
      refine rm_getI f_X9_canPut_4 hW ?_
      rw [om]
      refine rw_icmpT f_X9_canPut_7 (decide_eq_true (Int32.le_refl _)) ?_
      exact rest hc
  | true =>
    rw [if_pos hc] at hk0
    have hk0' := hk0 rfl
    have hm : e ∈ o.1 := by simpa using hc
    obtain ⟨i, hi, ei⟩ := List.getElem_of_mem hm
    have go : ∀ r b, b + r = i → Rn (d + 2) n_X9_canPut 2 [am_r m, am_i man, am_i (nI e), am_i (nI b)] [] (mh h m W) (kI k) := by
      intro r
      induction r with
      | zero =>
        intro b hb
        obtain rfl : b = i := by omega
        refine rw_iload f_X9_canPut_2 rfl ?_
        refine rw_aload f_X9_canPut_3 rfl ?_
        refine rm_getI f_X9_canPut_4 hW ?_
        rw [om]
        refine rw_icmpF f_X9_canPut_7 (decide_eq_false (nI_ge (by omega) (by omega))) ?_
        refine rw_aload f_X9_canPut_10 rfl ?_
        refine rm_getR f_X9_canPut_11 hW rfl ?_
        refine rw_iload f_X9_canPut_14 rfl ?_
        refine rm_xald (j := b) f_X9_canPut_15 hW (by exact rfl) (by first | rfl | exact nI_addl _ _ | (simp only [nI, Int32.ofNat_add, Int32.ofNat_mul]; rfl) | (simp only [nI_addl, nI_mull, nI_lit, nI_1']; done) | (simp only [nI_1, nI_0, nI_addl, nI_mull, ← nI_succ]; rfl)) (by omega) ?_
        rw [p3 b e (by rw [List.getElem?_eq_getElem hi, ei])]
        refine rw_iload f_X9_canPut_16 rfl ?_
        refine rw_icmpF f_X9_canPut_17 (by simp [c_ne]) ?_
        refine rw_const f_X9_canPut_20 ?_
        refine rw_zret f_X9_canPut_21 (by first | exact Or.inl rfl | exact Or.inr rfl | exact bI_01 _ | assumption) ?_
        exact hk0'
      | succ r ih =>
        intro b hb
        obtain ⟨x, hx⟩ := el b (by omega)
        refine rw_iload f_X9_canPut_2 rfl ?_
        refine rw_aload f_X9_canPut_3 rfl ?_
        refine rm_getI f_X9_canPut_4 hW ?_
        rw [om]
        refine rw_icmpF f_X9_canPut_7 (decide_eq_false (nI_ge (by omega) (by omega))) ?_
        refine rw_aload f_X9_canPut_10 rfl ?_
        refine rm_getR f_X9_canPut_11 hW rfl ?_
        refine rw_iload f_X9_canPut_14 rfl ?_
        refine rm_xald (j := b) f_X9_canPut_15 hW (by exact rfl) (by first | rfl | exact nI_addl _ _ | (simp only [nI, Int32.ofNat_add, Int32.ofNat_mul]; rfl) | (simp only [nI_addl, nI_mull, nI_lit, nI_1']; done) | (simp only [nI_1, nI_0, nI_addl, nI_mull, ← nI_succ]; rfl)) (by omega) ?_
        refine rw_iload f_X9_canPut_16 rfl ?_
        refine rw_ne f_X9_canPut_17 (fun c1 => ?_) (fun c1 => ?_)
        · refine rw_iinc f_X9_canPut_22 rfl rfl ?_
          refine rw_goto f_X9_canPut_25 ?_
          rw [nI_1']
          exact ih (b + 1) (by omega)
        · refine rw_const f_X9_canPut_20 ?_
          refine rw_zret f_X9_canPut_21 (by first | exact Or.inl rfl | exact Or.inr rfl | exact bI_01 _ | assumption) ?_
          exact hk0'
    exact go i 0 (by omega)
/-- the next order is laid, or there is none -/
theorem m_nextOrder (hW : MW h m) (hB : WB V nM nD nB) : ∀ {P : List ord} {o : ord} {W : am_M}, POs V W nB nD man bd o P → (∀ X, OpM W X → srch V nB nD man bd (o :: P) 0 = [] → k 0 (mh h m X)) → (∀ c Q X, OpM W X → POs V X nB nD man bd c Q → srch V nB nD man bd (o :: P) 0 = c :: srch V nB nD man bd (c :: Q) 0 → k 1 (mh h m X)) → Rn (d + 3) n_X9_nextOrder 0 [am_r m, am_i man, am_u] [] (mh h m W) (kI k) := by
  have hD6 := hB.1.2.2.2.1
  have pops : ∀ (P : List ord) (o : ord) (W : am_M) (y : am_V), POs V W nB nD man bd o P → (∀ X, OpM W X → srch V nB nD man bd (o :: P) nD = [] → k 0 (mh h m X)) → (∀ c Q X, OpM W X → POs V X nB nD man bd c Q → srch V nB nD man bd (o :: P) nD = c :: srch V nB nD man bd (c :: Q) 0 → k 1 (mh h m X)) → Rn (d + 3) n_X9_nextOrder 27 [am_r m, am_i man, y] [] (mh h m W) (kI k) := by
    intro P
    induction P with
    | nil =>
      intro o W y hp hk0 hk1
      have om := hp.2.2.2.1
      refine rw_aload f_X9_nextOrder_27 rfl ?_
      refine rm_getI f_X9_nextOrder_28 hW ?_
      rw [om]
      refine rw_ifT f_X9_nextOrder_31 (by decide) ?_
      refine rw_const f_X9_nextOrder_84 ?_
      refine rw_zret f_X9_nextOrder_85 (by first | exact Or.inl rfl | exact Or.inr rfl | exact bI_01 _ | assumption) ?_
      exact hk0 W .refl (srch_end (Nat.le_refl _))
    | cons q P ih =>
      intro o W y hp hk0 hk1
      obtain ⟨so, pth, po, om, eb⟩ := hp
      obtain ⟨⟨e, he, hc⟩, pth2⟩ := pth
      have ln := Pth_len pth2
      have lq := (Pth_ok pth2).2
      have om' : W 0 79 = nI (P.length + 1) := om
      have eo : W 38 P.length = nI e := po.2.2.1 P.length e (by rw [(child_some hc).2.1, ← lq, List.getElem?_concat_length])
      have hl : lst o = e := lst_child hc
      rw [srch_pop (Nat.le_refl _), hl] at hk0 hk1
      have so2 : POs V (am_up W 0 79 (nI P.length)) nB nD man bd q P := ⟨so.up (by unfold osc; omega), pth2, PO_o0 po.2.2.2, up_same, by rw [up_ne (by decide)]; exact eb⟩
      have fD : ∀ X, So V X → X 0 57 = nI nD := fun X sx => by rw [sx _ _ (by unfold osc; omega)]; exact hB.1.2.2.1
      have tryd : ∀ r e' , e' + r = nD → (∀ X, OpM W X → srch V nB nD man bd (q :: P) e' = [] → k 0 (mh h m X)) → (∀ c Q X, OpM W X → POs V X nB nD man bd c Q → srch V nB nD man bd (q :: P) e' = c :: srch V nB nD man bd (c :: Q) 0 → k 1 (mh h m X)) → Rn (d + 3) n_X9_nextOrder 56 [am_r m, am_i man, am_i (nI e')] [] (mh h m (am_up W 0 79 (nI P.length))) (kI k) := by
        intro r
        induction r with
        | zero =>
          intro e' he' hk0 hk1
          obtain rfl : e' = nD := by omega
          refine rw_iload f_X9_nextOrder_56 rfl ?_
          refine rw_aload f_X9_nextOrder_57 rfl ?_
          refine rm_getI f_X9_nextOrder_58 hW ?_
          rw [fD _ so2.1]
          refine rw_icmpT f_X9_nextOrder_61 (decide_eq_true (Int32.le_refl _)) ?_
          refine rw_goto f_X9_nextOrder_81 ?_
          exact ih q _ _ so2 (fun X op => hk0 X ((OpM.refl.up (Or.inr (Or.inr (Or.inr ⟨rfl, rfl⟩)))).tr op)) (fun c Q X op => hk1 c Q X ((OpM.refl.up (Or.inr (Or.inr (Or.inr ⟨rfl, rfl⟩)))).tr op))
        | succ r ihr =>
          intro e' he' hk0 hk1
          cases hch : child V nB man bd q e' with
          | none =>
            rw [srch_none (by omega) hch] at hk0 hk1
            refine rw_iload f_X9_nextOrder_56 rfl ?_
            refine rw_aload f_X9_nextOrder_57 rfl ?_
            refine rm_getI f_X9_nextOrder_58 hW ?_
            rw [fD _ so2.1]
            refine rw_icmpF f_X9_nextOrder_61 (decide_eq_false (nI_ge (by omega) (by omega))) ?_
            refine rw_aload f_X9_nextOrder_64 rfl ?_
            refine rw_iload f_X9_nextOrder_65 rfl ?_
            refine rw_iload f_X9_nextOrder_66 rfl ?_
            refine rw_callV f_X9_nextOrder_67 rfl hW.1 hW.2.1 rfl rfl rfl rfl (rn_ki (m_canPut hW hB so2 (by omega) (fun _ => ?_) (fun c hc => by rw [hch] at hc; cases hc)))
            refine rw_ifT f_X9_nextOrder_70 (by decide) ?_
            refine rw_iinc f_X9_nextOrder_75 rfl rfl ?_
            refine rw_goto f_X9_nextOrder_78 ?_
            rw [nI_1']
            exact ihr (e' + 1) (by omega) hk0 hk1
          | some c =>
            obtain ⟨s1, s2⟩ := srch_some pth2 (show e' < nD by omega) hch
            refine rw_iload f_X9_nextOrder_56 rfl ?_
            refine rw_aload f_X9_nextOrder_57 rfl ?_
            refine rm_getI f_X9_nextOrder_58 hW ?_
            rw [fD _ so2.1]
            refine rw_icmpF f_X9_nextOrder_61 (decide_eq_false (nI_ge (by omega) (by omega))) ?_
            refine rw_aload f_X9_nextOrder_64 rfl ?_
            refine rw_iload f_X9_nextOrder_65 rfl ?_
            refine rw_iload f_X9_nextOrder_66 rfl ?_
            refine rw_callV f_X9_nextOrder_67 rfl hW.1 hW.2.1 rfl rfl rfl rfl (rn_ki (m_canPut hW hB so2 (by omega) (fun z => by rw [hch] at z; cases z) (fun c' hc' X op ps => ?_)))
            refine rw_ifF f_X9_nextOrder_70 (by decide) ?_
            refine rw_const f_X9_nextOrder_73 ?_
            refine rw_zret f_X9_nextOrder_74 (by first | exact Or.inl rfl | exact Or.inr rfl | exact bI_01 _ | assumption) ?_
            rw [hch] at hc'
            cases hc'
            exact hk1 c (q :: P) X ((OpM.refl.up (Or.inr (Or.inr (Or.inr ⟨rfl, rfl⟩)))).tr op) ps s1
      refine rw_aload f_X9_nextOrder_27 rfl ?_
      refine rm_getI f_X9_nextOrder_28 hW ?_
      rw [om']
      refine rw_ifF f_X9_nextOrder_31 (decide_eq_false (nI_nle (by omega) (by omega))) ?_
      refine rw_aload f_X9_nextOrder_34 rfl ?_
      first | refine rw_dupr f_X9_nextOrder_35 ?_ | refine rw_dupi f_X9_nextOrder_35 ?_
      refine rm_getI f_X9_nextOrder_36 hW ?_
      rw [om']
      refine rw_const f_X9_nextOrder_39 ?_
      refine rw_isub f_X9_nextOrder_40 ?_
      rw [nI_pred]
      refine rm_putI f_X9_nextOrder_41 hW ?_
      refine rw_aload f_X9_nextOrder_44 rfl ?_
      refine rm_getR f_X9_nextOrder_45 hW rfl ?_
      refine rw_aload f_X9_nextOrder_48 rfl ?_
      refine rm_getI f_X9_nextOrder_49 hW ?_
      rw [up_same]
      refine rm_xald (j := P.length) f_X9_nextOrder_52 hW (by exact rfl) (by first | rfl | exact nI_addl _ _ | (simp only [nI, Int32.ofNat_add, Int32.ofNat_mul]; rfl) | (simp only [nI_addl, nI_mull, nI_lit, nI_1']; done) | (simp only [nI_1, nI_0, nI_addl, nI_mull, ← nI_succ]; rfl)) (by omega) ?_
      rw [up_row (by decide), eo]
      refine rw_const f_X9_nextOrder_53 ?_
      refine rw_iadd f_X9_nextOrder_54 ?_
      rw [nI_1']
      refine rw_istore f_X9_nextOrder_55 rfl rfl ?_
      exact tryd (nD - (e + 1)) (e + 1) (by omega) hk0 hk1
  intro P o W hp hk0 hk1
  have fD : W 0 57 = nI nD := by rw [hp.1 _ _ (by unfold osc; omega)]; exact hB.1.2.2.1
  have tryd : ∀ r e', e' + r = nD → (∀ X, OpM W X → srch V nB nD man bd (o :: P) e' = [] → k 0 (mh h m X)) → (∀ c Q X, OpM W X → POs V X nB nD man bd c Q → srch V nB nD man bd (o :: P) e' = c :: srch V nB nD man bd (c :: Q) 0 → k 1 (mh h m X)) → Rn (d + 3) n_X9_nextOrder 2 [am_r m, am_i man, am_i (nI e')] [] (mh h m W) (kI k) := by
    intro r
    induction r with
    | zero =>
      intro e' he' hk0 hk1
      obtain rfl : e' = nD := by omega
      refine rw_iload f_X9_nextOrder_2 rfl ?_
      refine rw_aload f_X9_nextOrder_3 rfl ?_
      refine rm_getI f_X9_nextOrder_4 hW ?_
      rw [fD]
      refine rw_icmpT f_X9_nextOrder_7 (decide_eq_true (Int32.le_refl _)) ?_
      exact pops P o W _ hp hk0 hk1
    | succ r ihr =>
      intro e' he' hk0 hk1
      cases hch : child V nB man bd o e' with
      | none =>
        rw [srch_none (by omega) hch] at hk0 hk1
        refine rw_iload f_X9_nextOrder_2 rfl ?_
        refine rw_aload f_X9_nextOrder_3 rfl ?_
        refine rm_getI f_X9_nextOrder_4 hW ?_
        rw [fD]
        refine rw_icmpF f_X9_nextOrder_7 (decide_eq_false (nI_ge (by omega) (by omega))) ?_
        refine rw_aload f_X9_nextOrder_10 rfl ?_
        refine rw_iload f_X9_nextOrder_11 rfl ?_
        refine rw_iload f_X9_nextOrder_12 rfl ?_
        refine rw_callV f_X9_nextOrder_13 rfl hW.1 hW.2.1 rfl rfl rfl rfl (rn_ki (m_canPut hW hB hp (by omega) (fun _ => ?_) (fun c hc => by rw [hch] at hc; cases hc)))
        refine rw_ifT f_X9_nextOrder_16 (by decide) ?_
        refine rw_iinc f_X9_nextOrder_21 rfl rfl ?_
        refine rw_goto f_X9_nextOrder_24 ?_
        rw [nI_1']
        exact ihr (e' + 1) (by omega) hk0 hk1
      | some c =>
        obtain ⟨s1, s2⟩ := srch_some hp.2.1 (show e' < nD by omega) hch
        refine rw_iload f_X9_nextOrder_2 rfl ?_
        refine rw_aload f_X9_nextOrder_3 rfl ?_
        refine rm_getI f_X9_nextOrder_4 hW ?_
        rw [fD]
        refine rw_icmpF f_X9_nextOrder_7 (decide_eq_false (nI_ge (by omega) (by omega))) ?_
        refine rw_aload f_X9_nextOrder_10 rfl ?_
        refine rw_iload f_X9_nextOrder_11 rfl ?_
        refine rw_iload f_X9_nextOrder_12 rfl ?_
        refine rw_callV f_X9_nextOrder_13 rfl hW.1 hW.2.1 rfl rfl rfl rfl (rn_ki (m_canPut hW hB hp (by omega) (fun z => by rw [hch] at z; cases z) (fun c' hc' X op ps => ?_)))
        refine rw_ifF f_X9_nextOrder_16 (by decide) ?_
        refine rw_const f_X9_nextOrder_19 ?_
        refine rw_zret f_X9_nextOrder_20 (by first | exact Or.inl rfl | exact Or.inr rfl | exact bI_01 _ | assumption) ?_
        rw [hch] at hc'
        cases hc'
        exact hk1 c (o :: P) X op ps s1
  refine rw_const f_X9_nextOrder_0 ?_
  refine rw_istore f_X9_nextOrder_1 rfl rfl ?_
  exact tryd nD 0 (by omega) hk0 hk1
end MOrds
