/-! THE MODEL: twos of men -/
section MTwos
variable {d : Nat} {h : am_H} {m : Nat} {V W : am_M} {k : Int32 → am_H → Prop} {nM nD nB nA nU nT nL : Nat}
theorem m_isTold (hW : MW h m) {a b : Nat} (ha : a < 6) (hb : b < 6) (hk : k (bI (!decide (V 19 (6 * a + b) = -100))) (mh h m V)) : Rn d n_X9_isTold 0 [am_r m, am_i (nI a), am_i (nI b)] [] (mh h m V) (kI k) := by
  refine rw_aload f_X9_isTold_0 rfl ?_
  refine rm_getR f_X9_isTold_1 hW rfl ?_
  refine rw_const f_X9_isTold_4 ?_
  refine rw_iload f_X9_isTold_6 rfl ?_
  refine rw_imul f_X9_isTold_7 ?_
  refine rw_iload f_X9_isTold_8 rfl ?_
  refine rw_iadd f_X9_isTold_9 ?_
  refine rm_xald (j := 6 * a + b) f_X9_isTold_10 hW (by exact rfl) (by first | rfl | exact nI_addl _ _ | (simp only [nI, Int32.ofNat_add, Int32.ofNat_mul]; rfl) | (simp only [nI_addl, nI_mull, nI_lit, nI_1']; done) | (simp only [nI_1, nI_0, nI_addl, nI_mull, ← nI_succ]; rfl)) (by omega) ?_
  refine rw_const f_X9_isTold_11 ?_
  refine rw_eq f_X9_isTold_13 (fun c1 => ?_) (fun c1 => ?_)
  · refine rw_const f_X9_isTold_20 ?_
    refine rw_zret f_X9_isTold_21 (by first | exact Or.inl rfl | exact Or.inr rfl | exact bI_01 _ | assumption) ?_
    simpa [c1, bI] using hk
  · refine rw_const f_X9_isTold_16 ?_
    refine rw_goto f_X9_isTold_17 ?_
    refine rw_zret f_X9_isTold_21 (by first | exact Or.inl rfl | exact Or.inr rfl | exact bI_01 _ | assumption) ?_
    simpa [c1, bI] using hk
theorem m_has (hW : MW h m) {a : Nat} (ha : a < 6) (hw : V 44 a = -1 ∨ ∃ b, b < 6 ∧ V 44 a = nI b) (hk : k (hasW V (V 44) a) (mh h m V)) : Rn d n_X9_has 0 [am_r m, am_i (nI a)] [] (mh h m V) (kI k) := by
  unfold hasW at hk
  rcases hw with e | ⟨b, hb, e⟩
  · rw [e, if_neg (by decide)] at hk
    refine rw_aload f_X9_has_0 rfl ?_
    refine rm_getR f_X9_has_1 hW rfl ?_
    refine rw_iload f_X9_has_4 rfl ?_
    refine rm_xald f_X9_has_5 hW (by exact rfl) rfl (by omega) ?_
    rw [e]
    refine rw_ifF f_X9_has_6 (by decide) ?_
    refine rw_const f_X9_has_9 ?_
    refine rw_goto f_X9_has_10 ?_
    refine rw_iret f_X9_has_29 ?_
    exact hk
  · rw [e, if_pos (nI_pos' (by omega)), nI_clamp (by omega)] at hk
    refine rw_aload f_X9_has_0 rfl ?_
    refine rm_getR f_X9_has_1 hW rfl ?_
    refine rw_iload f_X9_has_4 rfl ?_
    refine rm_xald f_X9_has_5 hW (by exact rfl) rfl (by omega) ?_
    rw [e]
    refine rw_ifT f_X9_has_6 (decide_eq_true (nI_pos' (by omega))) ?_
    refine rw_aload f_X9_has_13 rfl ?_
    refine rm_getR f_X9_has_14 hW rfl ?_
    refine rw_const f_X9_has_17 ?_
    refine rw_iload f_X9_has_19 rfl ?_
    refine rw_imul f_X9_has_20 ?_
    refine rw_aload f_X9_has_21 rfl ?_
    refine rm_getR f_X9_has_22 hW rfl ?_
    refine rw_iload f_X9_has_25 rfl ?_
    refine rm_xald f_X9_has_26 hW (by exact rfl) rfl (by omega) ?_
    rw [e]
    refine rw_iadd f_X9_has_27 ?_
    refine rm_xald (j := 6 * a + b) f_X9_has_28 hW (by exact rfl) (by first | rfl | exact nI_addl _ _ | (simp only [nI, Int32.ofNat_add, Int32.ofNat_mul]; rfl) | (simp only [nI_addl, nI_mull, nI_lit, nI_1']; done) | (simp only [nI_1, nI_0, nI_addl, nI_mull, ← nI_succ]; rfl)) (by omega) ?_
    refine rw_iret f_X9_has_29 ?_
    exact hk
theorem m_rowsOf (hW : MW h m) (hM : V 0 56 = nI nM) (hM6 : nM ≤ 6) (hk : k (nI ((nM + 1) ^ nM)) (mh h m V)) : Rn d n_X9_rowsOf 0 [am_r m, am_u, am_u] [] (mh h m V) (kI k) := by
  refine rw_const f_X9_rowsOf_0 ?_
  refine rw_istore f_X9_rowsOf_1 rfl rfl ?_
  refine rw_const f_X9_rowsOf_2 ?_
  refine rw_istore f_X9_rowsOf_3 rfl rfl ?_
  refine rn_for (N := nM) (fun i => [am_r m, am_i (nI ((nM + 1) ^ i)), am_i (nI i)]) (fun _ => mh h m V) (fun i hi ih => ?_) ?_
  · refine rw_iload f_X9_rowsOf_4 rfl ?_
    refine rw_aload f_X9_rowsOf_5 rfl ?_
    refine rm_getI f_X9_rowsOf_6 hW ?_
    rw [hM]
    refine rw_icmpF f_X9_rowsOf_9 (decide_eq_false (nI_ge hi (by omega))) ?_
    refine rw_iload f_X9_rowsOf_12 rfl ?_
    refine rw_aload f_X9_rowsOf_13 rfl ?_
    refine rm_getI f_X9_rowsOf_14 hW ?_
    rw [hM]
    refine rw_const f_X9_rowsOf_17 ?_
    refine rw_iadd f_X9_rowsOf_18 ?_
    rw [nI_1']
    refine rw_imul f_X9_rowsOf_19 ?_
    rw [nI_mull, ← Nat.pow_succ]
    refine rw_istore f_X9_rowsOf_20 rfl rfl ?_
    refine rw_iinc f_X9_rowsOf_21 rfl rfl ?_
    refine rw_goto f_X9_rowsOf_24 ?_
    rw [nI_1']
    exact ih
  · refine rw_iload f_X9_rowsOf_4 rfl ?_
    refine rw_aload f_X9_rowsOf_5 rfl ?_
    refine rm_getI f_X9_rowsOf_6 hW ?_
    rw [hM]
    refine rw_icmpT f_X9_rowsOf_9 (decide_eq_true (Int32.le_refl _)) ?_
    refine rw_iload f_X9_rowsOf_27 rfl ?_
    refine rw_iret f_X9_rowsOf_28 ?_
    exact hk
/-- all but the twos -/
def Sw (V W : am_M) : Prop := ∀ a, ¬ a = 44 → W a = V a
theorem Sw.refl : Sw V V := fun _ _ => rfl
theorem Sw.tr {V1 V2 : am_M} (p : Sw V V1) (q : Sw V1 V2) : Sw V V2 := fun a e => (q a e).trans (p a e)
theorem Sw.eqv (p : Sw V W) : Eqv V W := fun a j e => by rw [p a (fun z => by subst z; cases e)]
/-- the row of the number v -/
abbrev fRow (nM v : Nat) : Nat → Int32 := wOf nM 0 nM v (fun _ => -1)
theorem fRow_in {v j : Nat} (hj : j < nM) : fRow nM v j = -1 ∨ ∃ b, b < nM ∧ fRow nM v j = nI b := by
  show wOf nM 0 nM v (fun _ => -1) j = -1 ∨ ∃ b, b < nM ∧ wOf nM 0 nM v (fun _ => -1) j = nI b
  unfold wOf
  rw [if_pos (by omega)]
  have : dgt nM nM v (j - 0) < nM + 1 := Nat.mod_lt _ (by omega)
  cases e : dgt nM nM v (j - 0) with
  | zero => exact Or.inl (by decide)
  | succ b => exact Or.inr ⟨b, by omega, nI_pred b⟩
theorem pow_7 (hM : nM ≤ 6) : (nM + 1) ^ nM ≤ 117649 := by
  have : ∀ n, n < 7 → (n + 1) ^ n ≤ 117649 := by decide
  exact this nM (by omega)
theorem m_layTwos (hW : MW h m) (hM : V 0 56 = nI nM) (hM6 : nM ≤ 6) {v : Nat} (hv : v < 117649) (hk : ∀ W, Sw V W → (∀ j, j < nM → W 44 j = fRow nM v j) → k (bI (vld V nM (fRow nM v))) (mh h m W)) : Rn (d + 1) n_X9_layTwos 0 [am_r m, am_i (nI v), am_u, am_u, am_u] [] (mh h m V) (kI k) := by
  have second : ∀ W, Sw V W → (∀ j, j < nM → W 44 j = fRow nM v j) → ∀ y : Int32, Rn (d + 1) n_X9_layTwos 49 [am_r m, am_i (nI v), am_i y, am_i 1, am_i 0] [] (mh h m W) (kI k) := by
    intro W sw hw y
    have rM : W 0 56 = nI nM := by rw [sw _ (by decide)]; exact hM
    have rF : W 19 = V 19 := sw _ (by decide)
    have out : ∀ i, i ≤ nM → allB (vld1 V (fRow nM v)) i = false → Rn (d + 1) n_X9_layTwos 49 [am_r m, am_i (nI v), am_i y, am_i 0, am_i (nI i)] [] (mh h m W) (kI k) := by
      intro i hi hz
      have e : vld V nM (fRow nM v) = false := by
        apply Bool.eq_false_iff.mpr
        intro z
        have : allB (vld1 V (fRow nM v)) i = true := allB_iff.mpr (fun b hb => allB_iff.mp z b (by omega))
        rw [hz] at this; cases this
      have hk' := hk W sw hw
      rw [e] at hk'
      by_cases c : i = nM
      · subst c
        refine rw_iload f_X9_layTwos_49 rfl ?_
        refine rw_aload f_X9_layTwos_51 rfl ?_
        refine rm_getI f_X9_layTwos_52 hW ?_
        rw [rM]
        refine rw_icmpT f_X9_layTwos_55 (decide_eq_true (Int32.le_refl _)) ?_
        refine rw_iload f_X9_layTwos_129 rfl ?_
        refine rw_zret f_X9_layTwos_130 (by first | exact Or.inl rfl | exact Or.inr rfl | exact bI_01 _ | assumption) ?_
        exact hk'
      · refine rw_iload f_X9_layTwos_49 rfl ?_
        refine rw_aload f_X9_layTwos_51 rfl ?_
        refine rm_getI f_X9_layTwos_52 hW ?_
        rw [rM]
        refine rw_icmpF f_X9_layTwos_55 (decide_eq_false (nI_ge (by omega) (by omega))) ?_
        refine rw_iload f_X9_layTwos_58 rfl ?_
        refine rw_ifT f_X9_layTwos_59 (by decide) ?_
        refine rw_iload f_X9_layTwos_129 rfl ?_
        refine rw_zret f_X9_layTwos_130 (by first | exact Or.inl rfl | exact Or.inr rfl | exact bI_01 _ | assumption) ?_
        exact hk'
    have go : ∀ r i, i + r = nM → allB (vld1 V (fRow nM v)) i = true → Rn (d + 1) n_X9_layTwos 49 [am_r m, am_i (nI v), am_i y, am_i 1, am_i (nI i)] [] (mh h m W) (kI k) := by
      intro r
      induction r with
      | zero =>
        intro i hi hz
        obtain rfl : i = nM := by omega
        have hk' := hk W sw hw
        unfold vld at hk'
        rw [hz] at hk'
        refine rw_iload f_X9_layTwos_49 rfl ?_
        refine rw_aload f_X9_layTwos_51 rfl ?_
        refine rm_getI f_X9_layTwos_52 hW ?_
        rw [rM]
        refine rw_icmpT f_X9_layTwos_55 (decide_eq_true (Int32.le_refl _)) ?_
        refine rw_iload f_X9_layTwos_129 rfl ?_
        refine rw_zret f_X9_layTwos_130 (by first | exact Or.inl rfl | exact Or.inr rfl | exact bI_01 _ | assumption) ?_
        exact hk'
      | succ r ih =>
        intro i hi hz
        have e1 := hw i (by omega)
        have yes : vld1 V (fRow nM v) i = true → allB (vld1 V (fRow nM v)) (i + 1) = true := fun z => by simp only [allB]; rw [hz, z]; rfl
        have no_ : vld1 V (fRow nM v) i = false → allB (vld1 V (fRow nM v)) (i + 1) = false := fun z => by simp only [allB]; rw [z, Bool.and_false]
        rcases fRow_in (nM := nM) (v := v) (j := i) (by omega) with e | ⟨b, hb, e⟩
        · rw [e] at e1
          have z := ih (i + 1) (by omega) (yes (by unfold vld1; rw [e, if_pos m1_neg]))
          refine rw_iload f_X9_layTwos_49 rfl ?_
          refine rw_aload f_X9_layTwos_51 rfl ?_
          refine rm_getI f_X9_layTwos_52 hW ?_
          rw [rM]
          refine rw_icmpF f_X9_layTwos_55 (decide_eq_false (nI_ge (by omega) (by omega))) ?_
          refine rw_iload f_X9_layTwos_58 rfl ?_
          refine rw_ifF f_X9_layTwos_59 (by decide) ?_
          refine rw_aload f_X9_layTwos_62 rfl ?_
          refine rm_getR f_X9_layTwos_63 hW rfl ?_
          refine rw_iload f_X9_layTwos_66 rfl ?_
          refine rm_xald f_X9_layTwos_68 hW (by exact rfl) rfl (by omega) ?_
          rw [e1]
          refine rw_ifT f_X9_layTwos_69 (by decide) ?_
          refine rw_const f_X9_layTwos_117 ?_
          refine rw_goto f_X9_layTwos_118 ?_
          refine rw_istore f_X9_layTwos_122 rfl rfl ?_
          refine rw_iinc f_X9_layTwos_123 rfl rfl ?_
          refine rw_goto f_X9_layTwos_126 ?_
          rw [nI_1']
          exact z
        · rw [e] at e1
          have e2 := hw b hb
          have ev : vld1 V (fRow nM v) i = (if nI b = nI i then false else if ¬ fRow nM v b = nI i then false else !decide (V 19 (6 * i + b) = -100)) := by
            unfold vld1
            rw [e, nI_clamp (by omega), if_neg (nI_pos (by omega))]
          refine rw_iload f_X9_layTwos_49 rfl ?_
          refine rw_aload f_X9_layTwos_51 rfl ?_
          refine rm_getI f_X9_layTwos_52 hW ?_
          rw [rM]
          refine rw_icmpF f_X9_layTwos_55 (decide_eq_false (nI_ge (by omega) (by omega))) ?_
          refine rw_iload f_X9_layTwos_58 rfl ?_
          refine rw_ifF f_X9_layTwos_59 (by decide) ?_
          refine rw_aload f_X9_layTwos_62 rfl ?_
          refine rm_getR f_X9_layTwos_63 hW rfl ?_
          refine rw_iload f_X9_layTwos_66 rfl ?_
          refine rm_xald f_X9_layTwos_68 hW (by exact rfl) rfl (by omega) ?_
          rw [e1]
          refine rw_ifF f_X9_layTwos_69 (decide_eq_false (nI_pos (by omega))) ?_
          refine rw_aload f_X9_layTwos_72 rfl ?_
          refine rm_getR f_X9_layTwos_73 hW rfl ?_
          refine rw_iload f_X9_layTwos_76 rfl ?_
          refine rm_xald f_X9_layTwos_78 hW (by exact rfl) rfl (by omega) ?_
          rw [e1]
          refine rw_iload f_X9_layTwos_79 rfl ?_
          refine rw_eq f_X9_layTwos_81 (fun c1 => ?_) (fun c1 => ?_)
          · refine rw_const f_X9_layTwos_121 ?_
            refine rw_istore f_X9_layTwos_122 rfl rfl ?_
            refine rw_iinc f_X9_layTwos_123 rfl rfl ?_
            refine rw_goto f_X9_layTwos_126 ?_
            rw [nI_1']
            first | exact ih (i + 1) (by omega) (yes (by rw [ev]; simp [c1])) | exact out (i + 1) (by omega) (no_ (by rw [ev]; simp [c1]))
          · refine rw_aload f_X9_layTwos_84 rfl ?_
            refine rm_getR f_X9_layTwos_85 hW rfl ?_
            refine rw_aload f_X9_layTwos_88 rfl ?_
            refine rm_getR f_X9_layTwos_89 hW rfl ?_
            refine rw_iload f_X9_layTwos_92 rfl ?_
            refine rm_xald f_X9_layTwos_94 hW (by exact rfl) rfl (by omega) ?_
            rw [e1]
            refine rm_xald (j := b) f_X9_layTwos_95 hW (by exact rfl) (by first | rfl | exact nI_addl _ _ | (simp only [nI, Int32.ofNat_add, Int32.ofNat_mul]; rfl) | (simp only [nI_addl, nI_mull, nI_lit, nI_1']; done) | (simp only [nI_1, nI_0, nI_addl, nI_mull, ← nI_succ]; rfl)) (by omega) ?_
            rw [e2]
            refine rw_iload f_X9_layTwos_96 rfl ?_
            refine rw_ne f_X9_layTwos_98 (fun c2 => ?_) (fun c2 => ?_)
            · refine rw_const f_X9_layTwos_121 ?_
              refine rw_istore f_X9_layTwos_122 rfl rfl ?_
              refine rw_iinc f_X9_layTwos_123 rfl rfl ?_
              refine rw_goto f_X9_layTwos_126 ?_
              rw [nI_1']
              first | exact ih (i + 1) (by omega) (yes (by rw [ev]; simp [c1, c2])) | exact out (i + 1) (by omega) (no_ (by rw [ev]; simp [c1, c2]))
            · refine rw_aload f_X9_layTwos_101 rfl ?_
              refine rw_iload f_X9_layTwos_102 rfl ?_
              refine rw_aload f_X9_layTwos_104 rfl ?_
              refine rm_getR f_X9_layTwos_105 hW rfl ?_
              refine rw_iload f_X9_layTwos_108 rfl ?_
              refine rm_xald f_X9_layTwos_110 hW (by exact rfl) rfl (by omega) ?_
              rw [e1]
              refine rw_callV f_X9_layTwos_111 rfl hW.1 hW.2.1 rfl rfl rfl rfl (rn_ki (m_isTold hW (by omega) (by omega) ?_))
              rw [rF]
              first | refine rw_eq0B f_X9_layTwos_114 (fun c3 => ?_) (fun c3 => ?_) | refine rw_eq0 f_X9_layTwos_114 (fun c3 => ?_) (fun c3 => ?_)
              · refine rw_const f_X9_layTwos_121 ?_
                refine rw_istore f_X9_layTwos_122 rfl rfl ?_
                refine rw_iinc f_X9_layTwos_123 rfl rfl ?_
                refine rw_goto f_X9_layTwos_126 ?_
                rw [nI_1']
                first | exact ih (i + 1) (by omega) (yes (by rw [ev]; simp [c1, c2, c3])) | exact out (i + 1) (by omega) (no_ (by rw [ev]; simp [c1, c2, c3]))
              · refine rw_const f_X9_layTwos_117 ?_
                refine rw_goto f_X9_layTwos_118 ?_
                refine rw_istore f_X9_layTwos_122 rfl rfl ?_
                refine rw_iinc f_X9_layTwos_123 rfl rfl ?_
                refine rw_goto f_X9_layTwos_126 ?_
                rw [nI_1']
                first | exact ih (i + 1) (by omega) (yes (by rw [ev]; simp [c1, c2, c3])) | exact out (i + 1) (by omega) (no_ (by rw [ev]; simp [c1, c2, c3]))
    exact go nM 0 (by omega) rfl
  have first_ : ∀ n, n ≤ nM → ∀ W, Sw V W → (∀ j, n ≤ j → j < nM → W 44 j = fRow nM v j) → Rn (d + 1) n_X9_layTwos 9 [am_r m, am_i (nI v), am_i (nI (v / (nM + 1) ^ (nM - n))), am_i (nI n - 1), am_u] [] (mh h m W) (kI k) := by
    intro n
    induction n with
    | zero =>
      intro _ W sw hw
      refine rw_iload f_X9_layTwos_9 rfl ?_
      refine rw_ifT f_X9_layTwos_10 (by decide) ?_
      refine rw_const f_X9_layTwos_44 ?_
      refine rw_istore f_X9_layTwos_45 rfl rfl ?_
      refine rw_const f_X9_layTwos_46 ?_
      refine rw_istore f_X9_layTwos_47 rfl rfl ?_
      exact second W sw (fun j hj => hw j (Nat.zero_le _) hj) _
    | succ n ih =>
      intro hn W sw hw
      have rM : W 0 56 = nI nM := by rw [sw _ (by decide)]; exact hM
      have q1 := Nat.div_le_self v ((nM + 1) ^ (nM - (n + 1)))
      have q0 : ¬ nI (nM + 1) = 0 := nI_ne0 (by omega) (by omega)
      have ef : fRow nM v n = nI (v / (nM + 1) ^ (nM - (n + 1)) % (nM + 1)) - 1 := by
        show wOf nM 0 nM v (fun _ => -1) n = _
        unfold wOf dgt
        rw [if_pos (by omega), show nM - 1 - (n - 0) = nM - (n + 1) by omega]
      rw [nI_pred]
      refine rw_iload f_X9_layTwos_9 rfl ?_
      refine rw_ifF f_X9_layTwos_10 (decide_eq_false (nI_pos (by omega))) ?_
      refine rw_aload f_X9_layTwos_13 rfl ?_
      refine rm_getR f_X9_layTwos_14 hW rfl ?_
      refine rw_iload f_X9_layTwos_17 rfl ?_
      refine rw_iload f_X9_layTwos_18 rfl ?_
      refine rw_aload f_X9_layTwos_19 rfl ?_
      refine rm_getI f_X9_layTwos_20 hW ?_
      rw [rM]
      refine rw_const f_X9_layTwos_23 ?_
      refine rw_iadd f_X9_layTwos_24 ?_
      rw [nI_1']
      refine rw_irem f_X9_layTwos_25 q0 ?_
      rw [pk_rem (by omega) (by omega) (by omega)]
      refine rw_const f_X9_layTwos_26 ?_
      refine rw_isub f_X9_layTwos_27 ?_
      rw [← ef]
      refine rm_iast (j := n) f_X9_layTwos_28 hW (by exact rfl) (by first | rfl | exact nI_addl _ _ | (simp only [nI, Int32.ofNat_add, Int32.ofNat_mul]; rfl) | (simp only [nI_addl, nI_mull, nI_lit, nI_1']; done) | (simp only [nI_1, nI_0, nI_addl, nI_mull, ← nI_succ]; rfl)) (by omega) ?_
      refine rw_iload f_X9_layTwos_29 rfl ?_
      refine rw_aload f_X9_layTwos_30 rfl ?_
      refine rm_getI f_X9_layTwos_31 hW ?_
      rw [up_row (by decide), rM]
      refine rw_const f_X9_layTwos_34 ?_
      refine rw_iadd f_X9_layTwos_35 ?_
      rw [nI_1']
      refine rw_idiv f_X9_layTwos_36 q0 ?_
      rw [pk_div (by omega) (by omega) (by omega), Nat.div_div_eq_div_mul, ← Nat.pow_succ, show (nM - (n + 1)).succ = nM - n by omega]
      refine rw_istore f_X9_layTwos_37 rfl rfl ?_
      refine rw_iinc f_X9_layTwos_38 rfl rfl ?_
      refine rw_goto f_X9_layTwos_41 ?_
      rw [← Int32.sub_eq_add_neg]
      refine ih (by omega) _ (sw.tr (fun a ha => up_row ha)) (fun j h1 h2 => ?_)
      rw [up_at]
      (by_cases q : j = n)
      · (rw [if_pos q, q])
      · (rw [if_neg q]; exact hw j (by omega) h2)
  refine rw_iload f_X9_layTwos_0 rfl ?_
  refine rw_istore f_X9_layTwos_1 rfl rfl ?_
  refine rw_aload f_X9_layTwos_2 rfl ?_
  refine rm_getI f_X9_layTwos_3 hW ?_
  rw [hM]
  refine rw_const f_X9_layTwos_6 ?_
  refine rw_isub f_X9_layTwos_7 ?_
  refine rw_istore f_X9_layTwos_8 rfl rfl ?_
  skip
  have z := first_ nM (Nat.le_refl _) V .refl (fun j h1 h2 => by omega)
  rw [Nat.sub_self, Nat.pow_zero, Nat.div_one] at z
  exact z
theorem m_putTwos (hW : MW h m) {V0 : am_M} {g f : Nat → Int32} {n : Nat} (sw : Sw (showV V0 g n) W) (hn : n ≤ nM) (hM : V0 0 56 = nI nM) (hM6 : nM ≤ 6) (hf : ∀ j, j < nM → W 44 j = f j) {k : am_H → Prop} (hk : ∀ X, Sw (showV V0 f nM) X → (X 44 = W 44) → k (mh h m X)) : Rn d n_X9_putTwos 0 [am_r m, am_u] [] (mh h m W) (kV k) := by
  have rM : W 0 56 = nI nM := by rw [sw _ (by decide), showV_o (by decide) (by decide)]; exact hM
  refine rw_const f_X9_putTwos_0 ?_
  refine rw_istore f_X9_putTwos_1 rfl rfl ?_
  refine rn_inv (N := nM) (fun i ls hh => ∃ Y, hh = mh h m Y ∧ ls = [am_r m, am_i (nI i)] ∧ (∀ a, ¬ a = 42 → Y a = W a) ∧ ∀ j, Y 42 j = if j < i then f j else W 42 j) (fun i hi ls hh hI ih => ?_) (fun ls hh hI => ?_) ⟨W, rfl, rfl, fun _ _ => rfl, fun j => by rw [if_neg (Nat.not_lt_zero j)]⟩
  · obtain ⟨Y, rfl, rfl, y1, y2⟩ := hI
    refine rw_iload f_X9_putTwos_2 rfl ?_
    refine rw_aload f_X9_putTwos_3 rfl ?_
    refine rm_getI f_X9_putTwos_4 hW ?_
    rw [y1 _ (by decide), rM]
    refine rw_icmpF f_X9_putTwos_7 (decide_eq_false (nI_ge hi (by omega))) ?_
    refine rw_aload f_X9_putTwos_10 rfl ?_
    refine rm_getR f_X9_putTwos_11 hW rfl ?_
    refine rw_iload f_X9_putTwos_14 rfl ?_
    refine rw_aload f_X9_putTwos_15 rfl ?_
    refine rm_getR f_X9_putTwos_16 hW rfl ?_
    refine rw_iload f_X9_putTwos_19 rfl ?_
    refine rm_xald (j := i) f_X9_putTwos_20 hW (by exact rfl) (by first | rfl | exact nI_addl _ _ | (simp only [nI, Int32.ofNat_add, Int32.ofNat_mul]; rfl) | (simp only [nI_addl, nI_mull, nI_lit, nI_1']; done) | (simp only [nI_1, nI_0, nI_addl, nI_mull, ← nI_succ]; rfl)) (by omega) ?_
    rw [y1 _ (by decide), hf i hi]
    refine rm_iast (j := i) f_X9_putTwos_21 hW (by exact rfl) (by first | rfl | exact nI_addl _ _ | (simp only [nI, Int32.ofNat_add, Int32.ofNat_mul]; rfl) | (simp only [nI_addl, nI_mull, nI_lit, nI_1']; done) | (simp only [nI_1, nI_0, nI_addl, nI_mull, ← nI_succ]; rfl)) (by omega) ?_
    refine rw_iinc f_X9_putTwos_22 rfl rfl ?_
    refine rw_goto f_X9_putTwos_25 ?_
    rw [nI_1']
    refine ih _ _ ⟨_, rfl, rfl, fun a ha => by rw [up_row ha]; exact y1 a ha, fun j => ?_⟩
    rw [up_at, y2]
    (by_cases q : j = i)
    · (rw [if_pos q, if_pos (by omega), q])
    · (rw [if_neg q, ite_s q])
  · obtain ⟨Y, rfl, rfl, y1, y2⟩ := hI
    refine rw_iload f_X9_putTwos_2 rfl ?_
    refine rw_aload f_X9_putTwos_3 rfl ?_
    refine rm_getI f_X9_putTwos_4 hW ?_
    rw [y1 _ (by decide), rM]
    refine rw_icmpT f_X9_putTwos_7 (decide_eq_true (Int32.le_refl _)) ?_
    refine rw_aload f_X9_putTwos_28 rfl ?_
    refine rw_aload f_X9_putTwos_29 rfl ?_
    refine rm_getI f_X9_putTwos_30 hW ?_
    rw [y1 _ (by decide), rM]
    refine rm_putI f_X9_putTwos_33 hW ?_
    refine rw_vret f_X9_putTwos_36 ?_
    refine hk _ (fun a ha => ?_) (by rw [up_row (by decide)]; exact y1 _ (by decide))
    funext j
    by_cases c : a = 0 ∧ j = 85
    · obtain ⟨rfl, rfl⟩ := c
      rw [up_same]; exact (if_pos ⟨rfl, rfl⟩).symm
    · rw [up_ne c]
      by_cases c2 : a = 42
      · subst c2
        rw [y2]
        unfold showV
        rw [if_neg c]
        by_cases c3 : j < nM
        · rw [if_pos c3, if_pos ⟨rfl, c3⟩]
        · rw [if_neg c3, if_neg (fun z => c3 z.2), sw _ ha]
          unfold showV
          rw [if_neg c, if_neg (by omega)]
      · rw [y1 a c2, sw _ ha, showV_o c2 c, showV_o c2 c]
/-- twos by the first n rows -/
def Lr (V : am_M) (nM n : Nat) : List pw := (((List.range n).map (fun v => fRow nM v)).filter (vld V nM)).map (fun f => ((f, wsum V f nM) : pw))
theorem Lr_s {n : Nat} : Lr V nM (n + 1) = Lr V nM n ++ (if vld V nM (fRow nM n) = true then [(fRow nM n, wsum V (fRow nM n) nM)] else []) := by
  unfold Lr
  rw [List.range_succ, List.map_append, List.filter_append, List.map_append]
  congr 1
  by_cases c : vld V nM (fRow nM n) = true
  · rw [if_pos c]; simp [c]
  · rw [if_neg c]; simp [c]
theorem fRow_0 {j : Nat} : fRow nM 0 j = -1 := by
  show wOf nM 0 nM 0 (fun _ => -1) j = -1
  unfold wOf dgt
  split
  · rw [Nat.zero_div, Nat.zero_mod]; decide
  · rfl
theorem vld_0 : vld V nM (fRow nM 0) = true := allB_iff.mpr (fun b _ => by unfold vld1; rw [fRow_0, if_pos m1_neg])
theorem Lr_ne {n : Nat} (h : 0 < n) : Lr V nM n ≠ [] := by
  induction n with
  | zero => omega
  | succ n ih =>
    rw [Lr_s]
    by_cases c : n = 0
    · subst c; rw [if_pos vld_0]; simp
    · intro z
      have := List.append_eq_nil_iff.mp z
      exact ih (by omega) this.1
theorem wsum_0 : ∀ n, n ≤ 6 → wsum V (fRow nM 0) n = 0
  | 0, _ => rfl
  | n + 1, h => by
    simp only [wsum]
    rw [wsum_0 n (by omega), fRow_0, if_pos (Int32.le_trans (by decide) (nI_pos' (n := n) (by omega)))]
    rfl
theorem vld_V {V' : am_M} (e : V' 19 = V 19) (f : Nat → Int32) : vld V' nM f = vld V nM f := by
  unfold vld
  congr 1
  funext i
  unfold vld1
  rw [e]
/-- what is laid, of those met -/
def TS (V : am_M) (nM : Nat) (o : Option pw) (W : am_M) : Prop := match o with
  | none => Sw (showV V (fun _ => 0) 0) W
  | some p => Sw (showV V p.1 nM) W
theorem TS.o {o : Option pw} (q : TS V nM o W) : (∀ a, ¬ a = 44 → ¬ a = 42 → ¬ a = 0 → W a = V a) ∧ ∀ j, ¬ j = 85 → W 0 j = V 0 j := by
  have key : ∀ f n, Sw (showV V f n) W → (∀ a, ¬ a = 44 → ¬ a = 42 → ¬ a = 0 → W a = V a) ∧ ∀ j, ¬ j = 85 → W 0 j = V 0 j := by
    intro f n sw
    refine ⟨fun a h1 h2 h3 => ?_, fun j hj => ?_⟩
    · rw [sw a h1]
      funext j
      exact showV_o h2 (by omega)
    · rw [sw 0 (by decide)]
      exact showV_o (by decide) (by omega)
  unfold TS at q
  cases o with
  | none => exact key _ _ q
  | some p => exact key _ _ q
theorem TS.sw {o : Option pw} {X : am_M} (q : TS V nM o W) (s : Sw W X) : TS V nM o X := by
  unfold TS at q ⊢
  cases o with
  | none => exact Sw.tr q s
  | some p => exact Sw.tr q s
theorem TS.put {o : Option pw} {f : Nat → Int32} {wo : Int32} {k : am_H → Prop} (hW : MW h m) (hM : V 0 56 = nI nM) (hM6 : nM ≤ 6) (q : TS V nM o W) (hf : ∀ j, j < nM → W 44 j = f j) (hk : ∀ X, TS V nM (some (f, wo)) X → k (mh h m X)) : Rn d n_X9_putTwos 0 [am_r m, am_u] [] (mh h m W) (kV k) := by
  unfold TS at q
  cases o with
  | none => exact m_putTwos hW (g := fun _ => 0) (n := 0) q (by omega) hM hM6 hf (fun X s _ => hk X s)
  | some p => exact m_putTwos hW (g := p.1) (n := nM) q (Nat.le_refl _) hM hM6 hf (fun X s _ => hk X s)
def mostO (o : Option pw) : Int32 := match o with
  | none => -1
  | some p => p.2
theorem m_truce (hW : MW h m) (hB : WB V nM nD nB) (hk : ∀ X, Eqv (showV V (bstP V nM).1 nM) X → k (bstP V nM).2 (mh h m X)) : Rn (d + 2) n_X9_truce 0 [am_r m, am_u, am_u, am_u, am_u, am_u] [] (mh h m V) (kI k) := by
  obtain ⟨⟨fM, fM6, fD, fD6, fB, fB10⟩, -, -, -, sym, -⟩ := hB
  have p7 := pow_7 fM6
  have sym' : ∀ a b, a < nM → b < nM → V 19 (6 * a + b) = V 19 (6 * b + a) := fun a b ha hb => (sym a b ha hb).2
  refine rw_aload f_X9_truce_0 rfl ?_
  refine rw_const f_X9_truce_1 ?_
  refine rm_putI f_X9_truce_2 hW ?_
  rw [show_0 (f := fun _ => 0)]
  refine rw_const f_X9_truce_5 ?_
  refine rw_istore f_X9_truce_6 rfl rfl ?_
  refine rw_aload f_X9_truce_7 rfl ?_
  refine rw_callV f_X9_truce_8 rfl hW.1 hW.2.1 rfl rfl rfl rfl (rn_ki (m_rowsOf hW (by rw [showV_o (by decide) (by decide)]; exact fM) fM6 ?_))
  refine rw_istore f_X9_truce_11 rfl rfl ?_
  refine rw_const f_X9_truce_12 ?_
  refine rw_istore f_X9_truce_13 rfl rfl ?_
  skip
  refine rn_inv (N := (nM + 1) ^ nM) (fun v ls hh => ∃ W y z, hh = mh h m W ∧ ls = [am_r m, am_i (mostO ((Lr V nM v).foldl bP none)), am_i (nI ((nM + 1) ^ nM)), am_i (nI v), y, z] ∧ TS V nM ((Lr V nM v).foldl bP none) W) (fun v hv ls hh hI ih => ?_) (fun ls hh hI => ?_) ⟨_, am_u, am_u, rfl, rfl, .refl⟩
  · obtain ⟨W, y, z, rfl, rfl, ts⟩ := hI
    obtain ⟨o1, o2⟩ := ts.o
    have rM : W 0 56 = nI nM := by rw [o2 _ (by decide)]; exact fM
    have eF : W 19 = V 19 := o1 _ (by decide) (by decide) (by decide)
    have es := Lr_s (V := V) (nM := nM) (n := v)
    refine rw_iload f_X9_truce_14 rfl ?_
    refine rw_iload f_X9_truce_15 rfl ?_
    refine rw_icmpF f_X9_truce_16 (decide_eq_false (nI_ge hv (by omega))) ?_
    refine rw_aload f_X9_truce_19 rfl ?_
    refine rw_iload f_X9_truce_20 rfl ?_
    refine rw_callV f_X9_truce_21 rfl hW.1 hW.2.1 rfl rfl rfl rfl (rn_ki (m_layTwos hW rM fM6 (by omega) (fun X sx hx => ?_)))
    rw [vld_V eF]
    first | refine rw_ne0B f_X9_truce_24 (fun c1 => ?_) (fun c1 => ?_) | refine rw_ne0 f_X9_truce_24 (fun c1 => ?_) (fun c1 => ?_)
    rotate_left
    · refine rw_goto f_X9_truce_27 ?_
      refine rw_iinc f_X9_truce_94 rfl rfl ?_
      refine rw_goto f_X9_truce_97 ?_
      rw [nI_1']
      rw [if_neg (by rw [c1]; decide), List.append_nil] at es
      rw [es] at ih
      exact ih _ _ ⟨X, _, _, rfl, rfl, ts.sw sx⟩
    refine rw_const f_X9_truce_30 ?_
    refine rw_istore f_X9_truce_31 rfl rfl ?_
    refine rw_const f_X9_truce_33 ?_
    refine rw_istore f_X9_truce_34 rfl rfl ?_
    skip
    rw [if_pos c1] at es
    rw [es, List.foldl_append] at ih
    have rMX : X 0 56 = nI nM := by rw [sx _ (by decide)]; exact rM
    have eFX : X 19 = V 19 := by rw [sx _ (by decide)]; exact eF
    refine rn_for (N := nM) (fun i => [am_r m, am_i (mostO ((Lr V nM v).foldl bP none)), am_i (nI ((nM + 1) ^ nM)), am_i (nI v), am_i (wsum V (fRow nM v) i), am_i (nI i)]) (fun _ => mh h m X) (fun i hi ihi => ?_) ?_
    · have ew := hx i hi
      simp only [wsum] at ihi
      have hw : X 44 i = -1 ∨ ∃ b, b < 6 ∧ X 44 i = nI b := by
        rw [ew]
        rcases fRow_in (nM := nM) (v := v) hi with e | ⟨b, hb, e⟩
        · exact Or.inl e
        · exact Or.inr ⟨b, by omega, e⟩
      have eh : ¬ fRow nM v i ≤ nI i → hasW X (X 44) i = (if fRow nM v i < 0 then 0 else V 19 (6 * i + (fRow nM v i).toNatClampNeg)) := by
        intro _
        unfold hasW
        rw [ew, eFX]
        by_cases c : fRow nM v i < 0
        · rw [if_pos c, if_neg (Int32.not_le.mpr c)]
        · rw [if_neg c, if_pos (Int32.not_lt.mp c)]
      refine rw_iload f_X9_truce_36 rfl ?_
      refine rw_aload f_X9_truce_38 rfl ?_
      refine rm_getI f_X9_truce_39 hW ?_
      rw [rMX]
      refine rw_icmpF f_X9_truce_42 (decide_eq_false (nI_ge hi (by omega))) ?_
      refine rw_iload f_X9_truce_45 rfl ?_
      refine rw_aload f_X9_truce_47 rfl ?_
      refine rm_getR f_X9_truce_48 hW rfl ?_
      refine rw_iload f_X9_truce_51 rfl ?_
      refine rm_xald (j := i) f_X9_truce_53 hW (by exact rfl) (by first | rfl | exact nI_addl _ _ | (simp only [nI, Int32.ofNat_add, Int32.ofNat_mul]; rfl) | (simp only [nI_addl, nI_mull, nI_lit, nI_1']; done) | (simp only [nI_1, nI_0, nI_addl, nI_mull, ← nI_succ]; rfl)) (by omega) ?_
      rw [ew]
      refine rw_iload f_X9_truce_54 rfl ?_
      refine rw_le f_X9_truce_56 (fun c1 => ?_) (fun c1 => ?_)
      · refine rw_const f_X9_truce_68 ?_
        refine rw_iadd f_X9_truce_69 ?_
        refine rw_istore f_X9_truce_70 rfl rfl ?_
        refine rw_iinc f_X9_truce_72 rfl rfl ?_
        refine rw_goto f_X9_truce_75 ?_
        rw [nI_1']
        first | (rw [if_pos c1] at ihi; exact ihi) | (rw [if_neg c1] at ihi; exact ihi)
      · refine rw_aload f_X9_truce_59 rfl ?_
        refine rw_iload f_X9_truce_60 rfl ?_
        refine rw_callV f_X9_truce_62 rfl hW.1 hW.2.1 rfl rfl rfl rfl (rn_ki (m_has hW (by omega) hw ?_))
        rw [eh c1]
        refine rw_goto f_X9_truce_65 ?_
        refine rw_iadd f_X9_truce_69 ?_
        refine rw_istore f_X9_truce_70 rfl rfl ?_
        refine rw_iinc f_X9_truce_72 rfl rfl ?_
        refine rw_goto f_X9_truce_75 ?_
        rw [nI_1']
        first | (rw [if_pos c1] at ihi; exact ihi) | (rw [if_neg c1] at ihi; exact ihi)
    · refine rw_iload f_X9_truce_36 rfl ?_
      refine rw_aload f_X9_truce_38 rfl ?_
      refine rm_getI f_X9_truce_39 hW ?_
      rw [rMX]
      refine rw_icmpT f_X9_truce_42 (decide_eq_true (Int32.le_refl _)) ?_
      refine rw_iload f_X9_truce_78 rfl ?_
      refine rw_iload f_X9_truce_80 rfl ?_
      skip
      have tsx := ts.sw sx
      have stay : ¬ mostO ((Lr V nM v).foldl bP none) < wsum V (fRow nM v) nM → ([(fRow nM v, wsum V (fRow nM v) nM)] : List pw).foldl bP ((Lr V nM v).foldl bP none) = (Lr V nM v).foldl bP none := by
        intro c
        cases e : (Lr V nM v).foldl bP none with
        | none =>
          exfalso
          have v0 : v = 0 := by
            apply Classical.byContradiction
            intro q
            obtain ⟨p, hp⟩ := foldP_some (Lr V nM v) (Lr_ne (by omega))
            rw [e] at hp; cases hp
          subst v0
          rw [e, wsum_0 nM fM6] at c
          exact c (by decide)
        | some p =>
          rw [e] at c
          show bP (some p) _ = _
          unfold bP
          exact if_neg c
      have take : mostO ((Lr V nM v).foldl bP none) < wsum V (fRow nM v) nM → ([(fRow nM v, wsum V (fRow nM v) nM)] : List pw).foldl bP ((Lr V nM v).foldl bP none) = some (fRow nM v, wsum V (fRow nM v) nM) := by
        intro c
        cases e : (Lr V nM v).foldl bP none with
        | none => rfl
        | some p =>
          rw [e] at c
          show bP (some p) _ = _
          unfold bP
          exact if_pos c
      refine rw_gt f_X9_truce_81 (fun c1 => ?_) (fun c1 => ?_)
      · refine rw_iload f_X9_truce_87 rfl ?_
        refine rw_istore f_X9_truce_89 rfl rfl ?_
        refine rw_aload f_X9_truce_90 rfl ?_
        refine rw_callV f_X9_truce_91 rfl hW.1 hW.2.1 rfl rfl rfl rfl (rn_kv (TS.put (wo := wsum V (fRow nM v) nM) hW fM fM6 tsx hx (fun Y ty => ?_)))
        refine rw_iinc f_X9_truce_94 rfl rfl ?_
        refine rw_goto f_X9_truce_97 ?_
        rw [nI_1']
        first | (rw [take c1] at ih; exact ih _ _ ⟨Y, _, _, rfl, rfl, ty⟩) | (rw [stay c1] at ih; exact ih _ _ ⟨X, _, _, rfl, rfl, tsx⟩)
      · refine rw_goto f_X9_truce_84 ?_
        refine rw_iinc f_X9_truce_94 rfl rfl ?_
        refine rw_goto f_X9_truce_97 ?_
        rw [nI_1']
        first | (rw [take c1] at ih; exact ih _ _ ⟨Y, _, _, rfl, rfl, ty⟩) | (rw [stay c1] at ih; exact ih _ _ ⟨X, _, _, rfl, rfl, tsx⟩)
  · obtain ⟨W, y, z, rfl, rfl, ts⟩ := hI
    have eL : Lr V nM ((nM + 1) ^ nM) = prA V nM := rows_prA fM6 sym'
    rw [eL, bstP_eq] at ts
    rw [eL, bstP_eq]
    refine rw_iload f_X9_truce_14 rfl ?_
    refine rw_iload f_X9_truce_15 rfl ?_
    refine rw_icmpT f_X9_truce_16 (decide_eq_true (Int32.le_refl _)) ?_
    refine rw_iload f_X9_truce_100 rfl ?_
    refine rw_iret f_X9_truce_101 ?_
    exact hk W (Sw.eqv ts)
theorem m_isCalm (hW : MW h m) (hM : W 0 56 = nI nM) (hM6 : nM ≤ 6) {f : Nat → Int32} (hf : ∀ j, j < nM → W 44 j = f j) (hin : ∀ j, j < nM → f j = -1 ∨ ∃ b, b < nM ∧ f j = nI b) (hk : k (bI (calmB W nM f)) (mh h m W)) : Rn (d + 1) n_X9_isCalm 0 [am_r m, am_u, am_u, am_u] [] (mh h m W) (kI k) := by
  have hw : ∀ j, j < nM → W 44 j = -1 ∨ ∃ b, b < 6 ∧ W 44 j = nI b := fun j hj => by
    rw [hf j hj]
    rcases hin j hj with e | ⟨b, hb, e⟩
    · exact Or.inl e
    · exact Or.inr ⟨b, by omega, e⟩
  have eh : ∀ j, j < nM → hasW W (W 44) j = hasW W f j := fun j hj => by unfold hasW; rw [hf j hj]
  unfold calmB at hk
  refine rw_const f_X9_isCalm_0 ?_
  refine rw_istore f_X9_isCalm_1 rfl rfl ?_
  refine rw_const f_X9_isCalm_2 ?_
  refine rw_istore f_X9_isCalm_3 rfl rfl ?_
  refine rn_forJ (N := nM) (fun a y => [am_r m, am_i (bI (allB (fun a => allB (fun b => !badB W f a b) a) a)), am_i (nI a), y]) (fun _ => mh h m W) (fun a ha y ih => ?_) (fun y => ?_) am_u
  · refine rw_iload f_X9_isCalm_4 rfl ?_
    refine rw_aload f_X9_isCalm_5 rfl ?_
    refine rm_getI f_X9_isCalm_6 hW ?_
    rw [hM]
    refine rw_icmpF f_X9_isCalm_9 (decide_eq_false (nI_ge ha (by omega))) ?_
    refine rw_const f_X9_isCalm_12 ?_
    refine rw_istore f_X9_isCalm_13 rfl rfl ?_
    skip
    have e0 : bI (allB (fun a => allB (fun b => !badB W f a b) a) a) = bI (allB (fun a => allB (fun b => !badB W f a b) a) a && allB (fun b => !badB W f a b) 0) := by simp only [allB, Bool.and_true]
    rw [e0]
    refine rn_for (N := a) (fun b => [am_r m, am_i (bI (allB (fun a => allB (fun b => !badB W f a b) a) a && allB (fun b => !badB W f a b) b)), am_i (nI a), am_i (nI b)]) (fun _ => mh h m W) (fun b hb ihb => ?_) ?_
    · rw [show (allB (fun a => allB (fun b => !badB W f a b) a) a && allB (fun b => !badB W f a b) (b + 1)) = ((allB (fun a => allB (fun b => !badB W f a b) a) a && allB (fun b => !badB W f a b) b) && !badB W f a b) from by simp only [allB]; rw [Bool.and_assoc]] at ihb
      generalize (allB (fun a => allB (fun b => !badB W f a b) a) a && allB (fun b => !badB W f a b) b) = A at ihb ⊢
      unfold badB at ihb
      refine rw_iload f_X9_isCalm_14 rfl ?_
      refine rw_iload f_X9_isCalm_15 rfl ?_
      refine rw_icmpF f_X9_isCalm_16 (decide_eq_false (nI_ge hb (by omega))) ?_
      refine rw_iload f_X9_isCalm_19 rfl ?_
      first | refine rw_eq0B f_X9_isCalm_20 (fun c1 => ?_) (fun c1 => ?_) | refine rw_eq0 f_X9_isCalm_20 (fun c1 => ?_) (fun c1 => ?_)
      · refine rw_const f_X9_isCalm_84 ?_
        refine rw_istore f_X9_isCalm_85 rfl rfl ?_
        refine rw_iinc f_X9_isCalm_86 rfl rfl ?_
        refine rw_goto f_X9_isCalm_89 ?_
        rw [nI_1']
        first | (simpa [c1, bI, am_put, am_kill] using ihb) | (simp only [Int32.not_le, Int32.not_lt] at *; simpa [c1, bI, am_put, am_kill] using ihb) | (simp only [← Int32.not_le] at *; simpa [c1, bI, am_put, am_kill] using ihb)
      · refine rw_aload f_X9_isCalm_23 rfl ?_
        refine rw_iload f_X9_isCalm_24 rfl ?_
        refine rw_iload f_X9_isCalm_25 rfl ?_
        refine rw_callV f_X9_isCalm_26 rfl hW.1 hW.2.1 rfl rfl rfl rfl (rn_ki (m_isTold hW (by omega) (by omega) ?_))
        first | refine rw_eq0B f_X9_isCalm_29 (fun c2 => ?_) (fun c2 => ?_) | refine rw_eq0 f_X9_isCalm_29 (fun c2 => ?_) (fun c2 => ?_)
        · refine rw_const f_X9_isCalm_80 ?_
          refine rw_goto f_X9_isCalm_81 ?_
          refine rw_istore f_X9_isCalm_85 rfl rfl ?_
          refine rw_iinc f_X9_isCalm_86 rfl rfl ?_
          refine rw_goto f_X9_isCalm_89 ?_
          rw [nI_1']
          first | (simpa [c1, c2, bI, am_put, am_kill] using ihb) | (simp only [Int32.not_le, Int32.not_lt] at *; simpa [c1, c2, bI, am_put, am_kill] using ihb) | (simp only [← Int32.not_le] at *; simpa [c1, c2, bI, am_put, am_kill] using ihb)
        · refine rw_aload f_X9_isCalm_32 rfl ?_
          refine rm_getR f_X9_isCalm_33 hW rfl ?_
          refine rw_iload f_X9_isCalm_36 rfl ?_
          refine rm_xald (j := a) f_X9_isCalm_37 hW (by exact rfl) (by first | rfl | exact nI_addl _ _ | (simp only [nI, Int32.ofNat_add, Int32.ofNat_mul]; rfl) | (simp only [nI_addl, nI_mull, nI_lit, nI_1']; done) | (simp only [nI_1, nI_0, nI_addl, nI_mull, ← nI_succ]; rfl)) (by omega) ?_
          rw [hf a ha]
          refine rw_iload f_X9_isCalm_38 rfl ?_
          refine rw_eq f_X9_isCalm_39 (fun c3 => ?_) (fun c3 => ?_)
          · refine rw_const f_X9_isCalm_80 ?_
            refine rw_goto f_X9_isCalm_81 ?_
            refine rw_istore f_X9_isCalm_85 rfl rfl ?_
            refine rw_iinc f_X9_isCalm_86 rfl rfl ?_
            refine rw_goto f_X9_isCalm_89 ?_
            rw [nI_1']
            first | (simpa [c1, c2, c3, bI, am_put, am_kill] using ihb) | (simp only [Int32.not_le, Int32.not_lt] at *; simpa [c1, c2, c3, bI, am_put, am_kill] using ihb) | (simp only [← Int32.not_le] at *; simpa [c1, c2, c3, bI, am_put, am_kill] using ihb)
          · refine rw_aload f_X9_isCalm_42 rfl ?_
            refine rm_getR f_X9_isCalm_43 hW rfl ?_
            refine rw_const f_X9_isCalm_46 ?_
            refine rw_iload f_X9_isCalm_48 rfl ?_
            refine rw_imul f_X9_isCalm_49 ?_
            refine rw_iload f_X9_isCalm_50 rfl ?_
            refine rw_iadd f_X9_isCalm_51 ?_
            refine rm_xald (j := 6 * a + b) f_X9_isCalm_52 hW (by exact rfl) (by first | rfl | exact nI_addl _ _ | (simp only [nI, Int32.ofNat_add, Int32.ofNat_mul]; rfl) | (simp only [nI_addl, nI_mull, nI_lit, nI_1']; done) | (simp only [nI_1, nI_0, nI_addl, nI_mull, ← nI_succ]; rfl)) (by omega) ?_
            refine rw_aload f_X9_isCalm_53 rfl ?_
            refine rw_iload f_X9_isCalm_54 rfl ?_
            refine rw_callV f_X9_isCalm_55 rfl hW.1 hW.2.1 rfl rfl rfl rfl (rn_ki (m_has hW (by omega) (hw a ha) ?_))
            rw [eh a ha]
            refine rw_le f_X9_isCalm_58 (fun c4 => ?_) (fun c4 => ?_)
            · refine rw_const f_X9_isCalm_80 ?_
              refine rw_goto f_X9_isCalm_81 ?_
              refine rw_istore f_X9_isCalm_85 rfl rfl ?_
              refine rw_iinc f_X9_isCalm_86 rfl rfl ?_
              refine rw_goto f_X9_isCalm_89 ?_
              rw [nI_1']
              first | (simpa [c1, c2, c3, c4, bI, am_put, am_kill] using ihb) | (simp only [Int32.not_le, Int32.not_lt] at *; simpa [c1, c2, c3, c4, bI, am_put, am_kill] using ihb) | (simp only [← Int32.not_le] at *; simpa [c1, c2, c3, c4, bI, am_put, am_kill] using ihb)
            · refine rw_aload f_X9_isCalm_61 rfl ?_
              refine rm_getR f_X9_isCalm_62 hW rfl ?_
              refine rw_const f_X9_isCalm_65 ?_
              refine rw_iload f_X9_isCalm_67 rfl ?_
              refine rw_imul f_X9_isCalm_68 ?_
              refine rw_iload f_X9_isCalm_69 rfl ?_
              refine rw_iadd f_X9_isCalm_70 ?_
              refine rm_xald (j := 6 * a + b) f_X9_isCalm_71 hW (by exact rfl) (by first | rfl | exact nI_addl _ _ | (simp only [nI, Int32.ofNat_add, Int32.ofNat_mul]; rfl) | (simp only [nI_addl, nI_mull, nI_lit, nI_1']; done) | (simp only [nI_1, nI_0, nI_addl, nI_mull, ← nI_succ]; rfl)) (by omega) ?_
              refine rw_aload f_X9_isCalm_72 rfl ?_
              refine rw_iload f_X9_isCalm_73 rfl ?_
              refine rw_callV f_X9_isCalm_74 rfl hW.1 hW.2.1 rfl rfl rfl rfl (rn_ki (m_has hW (by omega) (hw b (by omega)) ?_))
              rw [eh b (by omega)]
              refine rw_gt f_X9_isCalm_77 (fun c5 => ?_) (fun c5 => ?_)
              · refine rw_const f_X9_isCalm_84 ?_
                refine rw_istore f_X9_isCalm_85 rfl rfl ?_
                refine rw_iinc f_X9_isCalm_86 rfl rfl ?_
                refine rw_goto f_X9_isCalm_89 ?_
                rw [nI_1']
                first | (simpa [c1, c2, c3, c4, c5, bI, am_put, am_kill] using ihb) | (simp only [Int32.not_le, Int32.not_lt] at *; simpa [c1, c2, c3, c4, c5, bI, am_put, am_kill] using ihb) | (simp only [← Int32.not_le] at *; simpa [c1, c2, c3, c4, c5, bI, am_put, am_kill] using ihb)
              · refine rw_const f_X9_isCalm_80 ?_
                refine rw_goto f_X9_isCalm_81 ?_
                refine rw_istore f_X9_isCalm_85 rfl rfl ?_
                refine rw_iinc f_X9_isCalm_86 rfl rfl ?_
                refine rw_goto f_X9_isCalm_89 ?_
                rw [nI_1']
                first | (simpa [c1, c2, c3, c4, c5, bI, am_put, am_kill] using ihb) | (simp only [Int32.not_le, Int32.not_lt] at *; simpa [c1, c2, c3, c4, c5, bI, am_put, am_kill] using ihb) | (simp only [← Int32.not_le] at *; simpa [c1, c2, c3, c4, c5, bI, am_put, am_kill] using ihb)
    · refine rw_iload f_X9_isCalm_14 rfl ?_
      refine rw_iload f_X9_isCalm_15 rfl ?_
      refine rw_icmpT f_X9_isCalm_16 (decide_eq_true (Int32.le_refl _)) ?_
      refine rw_iinc f_X9_isCalm_92 rfl rfl ?_
      refine rw_goto f_X9_isCalm_95 ?_
      rw [nI_1']
      exact ih _
  · refine rw_iload f_X9_isCalm_4 rfl ?_
    refine rw_aload f_X9_isCalm_5 rfl ?_
    refine rm_getI f_X9_isCalm_6 hW ?_
    rw [hM]
    refine rw_icmpT f_X9_isCalm_9 (decide_eq_true (Int32.le_refl _)) ?_
    refine rw_iload f_X9_isCalm_98 rfl ?_
    refine rw_zret f_X9_isCalm_99 (by first | exact Or.inl rfl | exact Or.inr rfl | exact bI_01 _ | assumption) ?_
    exact hk
theorem calmB_V {V' : am_M} (e : V' 19 = V 19) (f : Nat → Int32) : calmB V' nM f = calmB V nM f := by
  unfold calmB
  congr 1
  funext a
  congr 1
  funext b
  unfold badB hasW
  rw [e]
theorem m_calm (hW : MW h m) (hB : WB V nM nD nB) (hk : ∀ X, Eqv (calmV V nM) X → k (nI (calmL V nM).length) (mh h m X)) : Rn (d + 2) n_X9_calm 0 [am_r m, am_u, am_u, am_u] [] (mh h m V) (kI k) := by
  obtain ⟨⟨fM, fM6, fD, fD6, fB, fB10⟩, -, -, -, sym, -⟩ := hB
  have p7 := pow_7 fM6
  have sym' : ∀ a b, a < nM → b < nM → V 19 (6 * a + b) = V 19 (6 * b + a) := fun a b ha hb => (sym a b ha hb).2
  refine rw_aload f_X9_calm_0 rfl ?_
  refine rw_const f_X9_calm_1 ?_
  refine rm_putI f_X9_calm_2 hW ?_
  rw [show_0 (f := fun _ => 0)]
  refine rw_const f_X9_calm_5 ?_
  refine rw_istore f_X9_calm_6 rfl rfl ?_
  refine rw_aload f_X9_calm_7 rfl ?_
  refine rw_callV f_X9_calm_8 rfl hW.1 hW.2.1 rfl rfl rfl rfl (rn_ki (m_rowsOf hW (by rw [showV_o (by decide) (by decide)]; exact fM) fM6 ?_))
  refine rw_istore f_X9_calm_11 rfl rfl ?_
  refine rw_const f_X9_calm_12 ?_
  refine rw_istore f_X9_calm_13 rfl rfl ?_
  skip
  refine rn_inv (N := (nM + 1) ^ nM) (fun v ls hh => ∃ W, hh = mh h m W ∧ ls = [am_r m, am_i (nI ((Lr V nM v).filter (fun p => calmB V nM p.1)).length), am_i (nI ((nM + 1) ^ nM)), am_i (nI v)] ∧ TS V nM ((Lr V nM v).filter (fun p => calmB V nM p.1)).head? W ∧ ((Lr V nM v).filter (fun p => calmB V nM p.1)).length ≤ v) (fun v hv ls hh hI ih => ?_) (fun ls hh hI => ?_) ⟨_, rfl, rfl, .refl, Nat.le_refl _⟩
  · obtain ⟨W, rfl, rfl, ts, le⟩ := hI
    obtain ⟨o1, o2⟩ := ts.o
    have rM : W 0 56 = nI nM := by rw [o2 _ (by decide)]; exact fM
    have eF : W 19 = V 19 := o1 _ (by decide) (by decide) (by decide)
    have es := Lr_s (V := V) (nM := nM) (n := v)
    have same : ∀ X, Sw W X → (Lr V nM (v + 1)).filter (fun p => calmB V nM p.1) = (Lr V nM v).filter (fun p => calmB V nM p.1) → Rn (d + 2) n_X9_calm 14 [am_r m, am_i (nI ((Lr V nM v).filter (fun p => calmB V nM p.1)).length), am_i (nI ((nM + 1) ^ nM)), am_i (nI (v + 1))] [] (mh h m X) (kI k) := by
      intro X sx e
      rw [e] at ih
      exact ih _ _ ⟨X, rfl, rfl, ts.sw sx, by omega⟩
    refine rw_iload f_X9_calm_14 rfl ?_
    refine rw_iload f_X9_calm_15 rfl ?_
    refine rw_icmpF f_X9_calm_16 (decide_eq_false (nI_ge hv (by omega))) ?_
    refine rw_aload f_X9_calm_19 rfl ?_
    refine rw_iload f_X9_calm_20 rfl ?_
    refine rw_callV f_X9_calm_21 rfl hW.1 hW.2.1 rfl rfl rfl rfl (rn_ki (m_layTwos hW rM fM6 (by omega) (fun X sx hx => ?_)))
    rw [vld_V eF]
    first | refine rw_eq0B f_X9_calm_24 (fun c1 => ?_) (fun c1 => ?_) | refine rw_eq0 f_X9_calm_24 (fun c1 => ?_) (fun c1 => ?_)
    · refine rw_iinc f_X9_calm_48 rfl rfl ?_
      refine rw_goto f_X9_calm_51 ?_
      rw [nI_1']
      first | exact same X sx (by rw [es, if_neg (by rw [c1]; decide), List.append_nil]) | exact same X sx (by rw [es, if_pos c1, List.filter_append]; simp [c2])
    refine rw_aload f_X9_calm_27 rfl ?_
    refine rw_callV f_X9_calm_28 rfl hW.1 hW.2.1 rfl rfl rfl rfl (rn_ki (m_isCalm hW (by rw [sx _ (by decide)]; exact rM) fM6 hx (fun j hj => fRow_in hj) ?_))
    rw [calmB_V (V := V) (by rw [sx _ (by decide)]; exact eF)]
    first | refine rw_ne0B f_X9_calm_31 (fun c2 => ?_) (fun c2 => ?_) | refine rw_ne0 f_X9_calm_31 (fun c2 => ?_) (fun c2 => ?_)
    rotate_left
    · refine rw_goto f_X9_calm_34 ?_
      refine rw_iinc f_X9_calm_48 rfl rfl ?_
      refine rw_goto f_X9_calm_51 ?_
      rw [nI_1']
      first | exact same X sx (by rw [es, if_neg (by rw [c1]; decide), List.append_nil]) | exact same X sx (by rw [es, if_pos c1, List.filter_append]; simp [c2])
    skip
    have e2 : (Lr V nM (v + 1)).filter (fun p => calmB V nM p.1) = (Lr V nM v).filter (fun p => calmB V nM p.1) ++ [(fRow nM v, wsum V (fRow nM v) nM)] := by
      rw [es, if_pos c1, List.filter_append]; simp [c2]
    rw [e2] at ih
    generalize (Lr V nM v).filter (fun p => calmB V nM p.1) = L at ih ts le ⊢
    cases L with
    | nil =>
      refine rw_iload f_X9_calm_37 rfl ?_
      refine rw_ifF f_X9_calm_38 (by decide) ?_
      refine rw_aload f_X9_calm_41 rfl ?_
      refine rw_callV f_X9_calm_42 rfl hW.1 hW.2.1 rfl rfl rfl rfl (rn_kv (TS.put (wo := wsum V (fRow nM v) nM) hW fM fM6 (ts.sw sx) hx (fun Y ty => ?_)))
      refine rw_iinc f_X9_calm_45 rfl rfl ?_
      refine rw_iinc f_X9_calm_48 rfl rfl ?_
      refine rw_goto f_X9_calm_51 ?_
      rw [nI_1', nI_1']
      exact ih _ _ ⟨Y, rfl, rfl, ty, by simp⟩
    | cons p L =>
      have n0 : ¬ nI (p :: L).length = 0 := nI_ne0 (by simp) (by omega)
      refine rw_iload f_X9_calm_37 rfl ?_
      refine rw_ifT f_X9_calm_38 (decide_eq_true n0) ?_
      refine rw_iinc f_X9_calm_45 rfl rfl ?_
      refine rw_iinc f_X9_calm_48 rfl rfl ?_
      refine rw_goto f_X9_calm_51 ?_
      rw [nI_1', nI_1']
      refine ih _ _ ⟨X, rfl, ?_, ts.sw sx, by simp at le ⊢; omega⟩
      rw [List.length_append]
      rfl
  · obtain ⟨W, rfl, rfl, ts, le⟩ := hI
    have eL : (Lr V nM ((nM + 1) ^ nM)).filter (fun p => calmB V nM p.1) = calmL V nM := by
      rw [show Lr V nM ((nM + 1) ^ nM) = prA V nM from rows_prA fM6 sym']
      rfl
    rw [eL] at ts ⊢
    refine rw_iload f_X9_calm_14 rfl ?_
    refine rw_iload f_X9_calm_15 rfl ?_
    refine rw_icmpT f_X9_calm_16 (decide_eq_true (Int32.le_refl _)) ?_
    refine rw_iload f_X9_calm_54 rfl ?_
    refine rw_iret f_X9_calm_55 ?_
    refine hk W ?_
    unfold calmV
    cases e : calmL V nM with
    | nil => rw [e] at ts; exact Sw.eqv ts
    | cons p L => rw [e] at ts; exact Sw.eqv ts
end MTwos
