/-! THE MODEL: images, tugs, the tape -/
section MBox
variable {d : Nat} {h : am_H} {m : Nat} {V : am_M} {k : Int32 → am_H → Prop} {nM nD nB nA nU nT nL : Nat}
theorem img_eq {b : Nat} : am_cpy (am_up V 50 b 1) 34 0 51 (24 * b) 23 = imgV V b := by
  funext a j
  unfold am_cpy imgV
  rw [up_row (by decide)]
  unfold am_up
  by_cases e1 : a = 50 ∧ j = b
  · rw [if_pos e1, if_neg (by omega), if_pos e1]
  · rw [if_neg e1, if_neg e1]
    by_cases e2 : a = 51 ∧ 24 * b ≤ j ∧ j < 24 * b + 23
    · rw [if_pos e2, if_pos e2, Nat.zero_add]
    · rw [if_neg e2, if_neg e2]
theorem m_image (hW : MW h m) {b : Int32} (hk0 : isIn b 0 2 = false → k (-1) (mh h m V)) (hk1 : isIn b 0 2 = true → k (V 34 20) (mh h m (imgV V b.toNatClampNeg))) : Rn (d + 1) n_X9_image 0 [am_r m, am_i b, am_u] [] (mh h m V) (kI k) := by
  cases hb : isIn b 0 2 with
  | false =>
    refine rw_iload f_X9_image_0 rfl ?_
    refine rw_callS f_X9_image_1 rfl rfl rfl (rn_ki (M_isBox ?_))
    refine rw_ifF f_X9_image_4 (by rw [hb]; rfl) ?_
    refine rw_const f_X9_image_7 ?_
    refine rw_iret f_X9_image_8 ?_
    exact hk0 hb
  | true =>
    have hk1' := hk1 hb
    obtain ⟨j, rfl, hj⟩ := isIn_nat (v := b) (n := 3) (by omega) hb
    rw [nI_clamp (by omega), ← img_eq] at hk1'
    have e0 : mh h m (am_up V 50 j 1) = mh h m (am_cpy (am_up V 50 j 1) 34 0 51 (24 * j) 0) := by rw [cpy_0]
    refine rw_iload f_X9_image_0 rfl ?_
    refine rw_callS f_X9_image_1 rfl rfl rfl (rn_ki (M_isBox ?_))
    refine rw_ifT f_X9_image_4 (by rw [hb]; rfl) ?_
    refine rw_aload f_X9_image_9 rfl ?_
    refine rm_getR f_X9_image_10 hW rfl ?_
    refine rw_iload f_X9_image_13 rfl ?_
    refine rw_const f_X9_image_14 ?_
    refine rm_zast f_X9_image_15 hW (by exact rfl) rfl (by omega) (by first | exact Or.inl rfl | exact Or.inr rfl | exact bI_01 _ | assumption) ?_
    refine rw_const f_X9_image_16 ?_
    refine rw_istore f_X9_image_17 rfl rfl ?_
    rw [e0]
    refine rn_for (N := 23) (fun i => [am_r m, am_i (nI j), am_i (nI i)]) (fun i => mh h m (am_cpy (am_up V 50 j 1) 34 0 51 (24 * j) i)) (fun i hi ih => ?_) ?_
    · refine rw_iload f_X9_image_18 rfl ?_
      refine rw_const f_X9_image_19 ?_
      refine rw_icmpF f_X9_image_21 (decide_eq_false (by rw [show (23 : Int32) = nI 23 from rfl]; exact nI_ge hi (by omega))) ?_
      refine rw_aload f_X9_image_24 rfl ?_
      refine rm_getR f_X9_image_25 hW rfl ?_
      refine rw_const f_X9_image_28 ?_
      refine rw_iload f_X9_image_30 rfl ?_
      refine rw_imul f_X9_image_31 ?_
      refine rw_iload f_X9_image_32 rfl ?_
      refine rw_iadd f_X9_image_33 ?_
      refine rw_aload f_X9_image_34 rfl ?_
      refine rm_getR f_X9_image_35 hW rfl ?_
      refine rw_iload f_X9_image_38 rfl ?_
      refine rm_xald f_X9_image_39 hW (by exact rfl) rfl (by omega) ?_
      refine rm_iast (j := 24 * j + i) f_X9_image_40 hW (by exact rfl) (by first | rfl | exact nI_addl _ _ | (simp only [nI, Int32.ofNat_add, Int32.ofNat_mul]; rfl) | (simp only [nI_addl, nI_mull, nI_lit, nI_1']; done) | (simp only [nI_1, nI_0, nI_addl, nI_mull, ← nI_succ]; rfl)) (by omega) ?_
      refine rw_iinc f_X9_image_41 rfl rfl ?_
      refine rw_goto f_X9_image_44 ?_
      rw [nI_1', cpy_up (Or.inl (by decide)) rfl (by rw [Nat.zero_add])]
      exact ih
    · refine rw_iload f_X9_image_18 rfl ?_
      refine rw_const f_X9_image_19 ?_
      refine rw_icmpT f_X9_image_21 (by decide) ?_
      refine rw_aload f_X9_image_47 rfl ?_
      refine rm_getR f_X9_image_48 hW rfl ?_
      refine rw_const f_X9_image_51 ?_
      refine rm_xald (j := 20) f_X9_image_53 hW (by exact rfl) (by first | rfl | exact nI_addl _ _ | (simp only [nI, Int32.ofNat_add, Int32.ofNat_mul]; rfl) | (simp only [nI_addl, nI_mull, nI_lit, nI_1']; done) | (simp only [nI_1, nI_0, nI_addl, nI_mull, ← nI_succ]; rfl)) (by omega) ?_
      refine rw_iret f_X9_image_54 ?_
      rw [cpy_row (by decide), up_row (by decide)]
      exact hk1'
theorem back_eq {b : Nat} : am_up (am_up (am_cpy V 51 (24 * b) 34 0 23) 0 69 0) 0 70 0 = backV V b := by
  funext a j
  unfold am_up am_cpy backV
  by_cases e1 : a = 0 ∧ j = 70
  · rw [if_pos e1, if_pos (by omega)]
  · rw [if_neg e1]
    by_cases e2 : a = 0 ∧ j = 69
    · rw [if_pos e2, if_pos (by omega)]
    · rw [if_neg e2, if_neg (show ¬ (a = 0 ∧ (j = 69 ∨ j = 70)) by omega)]
      by_cases e3 : a = 34 ∧ j < 23
      · rw [if_pos (show a = 34 ∧ 0 ≤ j ∧ j < 0 + 23 by omega), if_pos e3, Nat.sub_zero]
      · rw [if_neg (show ¬ (a = 34 ∧ 0 ≤ j ∧ j < 0 + 23) by omega), if_neg e3]
theorem m_back (hW : MW h m) (hx : ∀ b, b < 3 → V 50 b = 0 ∨ V 50 b = 1) {b : Int32} (hk0 : (isIn b 0 2 && decide (V 50 b.toNatClampNeg = 1)) = false → k (-1) (mh h m V)) (hk1 : (isIn b 0 2 && decide (V 50 b.toNatClampNeg = 1)) = true → k (V 51 (24 * b.toNatClampNeg + 20)) (mh h m (backV V b.toNatClampNeg))) : Rn (d + 1) n_X9_back 0 [am_r m, am_i b, am_u] [] (mh h m V) (kI k) := by
  cases hb : isIn b 0 2 with
  | false =>
    refine rw_iload f_X9_back_0 rfl ?_
    refine rw_callS f_X9_back_1 rfl rfl rfl (rn_ki (M_isBox ?_))
    refine rw_ifT f_X9_back_4 (by rw [hb]; rfl) ?_
    refine rw_const f_X9_back_16 ?_
    refine rw_iret f_X9_back_17 ?_
    exact hk0 (by rw [hb]; rfl)
  | true =>
    rw [hb] at hk0 hk1
    obtain ⟨j, rfl, hj⟩ := isIn_nat (v := b) (n := 3) (by omega) hb
    rw [nI_clamp (by omega)] at hk0 hk1
    rcases hx j hj with e | e
    · refine rw_iload f_X9_back_0 rfl ?_
      refine rw_callS f_X9_back_1 rfl rfl rfl (rn_ki (M_isBox ?_))
      refine rw_ifF f_X9_back_4 (by rw [hb]; rfl) ?_
      refine rw_aload f_X9_back_7 rfl ?_
      refine rm_getR f_X9_back_8 hW rfl ?_
      refine rw_iload f_X9_back_11 rfl ?_
      refine rm_xald f_X9_back_12 hW (by exact rfl) rfl (by omega) ?_
      rw [e]
      refine rw_ifF f_X9_back_13 (by decide) ?_
      refine rw_const f_X9_back_16 ?_
      refine rw_iret f_X9_back_17 ?_
      exact hk0 (by rw [e]; rfl)
    · have hk1' := hk1 (by rw [e]; rfl)
      rw [← back_eq] at hk1'
      have e0 : mh h m V = mh h m (am_cpy V 51 (24 * j) 34 0 0) := by rw [cpy_0]
      have e20 : am_cpy V 51 (24 * j) 34 0 23 34 20 = V 51 (24 * j + 20) := by unfold am_cpy; rw [if_pos (by omega)]
      refine rw_iload f_X9_back_0 rfl ?_
      refine rw_callS f_X9_back_1 rfl rfl rfl (rn_ki (M_isBox ?_))
      refine rw_ifF f_X9_back_4 (by rw [hb]; rfl) ?_
      refine rw_aload f_X9_back_7 rfl ?_
      refine rm_getR f_X9_back_8 hW rfl ?_
      refine rw_iload f_X9_back_11 rfl ?_
      refine rm_xald f_X9_back_12 hW (by exact rfl) rfl (by omega) ?_
      rw [e]
      refine rw_ifT f_X9_back_13 (by decide) ?_
      refine rw_const f_X9_back_18 ?_
      refine rw_istore f_X9_back_19 rfl rfl ?_
      rw [e0]
      refine rn_for (N := 23) (fun i => [am_r m, am_i (nI j), am_i (nI i)]) (fun i => mh h m (am_cpy V 51 (24 * j) 34 0 i)) (fun i hi ih => ?_) ?_
      · refine rw_iload f_X9_back_20 rfl ?_
        refine rw_const f_X9_back_21 ?_
        refine rw_icmpF f_X9_back_23 (decide_eq_false (by rw [show (23 : Int32) = nI 23 from rfl]; exact nI_ge hi (by omega))) ?_
        refine rw_aload f_X9_back_26 rfl ?_
        refine rm_getR f_X9_back_27 hW rfl ?_
        refine rw_iload f_X9_back_30 rfl ?_
        refine rw_aload f_X9_back_31 rfl ?_
        refine rm_getR f_X9_back_32 hW rfl ?_
        refine rw_const f_X9_back_35 ?_
        refine rw_iload f_X9_back_37 rfl ?_
        refine rw_imul f_X9_back_38 ?_
        refine rw_iload f_X9_back_39 rfl ?_
        refine rw_iadd f_X9_back_40 ?_
        refine rm_xald (j := 24 * j + i) f_X9_back_41 hW (by exact rfl) (by first | rfl | exact nI_addl _ _ | (simp only [nI, Int32.ofNat_add, Int32.ofNat_mul]; rfl) | (simp only [nI_addl, nI_mull, nI_lit, nI_1']; done) | (simp only [nI_1, nI_0, nI_addl, nI_mull, ← nI_succ]; rfl)) (by omega) ?_
        refine rm_iast (j := i) f_X9_back_42 hW (by exact rfl) (by first | rfl | exact nI_addl _ _ | (simp only [nI, Int32.ofNat_add, Int32.ofNat_mul]; rfl) | (simp only [nI_addl, nI_mull, nI_lit, nI_1']; done) | (simp only [nI_1, nI_0, nI_addl, nI_mull, ← nI_succ]; rfl)) (by omega) ?_
        refine rw_iinc f_X9_back_43 rfl rfl ?_
        refine rw_goto f_X9_back_46 ?_
        rw [nI_1', cpy_up (Or.inl (by decide)) (by rw [Nat.zero_add]) rfl]
        exact ih
      · refine rw_iload f_X9_back_20 rfl ?_
        refine rw_const f_X9_back_21 ?_
        refine rw_icmpT f_X9_back_23 (by decide) ?_
        refine rw_aload f_X9_back_49 rfl ?_
        refine rw_const f_X9_back_50 ?_
        refine rm_putI f_X9_back_51 hW ?_
        refine rw_aload f_X9_back_54 rfl ?_
        refine rw_const f_X9_back_55 ?_
        refine rm_putI f_X9_back_56 hW ?_
        refine rw_aload f_X9_back_59 rfl ?_
        refine rm_getR f_X9_back_60 hW rfl ?_
        refine rw_const f_X9_back_63 ?_
        refine rm_xald (j := 20) f_X9_back_65 hW (by exact rfl) (by first | rfl | exact nI_addl _ _ | (simp only [nI, Int32.ofNat_add, Int32.ofNat_mul]; rfl) | (simp only [nI_addl, nI_mull, nI_lit, nI_1']; done) | (simp only [nI_1, nI_0, nI_addl, nI_mull, ← nI_succ]; rfl)) (by omega) ?_
        refine rw_iret f_X9_back_66 ?_
        rw [up_row (by decide), up_row (by decide), e20]
        exact hk1'
theorem tug_eq {n : Nat} {w nu is_ : Int32} : am_up (am_up (am_up (am_up (am_up (am_up V 45 n w) 46 n nu) 49 n is_) 47 n (V 0 94)) 48 n (-1)) 0 93 (nI (n + 1)) = tugV V n w nu is_ := by
  funext a j
  unfold am_up tugV
  repeat' split
  all_goals first | rfl | (exfalso; omega)
theorem m_tug (hW : MW h m) (hT : V 0 93 = nI nT) (hT30 : nT ≤ 30) {w nu is_ : Int32} (hb : is_ = 0 ∨ is_ = 1) (hk0 : ok_tug nT w nu = false → k (-1) (mh h m V)) (hk1 : ok_tug nT w nu = true → k (nI nT) (mh h m (tugV V nT w nu is_))) : Rn (d + 1) n_X9_tug 0 [am_r m, am_i w, am_i nu, am_i is_] [] (mh h m V) (kI k) := by
  unfold ok_tug at hk0 hk1
  by_cases e : nT = 30
  · subst e
    refine rw_iload f_X9_tug_0 rfl ?_
    refine rw_const f_X9_tug_1 ?_
    refine rw_const f_X9_tug_2 ?_
    refine rw_callS f_X9_tug_3 rfl rfl rfl (rn_ki (M_isIn ?_))
    first | refine rw_eq0B f_X9_tug_6 (fun c1 => ?_) (fun c1 => ?_) | refine rw_eq0 f_X9_tug_6 (fun c1 => ?_) (fun c1 => ?_)
    · refine rw_const f_X9_tug_28 ?_
      refine rw_iret f_X9_tug_29 ?_
      exact hk0 (by simp)
    · refine rw_iload f_X9_tug_9 rfl ?_
      refine rw_const f_X9_tug_10 ?_
      refine rw_const f_X9_tug_11 ?_
      refine rw_callS f_X9_tug_13 rfl rfl rfl (rn_ki (M_isIn ?_))
      first | refine rw_eq0B f_X9_tug_16 (fun c2 => ?_) (fun c2 => ?_) | refine rw_eq0 f_X9_tug_16 (fun c2 => ?_) (fun c2 => ?_)
      · refine rw_const f_X9_tug_28 ?_
        refine rw_iret f_X9_tug_29 ?_
        exact hk0 (by simp)
      · refine rw_aload f_X9_tug_19 rfl ?_
        refine rm_getI f_X9_tug_20 hW ?_
        refine rw_const f_X9_tug_23 ?_
        rw [hT]
        refine rw_icmpF f_X9_tug_25 (by decide) ?_
        refine rw_const f_X9_tug_28 ?_
        refine rw_iret f_X9_tug_29 ?_
        exact hk0 (by simp)
  · refine rw_iload f_X9_tug_0 rfl ?_
    refine rw_const f_X9_tug_1 ?_
    refine rw_const f_X9_tug_2 ?_
    refine rw_callS f_X9_tug_3 rfl rfl rfl (rn_ki (M_isIn ?_))
    first | refine rw_eq0B f_X9_tug_6 (fun c1 => ?_) (fun c1 => ?_) | refine rw_eq0 f_X9_tug_6 (fun c1 => ?_) (fun c1 => ?_)
    · refine rw_const f_X9_tug_28 ?_
      refine rw_iret f_X9_tug_29 ?_
      first | (rw [nI_pred, tug_eq]; exact hk1 (by simp [c1, e])) | (exact hk0 (by simp [c1]))
    · refine rw_iload f_X9_tug_9 rfl ?_
      refine rw_const f_X9_tug_10 ?_
      refine rw_const f_X9_tug_11 ?_
      refine rw_callS f_X9_tug_13 rfl rfl rfl (rn_ki (M_isIn ?_))
      first | refine rw_eq0B f_X9_tug_16 (fun c2 => ?_) (fun c2 => ?_) | refine rw_eq0 f_X9_tug_16 (fun c2 => ?_) (fun c2 => ?_)
      · refine rw_const f_X9_tug_28 ?_
        refine rw_iret f_X9_tug_29 ?_
        first | (rw [nI_pred, tug_eq]; exact hk1 (by simp [c1, c2, e])) | (exact hk0 (by simp [c1, c2]))
      · refine rw_aload f_X9_tug_19 rfl ?_
        refine rm_getI f_X9_tug_20 hW ?_
        refine rw_const f_X9_tug_23 ?_
        rw [hT]
        refine rw_icmpT f_X9_tug_25 (decide_eq_true (fun z => e (nI_inj (by omega) (by omega) z))) ?_
        refine rw_aload f_X9_tug_30 rfl ?_
        refine rm_getR f_X9_tug_31 hW rfl ?_
        refine rw_aload f_X9_tug_34 rfl ?_
        refine rm_getI f_X9_tug_35 hW ?_
        rw [hT]
        refine rw_iload f_X9_tug_38 rfl ?_
        refine rm_iast (j := nT) f_X9_tug_39 hW (by exact rfl) (by first | rfl | exact nI_addl _ _ | (simp only [nI, Int32.ofNat_add, Int32.ofNat_mul]; rfl) | (simp only [nI_addl, nI_mull, nI_lit, nI_1']; done) | (simp only [nI_1, nI_0, nI_addl, nI_mull, ← nI_succ]; rfl)) (by omega) ?_
        refine rw_aload f_X9_tug_40 rfl ?_
        refine rm_getR f_X9_tug_41 hW rfl ?_
        refine rw_aload f_X9_tug_44 rfl ?_
        refine rm_getI f_X9_tug_45 hW ?_
        rw [up_row (by decide), hT]
        refine rw_iload f_X9_tug_48 rfl ?_
        refine rm_iast (j := nT) f_X9_tug_49 hW (by exact rfl) (by first | rfl | exact nI_addl _ _ | (simp only [nI, Int32.ofNat_add, Int32.ofNat_mul]; rfl) | (simp only [nI_addl, nI_mull, nI_lit, nI_1']; done) | (simp only [nI_1, nI_0, nI_addl, nI_mull, ← nI_succ]; rfl)) (by omega) ?_
        refine rw_aload f_X9_tug_50 rfl ?_
        refine rm_getR f_X9_tug_51 hW rfl ?_
        refine rw_aload f_X9_tug_54 rfl ?_
        refine rm_getI f_X9_tug_55 hW ?_
        rw [up_row (by decide), up_row (by decide), hT]
        refine rw_iload f_X9_tug_58 rfl ?_
        refine rm_zast (j := nT) f_X9_tug_59 hW (by exact rfl) (by first | rfl | exact nI_addl _ _ | (simp only [nI, Int32.ofNat_add, Int32.ofNat_mul]; rfl) | (simp only [nI_addl, nI_mull, nI_lit, nI_1']; done) | (simp only [nI_1, nI_0, nI_addl, nI_mull, ← nI_succ]; rfl)) (by omega) (by first | exact Or.inl rfl | exact Or.inr rfl | exact bI_01 _ | assumption) ?_
        refine rw_aload f_X9_tug_60 rfl ?_
        refine rm_getR f_X9_tug_61 hW rfl ?_
        refine rw_aload f_X9_tug_64 rfl ?_
        refine rm_getI f_X9_tug_65 hW ?_
        rw [up_row (by decide), up_row (by decide), up_row (by decide), hT]
        refine rw_aload f_X9_tug_68 rfl ?_
        refine rm_getI f_X9_tug_69 hW ?_
        rw [up_row (by decide), up_row (by decide), up_row (by decide)]
        refine rm_iast (j := nT) f_X9_tug_72 hW (by exact rfl) (by first | rfl | exact nI_addl _ _ | (simp only [nI, Int32.ofNat_add, Int32.ofNat_mul]; rfl) | (simp only [nI_addl, nI_mull, nI_lit, nI_1']; done) | (simp only [nI_1, nI_0, nI_addl, nI_mull, ← nI_succ]; rfl)) (by omega) ?_
        refine rw_aload f_X9_tug_73 rfl ?_
        refine rm_getR f_X9_tug_74 hW rfl ?_
        refine rw_aload f_X9_tug_77 rfl ?_
        refine rm_getI f_X9_tug_78 hW ?_
        rw [up_row (by decide), up_row (by decide), up_row (by decide), up_row (by decide), hT]
        refine rw_const f_X9_tug_81 ?_
        refine rm_iast (j := nT) f_X9_tug_82 hW (by exact rfl) (by first | rfl | exact nI_addl _ _ | (simp only [nI, Int32.ofNat_add, Int32.ofNat_mul]; rfl) | (simp only [nI_addl, nI_mull, nI_lit, nI_1']; done) | (simp only [nI_1, nI_0, nI_addl, nI_mull, ← nI_succ]; rfl)) (by omega) ?_
        refine rw_aload f_X9_tug_83 rfl ?_
        first | refine rw_dupr f_X9_tug_84 ?_ | refine rw_dupi f_X9_tug_84 ?_
        refine rm_getI f_X9_tug_85 hW ?_
        rw [up_row (by decide), up_row (by decide), up_row (by decide), up_row (by decide), up_row (by decide), hT]
        refine rw_const f_X9_tug_88 ?_
        refine rw_iadd f_X9_tug_89 ?_
        rw [nI_1']
        refine rm_putI f_X9_tug_90 hW ?_
        refine rw_aload f_X9_tug_93 rfl ?_
        refine rm_getI f_X9_tug_94 hW ?_
        rw [up_same]
        refine rw_const f_X9_tug_97 ?_
        refine rw_isub f_X9_tug_98 ?_
        refine rw_iret f_X9_tug_99 ?_
        first | (rw [nI_pred, tug_eq]; exact hk1 (by simp [c1, c2, e])) | (exact hk0 (by simp [c1, c2]))
theorem m_untell (hW : MW h m) (hT : V 0 93 = nI nT) (hT30 : nT ≤ 30) {i : Int32} (hk0 : ok_untell V nT i = false → k 0 (mh h m V)) (hk1 : ok_untell V nT i = true → k 1 (mh h m (untV V i.toNatClampNeg))) : Rn (d + 1) n_X9_untell 0 [am_r m, am_i i] [] (mh h m V) (kI k) := by
  unfold ok_untell at hk0 hk1
  cases hb : isIn i 0 (nI nT - 1) with
  | false =>
    refine rw_iload f_X9_untell_0 rfl ?_
    refine rw_const f_X9_untell_1 ?_
    refine rw_aload f_X9_untell_2 rfl ?_
    refine rm_getI f_X9_untell_3 hW ?_
    rw [hT]
    refine rw_const f_X9_untell_6 ?_
    refine rw_isub f_X9_untell_7 ?_
    refine rw_callS f_X9_untell_8 rfl rfl rfl (rn_ki (M_isIn ?_))
    refine rw_ifT f_X9_untell_11 (by rw [hb]; rfl) ?_
    refine rw_const f_X9_untell_23 ?_
    refine rw_zret f_X9_untell_24 (by first | exact Or.inl rfl | exact Or.inr rfl | exact bI_01 _ | assumption) ?_
    exact hk0 (by rw [hb]; rfl)
  | true =>
    rw [hb] at hk0 hk1
    obtain ⟨j, rfl, hj⟩ := isIn_nat (n := nT) (by omega) hb
    rw [nI_clamp (by omega)] at hk0 hk1
    refine rw_iload f_X9_untell_0 rfl ?_
    refine rw_const f_X9_untell_1 ?_
    refine rw_aload f_X9_untell_2 rfl ?_
    refine rm_getI f_X9_untell_3 hW ?_
    rw [hT]
    refine rw_const f_X9_untell_6 ?_
    refine rw_isub f_X9_untell_7 ?_
    refine rw_callS f_X9_untell_8 rfl rfl rfl (rn_ki (M_isIn ?_))
    refine rw_ifF f_X9_untell_11 (by rw [hb]; rfl) ?_
    refine rw_aload f_X9_untell_14 rfl ?_
    refine rm_getR f_X9_untell_15 hW rfl ?_
    refine rw_iload f_X9_untell_18 rfl ?_
    refine rm_xald f_X9_untell_19 hW (by exact rfl) rfl (by omega) ?_
    refine rw_lt0 f_X9_untell_20 (fun c1 => ?_) (fun c1 => ?_)
    · refine rw_aload f_X9_untell_25 rfl ?_
      refine rm_getR f_X9_untell_26 hW rfl ?_
      refine rw_iload f_X9_untell_29 rfl ?_
      refine rw_aload f_X9_untell_30 rfl ?_
      refine rm_getI f_X9_untell_31 hW ?_
      refine rm_iast f_X9_untell_34 hW (by exact rfl) rfl (by omega) ?_
      refine rw_const f_X9_untell_35 ?_
      refine rw_zret f_X9_untell_36 (by first | exact Or.inl rfl | exact Or.inr rfl | exact bI_01 _ | assumption) ?_
      first | exact hk1 (by simp [c1]) | exact hk0 (by simp [c1])
    · refine rw_const f_X9_untell_23 ?_
      refine rw_zret f_X9_untell_24 (by first | exact Or.inl rfl | exact Or.inr rfl | exact bI_01 _ | assumption) ?_
      first | exact hk1 (by simp [c1]) | exact hk0 (by simp [c1])
theorem m_four1 (hW : MW h m) {t : Nat} (ht : V 0 1 = nI t) (ht4 : t < 1600) {v q : Int32} (hq : ¬ q < 0) {K : am_R → am_H → Prop} (hk : Rn d n_X9_four 3 [am_r m, am_i v, am_i (q + (-8))] [] (mh h m (am_up (am_up V 1 t ((v >>> (q &&& 31)) &&& 255)) 0 1 (nI (t + 1)))) K) : Rn d n_X9_four 3 [am_r m, am_i v, am_i q] [] (mh h m V) K := by
  refine rw_iload f_X9_four_3 rfl ?_
  refine rw_ifF f_X9_four_4 (decide_eq_false hq) ?_
  refine rw_aload f_X9_four_7 rfl ?_
  refine rm_getR f_X9_four_8 hW rfl ?_
  refine rw_aload f_X9_four_11 rfl ?_
  refine rm_getI f_X9_four_12 hW ?_
  rw [ht]
  refine rw_iload f_X9_four_15 rfl ?_
  refine rw_iload f_X9_four_16 rfl ?_
  refine rw_ishr f_X9_four_17 ?_
  refine rw_const f_X9_four_18 ?_
  refine rw_iand f_X9_four_21 ?_
  refine rm_iast (j := t) f_X9_four_22 hW (by exact rfl) (by first | rfl | exact nI_addl _ _ | (simp only [nI, Int32.ofNat_add, Int32.ofNat_mul]; rfl) | (simp only [nI_addl, nI_mull, nI_lit, nI_1']; done) | (simp only [nI_1, nI_0, nI_addl, nI_mull, ← nI_succ]; rfl)) (by omega) ?_
  refine rw_aload f_X9_four_23 rfl ?_
  first | refine rw_dupr f_X9_four_24 ?_ | refine rw_dupi f_X9_four_24 ?_
  refine rm_getI f_X9_four_25 hW ?_
  rw [up_row (by decide), ht]
  refine rw_const f_X9_four_28 ?_
  refine rw_iadd f_X9_four_29 ?_
  rw [nI_1']
  refine rm_putI f_X9_four_30 hW ?_
  refine rw_iinc f_X9_four_33 rfl rfl ?_
  refine rw_goto f_X9_four_36 ?_
  exact hk
theorem four_eq {t : Nat} {a b c e : Int32} : am_up (am_up (am_up (am_up (am_up (am_up (am_up (am_up V 1 t a) 0 1 (nI (t + 1))) 1 (t + 1) b) 0 1 (nI (t + 1 + 1))) 1 (t + 1 + 1) c) 0 1 (nI (t + 1 + 1 + 1))) 1 (t + 1 + 1 + 1) e) 0 1 (nI (t + 1 + 1 + 1 + 1)) = fun a_ j => if a_ = 0 ∧ j = 1 then nI (t + 4) else if a_ = 1 ∧ j = t then a else if a_ = 1 ∧ j = t + 1 then b else if a_ = 1 ∧ j = t + 2 then c else if a_ = 1 ∧ j = t + 3 then e else V a_ j := by
  funext x j
  unfold am_up
  repeat' split
  all_goals first | rfl | (exfalso; omega)
theorem m_four (hW : MW h m) {t : Nat} (ht : V 0 1 = nI t) (ht4 : t + 4 ≤ 1600) {v : Int32} {k : am_H → Prop} (hk : k (mh h m (bytV V t v))) : Rn d n_X9_four 0 [am_r m, am_i v, am_u] [] (mh h m V) (kV k) := by
  refine rw_const f_X9_four_0 ?_
  refine rw_istore f_X9_four_2 rfl rfl ?_
  refine m_four1 hW ht (by omega) (by decide) ?_
  refine m_four1 hW up_same (by omega) (by decide) ?_
  refine m_four1 hW up_same (by omega) (by decide) ?_
  refine m_four1 hW up_same (by omega) (by decide) ?_
  refine rw_iload f_X9_four_3 rfl ?_
  refine rw_ifT f_X9_four_4 (by decide) ?_
  refine rw_vret f_X9_four_39 ?_
  rw [four_eq]
  exact hk
theorem m_feed (hW : MW h m) {t : Nat} (ht : V 0 1 = nI t) (htt : t ≤ 1600) {a b c_ d_ e_ : Int32} (hk0 : ¬ t + 20 ≤ 1600 → k (-1) (mh h m V)) (hk1 : t + 20 ≤ 1600 → k (nI (t + 20)) (mh h m (feedV V t a b c_ d_ e_))) : Rn (d + 1) n_X9_feed 0 [am_r m, am_i a, am_i b, am_i c_, am_i d_, am_i e_] [] (mh h m V) (kI k) := by
  have tp : ∀ (V : am_M) (t : Nat) (v : Int32), bytV V t v 0 1 = nI (t + 4) := fun V t v => if_pos ⟨rfl, rfl⟩
  have cond : nI t + 20 ≤ 1600 ↔ t + 20 ≤ 1600 := by rw [show nI t + 20 = nI (t + 20) from nI_addl t 20]; exact nI_leI (b := 1600) (by omega) (by omega)
  by_cases e : t + 20 ≤ 1600
  · refine rw_aload f_X9_feed_0 rfl ?_
    refine rm_getI f_X9_feed_1 hW ?_
    rw [ht]
    refine rw_const f_X9_feed_4 ?_
    refine rw_iadd f_X9_feed_6 ?_
    refine rw_const f_X9_feed_7 ?_
    refine rw_icmpT f_X9_feed_10 (decide_eq_true (cond.mpr e)) ?_
    refine rw_aload f_X9_feed_15 rfl ?_
    refine rw_iload f_X9_feed_16 rfl ?_
    refine rw_callV f_X9_feed_17 rfl hW.1 hW.2.1 rfl rfl rfl rfl (rn_kv (m_four hW ht (by omega) ?_))
    refine rw_aload f_X9_feed_20 rfl ?_
    refine rw_iload f_X9_feed_21 rfl ?_
    refine rw_callV f_X9_feed_22 rfl hW.1 hW.2.1 rfl rfl rfl rfl (rn_kv (m_four hW (t := t + 4) (tp _ _ _) (by omega) ?_))
    refine rw_aload f_X9_feed_25 rfl ?_
    refine rw_iload f_X9_feed_26 rfl ?_
    refine rw_callV f_X9_feed_27 rfl hW.1 hW.2.1 rfl rfl rfl rfl (rn_kv (m_four hW (t := t + 8) (tp _ _ _) (by omega) ?_))
    refine rw_aload f_X9_feed_30 rfl ?_
    refine rw_iload f_X9_feed_31 rfl ?_
    refine rw_callV f_X9_feed_33 rfl hW.1 hW.2.1 rfl rfl rfl rfl (rn_kv (m_four hW (t := t + 12) (tp _ _ _) (by omega) ?_))
    refine rw_aload f_X9_feed_36 rfl ?_
    refine rw_iload f_X9_feed_37 rfl ?_
    refine rw_callV f_X9_feed_39 rfl hW.1 hW.2.1 rfl rfl rfl rfl (rn_kv (m_four hW (t := t + 16) (tp _ _ _) (by omega) ?_))
    refine rw_aload f_X9_feed_42 rfl ?_
    refine rm_getI f_X9_feed_43 hW ?_
    refine rw_iret f_X9_feed_46 ?_
    rw [tp]
    exact hk1 e
  · refine rw_aload f_X9_feed_0 rfl ?_
    refine rm_getI f_X9_feed_1 hW ?_
    rw [ht]
    refine rw_const f_X9_feed_4 ?_
    refine rw_iadd f_X9_feed_6 ?_
    refine rw_const f_X9_feed_7 ?_
    refine rw_icmpF f_X9_feed_10 (decide_eq_false (fun z => e (cond.mp z))) ?_
    refine rw_const f_X9_feed_13 ?_
    refine rw_iret f_X9_feed_14 ?_
    exact hk0 e
end MBox
