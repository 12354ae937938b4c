/-! THE CLASS: words -/
/-- the strings and their rows -/
def SWd (h : am_H) : Prop := (∀ i, i < 22 → ¬ hp_R h 0 (10 + i) = 0 ∧ ¬ hp_R h 0 (1000 + hp_R h 0 (10 + i)) = 0 ∧ hp_K h (hp_R h 0 (1000 + hp_R h 0 (10 + i))) = (12, wl i) ∧ ∀ j, j < wl i → hp_I h (hp_R h 0 (1000 + hp_R h 0 (10 + i))) j = wb i j) ∧
  (hp_K h (hp_R h 0 2) = (17, 22) ∧ ∀ j, j < 22 → hp_R h (hp_R h 0 2) j = hp_R h 0 (10 + st_kw.getD j 0)) ∧ (hp_K h (hp_R h 0 3) = (17, 4) ∧ ∀ j, j < 4 → hp_R h (hp_R h 0 3) j = hp_R h 0 (10 + st_nd.getD j 0))
theorem SWd.fr {WI WR : Nat → Prop} {c s : Nat} {h h' : am_H} (al : Al h) (q : SWd h) (fr : Fr WI WR c s h h') (hi : ∀ b, WI b → ¬ (hp_K h b).1 = 12) (hr : ∀ b, WR b → ¬ b = 0 ∧ ¬ (hp_K h b).1 = 17) : SWd h' := by
  obtain ⟨q1, ⟨q2, q3⟩, q4, q5⟩ := q
  have r0 : hp_R h' 0 = hp_R h 0 := fr.R al.1 (fun w => (hr 0 w).1 rfl)
  unfold SWd
  rw [r0]
  refine ⟨fun i hi' => ?_, ⟨?_, fun j hj => ?_⟩, ?_, fun j hj => ?_⟩
  · obtain ⟨a1, a2, a3, a4⟩ := q1 i hi'
    have lv := Al_lt al a3 (by decide)
    refine ⟨a1, a2, by rw [fr.K lv]; exact a3, fun j hj => ?_⟩
    rw [fr.I lv (fun w => hi _ w (by rw [a3]))]; exact a4 j hj
  · rw [fr.K (Al_lt al q2 (by decide))]; exact q2
  · rw [fr.R (Al_lt al q2 (by decide)) (fun w => (hr _ w).2 (by rw [q2]))]; exact q3 j hj
  · rw [fr.K (Al_lt al q4 (by decide))]; exact q4
  · rw [fr.R (Al_lt al q4 (by decide)) (fun w => (hr _ w).2 (by rw [q4]))]; exact q5 j hj
section CWord
variable {d : Nat} {h : am_H} {R tp N : Nat} {T : tx} {k : Int32 → am_H → Prop}
theorem wb_ch : ∀ i, i < 22 → ∀ j, j < wl i → f_i2c (wb i j &&& 255) = wb i j ∧ vp_nar .char (wb i j) = wb i j := by decide +kernel
theorem J_coder {a v : Nat} (h1 : hp_R h 0 (1000 + a) = v) (h2 : ¬ v = 0) (hk : k 0 h) : Rn d n_J7_coder 0 [am_r a] [] h (kI k) := by
  refine rw_const f_J7_coder_0 ?_
  refine rw_ifF f_J7_coder_3 (by decide) ?_
  refine rw_aload f_J7_coder_6 rfl ?_
  refine rw_strC f_J7_coder_7 h1 h2 ?_
  refine rw_goto f_J7_coder_10 ?_
  exact rw_nret f_J7_coder_14 (by decide) hk
theorem J_isLatin1 {a v : Nat} (h1 : hp_R h 0 (1000 + a) = v) (h2 : ¬ v = 0) (hk : k 1 h) : Rn d n_J7_isLatin1 0 [am_r a] [] h (kI k) := by
  refine rw_const f_J7_isLatin1_0 ?_
  refine rw_ifF f_J7_isLatin1_3 (by decide) ?_
  refine rw_aload f_J7_isLatin1_6 rfl ?_
  refine rw_strC f_J7_isLatin1_7 h1 h2 ?_
  refine rw_ifF f_J7_isLatin1_10 (by decide) ?_
  refine rw_const f_J7_isLatin1_13 ?_
  refine rw_goto f_J7_isLatin1_14 ?_
  exact rw_zret f_J7_isLatin1_18 (Or.inr rfl) hk
theorem shr0 (x : Int32) : x >>> ((0 : Int32) &&& 31) = x := by
  have : ((0 : Int32) &&& 31) = 0 := by decide
  rw [this]
  apply Int32.toBitVec_inj.mp
  simp
theorem J_strlen (hS : SWd h) {i : Nat} (hi : i < 22) (hk : k (nI (wl i)) h) : Rn (d + 1) n_J7_length 0 [am_r (hp_R h 0 (10 + i))] [] h (kI k) := by
  obtain ⟨a1, a2, a3, a4⟩ := hS.1 i hi
  refine rw_aload f_J7_length_0 rfl ?_
  refine rw_strV f_J7_length_1 rfl a2 ?_
  refine rw_alen f_J7_length_4 a3 ?_
  refine rw_aload f_J7_length_5 rfl ?_
  refine rw_callT f_J7_length_6 rfl rfl a2 a1 rfl rfl rfl (rn_ki (J_coder rfl a2 ?_))
  refine rw_ishr f_J7_length_9 ?_
  rw [shr0]
  exact rw_iret f_J7_length_10 hk
theorem J_charAt (hS : SWd h) {i j : Nat} (hi : i < 22) (hj : j < wl i) (hk : k (wb i j) h) : Rn (d + 3) n_J7_charAt 0 [am_r (hp_R h 0 (10 + i)), am_i (nI j)] [] h (kI k) := by
  obtain ⟨a1, a2, a3, a4⟩ := hS.1 i hi
  obtain ⟨w1, w2, w3⟩ := wb_ok i hi
  obtain ⟨c1, c2⟩ := wb_ch i hi j hj
  refine rw_aload f_J7_charAt_0 rfl ?_
  refine rw_callT f_J7_charAt_1 rfl rfl a2 a1 rfl rfl rfl (rn_ki (J_isLatin1 rfl a2 ?_))
  refine rw_ifF f_J7_charAt_4 (by decide) ?_
  refine rw_aload f_J7_charAt_7 rfl ?_
  refine rw_strV f_J7_charAt_8 rfl a2 ?_
  refine rw_iload f_J7_charAt_11 rfl ?_
  refine rw_callS f_J7_charAt_12 rfl rfl rfl (rn_ki ?_)
  refine rw_iload f_J8_charAt_0 rfl ?_
  refine rw_aload f_J8_charAt_1 rfl ?_
  refine rw_alen f_J8_charAt_2 a3 ?_
  refine rw_callS f_J8_charAt_3 rfl rfl rfl (rn_kv ?_)
  refine rw_iload f_J7_checkIndex_0 rfl ?_
  refine rw_iload f_J7_checkIndex_1 rfl ?_
  refine rw_glob f_J7_checkIndex_2 ?_
  refine rw_callS f_J7_checkIndex_5 rfl rfl rfl (rn_ki (J6_ck hj (by omega) ?_))
  refine rw_popi f_J7_checkIndex_8 ?_
  refine rw_vret f_J7_checkIndex_9 ?_
  refine rw_aload f_J8_charAt_6 rfl ?_
  refine rw_iload f_J8_charAt_7 rfl ?_
  refine rw_xaldE (j := j) f_J8_charAt_8 a3 rfl hj (by omega) ?_
  rw [a4 j hj]
  refine rw_const f_J8_charAt_9 ?_
  refine rw_iand f_J8_charAt_12 ?_
  refine rw_un f_J8_charAt_13 ?_
  rw [c1]
  refine rw_nret f_J8_charAt_14 c2 ?_
  exact rw_nret f_J7_charAt_15 c2 hk
theorem C_isWord (hS : SWd h) (hR : RW h R tp N T) {p : Nat} (hT : RT h R N T p) {i : Nat} (hi : i < 22) (hk : k (bI (isW T N p (wc i))) h) : Rn (d + 4) n_X10_isWord 0 [am_r R, am_r (hp_R h 0 (10 + i)), am_u] [] h (kI k) := by
  rw [← isWi_eq hi] at hk
  obtain ⟨hp, e4, e5, e6, -, -⟩ := hT
  obtain ⟨w1, w2, w3⟩ := wb_ok i hi
  obtain ⟨s1, s2, s3, s4⟩ := hS.1 i hi
  have rK := hR.1
  have rz := hR.2.1
  have hN := hR.2.2.2.2.2.1
  have tg := tkE_ge (T := T) hp
  unfold isWi at hk
  have esub : nI (tkE T N p) - nI p = nI (tkE T N p - p) := by
    have : nI (tkE T N p - p) + nI p = nI (tkE T N p) := by rw [nI_addl, Nat.sub_add_cancel tg.1]
    rw [← this, Int32.add_sub_cancel]
  by_cases c1 : tkD T N p = 1
  · rw [decide_eq_true c1, Bool.true_and] at hk
    by_cases c2 : tkE T N p - p = wl i
    · rw [decide_eq_true c2, Bool.true_and] at hk
      have key : ∀ q j, j + q = wl i → (∀ j', j' < j → T (p + j') = wb i j') → Rn (d + 4) n_X10_isWord 28 [am_r R, am_r (hp_R h 0 (10 + i)), am_i (nI j)] [] h (kI k) := by
        intro q
        induction q with
        | zero =>
          intro j hj hq
          have : allB (fun j => decide (T (p + j) = wb i j)) (wl i) = true := allB_iff.mpr (fun j' hj' => decide_eq_true (hq j' (by omega)))
          rw [this] at hk
          obtain rfl : j = wl i := by omega
          refine rw_iload f_X10_isWord_28 rfl ?_
          refine rw_aload f_X10_isWord_29 rfl ?_
          refine rw_callT f_X10_isWord_30 rfl rfl s2 s1 rfl rfl rfl (rn_ki (J_strlen hS hi ?_))
          refine rw_icmpT f_X10_isWord_33 (decide_eq_true (Int32.le_refl _)) ?_
          refine rw_iload f_X10_isWord_60 rfl ?_
          refine rw_aload f_X10_isWord_61 rfl ?_
          refine rw_callT f_X10_isWord_62 rfl rfl s2 s1 rfl rfl rfl (rn_ki (J_strlen hS hi ?_))
          refine rw_icmpF f_X10_isWord_65 (decide_eq_false (fun z => z rfl)) ?_
          refine rw_const f_X10_isWord_68 ?_
          refine rw_goto f_X10_isWord_69 ?_
          refine rw_zret f_X10_isWord_73 (by first | exact Or.inl rfl | exact Or.inr rfl | exact bI_01 _ | assumption) ?_
          exact hk
        | succ q ih =>
          intro j hj hq
          have sj : sg0 T N (p + j) = T (p + j) := if_pos (by omega)
          by_cases z : T (p + j) = wb i j
          · have ih2 := ih (j + 1) (by omega) (fun j' hj' => by by_cases e : j' = j; exact e ▸ z; exact hq j' (by omega))
            refine rw_iload f_X10_isWord_28 rfl ?_
            refine rw_aload f_X10_isWord_29 rfl ?_
            refine rw_callT f_X10_isWord_30 rfl rfl s2 s1 rfl rfl rfl (rn_ki (J_strlen hS hi ?_))
            refine rw_icmpF f_X10_isWord_33 (decide_eq_false (nI_ge (by omega) (by omega))) ?_
            refine rw_aload f_X10_isWord_36 rfl ?_
            refine rw_aload f_X10_isWord_37 rfl ?_
            refine rw_getI f_X10_isWord_38 (by assumption) ?_
            rw [e4]
            refine rw_iload f_X10_isWord_41 rfl ?_
            refine rw_iadd f_X10_isWord_42 ?_
            rw [nI_addl]
            refine rw_callV f_X10_isWord_43 rfl (by assumption) (by first | assumption | omega) rfl rfl rfl rfl (rn_ki (C_sign hR (by omega) ?_))
            rw [sj, z]
            refine rw_aload f_X10_isWord_46 rfl ?_
            refine rw_iload f_X10_isWord_47 rfl ?_
            refine rw_callT f_X10_isWord_48 rfl rfl s2 s1 rfl rfl rfl (rn_ki (J_charAt hS hi (by omega) ?_))
            refine rw_icmpF f_X10_isWord_51 (decide_eq_false (fun z => z rfl)) ?_
            refine rw_iinc f_X10_isWord_54 rfl rfl ?_
            refine rw_goto f_X10_isWord_57 ?_
            rw [nI_1']
            exact ih2
          · have : allB (fun j => decide (T (p + j) = wb i j)) (wl i) = false := allB_false (b := j) (decide_eq_false z) (by omega)
            rw [this] at hk
            have nz : ¬ nI j = nI (wl i) := fun e => by have := nI_inj (by omega) (by omega) e; omega
            refine rw_iload f_X10_isWord_28 rfl ?_
            refine rw_aload f_X10_isWord_29 rfl ?_
            refine rw_callT f_X10_isWord_30 rfl rfl s2 s1 rfl rfl rfl (rn_ki (J_strlen hS hi ?_))
            refine rw_icmpF f_X10_isWord_33 (decide_eq_false (nI_ge (by omega) (by omega))) ?_
            refine rw_aload f_X10_isWord_36 rfl ?_
            refine rw_aload f_X10_isWord_37 rfl ?_
            refine rw_getI f_X10_isWord_38 (by assumption) ?_
            rw [e4]
            refine rw_iload f_X10_isWord_41 rfl ?_
            refine rw_iadd f_X10_isWord_42 ?_
            rw [nI_addl]
            refine rw_callV f_X10_isWord_43 rfl (by assumption) (by first | assumption | omega) rfl rfl rfl rfl (rn_ki (C_sign hR (by omega) ?_))
            rw [sj]
            refine rw_aload f_X10_isWord_46 rfl ?_
            refine rw_iload f_X10_isWord_47 rfl ?_
            refine rw_callT f_X10_isWord_48 rfl rfl s2 s1 rfl rfl rfl (rn_ki (J_charAt hS hi (by omega) ?_))
            refine rw_icmpT f_X10_isWord_51 (decide_eq_true z) ?_
            refine rw_iload f_X10_isWord_60 rfl ?_
            refine rw_aload f_X10_isWord_61 rfl ?_
            refine rw_callT f_X10_isWord_62 rfl rfl s2 s1 rfl rfl rfl (rn_ki (J_strlen hS hi ?_))
            refine rw_icmpT f_X10_isWord_65 (decide_eq_true nz) ?_
            refine rw_const f_X10_isWord_72 ?_
            refine rw_zret f_X10_isWord_73 (by first | exact Or.inl rfl | exact Or.inr rfl | exact bI_01 _ | assumption) ?_
            exact hk
      refine rw_aload f_X10_isWord_0 rfl ?_
      refine rw_getI f_X10_isWord_1 (by assumption) ?_
      rw [e6, c1]
      refine rw_const f_X10_isWord_4 ?_
      refine rw_icmpF f_X10_isWord_5 (by decide) ?_
      refine rw_aload f_X10_isWord_8 rfl ?_
      refine rw_getI f_X10_isWord_9 (by assumption) ?_
      rw [e5]
      refine rw_aload f_X10_isWord_12 rfl ?_
      refine rw_getI f_X10_isWord_13 (by assumption) ?_
      rw [e4]
      refine rw_isub f_X10_isWord_16 ?_
      rw [esub, c2]
      refine rw_aload f_X10_isWord_17 rfl ?_
      refine rw_callT f_X10_isWord_18 rfl rfl s2 s1 rfl rfl rfl (rn_ki (J_strlen hS hi ?_))
      refine rw_icmpT f_X10_isWord_21 (decide_eq_true rfl) ?_
      refine rw_const f_X10_isWord_26 ?_
      refine rw_istore f_X10_isWord_27 rfl rfl ?_
      exact key (wl i) 0 (by omega) (fun j hj => absurd hj (Nat.not_lt_zero j))
    · rw [decide_eq_false c2, Bool.false_and] at hk
      have nz : ¬ nI (tkE T N p - p) = nI (wl i) := fun e => c2 (nI_inj (by omega) (by omega) e)
      refine rw_aload f_X10_isWord_0 rfl ?_
      refine rw_getI f_X10_isWord_1 (by assumption) ?_
      rw [e6, c1]
      refine rw_const f_X10_isWord_4 ?_
      refine rw_icmpF f_X10_isWord_5 (by decide) ?_
      refine rw_aload f_X10_isWord_8 rfl ?_
      refine rw_getI f_X10_isWord_9 (by assumption) ?_
      rw [e5]
      refine rw_aload f_X10_isWord_12 rfl ?_
      refine rw_getI f_X10_isWord_13 (by assumption) ?_
      rw [e4]
      refine rw_isub f_X10_isWord_16 ?_
      rw [esub]
      refine rw_aload f_X10_isWord_17 rfl ?_
      refine rw_callT f_X10_isWord_18 rfl rfl s2 s1 rfl rfl rfl (rn_ki (J_strlen hS hi ?_))
      refine rw_icmpF f_X10_isWord_21 (decide_eq_false nz) ?_
      refine rw_const f_X10_isWord_24 ?_
      refine rw_zret f_X10_isWord_25 (by first | exact Or.inl rfl | exact Or.inr rfl | exact bI_01 _ | assumption) ?_
      exact hk
  · rw [decide_eq_false c1, Bool.false_and, Bool.false_and] at hk
    refine rw_aload f_X10_isWord_0 rfl ?_
    refine rw_getI f_X10_isWord_1 (by assumption) ?_
    rw [e6]
    refine rw_const f_X10_isWord_4 ?_
    refine rw_icmpT f_X10_isWord_5 (decide_eq_true c1) ?_
    refine rw_const f_X10_isWord_24 ?_
    refine rw_zret f_X10_isWord_25 (by first | exact Or.inl rfl | exact Or.inr rfl | exact bI_01 _ | assumption) ?_
    exact hk
end CWord
