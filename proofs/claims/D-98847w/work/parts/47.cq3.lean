/-! THE CLASS: more queries -/
theorem bs_minus {p : Nat → Bool} {n j : Nat} (hn : n ≤ 32) (hj : j < 32) : bs p n &&& (((1 : Int32) <<< (nI j &&& 31)) ^^^ (-1)) = bs (fun a => p a && !decide (a = j)) n := by
  apply tb_ext
  intro a ha
  rw [tb_and, tb_xor, tb_sh1 hj, tb_m1 ha, tb_bs hn, tb_bs hn]
  cases p a <;> cases decide (a < n) <;> cases decide (a = j) <;> rfl
section CQ3
variable {d : Nat} {h : am_H} {V : am_M} {x r nM nD nB nA nU nT nL : Nat} {k : Int32 → am_H → Prop}
abbrev pr_free (V : am_M) (n a : Nat) : Bool := allB (fun b => !(decide (V 34 b = 0) && decide (V 26 b = nI a))) n
theorem C_free (hC : CR h V x r nM nD nB nA nU nT nL) (hk : k (sp_free nM nB (V 34) (V 26) (V 27)) h) : Rn (d + 4) n_X0_free 0 [am_r x, am_u, am_u] [] h (kI k) := by
  have hC' := hC
  obtain ⟨hW, hr, hG, hN, hA, hT, hX, hI, hS, hF⟩ := hC'
  obtain ⟨⟨rK, r0⟩, ⟨hLM, hM⟩, ⟨hLD, hD⟩, ⟨hLO, hO⟩, ⟨⟨hlk, hla⟩, hlike⟩, ⟨htk, hwear⟩, gf, gu, gh, gs⟩ := hG
  obtain ⟨⟨⟨fM, fM6, fD, fD6, fB, fB10⟩, fO, ⟨fH, fSt⟩, fHr, fFr, fWr⟩, ⟨fA, fU, fAU, fT, fT30, fL, fL10⟩, fTp, fNow, fWere, fBox, fTg⟩ := hF
  have kLM := hLM.1.1; have zLM := hLM.2
  have kLD := hLD.1.1; have zLD := hLD.2
  have kLO := hLO.1.1; have zLO := hLO.2
  have e0 : sp_free nM nB (V 34) (V 26) (V 27) = bs (pr_free V nB) nM := by
    unfold sp_free
    apply bs_congr
    intro a ha
    unfold sp_coat
    rw [if_neg (by rw [isIn_of (by omega) ha]; decide), if_neg (by decide)]
    apply Bool.eq_iff_iff.mpr
    rw [decide_eq_true_eq, bs0_iff (by omega), allB_iff]
    unfold pr_coat sp_coatS
    rw [if_neg (by decide)]
    simp [-not_and, -Classical.not_and_iff_not_or_not]
    exact ⟨fun q b hb => (Classical.em (V 34 b = 0)).elim (fun e => Or.inr (q b hb e)) Or.inl, fun q b hb e => (q b hb).resolve_left (fun n => n e)⟩
  rw [e0] at hk
  refine rw_const f_X0_free_0 ?_
  refine rw_aload f_X0_free_1 rfl ?_
  refine rw_getR f_X0_free_2 (by first | assumption | exact hW.k rfl | exact hW.k0) (by first | assumption | exact hW.r0 rfl | exact hW.r rfl | rfl) ?_
  refine rw_getR f_X0_free_5 (by first | assumption | exact hW.k rfl | exact hW.k0) (by first | assumption | exact hW.r0 rfl | exact hW.r rfl | rfl) ?_
  refine rw_callV f_X0_free_8 rfl (by first | assumption | exact hW.k rfl | exact hW.k0) (by first | assumption | exact hW.1 | omega | exact Nat.succ_ne_zero _) rfl rfl rfl rfl (rn_ki (J_sizeL (by assumption) ?_))
  refine rw_ishl f_X0_free_11 ?_
  refine rw_const f_X0_free_12 ?_
  refine rw_isub f_X0_free_13 ?_
  refine rw_istore f_X0_free_14 rfl rfl ?_
  rw [bs_full nM (by omega)]
  refine rw_const f_X0_free_15 ?_
  refine rw_istore f_X0_free_16 rfl rfl ?_
  skip
  refine rn_for (N := nB) (fun b => [am_r x, am_i (bs (pr_free V b) nM), am_i (nI b)]) (fun _ => h) (fun b hb ih => ?_) ?_
  · obtain ⟨oc, op, oz, o0, o1, o2, o3, o4, o5⟩ := COath.parts hW.al (hO b (by omega))
    obtain ⟨⟨a, ha, ea⟩, -⟩ := fO b hb
    refine rw_iload f_X0_free_17 rfl ?_
    refine rw_aload f_X0_free_18 rfl ?_
    refine rw_callV f_X0_free_19 rfl (by first | assumption | exact hW.k rfl | exact hW.k0) (by first | assumption | exact hW.1 | omega | exact Nat.succ_ne_zero _) rfl rfl rfl rfl (rn_ki (C_buttons hC ?_))
    refine rw_icmpF f_X0_free_22 (decide_eq_false (nI_ge hb (by omega))) ?_
    refine rw_aload f_X0_free_25 rfl ?_
    refine rw_iload f_X0_free_26 rfl ?_
    refine rw_callV f_X0_free_27 rfl (by first | assumption | exact hW.k rfl | exact hW.k0) (by first | assumption | exact hW.1 | omega | exact Nat.succ_ne_zero _) rfl rfl rfl rfl (rn_ki (C_isOn hC (by omega) ?_))
    first | refine rw_eq0B f_X0_free_30 (fun c1 => ?_) (fun c1 => ?_) | refine rw_eq0 f_X0_free_30 (fun c1 => ?_) (fun c1 => ?_)
    · refine rw_iinc f_X0_free_57 rfl rfl ?_
      refine rw_goto f_X0_free_60 ?_
      rw [nI_1']
      simp only [decide_eq_true_eq, decide_eq_false_iff_not] at c1
      refine Eq.mp ?_ ih
      congr 3
      apply congrArg am_i
      apply bs_congr
      intro a' ha'
      simp [pr_free, allB, c1, ea, nI_eq (show a' < 2 ^ 31 by omega) (show a < 2 ^ 31 by omega), nI_eq (show a < 2 ^ 31 by omega) (show a' < 2 ^ 31 by omega), eq_comm]
    · refine rw_iload f_X0_free_33 rfl ?_
      refine rw_const f_X0_free_34 ?_
      refine rw_aload f_X0_free_35 rfl ?_
      refine rw_getR f_X0_free_36 (by first | assumption | exact hW.k rfl | exact hW.k0) (by first | assumption | exact hW.r0 rfl | exact hW.r rfl | rfl) ?_
      refine rw_getR f_X0_free_39 (by first | assumption | exact hW.k rfl | exact hW.k0) (by first | assumption | exact hW.r0 rfl | exact hW.r rfl | rfl) ?_
      refine rw_iload f_X0_free_42 rfl ?_
      refine rw_callV f_X0_free_43 rfl (by first | assumption | exact hW.k rfl | exact hW.k0) (by first | assumption | exact hW.1 | omega | exact Nat.succ_ne_zero _) rfl rfl rfl rfl (rn_kr (J_getL (by assumption) (by omega) ?_))
      refine rw_castC f_X0_free_46 (by assumption) ?_
      refine rw_getIC f_X0_free_49 (by assumption) ?_
      rw [o0, ea]
      refine rw_ishl f_X0_free_52 ?_
      refine rw_const f_X0_free_53 ?_
      refine rw_ixor f_X0_free_54 ?_
      refine rw_iand f_X0_free_55 ?_
      rw [bs_minus (by omega) (by omega)]
      refine rw_istore f_X0_free_56 rfl rfl ?_
      refine rw_iinc f_X0_free_57 rfl rfl ?_
      refine rw_goto f_X0_free_60 ?_
      rw [nI_1']
      simp only [decide_eq_true_eq, decide_eq_false_iff_not] at c1
      refine Eq.mp ?_ ih
      congr 3
      apply congrArg am_i
      apply bs_congr
      intro a' ha'
      simp [pr_free, allB, c1, ea, nI_eq (show a' < 2 ^ 31 by omega) (show a < 2 ^ 31 by omega), nI_eq (show a < 2 ^ 31 by omega) (show a' < 2 ^ 31 by omega), eq_comm]
  · refine rw_iload f_X0_free_17 rfl ?_
    refine rw_aload f_X0_free_18 rfl ?_
    refine rw_callV f_X0_free_19 rfl (by first | assumption | exact hW.k rfl | exact hW.k0) (by first | assumption | exact hW.1 | omega | exact Nat.succ_ne_zero _) rfl rfl rfl rfl (rn_ki (C_buttons hC ?_))
    refine rw_icmpT f_X0_free_22 (decide_eq_true (Int32.le_refl _)) ?_
    refine rw_iload f_X0_free_63 rfl ?_
    refine rw_iret f_X0_free_64 ?_
    exact hk
theorem C_sworn (hC : CR h V x r nM nD nB nA nU nT nL) {deed what : Int32} (hk : k (sp_sworn nB (V 34) (V 26) (V 28) (V 33) (V 0 57) deed what) h) : Rn (d + 4) n_X0_sworn 0 [am_r x, am_i deed, am_i what, am_u, am_u, am_u] [] h (kI k) := by
  have hC' := hC
  obtain ⟨hW, hr, hG, hN, hA, hT, hX, hI, hS, hF⟩ := hC'
  obtain ⟨⟨rK, r0⟩, ⟨hLM, hM⟩, ⟨hLD, hD⟩, ⟨hLO, hO⟩, ⟨⟨hlk, hla⟩, hlike⟩, ⟨htk, hwear⟩, gf, gu, gh, gs⟩ := hG
  obtain ⟨⟨⟨fM, fM6, fD, fD6, fB, fB10⟩, fO, ⟨fH, fSt⟩, fHr, fFr, fWr⟩, ⟨fA, fU, fAU, fT, fT30, fL, fL10⟩, fTp, fNow, fWere, fBox, fTg⟩ := hF
  have kLM := hLM.1.1; have zLM := hLM.2
  have kLD := hLD.1.1; have zLD := hLD.2
  have kLO := hLO.1.1; have zLO := hLO.2
  unfold sp_sworn at hk
  have loop : k (orS (pr_sworn (V 34) (V 28) (V 33) deed what) (V 26) nB) h → Rn (d + 4) n_X0_sworn 24 [am_r x, am_i deed, am_i what, am_i 0, am_i 0, am_u] [] h (kI k) := by
    intro hk
    refine rn_forJ (N := nB) (fun b j => [am_r x, am_i deed, am_i what, am_i (orS (pr_sworn (V 34) (V 28) (V 33) deed what) (V 26) b), am_i (nI b), j]) (fun _ => h) (fun b hb j ih => ?_) (fun j => ?_) am_u
    · obtain ⟨oc, op, oz, o0, o1, o2, o3, o4, o5⟩ := COath.parts hW.al (hO b (by omega))
      simp only [orS] at ih
      refine rw_iload f_X0_sworn_24 rfl ?_
      refine rw_aload f_X0_sworn_26 rfl ?_
      refine rw_callV f_X0_sworn_27 rfl (by first | assumption | exact hW.k rfl | exact hW.k0) (by first | assumption | exact hW.1 | omega | exact Nat.succ_ne_zero _) rfl rfl rfl rfl (rn_ki (C_buttons hC ?_))
      refine rw_icmpF f_X0_sworn_30 (decide_eq_false (nI_ge hb (by omega))) ?_
      refine rw_aload f_X0_sworn_33 rfl ?_
      refine rw_getR f_X0_sworn_34 (by first | assumption | exact hW.k rfl | exact hW.k0) (by first | assumption | exact hW.r0 rfl | exact hW.r rfl | rfl) ?_
      refine rw_getR f_X0_sworn_37 (by first | assumption | exact hW.k rfl | exact hW.k0) (by first | assumption | exact hW.r0 rfl | exact hW.r rfl | rfl) ?_
      refine rw_iload f_X0_sworn_40 rfl ?_
      refine rw_callV f_X0_sworn_42 rfl (by first | assumption | exact hW.k rfl | exact hW.k0) (by first | assumption | exact hW.1 | omega | exact Nat.succ_ne_zero _) rfl rfl rfl rfl (rn_kr (J_getL (by assumption) (by omega) ?_))
      refine rw_castC f_X0_sworn_45 (by assumption) ?_
      refine rw_astore f_X0_sworn_48 rfl rfl ?_
      refine rw_aload f_X0_sworn_50 rfl ?_
      refine rw_iload f_X0_sworn_51 rfl ?_
      refine rw_callV f_X0_sworn_53 rfl (by first | assumption | exact hW.k rfl | exact hW.k0) (by first | assumption | exact hW.1 | omega | exact Nat.succ_ne_zero _) rfl rfl rfl rfl (rn_ki (C_isOn hC (by omega) ?_))
      first | refine rw_eq0B f_X0_sworn_56 (fun c1 => ?_) (fun c1 => ?_) | refine rw_eq0 f_X0_sworn_56 (fun c1 => ?_) (fun c1 => ?_)
      · refine rw_iinc f_X0_sworn_95 rfl rfl ?_
        refine rw_goto f_X0_sworn_98 ?_
        rw [nI_1']
        simp only [decide_eq_true_eq, decide_eq_false_iff_not] at c1
        first | (rw [if_neg (by simp [pr_sworn, bI, c1])] at ih; exact ih _) | (rw [if_pos (by simp [pr_sworn, bI, c1])] at ih; exact ih _)
      · refine rw_aload f_X0_sworn_59 rfl ?_
        refine rw_getIC f_X0_sworn_61 (by assumption) ?_
        rw [o2]
        refine rw_iload f_X0_sworn_64 rfl ?_
        refine rw_ne f_X0_sworn_65 (fun c2 => ?_) (fun c2 => ?_)
        · refine rw_iinc f_X0_sworn_95 rfl rfl ?_
          refine rw_goto f_X0_sworn_98 ?_
          rw [nI_1']
          simp only [decide_eq_true_eq, decide_eq_false_iff_not] at c1
          first | (rw [if_neg (by simp [pr_sworn, bI, c1, c2])] at ih; exact ih _) | (rw [if_pos (by simp [pr_sworn, bI, c1, c2])] at ih; exact ih _)
        · refine rw_aload f_X0_sworn_68 rfl ?_
          refine rw_isP f_X0_sworn_70 (by assumption) (by assumption) rfl ?_
          refine rw_iload f_X0_sworn_73 rfl ?_
          first | refine rw_ne0B f_X0_sworn_74 (fun c3 => ?_) (fun c3 => ?_) | refine rw_ne0 f_X0_sworn_74 (fun c3 => ?_) (fun c3 => ?_)
          · refine rw_const f_X0_sworn_81 ?_
            refine rw_ne f_X0_sworn_82 (fun c4 => ?_) (fun c4 => ?_)
            · refine rw_iinc f_X0_sworn_95 rfl rfl ?_
              refine rw_goto f_X0_sworn_98 ?_
              rw [nI_1']
              simp only [decide_eq_true_eq, decide_eq_false_iff_not] at c1
              first | (rw [if_neg (by simp [pr_sworn, bI, c1, c2, c3, c4])] at ih; exact ih _) | (rw [if_pos (by simp [pr_sworn, bI, c1, c2, c3, c4])] at ih; exact ih _)
            · refine rw_iload f_X0_sworn_85 rfl ?_
              refine rw_const f_X0_sworn_86 ?_
              refine rw_aload f_X0_sworn_87 rfl ?_
              refine rw_getIC f_X0_sworn_89 (by assumption) ?_
              rw [o0]
              refine rw_ishl f_X0_sworn_92 ?_
              refine rw_ior f_X0_sworn_93 ?_
              refine rw_istore f_X0_sworn_94 rfl rfl ?_
              refine rw_iinc f_X0_sworn_95 rfl rfl ?_
              refine rw_goto f_X0_sworn_98 ?_
              rw [nI_1']
              simp only [decide_eq_true_eq, decide_eq_false_iff_not] at c1
              first | (rw [if_neg (by simp [pr_sworn, bI, c1, c2, c3, c4])] at ih; exact ih _) | (rw [if_pos (by simp [pr_sworn, bI, c1, c2, c3, c4])] at ih; exact ih _)
          · refine rw_const f_X0_sworn_77 ?_
            refine rw_goto f_X0_sworn_78 ?_
            refine rw_ne f_X0_sworn_82 (fun c5 => ?_) (fun c5 => ?_)
            · refine rw_iinc f_X0_sworn_95 rfl rfl ?_
              refine rw_goto f_X0_sworn_98 ?_
              rw [nI_1']
              simp only [decide_eq_true_eq, decide_eq_false_iff_not] at c1
              first | (rw [if_neg (by simp [pr_sworn, bI, c1, c2, c3, c5])] at ih; exact ih _) | (rw [if_pos (by simp [pr_sworn, bI, c1, c2, c3, c5])] at ih; exact ih _)
            · refine rw_iload f_X0_sworn_85 rfl ?_
              refine rw_const f_X0_sworn_86 ?_
              refine rw_aload f_X0_sworn_87 rfl ?_
              refine rw_getIC f_X0_sworn_89 (by assumption) ?_
              rw [o0]
              refine rw_ishl f_X0_sworn_92 ?_
              refine rw_ior f_X0_sworn_93 ?_
              refine rw_istore f_X0_sworn_94 rfl rfl ?_
              refine rw_iinc f_X0_sworn_95 rfl rfl ?_
              refine rw_goto f_X0_sworn_98 ?_
              rw [nI_1']
              simp only [decide_eq_true_eq, decide_eq_false_iff_not] at c1
              first | (rw [if_neg (by simp [pr_sworn, bI, c1, c2, c3, c5])] at ih; exact ih _) | (rw [if_pos (by simp [pr_sworn, bI, c1, c2, c3, c5])] at ih; exact ih _)
    · refine rw_iload f_X0_sworn_24 rfl ?_
      refine rw_aload f_X0_sworn_26 rfl ?_
      refine rw_callV f_X0_sworn_27 rfl (by first | assumption | exact hW.k rfl | exact hW.k0) (by first | assumption | exact hW.1 | omega | exact Nat.succ_ne_zero _) rfl rfl rfl rfl (rn_ki (C_buttons hC ?_))
      refine rw_icmpT f_X0_sworn_30 (decide_eq_true (Int32.le_refl _)) ?_
      refine rw_iload f_X0_sworn_101 rfl ?_
      refine rw_iret f_X0_sworn_102 ?_
      exact hk
  refine rw_aload f_X0_sworn_0 rfl ?_
  refine rw_iload f_X0_sworn_1 rfl ?_
  refine rw_callV f_X0_sworn_2 rfl (by first | assumption | exact hW.k rfl | exact hW.k0) (by first | assumption | exact hW.1 | omega | exact Nat.succ_ne_zero _) rfl rfl rfl rfl (rn_ki (C_isDeed hC ?_))
  first | refine rw_eq0B f_X0_sworn_5 (fun c1 => ?_) (fun c1 => ?_) | refine rw_eq0 f_X0_sworn_5 (fun c1 => ?_) (fun c1 => ?_)
  · refine rw_const f_X0_sworn_17 ?_
    refine rw_iret f_X0_sworn_18 ?_
    simpa [c1] using hk
  · refine rw_iload f_X0_sworn_8 rfl ?_
    refine rw_const f_X0_sworn_9 ?_
    refine rw_const f_X0_sworn_10 ?_
    refine rw_callS f_X0_sworn_11 rfl rfl rfl (rn_ki (C_isIn ?_))
    first | refine rw_ne0B f_X0_sworn_14 (fun c2 => ?_) (fun c2 => ?_) | refine rw_ne0 f_X0_sworn_14 (fun c2 => ?_) (fun c2 => ?_)
    · refine rw_const f_X0_sworn_19 ?_
      refine rw_istore f_X0_sworn_20 rfl rfl ?_
      refine rw_const f_X0_sworn_21 ?_
      refine rw_istore f_X0_sworn_22 rfl rfl ?_
      exact loop (by simpa [c1, c2] using hk)
    · refine rw_const f_X0_sworn_17 ?_
      refine rw_iret f_X0_sworn_18 ?_
      simpa [c1, c2] using hk
theorem C_ties (hC : CR h V x r nM nD nB nA nU nT nL) {man other : Int32} (hk : k (sp_ties nB (V 34) (V 26) (V 27) (V 0 56) man other) h) : Rn (d + 4) n_X0_ties 0 [am_r x, am_i man, am_i other, am_u, am_u] [] h (kI k) := by
  have hC' := hC
  obtain ⟨hW, hr, hG, hN, hA, hT, hX, hI, hS, hF⟩ := hC'
  obtain ⟨⟨rK, r0⟩, ⟨hLM, hM⟩, ⟨hLD, hD⟩, ⟨hLO, hO⟩, ⟨⟨hlk, hla⟩, hlike⟩, ⟨htk, hwear⟩, gf, gu, gh, gs⟩ := hG
  obtain ⟨⟨⟨fM, fM6, fD, fD6, fB, fB10⟩, fO, ⟨fH, fSt⟩, fHr, fFr, fWr⟩, ⟨fA, fU, fAU, fT, fT30, fL, fL10⟩, fTp, fNow, fWere, fBox, fTg⟩ := hF
  have kLM := hLM.1.1; have zLM := hLM.2
  have kLD := hLD.1.1; have zLD := hLD.2
  have kLO := hLO.1.1; have zLO := hLO.2
  unfold sp_ties at hk
  have loop : k (bs (pr_ties (V 34) (V 26) (V 27) man other) nB) h → Rn (d + 4) n_X0_ties 28 [am_r x, am_i man, am_i other, am_i 0, am_i 0] [] h (kI k) := by
    intro hk
    refine rn_for (N := nB) (fun b => [am_r x, am_i man, am_i other, am_i (bs (pr_ties (V 34) (V 26) (V 27) man other) b), am_i (nI b)]) (fun _ => h) (fun b hb ih => ?_) ?_
    · obtain ⟨oc, op, oz, o0, o1, o2, o3, o4, o5⟩ := COath.parts hW.al (hO b (by omega))
      refine rw_iload f_X0_ties_28 rfl ?_
      refine rw_aload f_X0_ties_30 rfl ?_
      refine rw_callV f_X0_ties_31 rfl (by first | assumption | exact hW.k rfl | exact hW.k0) (by first | assumption | exact hW.1 | omega | exact Nat.succ_ne_zero _) rfl rfl rfl rfl (rn_ki (C_buttons hC ?_))
      refine rw_icmpF f_X0_ties_34 (decide_eq_false (nI_ge hb (by omega))) ?_
      refine rw_aload f_X0_ties_37 rfl ?_
      refine rw_iload f_X0_ties_38 rfl ?_
      refine rw_callV f_X0_ties_40 rfl (by first | assumption | exact hW.k rfl | exact hW.k0) (by first | assumption | exact hW.1 | omega | exact Nat.succ_ne_zero _) rfl rfl rfl rfl (rn_ki (C_isOn hC (by omega) ?_))
      first | refine rw_eq0B f_X0_ties_43 (fun c1 => ?_) (fun c1 => ?_) | refine rw_eq0 f_X0_ties_43 (fun c1 => ?_) (fun c1 => ?_)
      · refine rw_iinc f_X0_ties_97 rfl rfl ?_
        refine rw_goto f_X0_ties_100 ?_
        rw [nI_1']
        simp only [decide_eq_true_eq, decide_eq_false_iff_not] at c1
        first | (rw [bs_no (by simp [pr_ties, c1])] at ih; exact ih) | (rw [bs_yes (by simp [pr_ties, c1])] at ih; exact ih)
      · refine rw_aload f_X0_ties_46 rfl ?_
        refine rw_getR f_X0_ties_47 (by first | assumption | exact hW.k rfl | exact hW.k0) (by first | assumption | exact hW.r0 rfl | exact hW.r rfl | rfl) ?_
        refine rw_getR f_X0_ties_50 (by first | assumption | exact hW.k rfl | exact hW.k0) (by first | assumption | exact hW.r0 rfl | exact hW.r rfl | rfl) ?_
        refine rw_iload f_X0_ties_53 rfl ?_
        refine rw_callV f_X0_ties_55 rfl (by first | assumption | exact hW.k rfl | exact hW.k0) (by first | assumption | exact hW.1 | omega | exact Nat.succ_ne_zero _) rfl rfl rfl rfl (rn_kr (J_getL (by assumption) (by omega) ?_))
        refine rw_castC f_X0_ties_58 (by assumption) ?_
        refine rw_getIC f_X0_ties_61 (by assumption) ?_
        rw [o0]
        refine rw_iload f_X0_ties_64 rfl ?_
        refine rw_ne f_X0_ties_65 (fun c2 => ?_) (fun c2 => ?_)
        · refine rw_iinc f_X0_ties_97 rfl rfl ?_
          refine rw_goto f_X0_ties_100 ?_
          rw [nI_1']
          simp only [decide_eq_true_eq, decide_eq_false_iff_not] at c1
          first | (rw [bs_no (by simp [pr_ties, c1, c2])] at ih; exact ih) | (rw [bs_yes (by simp [pr_ties, c1, c2])] at ih; exact ih)
        · refine rw_aload f_X0_ties_68 rfl ?_
          refine rw_getR f_X0_ties_69 (by first | assumption | exact hW.k rfl | exact hW.k0) (by first | assumption | exact hW.r0 rfl | exact hW.r rfl | rfl) ?_
          refine rw_getR f_X0_ties_72 (by first | assumption | exact hW.k rfl | exact hW.k0) (by first | assumption | exact hW.r0 rfl | exact hW.r rfl | rfl) ?_
          refine rw_iload f_X0_ties_75 rfl ?_
          refine rw_callV f_X0_ties_77 rfl (by first | assumption | exact hW.k rfl | exact hW.k0) (by first | assumption | exact hW.1 | omega | exact Nat.succ_ne_zero _) rfl rfl rfl rfl (rn_kr (J_getL (by assumption) (by omega) ?_))
          refine rw_castC f_X0_ties_80 (by assumption) ?_
          refine rw_getIC f_X0_ties_83 (by assumption) ?_
          rw [o1]
          refine rw_iload f_X0_ties_86 rfl ?_
          refine rw_ne f_X0_ties_87 (fun c3 => ?_) (fun c3 => ?_)
          · refine rw_iinc f_X0_ties_97 rfl rfl ?_
            refine rw_goto f_X0_ties_100 ?_
            rw [nI_1']
            simp only [decide_eq_true_eq, decide_eq_false_iff_not] at c1
            first | (rw [bs_no (by simp [pr_ties, c1, c2, c3])] at ih; exact ih) | (rw [bs_yes (by simp [pr_ties, c1, c2, c3])] at ih; exact ih)
          · refine rw_iload f_X0_ties_90 rfl ?_
            refine rw_const f_X0_ties_91 ?_
            refine rw_iload f_X0_ties_92 rfl ?_
            refine rw_ishl f_X0_ties_94 ?_
            refine rw_ior f_X0_ties_95 ?_
            refine rw_istore f_X0_ties_96 rfl rfl ?_
            refine rw_iinc f_X0_ties_97 rfl rfl ?_
            refine rw_goto f_X0_ties_100 ?_
            rw [nI_1']
            simp only [decide_eq_true_eq, decide_eq_false_iff_not] at c1
            first | (rw [bs_no (by simp [pr_ties, c1, c2, c3])] at ih; exact ih) | (rw [bs_yes (by simp [pr_ties, c1, c2, c3])] at ih; exact ih)
    · refine rw_iload f_X0_ties_28 rfl ?_
      refine rw_aload f_X0_ties_30 rfl ?_
      refine rw_callV f_X0_ties_31 rfl (by first | assumption | exact hW.k rfl | exact hW.k0) (by first | assumption | exact hW.1 | omega | exact Nat.succ_ne_zero _) rfl rfl rfl rfl (rn_ki (C_buttons hC ?_))
      refine rw_icmpT f_X0_ties_34 (decide_eq_true (Int32.le_refl _)) ?_
      refine rw_iload f_X0_ties_103 rfl ?_
      refine rw_iret f_X0_ties_104 ?_
      exact hk
  refine rw_aload f_X0_ties_0 rfl ?_
  refine rw_iload f_X0_ties_1 rfl ?_
  refine rw_callV f_X0_ties_2 rfl (by first | assumption | exact hW.k rfl | exact hW.k0) (by first | assumption | exact hW.1 | omega | exact Nat.succ_ne_zero _) rfl rfl rfl rfl (rn_ki (C_isMan hC ?_))
  first | refine rw_eq0B f_X0_ties_5 (fun c1 => ?_) (fun c1 => ?_) | refine rw_eq0 f_X0_ties_5 (fun c1 => ?_) (fun c1 => ?_)
  · refine rw_const f_X0_ties_21 ?_
    refine rw_iret f_X0_ties_22 ?_
    first | (simpa [c1] using hk) | (subst c3; simpa [c1] using hk)
  · refine rw_aload f_X0_ties_8 rfl ?_
    refine rw_iload f_X0_ties_9 rfl ?_
    refine rw_callV f_X0_ties_10 rfl (by first | assumption | exact hW.k rfl | exact hW.k0) (by first | assumption | exact hW.1 | omega | exact Nat.succ_ne_zero _) rfl rfl rfl rfl (rn_ki (C_isMan hC ?_))
    first | refine rw_eq0B f_X0_ties_13 (fun c2 => ?_) (fun c2 => ?_) | refine rw_eq0 f_X0_ties_13 (fun c2 => ?_) (fun c2 => ?_)
    · refine rw_const f_X0_ties_21 ?_
      refine rw_iret f_X0_ties_22 ?_
      first | (simpa [c1, c2] using hk) | (subst c3; simpa [c1] using hk)
    · refine rw_iload f_X0_ties_16 rfl ?_
      refine rw_iload f_X0_ties_17 rfl ?_
      refine rw_ne f_X0_ties_18 (fun c3 => ?_) (fun c3 => ?_)
      · refine rw_const f_X0_ties_23 ?_
        refine rw_istore f_X0_ties_24 rfl rfl ?_
        refine rw_const f_X0_ties_25 ?_
        refine rw_istore f_X0_ties_26 rfl rfl ?_
        exact loop (by simpa [c1, c2, c3] using hk)
      · refine rw_const f_X0_ties_21 ?_
        refine rw_iret f_X0_ties_22 ?_
        first | (simpa [c1, c2, c3] using hk) | (subst c3; simpa [c1] using hk)
theorem C_likesOf (hC : CR h V x r nM nD nB nA nU nT nL) {a b : Nat} (ha : a < nM) (hb : b < nM) (hk : k (V 19 (6 * a + b)) h) : Rn d n_X1_likesOf 0 [am_r r, am_i (nI a), am_i (nI b)] [] h (kI k) := by
  have hC' := hC
  obtain ⟨hW, hr, hG, hN, hA, hT, hX, hI, hS, hF⟩ := hC'
  obtain ⟨⟨rK, r0⟩, ⟨hLM, hM⟩, ⟨hLD, hD⟩, ⟨hLO, hO⟩, ⟨⟨hlk, hla⟩, hlike⟩, ⟨htk, hwear⟩, gf, gu, gh, gs⟩ := hG
  obtain ⟨⟨⟨fM, fM6, fD, fD6, fB, fB10⟩, fO, ⟨fH, fSt⟩, fHr, fFr, fWr⟩, ⟨fA, fU, fAU, fT, fT30, fL, fL10⟩, fTp, fNow, fWere, fBox, fTg⟩ := hF
  have kLM := hLM.1.1; have zLM := hLM.2
  have kLD := hLD.1.1; have zLD := hLD.2
  have kLO := hLO.1.1; have zLO := hLO.2
  rw [← hlike a b ha hb] at hk
  refine rw_aload f_X1_likesOf_0 rfl ?_
  refine rw_getR f_X1_likesOf_1 (by first | assumption | exact hW.k rfl | exact hW.k0) (by first | assumption | exact hW.r0 rfl | exact hW.r rfl | rfl) ?_
  refine rw_const f_X1_likesOf_4 ?_
  refine rw_iload f_X1_likesOf_6 rfl ?_
  refine rw_imul f_X1_likesOf_7 ?_
  refine rw_iload f_X1_likesOf_8 rfl ?_
  refine rw_iadd f_X1_likesOf_9 ?_
  refine rw_xaldE (j := 6 * a + b) f_X1_likesOf_10 (by first | assumption | exact hW.k rfl | exact hW.k0) (by first | rfl | exact nI_addl _ _ | (simp only [nI, Int32.ofNat_add, Int32.ofNat_mul]; rfl) | (simp only [nI_addl, nI_mull, nI_lit, nI_1']; done) | (simp only [nI_1, nI_0, nI_addl, nI_mull, ← nI_succ]; rfl)) (by omega) (by omega) ?_
  refine rw_iret f_X1_likesOf_11 ?_
  exact hk
/-- the friends' own places are gaps -/
theorem C_likes (hC : CR h V x r nM nD nB nA nU nT nL) {a b : Int32} (hk : k (sp_likes (V 19) (V 0 56) a b) h) : Rn (d + 2) n_X0_likes 0 [am_r x, am_i a, am_i b] [] h (kI k) := by
  have hC' := hC
  obtain ⟨hW, hr, hG, hN, hA, hT, hX, hI, hS, hF⟩ := hC'
  obtain ⟨⟨rK, r0⟩, ⟨hLM, hM⟩, ⟨hLD, hD⟩, ⟨hLO, hO⟩, ⟨⟨hlk, hla⟩, hlike⟩, ⟨htk, hwear⟩, gf, gu, gh, gs⟩ := hG
  obtain ⟨⟨⟨fM, fM6, fD, fD6, fB, fB10⟩, fO, ⟨fH, fSt⟩, fHr, fFr, fWr⟩, ⟨fA, fU, fAU, fT, fT30, fL, fL10⟩, fTp, fNow, fWere, fBox, fTg⟩ := hF
  have kLM := hLM.1.1; have zLM := hLM.2
  have kLD := hLD.1.1; have zLD := hLD.2
  have kLO := hLO.1.1; have zLO := hLO.2
  unfold sp_likes at hk
  refine rw_aload f_X0_likes_0 rfl ?_
  refine rw_iload f_X0_likes_1 rfl ?_
  refine rw_callV f_X0_likes_2 rfl (by first | assumption | exact hW.k rfl | exact hW.k0) (by first | assumption | exact hW.1 | omega | exact Nat.succ_ne_zero _) rfl rfl rfl rfl (rn_ki (C_isMan hC ?_))
  first | refine rw_eq0B f_X0_likes_5 (fun c1 => ?_) (fun c1 => ?_) | refine rw_eq0 f_X0_likes_5 (fun c1 => ?_) (fun c1 => ?_)
  · refine rw_const f_X0_likes_28 ?_
    refine rw_iret f_X0_likes_30 ?_
    first | (simpa [c1] using hk) | (by_cases e : i = j; (subst e; rw [(fFr i i hi hi).1]; rw [if_pos rfl] at hk; exact hk); (rw [if_neg (fun q => e (nI_inj (by omega) (by omega) q))] at hk; exact hk))
  · refine rw_aload f_X0_likes_8 rfl ?_
    refine rw_iload f_X0_likes_9 rfl ?_
    refine rw_callV f_X0_likes_10 rfl (by first | assumption | exact hW.k rfl | exact hW.k0) (by first | assumption | exact hW.1 | omega | exact Nat.succ_ne_zero _) rfl rfl rfl rfl (rn_ki (C_isMan hC ?_))
    first | refine rw_eq0B f_X0_likes_13 (fun c2 => ?_) (fun c2 => ?_) | refine rw_eq0 f_X0_likes_13 (fun c2 => ?_) (fun c2 => ?_)
    · refine rw_const f_X0_likes_28 ?_
      refine rw_iret f_X0_likes_30 ?_
      first | (simpa [c1, c2] using hk) | (by_cases e : i = j; (subst e; rw [(fFr i i hi hi).1]; rw [if_pos rfl] at hk; exact hk); (rw [if_neg (fun q => e (nI_inj (by omega) (by omega) q))] at hk; exact hk))
    · rw [if_neg (by rw [c1]; decide), if_neg (by rw [c2]; decide)] at hk
      obtain ⟨i, rfl, hi⟩ := isIn_nat (n := nM) (by omega) (by rw [← fM]; exact c1)
      obtain ⟨j, rfl, hj⟩ := isIn_nat (n := nM) (by omega) (by rw [← fM]; exact c2)
      rw [nI_clamp (by omega), nI_clamp (by omega)] at hk
      refine rw_aload f_X0_likes_16 rfl ?_
      refine rw_getR f_X0_likes_17 (by first | assumption | exact hW.k rfl | exact hW.k0) (by first | assumption | exact hW.r0 rfl | exact hW.r rfl | rfl) ?_
      refine rw_iload f_X0_likes_20 rfl ?_
      refine rw_iload f_X0_likes_21 rfl ?_
      refine rw_callV f_X0_likes_22 rfl (by first | assumption | exact hW.k rfl | exact hW.k0) (by first | assumption | exact hW.1 | omega | exact Nat.succ_ne_zero _) rfl rfl rfl rfl (rn_ki (C_likesOf hC (by omega) (by omega) ?_))
      refine rw_goto f_X0_likes_25 ?_
      refine rw_iret f_X0_likes_30 ?_
      first | (simpa [c1, c2] using hk) | (by_cases e : i = j; (subst e; rw [(fFr i i hi hi).1]; rw [if_pos rfl] at hk; exact hk); (rw [if_neg (fun q => e (nI_inj (by omega) (by omega) q))] at hk; exact hk))
/-- what 'about' tells -/
def ab_of (V : am_M) (w : Nat) : Int32 := match w with
  | 0 => V 0 58
  | 1 => V 0 56
  | 2 => V 0 57
  | 3 => V 0 59
  | 4 => V 34 20
  | 5 => V 34 21
  | 6 => V 34 22
  | 7 => V 0 60
  | 8 => V 0 69
  | 9 => V 0 70
  | 10 => V 0 93
  | 11 => V 0 94
  | 12 => V 0 1
  | 13 => V 0 21
  | _ => V 0 85
theorem C_about (hC : CR h V x r nM nD nB nA nU nT nL) {w : Int32} (hk : k (sp_about (ab_of V) w) h) : Rn (d + 2) n_X0_about 0 [am_r x, am_i w] [] h (kI k) := by
  have hC' := hC
  obtain ⟨hW, hr, hG, hN, hA, hT, hX, hI, hS, hF⟩ := hC'
  obtain ⟨⟨rK, r0⟩, ⟨hLM, hM⟩, ⟨hLD, hD⟩, ⟨hLO, hO⟩, ⟨⟨hlk, hla⟩, hlike⟩, ⟨htk, hwear⟩, gf, gu, gh, gs⟩ := hG
  obtain ⟨⟨⟨fM, fM6, fD, fD6, fB, fB10⟩, fO, ⟨fH, fSt⟩, fHr, fFr, fWr⟩, ⟨fA, fU, fAU, fT, fT30, fL, fL10⟩, fTp, fNow, fWere, fBox, fTg⟩ := hF
  have kLM := hLM.1.1; have zLM := hLM.2
  have kLD := hLD.1.1; have zLD := hLD.2
  have kLO := hLO.1.1; have zLO := hLO.2
  unfold sp_about at hk
  have hLA := hA.1
  have hLU := hA.2.1
  have hLT := hT.1
  have zA := hLA.2
  have zU := hLU.2
  have zT := hLT.2
  obtain ⟨⟨i1, i2, i3, i4, i5, i6⟩, -⟩ := hI
  refine rw_iload f_X0_about_0 rfl ?_
  refine rw_switch f_X0_about_1 ?_
  refine rw_sw1 (fun c1 => ?_) (fun c1 => ?_)
  · refine rw_aload f_X0_about_76 rfl ?_
    refine rw_callV f_X0_about_77 rfl (by first | assumption | exact hW.k rfl | exact hW.k0) (by first | assumption | exact hW.1 | omega | exact Nat.succ_ne_zero _) rfl rfl rfl rfl (rn_ki (C_buttons hC ?_))
    refine rw_iret f_X0_about_80 ?_
    simpa [c1, ab_of, fM, fD, fB, fA, fU, fT, gf, gu, gh, i1, i2, i5, i6, hN.2.1, hN.2.2.1, hN.2.2.2] using hk
  · refine rw_sw1 (fun c2 => ?_) (fun c2 => ?_)
    · refine rw_aload f_X0_about_81 rfl ?_
      refine rw_getR f_X0_about_82 (by first | assumption | exact hW.k rfl | exact hW.k0) (by first | assumption | exact hW.r0 rfl | exact hW.r rfl | rfl) ?_
      refine rw_getR f_X0_about_85 (by first | assumption | exact hW.k rfl | exact hW.k0) (by first | assumption | exact hW.r0 rfl | exact hW.r rfl | rfl) ?_
      refine rw_callV f_X0_about_88 rfl (by first | assumption | exact hW.k rfl | exact hW.k0) (by first | assumption | exact hW.1 | omega | exact Nat.succ_ne_zero _) rfl rfl rfl rfl (rn_ki (J_sizeL (by assumption) ?_))
      refine rw_iret f_X0_about_91 ?_
      simpa [c1, c2, ab_of, fM, fD, fB, fA, fU, fT, gf, gu, gh, i1, i2, i5, i6, hN.2.1, hN.2.2.1, hN.2.2.2] using hk
    · refine rw_sw1 (fun c3 => ?_) (fun c3 => ?_)
      · refine rw_aload f_X0_about_92 rfl ?_
        refine rw_getR f_X0_about_93 (by first | assumption | exact hW.k rfl | exact hW.k0) (by first | assumption | exact hW.r0 rfl | exact hW.r rfl | rfl) ?_
        refine rw_getR f_X0_about_96 (by first | assumption | exact hW.k rfl | exact hW.k0) (by first | assumption | exact hW.r0 rfl | exact hW.r rfl | rfl) ?_
        refine rw_callV f_X0_about_99 rfl (by first | assumption | exact hW.k rfl | exact hW.k0) (by first | assumption | exact hW.1 | omega | exact Nat.succ_ne_zero _) rfl rfl rfl rfl (rn_ki (J_sizeL (by assumption) ?_))
        refine rw_iret f_X0_about_102 ?_
        simpa [c1, c2, c3, ab_of, fM, fD, fB, fA, fU, fT, gf, gu, gh, i1, i2, i5, i6, hN.2.1, hN.2.2.1, hN.2.2.2] using hk
      · refine rw_sw1 (fun c4 => ?_) (fun c4 => ?_)
        · refine rw_aload f_X0_about_103 rfl ?_
          refine rw_getR f_X0_about_104 (by first | assumption | exact hW.k rfl | exact hW.k0) (by first | assumption | exact hW.r0 rfl | exact hW.r rfl | rfl) ?_
          refine rw_getI f_X0_about_107 (by first | assumption | exact hW.k rfl | exact hW.k0) ?_
          refine rw_iret f_X0_about_110 ?_
          simpa [c1, c2, c3, c4, ab_of, fM, fD, fB, fA, fU, fT, gf, gu, gh, i1, i2, i5, i6, hN.2.1, hN.2.2.1, hN.2.2.2] using hk
        · refine rw_sw1 (fun c5 => ?_) (fun c5 => ?_)
          · refine rw_aload f_X0_about_111 rfl ?_
            refine rw_getR f_X0_about_112 (by first | assumption | exact hW.k rfl | exact hW.k0) (by first | assumption | exact hW.r0 rfl | exact hW.r rfl | rfl) ?_
            refine rw_getI f_X0_about_115 (by first | assumption | exact hW.k rfl | exact hW.k0) ?_
            refine rw_iret f_X0_about_118 ?_
            simpa [c1, c2, c3, c4, c5, ab_of, fM, fD, fB, fA, fU, fT, gf, gu, gh, i1, i2, i5, i6, hN.2.1, hN.2.2.1, hN.2.2.2] using hk
          · refine rw_sw1 (fun c6 => ?_) (fun c6 => ?_)
            · refine rw_aload f_X0_about_119 rfl ?_
              refine rw_getR f_X0_about_120 (by first | assumption | exact hW.k rfl | exact hW.k0) (by first | assumption | exact hW.r0 rfl | exact hW.r rfl | rfl) ?_
              refine rw_getI f_X0_about_123 (by first | assumption | exact hW.k rfl | exact hW.k0) ?_
              refine rw_iret f_X0_about_126 ?_
              simpa [c1, c2, c3, c4, c5, c6, ab_of, fM, fD, fB, fA, fU, fT, gf, gu, gh, i1, i2, i5, i6, hN.2.1, hN.2.2.1, hN.2.2.2] using hk
            · refine rw_sw1 (fun c7 => ?_) (fun c7 => ?_)
              · refine rw_aload f_X0_about_127 rfl ?_
                refine rw_getR f_X0_about_128 (by first | assumption | exact hW.k rfl | exact hW.k0) (by first | assumption | exact hW.r0 rfl | exact hW.r rfl | rfl) ?_
                refine rw_getI f_X0_about_131 (by first | assumption | exact hW.k rfl | exact hW.k0) ?_
                refine rw_iret f_X0_about_134 ?_
                simpa [c1, c2, c3, c4, c5, c6, c7, ab_of, fM, fD, fB, fA, fU, fT, gf, gu, gh, i1, i2, i5, i6, hN.2.1, hN.2.2.1, hN.2.2.2] using hk
              · refine rw_sw1 (fun c8 => ?_) (fun c8 => ?_)
                · refine rw_aload f_X0_about_135 rfl ?_
                  refine rw_getR f_X0_about_136 (by first | assumption | exact hW.k rfl | exact hW.k0) (by first | assumption | exact hW.r0 rfl | exact hW.r rfl | rfl) ?_
                  refine rw_getI f_X0_about_139 (by first | assumption | exact hW.k rfl | exact hW.k0) ?_
                  refine rw_iret f_X0_about_142 ?_
                  simpa [c1, c2, c3, c4, c5, c6, c7, c8, ab_of, fM, fD, fB, fA, fU, fT, gf, gu, gh, i1, i2, i5, i6, hN.2.1, hN.2.2.1, hN.2.2.2] using hk
                · refine rw_sw1 (fun c9 => ?_) (fun c9 => ?_)
                  · refine rw_aload f_X0_about_143 rfl ?_
                    refine rw_getR f_X0_about_144 (by first | assumption | exact hW.k rfl | exact hW.k0) (by first | assumption | exact hW.r0 rfl | exact hW.r rfl | rfl) ?_
                    refine rw_callV f_X0_about_147 rfl (by first | assumption | exact hW.k rfl | exact hW.k0) (by first | assumption | exact hW.1 | omega | exact Nat.succ_ne_zero _) rfl rfl rfl rfl (rn_ki (J_sizeL (by assumption) ?_))
                    refine rw_iret f_X0_about_150 ?_
                    simpa [c1, c2, c3, c4, c5, c6, c7, c8, c9, ab_of, fM, fD, fB, fA, fU, fT, gf, gu, gh, i1, i2, i5, i6, hN.2.1, hN.2.2.1, hN.2.2.2] using hk
                  · refine rw_sw1 (fun c10 => ?_) (fun c10 => ?_)
                    · refine rw_aload f_X0_about_151 rfl ?_
                      refine rw_getR f_X0_about_152 (by first | assumption | exact hW.k rfl | exact hW.k0) (by first | assumption | exact hW.r0 rfl | exact hW.r rfl | rfl) ?_
                      refine rw_callV f_X0_about_155 rfl (by first | assumption | exact hW.k rfl | exact hW.k0) (by first | assumption | exact hW.1 | omega | exact Nat.succ_ne_zero _) rfl rfl rfl rfl (rn_ki (J_sizeL (by assumption) ?_))
                      refine rw_iret f_X0_about_158 ?_
                      simpa [c1, c2, c3, c4, c5, c6, c7, c8, c9, c10, ab_of, fM, fD, fB, fA, fU, fT, gf, gu, gh, i1, i2, i5, i6, hN.2.1, hN.2.2.1, hN.2.2.2] using hk
                    · refine rw_sw1 (fun c11 => ?_) (fun c11 => ?_)
                      · refine rw_aload f_X0_about_159 rfl ?_
                        refine rw_getR f_X0_about_160 (by first | assumption | exact hW.k rfl | exact hW.k0) (by first | assumption | exact hW.r0 rfl | exact hW.r rfl | rfl) ?_
                        refine rw_callV f_X0_about_163 rfl (by first | assumption | exact hW.k rfl | exact hW.k0) (by first | assumption | exact hW.1 | omega | exact Nat.succ_ne_zero _) rfl rfl rfl rfl (rn_ki (J_sizeL (by assumption) ?_))
                        refine rw_iret f_X0_about_166 ?_
                        simpa [c1, c2, c3, c4, c5, c6, c7, c8, c9, c10, c11, ab_of, fM, fD, fB, fA, fU, fT, gf, gu, gh, i1, i2, i5, i6, hN.2.1, hN.2.2.1, hN.2.2.2] using hk
                      · refine rw_sw1 (fun c12 => ?_) (fun c12 => ?_)
                        · refine rw_aload f_X0_about_167 rfl ?_
                          refine rw_getI f_X0_about_168 (by first | assumption | exact hW.k rfl | exact hW.k0) ?_
                          refine rw_iret f_X0_about_171 ?_
                          simpa [c1, c2, c3, c4, c5, c6, c7, c8, c9, c10, c11, c12, ab_of, fM, fD, fB, fA, fU, fT, gf, gu, gh, i1, i2, i5, i6, hN.2.1, hN.2.2.1, hN.2.2.2] using hk
                        · refine rw_sw1 (fun c13 => ?_) (fun c13 => ?_)
                          · refine rw_aload f_X0_about_172 rfl ?_
                            refine rw_getI f_X0_about_173 (by first | assumption | exact hW.k rfl | exact hW.k0) ?_
                            refine rw_iret f_X0_about_176 ?_
                            simpa [c1, c2, c3, c4, c5, c6, c7, c8, c9, c10, c11, c12, c13, ab_of, fM, fD, fB, fA, fU, fT, gf, gu, gh, i1, i2, i5, i6, hN.2.1, hN.2.2.1, hN.2.2.2] using hk
                          · refine rw_sw1 (fun c14 => ?_) (fun c14 => ?_)
                            · refine rw_aload f_X0_about_177 rfl ?_
                              refine rw_getR f_X0_about_178 (by first | assumption | exact hW.k rfl | exact hW.k0) (by first | assumption | exact hW.r0 rfl | exact hW.r rfl | rfl) ?_
                              refine rw_getI f_X0_about_181 (by first | assumption | exact hW.k rfl | exact hW.k0) ?_
                              refine rw_iret f_X0_about_184 ?_
                              simpa [c1, c2, c3, c4, c5, c6, c7, c8, c9, c10, c11, c12, c13, c14, ab_of, fM, fD, fB, fA, fU, fT, gf, gu, gh, i1, i2, i5, i6, hN.2.1, hN.2.2.1, hN.2.2.2] using hk
                            · refine rw_sw1 (fun c15 => ?_) (fun c15 => ?_)
                              · refine rw_aload f_X0_about_185 rfl ?_
                                refine rw_getI f_X0_about_186 (by first | assumption | exact hW.k rfl | exact hW.k0) ?_
                                refine rw_iret f_X0_about_189 ?_
                                simpa [c1, c2, c3, c4, c5, c6, c7, c8, c9, c10, c11, c12, c13, c14, c15, ab_of, fM, fD, fB, fA, fU, fT, gf, gu, gh, i1, i2, i5, i6, hN.2.1, hN.2.2.1, hN.2.2.2] using hk
                              · refine rw_sw0 ?_
                                refine rw_const f_X0_about_190 ?_
                                refine rw_iret f_X0_about_191 ?_
                                simpa [c1, c2, c3, c4, c5, c6, c7, c8, c9, c10, c11, c12, c13, c14, c15, ab_of, fM, fD, fB, fA, fU, fT, gf, gu, gh, i1, i2, i5, i6, hN.2.1, hN.2.2.1, hN.2.2.2] using hk
def btn_of (V : am_M) (q b : Nat) : Int32 := match q with
  | 0 => V 34 b
  | 1 => V 34 (10 + b)
  | 2 => V 26 b
  | 3 => V 27 b
  | 4 => V 28 b
  | 5 => V 33 b
  | 6 => V 29 b
  | _ => V 31 b
theorem C_button (hC : CR h V x r nM nD nB nA nU nT nL) {b w : Int32} (hk : k (sp_btn (btn_of V) (V 0 58) b w) h) : Rn (d + 3) n_X0_button 0 [am_r x, am_i b, am_i w, am_u] [] h (kI k) := by
  have hC' := hC
  obtain ⟨hW, hr, hG, hN, hA, hT, hX, hI, hS, hF⟩ := hC'
  obtain ⟨⟨rK, r0⟩, ⟨hLM, hM⟩, ⟨hLD, hD⟩, ⟨hLO, hO⟩, ⟨⟨hlk, hla⟩, hlike⟩, ⟨htk, hwear⟩, gf, gu, gh, gs⟩ := hG
  obtain ⟨⟨⟨fM, fM6, fD, fD6, fB, fB10⟩, fO, ⟨fH, fSt⟩, fHr, fFr, fWr⟩, ⟨fA, fU, fAU, fT, fT30, fL, fL10⟩, fTp, fNow, fWere, fBox, fTg⟩ := hF
  have kLM := hLM.1.1; have zLM := hLM.2
  have kLD := hLD.1.1; have zLD := hLD.2
  have kLO := hLO.1.1; have zLO := hLO.2
  unfold sp_btn at hk
  by_cases e : isIn b 0 (V 0 58 - 1) = true
  · rw [if_neg (by rw [e]; decide)] at hk
    obtain ⟨j, rfl, hj⟩ := isIn_nat (n := nB) (by omega) (by rw [← fB]; exact e)
    rw [nI_clamp (by omega)] at hk
    unfold sp_btnW at hk
    have eS := (hN.1 j (by omega)).1
    have eT := (hN.1 j (by omega)).2
    obtain ⟨oc, op, oz, o0, o1, o2, o3, o4, o5⟩ := COath.parts hW.al (hO j (by omega))
    have pp := (fO j hj).2.2.2.2.2
    refine rw_aload f_X0_button_0 rfl ?_
    refine rw_iload f_X0_button_1 rfl ?_
    refine rw_callV f_X0_button_2 rfl (by first | assumption | exact hW.k rfl | exact hW.k0) (by first | assumption | exact hW.1 | omega | exact Nat.succ_ne_zero _) rfl rfl rfl rfl (rn_ki (C_isButton hC ?_))
    first | refine rw_ne0B f_X0_button_5 (fun c1 => ?_) (fun c1 => ?_) | refine rw_ne0 f_X0_button_5 (fun c1 => ?_) (fun c1 => ?_)
    · refine rw_aload f_X0_button_11 rfl ?_
      refine rw_getR f_X0_button_12 (by first | assumption | exact hW.k rfl | exact hW.k0) (by first | assumption | exact hW.r0 rfl | exact hW.r rfl | rfl) ?_
      refine rw_getR f_X0_button_15 (by first | assumption | exact hW.k rfl | exact hW.k0) (by first | assumption | exact hW.r0 rfl | exact hW.r rfl | rfl) ?_
      refine rw_iload f_X0_button_18 rfl ?_
      refine rw_callV f_X0_button_19 rfl (by first | assumption | exact hW.k rfl | exact hW.k0) (by first | assumption | exact hW.1 | omega | exact Nat.succ_ne_zero _) rfl rfl rfl rfl (rn_kr (J_getL (by assumption) (by omega) ?_))
      refine rw_castC f_X0_button_22 (by assumption) ?_
      refine rw_astore f_X0_button_25 rfl rfl ?_
      refine rw_iload f_X0_button_26 rfl ?_
      refine rw_switch f_X0_button_27 ?_
      refine rw_sw1 (fun c2 => ?_) (fun c2 => ?_)
      · refine rw_aload f_X0_button_72 rfl ?_
        refine rw_getR f_X0_button_73 (by first | assumption | exact hW.k rfl | exact hW.k0) (by first | assumption | exact hW.r0 rfl | exact hW.r rfl | rfl) ?_
        refine rw_getR f_X0_button_76 (by first | assumption | exact hW.k rfl | exact hW.k0) (by first | assumption | exact hW.r0 rfl | exact hW.r rfl | rfl) ?_
        refine rw_iload f_X0_button_79 rfl ?_
        refine rw_xaldE f_X0_button_80 (by first | assumption | exact hW.k rfl | exact hW.k0) rfl (by omega) (by omega) ?_
        refine rw_iret f_X0_button_81 ?_
        first | (rw [e] at c1; exact absurd c1 (by decide)) | (simpa [c1, c2, btn_of, o0, o1, o2, o3, o4, o5, eS, eT] using hk) | (simp [c1, c2, btn_of] at hk; first | exact hk | (rw [c8] at hk; exact hk) | (rcases pp with q | q; (exact absurd q c8); (rw [q] at hk; exact hk)))
      · refine rw_sw1 (fun c3 => ?_) (fun c3 => ?_)
        · refine rw_aload f_X0_button_82 rfl ?_
          refine rw_getR f_X0_button_83 (by first | assumption | exact hW.k rfl | exact hW.k0) (by first | assumption | exact hW.r0 rfl | exact hW.r rfl | rfl) ?_
          refine rw_getR f_X0_button_86 (by first | assumption | exact hW.k rfl | exact hW.k0) (by first | assumption | exact hW.r0 rfl | exact hW.r rfl | rfl) ?_
          refine rw_iload f_X0_button_89 rfl ?_
          refine rw_xaldE f_X0_button_90 (by first | assumption | exact hW.k rfl | exact hW.k0) rfl (by omega) (by omega) ?_
          refine rw_iret f_X0_button_91 ?_
          first | (rw [e] at c1; exact absurd c1 (by decide)) | (simpa [c1, c2, c3, btn_of, o0, o1, o2, o3, o4, o5, eS, eT] using hk) | (simp [c1, c2, c3, btn_of] at hk; first | exact hk | (rw [c8] at hk; exact hk) | (rcases pp with q | q; (exact absurd q c8); (rw [q] at hk; exact hk)))
        · refine rw_sw1 (fun c4 => ?_) (fun c4 => ?_)
          · refine rw_aload f_X0_button_92 rfl ?_
            refine rw_getIC f_X0_button_93 (by assumption) ?_
            refine rw_iret f_X0_button_96 ?_
            first | (rw [e] at c1; exact absurd c1 (by decide)) | (simpa [c1, c2, c3, c4, btn_of, o0, o1, o2, o3, o4, o5, eS, eT] using hk) | (simp [c1, c2, c3, c4, btn_of] at hk; first | exact hk | (rw [c8] at hk; exact hk) | (rcases pp with q | q; (exact absurd q c8); (rw [q] at hk; exact hk)))
          · refine rw_sw1 (fun c5 => ?_) (fun c5 => ?_)
            · refine rw_aload f_X0_button_97 rfl ?_
              refine rw_getIC f_X0_button_98 (by assumption) ?_
              refine rw_iret f_X0_button_101 ?_
              first | (rw [e] at c1; exact absurd c1 (by decide)) | (simpa [c1, c2, c3, c4, c5, btn_of, o0, o1, o2, o3, o4, o5, eS, eT] using hk) | (simp [c1, c2, c3, c4, c5, btn_of] at hk; first | exact hk | (rw [c8] at hk; exact hk) | (rcases pp with q | q; (exact absurd q c8); (rw [q] at hk; exact hk)))
            · refine rw_sw1 (fun c6 => ?_) (fun c6 => ?_)
              · refine rw_aload f_X0_button_102 rfl ?_
                refine rw_getIC f_X0_button_103 (by assumption) ?_
                refine rw_iret f_X0_button_106 ?_
                first | (rw [e] at c1; exact absurd c1 (by decide)) | (simpa [c1, c2, c3, c4, c5, c6, btn_of, o0, o1, o2, o3, o4, o5, eS, eT] using hk) | (simp [c1, c2, c3, c4, c5, c6, btn_of] at hk; first | exact hk | (rw [c8] at hk; exact hk) | (rcases pp with q | q; (exact absurd q c8); (rw [q] at hk; exact hk)))
              · refine rw_sw1 (fun c7 => ?_) (fun c7 => ?_)
                · refine rw_aload f_X0_button_107 rfl ?_
                  refine rw_isP f_X0_button_108 (by assumption) (by assumption) rfl ?_
                  first | refine rw_eq0B f_X0_button_111 (fun c8 => ?_) (fun c8 => ?_) | refine rw_eq0 f_X0_button_111 (fun c8 => ?_) (fun c8 => ?_)
                  · refine rw_const f_X0_button_118 ?_
                    refine rw_iret f_X0_button_119 ?_
                    first | (rw [e] at c1; exact absurd c1 (by decide)) | (simpa [c1, c2, c3, c4, c5, c6, c7, c8, btn_of, o0, o1, o2, o3, o4, o5, eS, eT] using hk) | (simp [c1, c2, c3, c4, c5, c6, c7, c8, btn_of] at hk; first | exact hk | (rw [c8] at hk; exact hk) | (rcases pp with q | q; (exact absurd q c8); (rw [q] at hk; exact hk)))
                  · refine rw_const f_X0_button_114 ?_
                    refine rw_goto f_X0_button_115 ?_
                    refine rw_iret f_X0_button_119 ?_
                    first | (rw [e] at c1; exact absurd c1 (by decide)) | (simpa [c1, c2, c3, c4, c5, c6, c7, c8, btn_of, o0, o1, o2, o3, o4, o5, eS, eT] using hk) | (simp [c1, c2, c3, c4, c5, c6, c7, c8, btn_of] at hk; first | exact hk | (rw [c8] at hk; exact hk) | (rcases pp with q | q; (exact absurd q c8); (rw [q] at hk; exact hk)))
                · refine rw_sw1 (fun c9 => ?_) (fun c9 => ?_)
                  · refine rw_aload f_X0_button_120 rfl ?_
                    refine rw_getIC f_X0_button_121 (by assumption) ?_
                    refine rw_iret f_X0_button_124 ?_
                    first | (rw [e] at c1; exact absurd c1 (by decide)) | (simpa [c1, c2, c3, c4, c5, c6, c7, c9, btn_of, o0, o1, o2, o3, o4, o5, eS, eT] using hk) | (simp [c1, c2, c3, c4, c5, c6, c7, c9, btn_of] at hk; first | exact hk | (rw [c8] at hk; exact hk) | (rcases pp with q | q; (exact absurd q c8); (rw [q] at hk; exact hk)))
                  · refine rw_sw1 (fun c10 => ?_) (fun c10 => ?_)
                    · refine rw_aload f_X0_button_125 rfl ?_
                      refine rw_getIC f_X0_button_126 (by assumption) ?_
                      refine rw_iret f_X0_button_129 ?_
                      first | (rw [e] at c1; exact absurd c1 (by decide)) | (simpa [c1, c2, c3, c4, c5, c6, c7, c9, c10, btn_of, o0, o1, o2, o3, o4, o5, eS, eT] using hk) | (simp [c1, c2, c3, c4, c5, c6, c7, c9, c10, btn_of] at hk; first | exact hk | (rw [c8] at hk; exact hk) | (rcases pp with q | q; (exact absurd q c8); (rw [q] at hk; exact hk)))
                    · refine rw_sw0 ?_
                      refine rw_const f_X0_button_130 ?_
                      refine rw_iret f_X0_button_132 ?_
                      first | (rw [e] at c1; exact absurd c1 (by decide)) | (simpa [c1, c2, c3, c4, c5, c6, c7, c9, c10, btn_of, o0, o1, o2, o3, o4, o5, eS, eT] using hk) | (simp [c1, c2, c3, c4, c5, c6, c7, c9, c10, btn_of] at hk; first | exact hk | (rw [c8] at hk; exact hk) | (rcases pp with q | q; (exact absurd q c8); (rw [q] at hk; exact hk)))
    · refine rw_const f_X0_button_8 ?_
      refine rw_iret f_X0_button_10 ?_
      first | (rw [e] at c1; exact absurd c1 (by decide)) | (simpa [c1, btn_of, o0, o1, o2, o3, o4, o5, eS, eT] using hk) | (simp [c1, btn_of] at hk; first | exact hk | (rw [c8] at hk; exact hk) | (rcases pp with q | q; (exact absurd q c8); (rw [q] at hk; exact hk)))
  · have e' : isIn b 0 (V 0 58 - 1) = false := by simpa using e
    rw [if_pos e'] at hk
    refine rw_aload f_X0_button_0 rfl ?_
    refine rw_iload f_X0_button_1 rfl ?_
    refine rw_callV f_X0_button_2 rfl (by first | assumption | exact hW.k rfl | exact hW.k0) (by first | assumption | exact hW.1 | omega | exact Nat.succ_ne_zero _) rfl rfl rfl rfl (rn_ki (C_isButton hC ?_))
    first | refine rw_ne0B f_X0_button_5 (fun c1 => ?_) (fun c1 => ?_) | refine rw_ne0 f_X0_button_5 (fun c1 => ?_) (fun c1 => ?_)
    · exact absurd c1 e
    · refine rw_const f_X0_button_8 ?_
      refine rw_iret f_X0_button_10 ?_
      exact hk
theorem C_lies (hC : CR h V x r nM nD nB nA nU nT nL) {i : Int32} (hk : k (sp_lies (V 0 85) (V 42) i) h) : Rn (d + 1) n_X0_lies 0 [am_r x, am_i i] [] h (kI k) := by
  have hC' := hC
  obtain ⟨hW, hr, hG, hN, hA, hT, hX, hI, hS, hF⟩ := hC'
  obtain ⟨⟨rK, r0⟩, ⟨hLM, hM⟩, ⟨hLD, hD⟩, ⟨hLO, hO⟩, ⟨⟨hlk, hla⟩, hlike⟩, ⟨htk, hwear⟩, gf, gu, gh, gs⟩ := hG
  obtain ⟨⟨⟨fM, fM6, fD, fD6, fB, fB10⟩, fO, ⟨fH, fSt⟩, fHr, fFr, fWr⟩, ⟨fA, fU, fAU, fT, fT30, fL, fL10⟩, fTp, fNow, fWere, fBox, fTg⟩ := hF
  have kLM := hLM.1.1; have zLM := hLM.2
  have kLD := hLD.1.1; have zLD := hLD.2
  have kLO := hLO.1.1; have zLO := hLO.2
  unfold sp_lies at hk
  obtain ⟨⟨i1, i2, i3, i4, i5, i6⟩, i7, i8⟩ := hI
  rw [i6, ← i5] at hk
  refine rw_iload f_X0_lies_0 rfl ?_
  refine rw_const f_X0_lies_1 ?_
  refine rw_aload f_X0_lies_2 rfl ?_
  refine rw_getI f_X0_lies_3 (by first | assumption | exact hW.k rfl | exact hW.k0) ?_
  refine rw_const f_X0_lies_6 ?_
  refine rw_isub f_X0_lies_7 ?_
  refine rw_callS f_X0_lies_8 rfl rfl rfl (rn_ki (C_isIn ?_))
  first | refine rw_eq0B f_X0_lies_11 (fun c1 => ?_) (fun c1 => ?_) | refine rw_eq0 f_X0_lies_11 (fun c1 => ?_) (fun c1 => ?_)
  · refine rw_const f_X0_lies_23 ?_
    refine rw_iret f_X0_lies_25 ?_
    first | exact hk | (simpa [c1] using hk)
  · rw [if_pos c1] at hk
    obtain ⟨j, rfl, hj⟩ := isIn_nat (n := nL) (by omega) (by rw [← i5]; exact c1)
    rw [nI_clamp (by omega), ← i7 j hj] at hk
    refine rw_aload f_X0_lies_14 rfl ?_
    refine rw_getR f_X0_lies_15 (by first | assumption | exact hW.k rfl | exact hW.k0) (by first | assumption | exact hW.r0 rfl | exact hW.r rfl | rfl) ?_
    refine rw_iload f_X0_lies_18 rfl ?_
    refine rw_xaldE f_X0_lies_19 (by first | assumption | exact hW.k rfl | exact hW.k0) rfl (by omega) (by omega) ?_
    refine rw_goto f_X0_lies_20 ?_
    refine rw_iret f_X0_lies_25 ?_
    first | exact hk | (simpa [c1] using hk)
theorem C_fault (hC : CR h V x r nM nD nB nA nU nT nL) {w : Int32} (hk : k (sp_fault (V 0 2) (V 0 3) w) h) : Rn d n_X0_fault 0 [am_r x, am_i w] [] h (kI k) := by
  have hC' := hC
  obtain ⟨hW, hr, hG, hN, hA, hT, hX, hI, hS, hF⟩ := hC'
  obtain ⟨⟨rK, r0⟩, ⟨hLM, hM⟩, ⟨hLD, hD⟩, ⟨hLO, hO⟩, ⟨⟨hlk, hla⟩, hlike⟩, ⟨htk, hwear⟩, gf, gu, gh, gs⟩ := hG
  obtain ⟨⟨⟨fM, fM6, fD, fD6, fB, fB10⟩, fO, ⟨fH, fSt⟩, fHr, fFr, fWr⟩, ⟨fA, fU, fAU, fT, fT30, fL, fL10⟩, fTp, fNow, fWere, fBox, fTg⟩ := hF
  have kLM := hLM.1.1; have zLM := hLM.2
  have kLD := hLD.1.1; have zLD := hLD.2
  have kLO := hLO.1.1; have zLO := hLO.2
  obtain ⟨⟨i1, i2, i3, i4, i5, i6⟩, i7, i8⟩ := hI
  refine rw_iload f_X0_fault_0 rfl ?_
  first | refine rw_ne0B f_X0_fault_1 (fun c1 => ?_) (fun c1 => ?_) | refine rw_ne0 f_X0_fault_1 (fun c1 => ?_) (fun c1 => ?_)
  · refine rw_iload f_X0_fault_11 rfl ?_
    refine rw_const f_X0_fault_12 ?_
    refine rw_ne f_X0_fault_13 (fun c2 => ?_) (fun c2 => ?_)
    · refine rw_const f_X0_fault_23 ?_
      refine rw_iret f_X0_fault_24 ?_
      simpa [sp_fault, i3, i4, c1, c2] using hk
    · refine rw_aload f_X0_fault_16 rfl ?_
      refine rw_getI f_X0_fault_17 (by first | assumption | exact hW.k rfl | exact hW.k0) ?_
      refine rw_goto f_X0_fault_20 ?_
      refine rw_iret f_X0_fault_24 ?_
      simpa [sp_fault, i3, i4, c1, c2] using hk
  · refine rw_aload f_X0_fault_4 rfl ?_
    refine rw_getI f_X0_fault_5 (by first | assumption | exact hW.k rfl | exact hW.k0) ?_
    refine rw_goto f_X0_fault_8 ?_
    refine rw_iret f_X0_fault_24 ?_
    simpa [sp_fault, i3, i4, c1] using hk
theorem C_end (hC : CR h V x r nM nD nB nA nU nT nL) {n : Int32} (hk : k (if sp_end n (V 0 1) = true then n else -1) (if sp_end n (V 0 1) = true then hp_sI h x 5 n else h)) : Rn d n_X0_end 0 [am_r x, am_i n] [] h (kI k) := by
  have hC' := hC
  obtain ⟨hW, hr, hG, hN, hA, hT, hX, hI, hS, hF⟩ := hC'
  obtain ⟨⟨rK, r0⟩, ⟨hLM, hM⟩, ⟨hLD, hD⟩, ⟨hLO, hO⟩, ⟨⟨hlk, hla⟩, hlike⟩, ⟨htk, hwear⟩, gf, gu, gh, gs⟩ := hG
  obtain ⟨⟨⟨fM, fM6, fD, fD6, fB, fB10⟩, fO, ⟨fH, fSt⟩, fHr, fFr, fWr⟩, ⟨fA, fU, fAU, fT, fT30, fL, fL10⟩, fTp, fNow, fWere, fBox, fTg⟩ := hF
  have kLM := hLM.1.1; have zLM := hLM.2
  have kLD := hLD.1.1; have zLD := hLD.2
  have kLO := hLO.1.1; have zLO := hLO.2
  obtain ⟨⟨i1, i2, i3, i4, i5, i6⟩, i7, i8⟩ := hI
  rw [← i1] at hk
  refine rw_iload f_X0_end_0 rfl ?_
  refine rw_lt0 f_X0_end_1 (fun c1 => ?_) (fun c1 => ?_)
  · refine rw_const f_X0_end_12 ?_
    refine rw_iret f_X0_end_13 ?_
    first | (simpa [sp_end, Int32.not_le.mpr c1] using hk) | (simpa [sp_end, Int32.not_lt.mp c1, c2] using hk)
  · refine rw_iload f_X0_end_4 rfl ?_
    refine rw_aload f_X0_end_5 rfl ?_
    refine rw_getI f_X0_end_6 (by first | assumption | exact hW.k rfl | exact hW.k0) ?_
    refine rw_le f_X0_end_9 (fun c2 => ?_) (fun c2 => ?_)
    · refine rw_aload f_X0_end_14 rfl ?_
      refine rw_iload f_X0_end_15 rfl ?_
      refine rw_putI f_X0_end_16 (by first | assumption | exact hW.k rfl | exact hW.k0) ?_
      refine rw_iload f_X0_end_19 rfl ?_
      refine rw_iret f_X0_end_20 ?_
      first | (simpa [sp_end, Int32.not_le.mpr c1] using hk) | (simpa [sp_end, Int32.not_lt.mp c1, c2] using hk)
    · refine rw_const f_X0_end_12 ?_
      refine rw_iret f_X0_end_13 ?_
      first | (simpa [sp_end, Int32.not_le.mpr c1] using hk) | (simpa [sp_end, Int32.not_lt.mp c1, c2] using hk)
theorem C_later (hC : CR h V x r nM nD nB nA nU nT nL) {b : Int32} (hk : k (if sp_later (V 0 94) b = true then V 0 94 + b else -1) (if sp_later (V 0 94) b = true then hp_sI h x 6 (V 0 94 + b) else h)) : Rn d n_X0_later 0 [am_r x, am_i b] [] h (kI k) := by
  have hC' := hC
  obtain ⟨hW, hr, hG, hN, hA, hT, hX, hI, hS, hF⟩ := hC'
  obtain ⟨⟨rK, r0⟩, ⟨hLM, hM⟩, ⟨hLD, hD⟩, ⟨hLO, hO⟩, ⟨⟨hlk, hla⟩, hlike⟩, ⟨htk, hwear⟩, gf, gu, gh, gs⟩ := hG
  obtain ⟨⟨⟨fM, fM6, fD, fD6, fB, fB10⟩, fO, ⟨fH, fSt⟩, fHr, fFr, fWr⟩, ⟨fA, fU, fAU, fT, fT30, fL, fL10⟩, fTp, fNow, fWere, fBox, fTg⟩ := hF
  have kLM := hLM.1.1; have zLM := hLM.2
  have kLD := hLD.1.1; have zLD := hLD.2
  have kLO := hLO.1.1; have zLO := hLO.2
  obtain ⟨⟨i1, i2, i3, i4, i5, i6⟩, i7, i8⟩ := hI
  rw [← i2] at hk
  refine rw_iload f_X0_later_0 rfl ?_
  refine rw_lt0 f_X0_later_1 (fun c1 => ?_) (fun c1 => ?_)
  · refine rw_const f_X0_later_23 ?_
    refine rw_iret f_X0_later_24 ?_
    first | (simpa [sp_later, c1] using hk) | (rw [sI_same]; simpa [sp_later, Int32.not_lt.mpr c3, c1] using hk)
  · refine rw_iload f_X0_later_4 rfl ?_
    refine rw_const f_X0_later_5 ?_
    refine rw_gt f_X0_later_8 (fun c2 => ?_) (fun c2 => ?_)
    · refine rw_const f_X0_later_23 ?_
      refine rw_iret f_X0_later_24 ?_
      first | (simpa [sp_later, c1, c2] using hk) | (rw [sI_same]; simpa [sp_later, Int32.not_lt.mpr c3, c1, c2] using hk)
    · refine rw_aload f_X0_later_11 rfl ?_
      refine rw_getI f_X0_later_12 (by first | assumption | exact hW.k rfl | exact hW.k0) ?_
      refine rw_iload f_X0_later_15 rfl ?_
      refine rw_iadd f_X0_later_16 ?_
      refine rw_const f_X0_later_17 ?_
      refine rw_le f_X0_later_20 (fun c3 => ?_) (fun c3 => ?_)
      · refine rw_aload f_X0_later_25 rfl ?_
        first | refine rw_dupr f_X0_later_26 ?_ | refine rw_dupi f_X0_later_26 ?_
        refine rw_getI f_X0_later_27 (by first | assumption | exact hW.k rfl | exact hW.k0) ?_
        refine rw_iload f_X0_later_30 rfl ?_
        refine rw_iadd f_X0_later_31 ?_
        refine rw_putI f_X0_later_32 (by first | assumption | exact hW.k rfl | exact hW.k0) ?_
        refine rw_aload f_X0_later_35 rfl ?_
        refine rw_getI f_X0_later_36 (by first | assumption | exact hW.k rfl | exact hW.k0) ?_
        refine rw_iret f_X0_later_39 ?_
        first | (simpa [sp_later, c1, c2, c3] using hk) | (rw [sI_same]; simpa [sp_later, Int32.not_lt.mpr c3, c1, c2, c3] using hk)
      · refine rw_const f_X0_later_23 ?_
        refine rw_iret f_X0_later_24 ?_
        first | (simpa [sp_later, c1, c2, c3] using hk) | (rw [sI_same]; simpa [sp_later, Int32.not_lt.mpr c3, c1, c2, c3] using hk)
end CQ3
