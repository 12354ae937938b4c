/-! THE CLASS: queries with loops -/
section CQ2
variable {d : Nat} {h : am_H} {V : am_M} {x r nM nD nB nA nU nT nL : Nat} {k : Int32 → am_H → Prop}
theorem C_many (hC : CR h V x r nM nD nB nA nU nT nL) {s : Int32} (hk : k (sp_many nB (V 34) s) h) : Rn (d + 3) n_X0_many 0 [am_r x, am_i s, am_u, am_u] [] h (kI k) := by
  have hC' := hC
  obtain ⟨hW, hr, hG, hN, hA, hT, hX, hI, hS, hF⟩ := hC'
  obtain ⟨⟨rK, r0⟩, ⟨hLM, hM⟩, ⟨hLD, hD⟩, ⟨hLO, hO⟩, ⟨⟨hlk, hla⟩, hlike⟩, ⟨htk, hwear⟩, gf, gu, gh, gs⟩ := hG
  obtain ⟨⟨⟨fM, fM6, fD, fD6, fB, fB10⟩, fO, ⟨fH, fSt⟩, fHr, fFr, fWr⟩, ⟨fA, fU, fAU, fT, fT30, fL, fL10⟩, fTp, fNow, fWere, fBox, fTg⟩ := hF
  have kLM := hLM.1.1; have zLM := hLM.2
  have kLD := hLD.1.1; have zLD := hLD.2
  have kLO := hLO.1.1; have zLO := hLO.2
  unfold sp_many at hk
  have loop : k (cntB (fun b => decide (V 34 b = s)) nB) h → Rn (d + 3) n_X0_many 15 [am_r x, am_i s, am_i 0, am_i 0] [] h (kI k) := by
    intro hk
    refine rn_for (N := nB) (fun b => [am_r x, am_i s, am_i (cntB (fun b => decide (V 34 b = s)) b), am_i (nI b)]) (fun _ => h) (fun b hb ih => ?_) ?_
    · have eS := (hN.1 b (by omega)).1
      have eT := (hN.1 b (by omega)).2
      refine rw_iload f_X0_many_15 rfl ?_
      refine rw_aload f_X0_many_16 rfl ?_
      refine rw_callV f_X0_many_17 rfl (by first | assumption | exact hW.k rfl | exact hW.k0) (by first | assumption | exact hW.1 | omega | exact Nat.succ_ne_zero _) rfl rfl rfl rfl (rn_ki (C_buttons hC ?_))
      refine rw_icmpF f_X0_many_20 (decide_eq_false (nI_ge hb (by omega))) ?_
      refine rw_iload f_X0_many_23 rfl ?_
      refine rw_aload f_X0_many_24 rfl ?_
      refine rw_getR f_X0_many_25 (by first | assumption | exact hW.k rfl | exact hW.k0) (by first | assumption | exact hW.r0 rfl | exact hW.r rfl | rfl) ?_
      refine rw_getR f_X0_many_28 (by first | assumption | exact hW.k rfl | exact hW.k0) (by first | assumption | exact hW.r0 rfl | exact hW.r rfl | rfl) ?_
      refine rw_iload f_X0_many_31 rfl ?_
      refine rw_xaldE f_X0_many_32 (by first | assumption | exact hW.k rfl | exact hW.k0) rfl (by omega) (by omega) ?_
      refine rw_iload f_X0_many_33 rfl ?_
      rw [eS]
      refine rw_ne f_X0_many_34 (fun c1 => ?_) (fun c1 => ?_)
      · refine rw_const f_X0_many_41 ?_
        refine rw_iadd f_X0_many_42 ?_
        refine rw_istore f_X0_many_43 rfl rfl ?_
        refine rw_iinc f_X0_many_44 rfl rfl ?_
        refine rw_goto f_X0_many_47 ?_
        rw [nI_1']
        simpa [cntB, c1, bI, am_put, am_kill] using ih
      · refine rw_const f_X0_many_37 ?_
        refine rw_goto f_X0_many_38 ?_
        refine rw_iadd f_X0_many_42 ?_
        refine rw_istore f_X0_many_43 rfl rfl ?_
        refine rw_iinc f_X0_many_44 rfl rfl ?_
        refine rw_goto f_X0_many_47 ?_
        rw [nI_1']
        simpa [cntB, c1, bI, am_put, am_kill] using ih
    · refine rw_iload f_X0_many_15 rfl ?_
      refine rw_aload f_X0_many_16 rfl ?_
      refine rw_callV f_X0_many_17 rfl (by first | assumption | exact hW.k rfl | exact hW.k0) (by first | assumption | exact hW.1 | omega | exact Nat.succ_ne_zero _) rfl rfl rfl rfl (rn_ki (C_buttons hC ?_))
      refine rw_icmpT f_X0_many_20 (decide_eq_true (Int32.le_refl _)) ?_
      refine rw_iload f_X0_many_50 rfl ?_
      refine rw_iret f_X0_many_51 ?_
      exact hk
  refine rw_iload f_X0_many_0 rfl ?_
  refine rw_const f_X0_many_1 ?_
  refine rw_const f_X0_many_2 ?_
  refine rw_callS f_X0_many_3 rfl rfl rfl (rn_ki (C_isIn ?_))
  first | refine rw_ne0B f_X0_many_6 (fun c1 => ?_) (fun c1 => ?_) | refine rw_ne0 f_X0_many_6 (fun c1 => ?_) (fun c1 => ?_)
  · refine rw_const f_X0_many_11 ?_
    refine rw_istore f_X0_many_12 rfl rfl ?_
    refine rw_const f_X0_many_13 ?_
    refine rw_istore f_X0_many_14 rfl rfl ?_
    exact loop (by rw [if_pos c1] at hk; exact hk)
  · refine rw_const f_X0_many_9 ?_
    refine rw_iret f_X0_many_10 ?_
    simpa [c1] using hk
theorem C_coat (hC : CR h V x r nM nD nB nA nU nT nL) {man what : Int32} (hk : k (sp_coat nB (V 34) (V 26) (V 27) (V 0 56) man what) h) : Rn (d + 3) n_X0_coat 0 [am_r x, am_i man, am_i what, am_u, am_u, am_u, am_u] [] h (kI k) := by
  have hC' := hC
  obtain ⟨hW, hr, hG, hN, hA, hT, hX, hI, hS, hF⟩ := hC'
  obtain ⟨⟨rK, r0⟩, ⟨hLM, hM⟩, ⟨hLD, hD⟩, ⟨hLO, hO⟩, ⟨⟨hlk, hla⟩, hlike⟩, ⟨htk, hwear⟩, gf, gu, gh, gs⟩ := hG
  obtain ⟨⟨⟨fM, fM6, fD, fD6, fB, fB10⟩, fO, ⟨fH, fSt⟩, fHr, fFr, fWr⟩, ⟨fA, fU, fAU, fT, fT30, fL, fL10⟩, fTp, fNow, fWere, fBox, fTg⟩ := hF
  have kLM := hLM.1.1; have zLM := hLM.2
  have kLD := hLD.1.1; have zLD := hLD.2
  have kLO := hLO.1.1; have zLO := hLO.2
  unfold sp_coat at hk
  have loop : ∀ s, k (bs (pr_coat (V 34) (V 26) (V 27) man what s) nB) h → Rn (d + 3) n_X0_coat 45 [am_r x, am_i man, am_i what, am_i s, am_i 0, am_i 0, am_u] [] h (kI k) := by
    intro s hk
    refine rn_forJ (N := nB) (fun b j => [am_r x, am_i man, am_i what, am_i s, am_i (bs (pr_coat (V 34) (V 26) (V 27) man what s) b), am_i (nI b), j]) (fun _ => h) (fun b hb j ih => ?_) (fun j => ?_) am_u
    · have eS := (hN.1 b (by omega)).1
      have eT := (hN.1 b (by omega)).2
      obtain ⟨oc, op, oz, o0, o1, o2, o3, o4, o5⟩ := COath.parts hW.al (hO b (by omega))
      refine rw_iload f_X0_coat_45 rfl ?_
      refine rw_aload f_X0_coat_47 rfl ?_
      refine rw_callV f_X0_coat_48 rfl (by first | assumption | exact hW.k rfl | exact hW.k0) (by first | assumption | exact hW.1 | omega | exact Nat.succ_ne_zero _) rfl rfl rfl rfl (rn_ki (C_buttons hC ?_))
      refine rw_icmpF f_X0_coat_51 (decide_eq_false (nI_ge hb (by omega))) ?_
      refine rw_iload f_X0_coat_54 rfl ?_
      refine rw_const f_X0_coat_55 ?_
      refine rw_ne f_X0_coat_56 (fun c1 => ?_) (fun c1 => ?_)
      · refine rw_aload f_X0_coat_80 rfl ?_
        refine rw_getR f_X0_coat_81 (by first | assumption | exact hW.k rfl | exact hW.k0) (by first | assumption | exact hW.r0 rfl | exact hW.r rfl | rfl) ?_
        refine rw_getR f_X0_coat_84 (by first | assumption | exact hW.k rfl | exact hW.k0) (by first | assumption | exact hW.r0 rfl | exact hW.r rfl | rfl) ?_
        refine rw_iload f_X0_coat_87 rfl ?_
        refine rw_callV f_X0_coat_89 rfl (by first | assumption | exact hW.k rfl | exact hW.k0) (by first | assumption | exact hW.1 | omega | exact Nat.succ_ne_zero _) rfl rfl rfl rfl (rn_kr (J_getL (by assumption) (by omega) ?_))
        refine rw_castC f_X0_coat_92 (by assumption) ?_
        refine rw_getIC f_X0_coat_95 (by assumption) ?_
        first | rw [o0] | rw [o1]
        refine rw_istore f_X0_coat_98 rfl rfl ?_
        refine rw_iload f_X0_coat_100 rfl ?_
        refine rw_iload f_X0_coat_102 rfl ?_
        refine rw_ne f_X0_coat_103 (fun c2 => ?_) (fun c2 => ?_)
        · refine rw_iinc f_X0_coat_129 rfl rfl ?_
          refine rw_goto f_X0_coat_132 ?_
          rw [nI_1']
          first | (rw [bs_no (by simp [pr_coat, c1, c2])] at ih; exact ih _) | (rw [bs_yes (by simp [pr_coat, c1, c2])] at ih; exact ih _)
        · refine rw_aload f_X0_coat_106 rfl ?_
          refine rw_getR f_X0_coat_107 (by first | assumption | exact hW.k rfl | exact hW.k0) (by first | assumption | exact hW.r0 rfl | exact hW.r rfl | rfl) ?_
          refine rw_getR f_X0_coat_110 (by first | assumption | exact hW.k rfl | exact hW.k0) (by first | assumption | exact hW.r0 rfl | exact hW.r rfl | rfl) ?_
          refine rw_iload f_X0_coat_113 rfl ?_
          refine rw_xaldE f_X0_coat_115 (by first | assumption | exact hW.k rfl | exact hW.k0) rfl (by omega) (by omega) ?_
          refine rw_iload f_X0_coat_116 rfl ?_
          rw [eS]
          refine rw_ne f_X0_coat_117 (fun c3 => ?_) (fun c3 => ?_)
          · refine rw_iinc f_X0_coat_129 rfl rfl ?_
            refine rw_goto f_X0_coat_132 ?_
            rw [nI_1']
            first | (rw [bs_no (by simp [pr_coat, c1, c2, c3])] at ih; exact ih _) | (rw [bs_yes (by simp [pr_coat, c1, c2, c3])] at ih; exact ih _)
          · refine rw_iload f_X0_coat_120 rfl ?_
            refine rw_const f_X0_coat_122 ?_
            refine rw_iload f_X0_coat_123 rfl ?_
            refine rw_ishl f_X0_coat_125 ?_
            refine rw_ior f_X0_coat_126 ?_
            refine rw_istore f_X0_coat_127 rfl rfl ?_
            refine rw_iinc f_X0_coat_129 rfl rfl ?_
            refine rw_goto f_X0_coat_132 ?_
            rw [nI_1']
            first | (rw [bs_no (by simp [pr_coat, c1, c2, c3])] at ih; exact ih _) | (rw [bs_yes (by simp [pr_coat, c1, c2, c3])] at ih; exact ih _)
      · refine rw_aload f_X0_coat_59 rfl ?_
        refine rw_getR f_X0_coat_60 (by first | assumption | exact hW.k rfl | exact hW.k0) (by first | assumption | exact hW.r0 rfl | exact hW.r rfl | rfl) ?_
        refine rw_getR f_X0_coat_63 (by first | assumption | exact hW.k rfl | exact hW.k0) (by first | assumption | exact hW.r0 rfl | exact hW.r rfl | rfl) ?_
        refine rw_iload f_X0_coat_66 rfl ?_
        refine rw_callV f_X0_coat_68 rfl (by first | assumption | exact hW.k rfl | exact hW.k0) (by first | assumption | exact hW.1 | omega | exact Nat.succ_ne_zero _) rfl rfl rfl rfl (rn_kr (J_getL (by assumption) (by omega) ?_))
        refine rw_castC f_X0_coat_71 (by assumption) ?_
        refine rw_getIC f_X0_coat_74 (by assumption) ?_
        refine rw_goto f_X0_coat_77 ?_
        first | rw [o0] | rw [o1]
        refine rw_istore f_X0_coat_98 rfl rfl ?_
        refine rw_iload f_X0_coat_100 rfl ?_
        refine rw_iload f_X0_coat_102 rfl ?_
        refine rw_ne f_X0_coat_103 (fun c4 => ?_) (fun c4 => ?_)
        · refine rw_iinc f_X0_coat_129 rfl rfl ?_
          refine rw_goto f_X0_coat_132 ?_
          rw [nI_1']
          first | (rw [bs_no (by simp [pr_coat, c1, c4])] at ih; exact ih _) | (rw [bs_yes (by simp [pr_coat, c1, c4])] at ih; exact ih _)
        · refine rw_aload f_X0_coat_106 rfl ?_
          refine rw_getR f_X0_coat_107 (by first | assumption | exact hW.k rfl | exact hW.k0) (by first | assumption | exact hW.r0 rfl | exact hW.r rfl | rfl) ?_
          refine rw_getR f_X0_coat_110 (by first | assumption | exact hW.k rfl | exact hW.k0) (by first | assumption | exact hW.r0 rfl | exact hW.r rfl | rfl) ?_
          refine rw_iload f_X0_coat_113 rfl ?_
          refine rw_xaldE f_X0_coat_115 (by first | assumption | exact hW.k rfl | exact hW.k0) rfl (by omega) (by omega) ?_
          refine rw_iload f_X0_coat_116 rfl ?_
          rw [eS]
          refine rw_ne f_X0_coat_117 (fun c5 => ?_) (fun c5 => ?_)
          · refine rw_iinc f_X0_coat_129 rfl rfl ?_
            refine rw_goto f_X0_coat_132 ?_
            rw [nI_1']
            first | (rw [bs_no (by simp [pr_coat, c1, c4, c5])] at ih; exact ih _) | (rw [bs_yes (by simp [pr_coat, c1, c4, c5])] at ih; exact ih _)
          · refine rw_iload f_X0_coat_120 rfl ?_
            refine rw_const f_X0_coat_122 ?_
            refine rw_iload f_X0_coat_123 rfl ?_
            refine rw_ishl f_X0_coat_125 ?_
            refine rw_ior f_X0_coat_126 ?_
            refine rw_istore f_X0_coat_127 rfl rfl ?_
            refine rw_iinc f_X0_coat_129 rfl rfl ?_
            refine rw_goto f_X0_coat_132 ?_
            rw [nI_1']
            first | (rw [bs_no (by simp [pr_coat, c1, c4, c5])] at ih; exact ih _) | (rw [bs_yes (by simp [pr_coat, c1, c4, c5])] at ih; exact ih _)
    · refine rw_iload f_X0_coat_45 rfl ?_
      refine rw_aload f_X0_coat_47 rfl ?_
      refine rw_callV f_X0_coat_48 rfl (by first | assumption | exact hW.k rfl | exact hW.k0) (by first | assumption | exact hW.1 | omega | exact Nat.succ_ne_zero _) rfl rfl rfl rfl (rn_ki (C_buttons hC ?_))
      refine rw_icmpT f_X0_coat_51 (decide_eq_true (Int32.le_refl _)) ?_
      refine rw_iload f_X0_coat_135 rfl ?_
      refine rw_iret f_X0_coat_137 ?_
      exact hk
  refine rw_aload f_X0_coat_0 rfl ?_
  refine rw_iload f_X0_coat_1 rfl ?_
  refine rw_callV f_X0_coat_2 rfl (by first | assumption | exact hW.k rfl | exact hW.k0) (by first | assumption | exact hW.1 | omega | exact Nat.succ_ne_zero _) rfl rfl rfl rfl (rn_ki (C_isMan hC ?_))
  first | refine rw_eq0B f_X0_coat_5 (fun c1 => ?_) (fun c1 => ?_) | refine rw_eq0 f_X0_coat_5 (fun c1 => ?_) (fun c1 => ?_)
  · refine rw_const f_X0_coat_17 ?_
    refine rw_iret f_X0_coat_18 ?_
    simpa [bI_eq0, bI_ne0, c1] using hk
  · refine rw_iload f_X0_coat_8 rfl ?_
    refine rw_const f_X0_coat_9 ?_
    refine rw_const f_X0_coat_10 ?_
    refine rw_callS f_X0_coat_11 rfl rfl rfl (rn_ki (C_isIn ?_))
    first | refine rw_ne0B f_X0_coat_14 (fun c2 => ?_) (fun c2 => ?_) | refine rw_ne0 f_X0_coat_14 (fun c2 => ?_) (fun c2 => ?_)
    · refine rw_iload f_X0_coat_19 rfl ?_
      refine rw_const f_X0_coat_20 ?_
      refine rw_ge f_X0_coat_21 (fun c3 => ?_) (fun c3 => ?_)
      · refine rw_iload f_X0_coat_28 rfl ?_
        refine rw_const f_X0_coat_29 ?_
        refine rw_ne f_X0_coat_30 (fun c4 => ?_) (fun c4 => ?_)
        · refine rw_const f_X0_coat_37 ?_
          refine rw_istore f_X0_coat_38 rfl rfl ?_
          refine rw_const f_X0_coat_39 ?_
          refine rw_istore f_X0_coat_40 rfl rfl ?_
          refine rw_const f_X0_coat_42 ?_
          refine rw_istore f_X0_coat_43 rfl rfl ?_
          exact loop _ (by rw [if_neg (by rw [c1]; decide), if_neg (by rw [c2]; decide)] at hk; simpa [sp_coatS, c1, c2, c3, c4] using hk)
        · refine rw_const f_X0_coat_33 ?_
          refine rw_goto f_X0_coat_34 ?_
          refine rw_istore f_X0_coat_38 rfl rfl ?_
          refine rw_const f_X0_coat_39 ?_
          refine rw_istore f_X0_coat_40 rfl rfl ?_
          refine rw_const f_X0_coat_42 ?_
          refine rw_istore f_X0_coat_43 rfl rfl ?_
          exact loop _ (by rw [if_neg (by rw [c1]; decide), if_neg (by rw [c2]; decide)] at hk; simpa [sp_coatS, c1, c2, c3, c4] using hk)
      · refine rw_const f_X0_coat_24 ?_
        refine rw_goto f_X0_coat_25 ?_
        refine rw_istore f_X0_coat_38 rfl rfl ?_
        refine rw_const f_X0_coat_39 ?_
        refine rw_istore f_X0_coat_40 rfl rfl ?_
        refine rw_const f_X0_coat_42 ?_
        refine rw_istore f_X0_coat_43 rfl rfl ?_
        exact loop _ (by rw [if_neg (by rw [c1]; decide), if_neg (by rw [c2]; decide)] at hk; simpa [sp_coatS, c1, c2, c3] using hk)
    · refine rw_const f_X0_coat_17 ?_
      refine rw_iret f_X0_coat_18 ?_
      simpa [bI_eq0, bI_ne0, c1, c2] using hk
end CQ2
