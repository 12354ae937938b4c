/-! THE CLASS: tugs, what must be left -/
section CQ4
variable {d : Nat} {h : am_H} {V : am_M} {x r nM nD nB nA nU nT nL : Nat} {k : Int32 → am_H → Prop}
abbrev mkV (V : am_M) (a : Nat) : Int32 → Int32 := sp_mark (V 15) (V 16) (V 17) a
abbrev tgV (V : am_M) (a : Nat) (t : Int32) : Nat → Bool := pr_tug (V 45) (V 46) (V 49) (V 47) (V 48) (mkV V a) t
theorem C_trait {a i : Nat} (hm : CMan h V a i) {w : Int32} (hk : k (mkV V i w) h) : Rn d n_X12_trait 0 [am_r a, am_i w] [] h (kI k) := by
  unfold mkV sp_mark at hk
  obtain ⟨m0, m1, m2, m3⟩ := hm
  rw [← m1, ← m2, ← m3] at hk
  refine rw_iload f_X12_trait_0 rfl ?_
  first | refine rw_ne0B f_X12_trait_1 (fun c1 => ?_) (fun c1 => ?_) | refine rw_ne0 f_X12_trait_1 (fun c1 => ?_) (fun c1 => ?_)
  · refine rw_iload f_X12_trait_11 rfl ?_
    refine rw_const f_X12_trait_12 ?_
    refine rw_ne f_X12_trait_13 (fun c2 => ?_) (fun c2 => ?_)
    · refine rw_aload f_X12_trait_23 rfl ?_
      refine rw_getI f_X12_trait_24 (by assumption) ?_
      refine rw_iret f_X12_trait_27 ?_
      simpa [c1, c2] using hk
    · refine rw_aload f_X12_trait_16 rfl ?_
      refine rw_getI f_X12_trait_17 (by assumption) ?_
      refine rw_goto f_X12_trait_20 ?_
      refine rw_iret f_X12_trait_27 ?_
      simpa [c1, c2] using hk
  · refine rw_aload f_X12_trait_4 rfl ?_
    refine rw_getI f_X12_trait_5 (by assumption) ?_
    refine rw_goto f_X12_trait_8 ?_
    refine rw_iret f_X12_trait_27 ?_
    simpa [c1] using hk
theorem C_isSo {a i g j : Nat} (hm : CMan h V a i) (ha : ¬ a = 0) (hg : hp_K h g = (122, 0) ∧ hp_I h g 0 = V 45 j ∧ hp_I h g 1 = V 46 j ∧ hp_I h g 2 = V 47 j ∧ hp_I h g 3 = V 49 j ∧ hp_I h g 4 = V 48 j) {t : Int32} (hk : k (bI (tgV V i t j)) h) : Rn (d + 1) n_X22_isSo 0 [am_r g, am_r a, am_i t] [] h (kI k) := by
  obtain ⟨g0, g1, g2, g3, g4, g5⟩ := hg
  have hm' := hm
  obtain ⟨m0, -⟩ := hm'
  unfold tgV pr_tug at hk
  rw [← g1, ← g2, ← g3, ← g4, ← g5] at hk
  refine rw_aload f_X22_isSo_0 rfl ?_
  refine rw_getI f_X22_isSo_1 (by assumption) ?_
  refine rw_iload f_X22_isSo_4 rfl ?_
  refine rw_gt f_X22_isSo_5 (fun c1 => ?_) (fun c1 => ?_)
  · refine rw_const f_X22_isSo_50 ?_
    refine rw_goto f_X22_isSo_51 ?_
    refine rw_zret f_X22_isSo_55 (by first | exact Or.inl rfl | exact Or.inr rfl | exact bI_01 _ | assumption) ?_
    simpa [c1, bI] using hk
  · refine rw_aload f_X22_isSo_8 rfl ?_
    refine rw_getI f_X22_isSo_9 (by assumption) ?_
    refine rw_lt0 f_X22_isSo_12 (fun c2 => ?_) (fun c2 => ?_)
    · refine rw_aload f_X22_isSo_23 rfl ?_
      refine rw_aload f_X22_isSo_24 rfl ?_
      refine rw_getI f_X22_isSo_25 (by assumption) ?_
      refine rw_callV f_X22_isSo_28 rfl (by assumption) (by first | assumption | omega) rfl rfl rfl rfl (rn_ki (C_trait hm ?_))
      refine rw_aload f_X22_isSo_31 rfl ?_
      refine rw_getI f_X22_isSo_32 (by assumption) ?_
      refine rw_ne f_X22_isSo_35 (fun c3 => ?_) (fun c3 => ?_)
      · refine rw_const f_X22_isSo_42 ?_
        refine rw_aload f_X22_isSo_43 rfl ?_
        refine rw_getI f_X22_isSo_44 (by assumption) ?_
        refine rw_ne f_X22_isSo_47 (fun c4 => ?_) (fun c4 => ?_)
        · refine rw_const f_X22_isSo_54 ?_
          refine rw_zret f_X22_isSo_55 (by first | exact Or.inl rfl | exact Or.inr rfl | exact bI_01 _ | assumption) ?_
          simpa [c1, c2, c3, c4, bI] using hk
        · refine rw_const f_X22_isSo_50 ?_
          refine rw_goto f_X22_isSo_51 ?_
          refine rw_zret f_X22_isSo_55 (by first | exact Or.inl rfl | exact Or.inr rfl | exact bI_01 _ | assumption) ?_
          simpa [c1, c2, c3, c4, bI] using hk
      · refine rw_const f_X22_isSo_38 ?_
        refine rw_goto f_X22_isSo_39 ?_
        refine rw_aload f_X22_isSo_43 rfl ?_
        refine rw_getI f_X22_isSo_44 (by assumption) ?_
        refine rw_ne f_X22_isSo_47 (fun c5 => ?_) (fun c5 => ?_)
        · refine rw_const f_X22_isSo_54 ?_
          refine rw_zret f_X22_isSo_55 (by first | exact Or.inl rfl | exact Or.inr rfl | exact bI_01 _ | assumption) ?_
          simpa [c1, c2, c3, c5, bI] using hk
        · refine rw_const f_X22_isSo_50 ?_
          refine rw_goto f_X22_isSo_51 ?_
          refine rw_zret f_X22_isSo_55 (by first | exact Or.inl rfl | exact Or.inr rfl | exact bI_01 _ | assumption) ?_
          simpa [c1, c2, c3, c5, bI] using hk
    · refine rw_aload f_X22_isSo_15 rfl ?_
      refine rw_getI f_X22_isSo_16 (by assumption) ?_
      refine rw_iload f_X22_isSo_19 rfl ?_
      refine rw_le f_X22_isSo_20 (fun c6 => ?_) (fun c6 => ?_)
      · refine rw_const f_X22_isSo_50 ?_
        refine rw_goto f_X22_isSo_51 ?_
        refine rw_zret f_X22_isSo_55 (by first | exact Or.inl rfl | exact Or.inr rfl | exact bI_01 _ | assumption) ?_
        simpa [c1, c2, c6, bI] using hk
      · refine rw_aload f_X22_isSo_23 rfl ?_
        refine rw_aload f_X22_isSo_24 rfl ?_
        refine rw_getI f_X22_isSo_25 (by assumption) ?_
        refine rw_callV f_X22_isSo_28 rfl (by assumption) (by first | assumption | omega) rfl rfl rfl rfl (rn_ki (C_trait hm ?_))
        refine rw_aload f_X22_isSo_31 rfl ?_
        refine rw_getI f_X22_isSo_32 (by assumption) ?_
        refine rw_ne f_X22_isSo_35 (fun c7 => ?_) (fun c7 => ?_)
        · refine rw_const f_X22_isSo_42 ?_
          refine rw_aload f_X22_isSo_43 rfl ?_
          refine rw_getI f_X22_isSo_44 (by assumption) ?_
          refine rw_ne f_X22_isSo_47 (fun c8 => ?_) (fun c8 => ?_)
          · refine rw_const f_X22_isSo_54 ?_
            refine rw_zret f_X22_isSo_55 (by first | exact Or.inl rfl | exact Or.inr rfl | exact bI_01 _ | assumption) ?_
            simpa [c1, c2, c6, c7, c8, bI] using hk
          · refine rw_const f_X22_isSo_50 ?_
            refine rw_goto f_X22_isSo_51 ?_
            refine rw_zret f_X22_isSo_55 (by first | exact Or.inl rfl | exact Or.inr rfl | exact bI_01 _ | assumption) ?_
            simpa [c1, c2, c6, c7, c8, bI] using hk
        · refine rw_const f_X22_isSo_38 ?_
          refine rw_goto f_X22_isSo_39 ?_
          refine rw_aload f_X22_isSo_43 rfl ?_
          refine rw_getI f_X22_isSo_44 (by assumption) ?_
          refine rw_ne f_X22_isSo_47 (fun c9 => ?_) (fun c9 => ?_)
          · refine rw_const f_X22_isSo_54 ?_
            refine rw_zret f_X22_isSo_55 (by first | exact Or.inl rfl | exact Or.inr rfl | exact bI_01 _ | assumption) ?_
            simpa [c1, c2, c6, c7, c9, bI] using hk
          · refine rw_const f_X22_isSo_50 ?_
            refine rw_goto f_X22_isSo_51 ?_
            refine rw_zret f_X22_isSo_55 (by first | exact Or.inl rfl | exact Or.inr rfl | exact bI_01 _ | assumption) ?_
            simpa [c1, c2, c6, c7, c9, bI] using hk
theorem C_swore (hC : CR h V x r nM nD nB nA nU nT nL) {t : Int32} (hk : k (sp_swore nM nT (fun a => tgV V a t)) h) : Rn (d + 3) n_X0_swore 0 [am_r x, am_i t, am_u, am_u, am_u, am_u] [] h (kI k) := by
  have hC' := hC
  obtain ⟨hW, hr, hG, hN, hA, hT, hX, hI, hS, hF⟩ := hC'
  obtain ⟨⟨rK, r0⟩, ⟨hLM, hM⟩, ⟨hLD, hD⟩, ⟨hLO, hO⟩, ⟨⟨hlk, hla⟩, hlike⟩, ⟨htk, hwear⟩, gf, gu, gh, gs⟩ := hG
  obtain ⟨⟨⟨fM, fM6, fD, fD6, fB, fB10⟩, fO, ⟨fH, fSt⟩, fHr, fFr, fWr⟩, ⟨fA, fU, fAU, fT, fT30, fL, fL10⟩, fTp, fNow, fWere, fBox, fTg⟩ := hF
  have kLM := hLM.1.1; have zLM := hLM.2
  have kLD := hLD.1.1; have zLD := hLD.2
  have kLO := hLO.1.1; have zLO := hLO.2
  obtain ⟨hLT, hTe, -⟩ := hT
  have kLT := hLT.1.1
  have zLT := hLT.2
  have inner : ∀ {K : am_R → am_H → Prop} {s : Int32} {a : Nat}, a < nM → (∀ y, Rn (d + 3) n_X0_swore 79 [am_r x, am_i t, am_i s, am_i (nI a), am_i (bI (allB (tgV V a t) nT)), y] [] h K) → ∀ q j, j + q = nT → (∀ b, b < j → tgV V a t b = true) → Rn (d + 3) n_X0_swore 24 [am_r x, am_i t, am_i s, am_i (nI a), am_i 1, am_i (nI j)] [] h K := by
    intro K s a ha kk q
    induction q with
    | zero =>
      intro j hj hq
      have e : allB (tgV V a t) nT = true := allB_iff.mpr (fun b hb => hq b (by omega))
      rw [e] at kk
      refine rw_iload f_X0_swore_24 rfl ?_
      refine rw_aload f_X0_swore_26 rfl ?_
      refine rw_getR f_X0_swore_27 (by first | assumption | exact hW.k rfl | exact hW.k0) (by first | assumption | exact hW.r0 rfl | exact hW.r rfl | rfl) ?_
      refine rw_callV f_X0_swore_30 rfl (by first | assumption | exact hW.k rfl | exact hW.k0) (by first | assumption | exact hW.1 | omega | exact Nat.succ_ne_zero _) rfl rfl rfl rfl (rn_ki (J_sizeL (by assumption) ?_))
      refine rw_icmpT f_X0_swore_33 (decide_eq_true (by rw [show j = nT by omega]; exact Int32.le_refl _)) ?_
      exact kk _
    | succ q ih =>
      intro j hj hq
      have hm := hM a ha
      have hg := hTe j (by omega)
      have km := hm.1
      have kg := hg.1
      have zm := Al_ne hW.al km (by decide)
      have zg := Al_ne hW.al kg (by decide)
      refine rw_iload f_X0_swore_24 rfl ?_
      refine rw_aload f_X0_swore_26 rfl ?_
      refine rw_getR f_X0_swore_27 (by first | assumption | exact hW.k rfl | exact hW.k0) (by first | assumption | exact hW.r0 rfl | exact hW.r rfl | rfl) ?_
      refine rw_callV f_X0_swore_30 rfl (by first | assumption | exact hW.k rfl | exact hW.k0) (by first | assumption | exact hW.1 | omega | exact Nat.succ_ne_zero _) rfl rfl rfl rfl (rn_ki (J_sizeL (by assumption) ?_))
      refine rw_icmpF f_X0_swore_33 (decide_eq_false (nI_ge (by omega) (by omega))) ?_
      refine rw_iload f_X0_swore_36 rfl ?_
      refine rw_ifF f_X0_swore_38 (by decide) ?_
      refine rw_aload f_X0_swore_41 rfl ?_
      refine rw_getR f_X0_swore_42 (by first | assumption | exact hW.k rfl | exact hW.k0) (by first | assumption | exact hW.r0 rfl | exact hW.r rfl | rfl) ?_
      refine rw_iload f_X0_swore_45 rfl ?_
      refine rw_callV f_X0_swore_47 rfl (by first | assumption | exact hW.k rfl | exact hW.k0) (by first | assumption | exact hW.1 | omega | exact Nat.succ_ne_zero _) rfl rfl rfl rfl (rn_kr (J_getL (by assumption) (by omega) ?_))
      refine rw_cast f_X0_swore_50 (by first | assumption | exact hW.k rfl | exact hW.k0) ?_
      refine rw_aload f_X0_swore_53 rfl ?_
      refine rw_getR f_X0_swore_54 (by first | assumption | exact hW.k rfl | exact hW.k0) (by first | assumption | exact hW.r0 rfl | exact hW.r rfl | rfl) ?_
      refine rw_getR f_X0_swore_57 (by first | assumption | exact hW.k rfl | exact hW.k0) (by first | assumption | exact hW.r0 rfl | exact hW.r rfl | rfl) ?_
      refine rw_iload f_X0_swore_60 rfl ?_
      refine rw_callV f_X0_swore_61 rfl (by first | assumption | exact hW.k rfl | exact hW.k0) (by first | assumption | exact hW.1 | omega | exact Nat.succ_ne_zero _) rfl rfl rfl rfl (rn_kr (J_getL (by assumption) (by omega) ?_))
      refine rw_cast f_X0_swore_64 (by first | assumption | exact hW.k rfl | exact hW.k0) ?_
      refine rw_iload f_X0_swore_67 rfl ?_
      refine rw_callV f_X0_swore_68 rfl (by first | assumption | exact hW.k rfl | exact hW.k0) (by first | assumption | exact hW.1 | omega | exact Nat.succ_ne_zero _) rfl rfl rfl rfl (rn_ki (C_isSo hm zm hg ?_))
      refine rw_istore f_X0_swore_71 rfl rfl ?_
      refine rw_iinc f_X0_swore_73 rfl rfl ?_
      refine rw_goto f_X0_swore_76 ?_
      rw [nI_1']
      cases hp : tgV V a t j with
      | true => exact ih (j + 1) (by omega) (fun b hb => by by_cases e : b = j; exact e ▸ hp; exact hq b (by omega))
      | false =>
        rw [allB_false hp (by omega)] at kk
        by_cases e : j + 1 < nT
        · refine rw_iload f_X0_swore_24 rfl ?_
          refine rw_aload f_X0_swore_26 rfl ?_
          refine rw_getR f_X0_swore_27 (by first | assumption | exact hW.k rfl | exact hW.k0) (by first | assumption | exact hW.r0 rfl | exact hW.r rfl | rfl) ?_
          refine rw_callV f_X0_swore_30 rfl (by first | assumption | exact hW.k rfl | exact hW.k0) (by first | assumption | exact hW.1 | omega | exact Nat.succ_ne_zero _) rfl rfl rfl rfl (rn_ki (J_sizeL (by assumption) ?_))
          refine rw_icmpF f_X0_swore_33 (decide_eq_false (nI_ge e (by omega))) ?_
          refine rw_iload f_X0_swore_36 rfl ?_
          refine rw_ifT f_X0_swore_38 (by decide) ?_
          exact kk _
        · refine rw_iload f_X0_swore_24 rfl ?_
          refine rw_aload f_X0_swore_26 rfl ?_
          refine rw_getR f_X0_swore_27 (by first | assumption | exact hW.k rfl | exact hW.k0) (by first | assumption | exact hW.r0 rfl | exact hW.r rfl | rfl) ?_
          refine rw_callV f_X0_swore_30 rfl (by first | assumption | exact hW.k rfl | exact hW.k0) (by first | assumption | exact hW.1 | omega | exact Nat.succ_ne_zero _) rfl rfl rfl rfl (rn_ki (J_sizeL (by assumption) ?_))
          refine rw_icmpT f_X0_swore_33 (decide_eq_true (nI_le (by omega) (by omega))) ?_
          exact kk _
  refine rw_const f_X0_swore_0 ?_
  refine rw_istore f_X0_swore_1 rfl rfl ?_
  refine rw_const f_X0_swore_2 ?_
  refine rw_istore f_X0_swore_3 rfl rfl ?_
  refine rn_forJ (N := nM) (fun a (j : am_V × am_V) => [am_r x, am_i t, am_i (bs (fun a => allB (tgV V a t) nT) a), am_i (nI a), j.1, j.2]) (fun _ => h) (fun a ha j ih => ?_) (fun j => ?_) (am_u, am_u)
  · refine rw_iload f_X0_swore_4 rfl ?_
    refine rw_aload f_X0_swore_5 rfl ?_
    refine rw_getR f_X0_swore_6 (by first | assumption | exact hW.k rfl | exact hW.k0) (by first | assumption | exact hW.r0 rfl | exact hW.r rfl | rfl) ?_
    refine rw_getR f_X0_swore_9 (by first | assumption | exact hW.k rfl | exact hW.k0) (by first | assumption | exact hW.r0 rfl | exact hW.r rfl | rfl) ?_
    refine rw_callV f_X0_swore_12 rfl (by first | assumption | exact hW.k rfl | exact hW.k0) (by first | assumption | exact hW.1 | omega | exact Nat.succ_ne_zero _) rfl rfl rfl rfl (rn_ki (J_sizeL (by assumption) ?_))
    refine rw_icmpF f_X0_swore_15 (decide_eq_false (nI_ge ha (by omega))) ?_
    refine rw_const f_X0_swore_18 ?_
    refine rw_istore f_X0_swore_19 rfl rfl ?_
    refine rw_const f_X0_swore_21 ?_
    refine rw_istore f_X0_swore_22 rfl rfl ?_
    refine inner ha (fun y => ?_) nT 0 (by omega) (fun b hb => absurd hb (Nat.not_lt_zero b))
    refine rw_iload f_X0_swore_79 rfl ?_
    first | refine rw_eq0B f_X0_swore_81 (fun c1 => ?_) (fun c1 => ?_) | refine rw_eq0 f_X0_swore_81 (fun c1 => ?_) (fun c1 => ?_)
    · refine rw_iinc f_X0_swore_90 rfl rfl ?_
      refine rw_goto f_X0_swore_93 ?_
      rw [nI_1']
      first | (rw [bs_no (by simp [c1])] at ih; exact ih (_, _)) | (rw [bs_yes (by simp [c1])] at ih; exact ih (_, _))
    · refine rw_iload f_X0_swore_84 rfl ?_
      refine rw_const f_X0_swore_85 ?_
      refine rw_iload f_X0_swore_86 rfl ?_
      refine rw_ishl f_X0_swore_87 ?_
      refine rw_ior f_X0_swore_88 ?_
      refine rw_istore f_X0_swore_89 rfl rfl ?_
      refine rw_iinc f_X0_swore_90 rfl rfl ?_
      refine rw_goto f_X0_swore_93 ?_
      rw [nI_1']
      first | (rw [bs_no (by simp [c1])] at ih; exact ih (_, _)) | (rw [bs_yes (by simp [c1])] at ih; exact ih (_, _))
  · refine rw_iload f_X0_swore_4 rfl ?_
    refine rw_aload f_X0_swore_5 rfl ?_
    refine rw_getR f_X0_swore_6 (by first | assumption | exact hW.k rfl | exact hW.k0) (by first | assumption | exact hW.r0 rfl | exact hW.r rfl | rfl) ?_
    refine rw_getR f_X0_swore_9 (by first | assumption | exact hW.k rfl | exact hW.k0) (by first | assumption | exact hW.r0 rfl | exact hW.r rfl | rfl) ?_
    refine rw_callV f_X0_swore_12 rfl (by first | assumption | exact hW.k rfl | exact hW.k0) (by first | assumption | exact hW.1 | omega | exact Nat.succ_ne_zero _) rfl rfl rfl rfl (rn_ki (J_sizeL (by assumption) ?_))
    refine rw_icmpT f_X0_swore_15 (decide_eq_true (Int32.le_refl _)) ?_
    refine rw_iload f_X0_swore_96 rfl ?_
    refine rw_iret f_X0_swore_97 ?_
    exact hk
theorem C_mostLeft (hC : CR h V x r nM nD nB nA nU nT nL) {set w : Int32} (hk : k (sp_most nM (fun a => mkV V a) set w) h) : Rn (d + 3) n_X0_mostLeft 0 [am_r x, am_i set, am_i w, am_u, am_u, am_u, am_u] [] h (kI k) := by
  have hC' := hC
  obtain ⟨hW, hr, hG, hN, hA, hT, hX, hI, hS, hF⟩ := hC'
  obtain ⟨⟨rK, r0⟩, ⟨hLM, hM⟩, ⟨hLD, hD⟩, ⟨hLO, hO⟩, ⟨⟨hlk, hla⟩, hlike⟩, ⟨htk, hwear⟩, gf, gu, gh, gs⟩ := hG
  obtain ⟨⟨⟨fM, fM6, fD, fD6, fB, fB10⟩, fO, ⟨fH, fSt⟩, fHr, fFr, fWr⟩, ⟨fA, fU, fAU, fT, fT30, fL, fL10⟩, fTp, fNow, fWere, fBox, fTg⟩ := hF
  have kLM := hLM.1.1; have zLM := hLM.2
  have kLD := hLD.1.1; have zLD := hLD.2
  have kLO := hLO.1.1; have zLO := hLO.2
  have inner : ∀ {K : am_R → am_H → Prop} {most : Int32} {v : Nat}, Rn (d + 3) n_X0_mostLeft 75 [am_r x, am_i set, am_i w, am_i most, am_i (nI v), am_i (cntB (pr_most set w (fun a => mkV V a) v) nM), am_i (nI nM)] [] h K → Rn (d + 3) n_X0_mostLeft 18 [am_r x, am_i set, am_i w, am_i most, am_i (nI v), am_i 0, am_i 0] [] h K := by
    intro K most v kk
    refine rn_for (N := nM) (fun a => [am_r x, am_i set, am_i w, am_i most, am_i (nI v), am_i (cntB (pr_most set w (fun a => mkV V a) v) a), am_i (nI a)]) (fun _ => h) (fun a ha ih => ?_) ?_
    · have hm := hM a ha
      have km := hm.1
      have zm := Al_ne hW.al km (by decide)
      simp only [cntB] at ih
      refine rw_iload f_X0_mostLeft_18 rfl ?_
      refine rw_aload f_X0_mostLeft_20 rfl ?_
      refine rw_getR f_X0_mostLeft_21 (by first | assumption | exact hW.k rfl | exact hW.k0) (by first | assumption | exact hW.r0 rfl | exact hW.r rfl | rfl) ?_
      refine rw_getR f_X0_mostLeft_24 (by first | assumption | exact hW.k rfl | exact hW.k0) (by first | assumption | exact hW.r0 rfl | exact hW.r rfl | rfl) ?_
      refine rw_callV f_X0_mostLeft_27 rfl (by first | assumption | exact hW.k rfl | exact hW.k0) (by first | assumption | exact hW.1 | omega | exact Nat.succ_ne_zero _) rfl rfl rfl rfl (rn_ki (J_sizeL (by assumption) ?_))
      refine rw_icmpF f_X0_mostLeft_30 (decide_eq_false (nI_ge ha (by omega))) ?_
      refine rw_iload f_X0_mostLeft_33 rfl ?_
      refine rw_iload f_X0_mostLeft_34 rfl ?_
      refine rw_callS f_X0_mostLeft_36 rfl rfl rfl (rn_ki (C_has ?_))
      first | refine rw_eq0B f_X0_mostLeft_39 (fun c1 => ?_) (fun c1 => ?_) | refine rw_eq0 f_X0_mostLeft_39 (fun c1 => ?_) (fun c1 => ?_)
      · refine rw_iinc f_X0_mostLeft_69 rfl rfl ?_
        refine rw_goto f_X0_mostLeft_72 ?_
        rw [nI_1']
        unfold hasB at c1
        simp only [decide_eq_true_eq, decide_eq_false_iff_not] at c1
        simpa [pr_most, c1, bI, am_put, am_kill] using ih
      · refine rw_aload f_X0_mostLeft_42 rfl ?_
        refine rw_getR f_X0_mostLeft_43 (by first | assumption | exact hW.k rfl | exact hW.k0) (by first | assumption | exact hW.r0 rfl | exact hW.r rfl | rfl) ?_
        refine rw_getR f_X0_mostLeft_46 (by first | assumption | exact hW.k rfl | exact hW.k0) (by first | assumption | exact hW.r0 rfl | exact hW.r rfl | rfl) ?_
        refine rw_iload f_X0_mostLeft_49 rfl ?_
        refine rw_callV f_X0_mostLeft_51 rfl (by first | assumption | exact hW.k rfl | exact hW.k0) (by first | assumption | exact hW.1 | omega | exact Nat.succ_ne_zero _) rfl rfl rfl rfl (rn_kr (J_getL (by assumption) (by omega) ?_))
        refine rw_cast f_X0_mostLeft_54 (by first | assumption | exact hW.k rfl | exact hW.k0) ?_
        refine rw_iload f_X0_mostLeft_57 rfl ?_
        refine rw_callV f_X0_mostLeft_58 rfl (by first | assumption | exact hW.k rfl | exact hW.k0) (by first | assumption | exact hW.1 | omega | exact Nat.succ_ne_zero _) rfl rfl rfl rfl (rn_ki (C_trait hm ?_))
        refine rw_iload f_X0_mostLeft_61 rfl ?_
        refine rw_ne f_X0_mostLeft_63 (fun c2 => ?_) (fun c2 => ?_)
        · refine rw_iinc f_X0_mostLeft_69 rfl rfl ?_
          refine rw_goto f_X0_mostLeft_72 ?_
          rw [nI_1']
          unfold hasB at c1
          simp only [decide_eq_true_eq, decide_eq_false_iff_not] at c1
          simpa [pr_most, c1, c2, bI, am_put, am_kill] using ih
        · refine rw_iinc f_X0_mostLeft_66 rfl rfl ?_
          refine rw_iinc f_X0_mostLeft_69 rfl rfl ?_
          refine rw_goto f_X0_mostLeft_72 ?_
          rw [nI_1']
          unfold hasB at c1
          simp only [decide_eq_true_eq, decide_eq_false_iff_not] at c1
          simpa [pr_most, c1, c2, bI, am_put, am_kill] using ih
    · refine rw_iload f_X0_mostLeft_18 rfl ?_
      refine rw_aload f_X0_mostLeft_20 rfl ?_
      refine rw_getR f_X0_mostLeft_21 (by first | assumption | exact hW.k rfl | exact hW.k0) (by first | assumption | exact hW.r0 rfl | exact hW.r rfl | rfl) ?_
      refine rw_getR f_X0_mostLeft_24 (by first | assumption | exact hW.k rfl | exact hW.k0) (by first | assumption | exact hW.r0 rfl | exact hW.r rfl | rfl) ?_
      refine rw_callV f_X0_mostLeft_27 rfl (by first | assumption | exact hW.k rfl | exact hW.k0) (by first | assumption | exact hW.1 | omega | exact Nat.succ_ne_zero _) rfl rfl rfl rfl (rn_ki (J_sizeL (by assumption) ?_))
      refine rw_icmpT f_X0_mostLeft_30 (decide_eq_true (Int32.le_refl _)) ?_
      exact kk
  have key : ∀ q v x1 y1, v + q = 10 → Rn (d + 3) n_X0_mostLeft 5 [am_r x, am_i set, am_i w, am_i (mostU (fun v => cntB (pr_most set w (fun a => mkV V a) v) nM) v), am_i (nI v), x1, y1] [] h (kI k) := by
    intro q
    induction q with
    | zero =>
      intro v x1 y1 hv
      obtain rfl : v = 10 := by omega
      refine rw_iload f_X0_mostLeft_5 rfl ?_
      refine rw_const f_X0_mostLeft_7 ?_
      refine rw_icmpT f_X0_mostLeft_9 (by decide) ?_
      refine rw_iload f_X0_mostLeft_88 rfl ?_
      refine rw_iret f_X0_mostLeft_89 ?_
      exact hk
    | succ q ih =>
      intro v x1 y1 hv
      refine rw_iload f_X0_mostLeft_5 rfl ?_
      refine rw_const f_X0_mostLeft_7 ?_
      refine rw_icmpF f_X0_mostLeft_9 (decide_eq_false (by rw [show (9 : Int32) = nI 9 from rfl]; exact Int32.not_lt.mpr (nI_le (by omega) (by omega)))) ?_
      refine rw_const f_X0_mostLeft_12 ?_
      refine rw_istore f_X0_mostLeft_13 rfl rfl ?_
      refine rw_const f_X0_mostLeft_15 ?_
      refine rw_istore f_X0_mostLeft_16 rfl rfl ?_
      refine inner ?_
      refine rw_iload f_X0_mostLeft_75 rfl ?_
      refine rw_iload f_X0_mostLeft_76 rfl ?_
      refine rw_binR f_X0_mostLeft_78 rfl ?_
      refine rw_istore f_X0_mostLeft_81 rfl rfl ?_
      refine rw_iinc f_X0_mostLeft_82 rfl rfl ?_
      refine rw_goto f_X0_mostLeft_85 ?_
      rw [nI_1']
      have := ih (v + 1) (am_i (cntB (pr_most set w (fun a => mkV V a) v) nM)) (am_i (nI nM)) (by omega)
      have e2 : mostU (fun v => cntB (pr_most set w (fun a => mkV V a) v) nM) (v + 1) = f_max (mostU (fun v => cntB (pr_most set w (fun a => mkV V a) v) nM) v) (cntB (pr_most set w (fun a => mkV V a) v) nM) := by
        simp only [mostU, f_max]
        by_cases e : cntB (pr_most set w (fun a => mkV V a) v) nM ≤ mostU (fun v => cntB (pr_most set w (fun a => mkV V a) v) nM) v
        · rw [if_pos e, if_neg (Int32.not_lt.mpr e)]
        · rw [if_neg e, if_pos (Int32.not_le.mp e)]
      rw [e2] at this
      exact this
  refine rw_const f_X0_mostLeft_0 ?_
  refine rw_istore f_X0_mostLeft_1 rfl rfl ?_
  refine rw_const f_X0_mostLeft_2 ?_
  refine rw_istore f_X0_mostLeft_3 rfl rfl ?_
  exact key 10 0 am_u am_u (by omega)
theorem C_ask (hC : CR h V x r nM nD nB nA nU nT nL) {what t : Int32} (hk : k (sp_ask (sp_most nM (fun a => mkV V a) (sp_swore nM nT (fun a => tgV V a t))) (sp_swore nM nT (fun a => tgV V a t)) what) h) : Rn (d + 4) n_X0_ask 0 [am_r x, am_i what, am_i t, am_u, am_u, am_u] [] h (kI k) := by
  have hC' := hC
  obtain ⟨hW, hr, hG, hN, hA, hT, hX, hI, hS, hF⟩ := hC'
  obtain ⟨⟨rK, r0⟩, ⟨hLM, hM⟩, ⟨hLD, hD⟩, ⟨hLO, hO⟩, ⟨⟨hlk, hla⟩, hlike⟩, ⟨htk, hwear⟩, gf, gu, gh, gs⟩ := hG
  obtain ⟨⟨⟨fM, fM6, fD, fD6, fB, fB10⟩, fO, ⟨fH, fSt⟩, fHr, fFr, fWr⟩, ⟨fA, fU, fAU, fT, fT30, fL, fL10⟩, fTp, fNow, fWere, fBox, fTg⟩ := hF
  have kLM := hLM.1.1; have zLM := hLM.2
  have kLD := hLD.1.1; have zLD := hLD.2
  have kLO := hLO.1.1; have zLO := hLO.2
  have one : ∀ {set b w : Int32} {K : am_R → am_H → Prop}, ¬ 3 ≤ w → Rn (d + 4) n_X0_ask 27 [am_r x, am_i what, am_i t, am_i set, am_i (sp_askB (sp_most nM (fun a => mkV V a) set) b w), am_i (w + 1)] [] h K → Rn (d + 4) n_X0_ask 27 [am_r x, am_i what, am_i t, am_i set, am_i b, am_i w] [] h K := by
    intro set b w K hw kk
    refine rw_iload f_X0_ask_27 rfl ?_
    refine rw_const f_X0_ask_29 ?_
    refine rw_icmpF f_X0_ask_30 (decide_eq_false hw) ?_
    refine rw_aload f_X0_ask_33 rfl ?_
    refine rw_iload f_X0_ask_34 rfl ?_
    refine rw_iload f_X0_ask_35 rfl ?_
    refine rw_callV f_X0_ask_37 rfl (by first | assumption | exact hW.k rfl | exact hW.k0) (by first | assumption | exact hW.1 | omega | exact Nat.succ_ne_zero _) rfl rfl rfl rfl (rn_ki (C_mostLeft hC ?_))
    refine rw_aload f_X0_ask_40 rfl ?_
    refine rw_iload f_X0_ask_41 rfl ?_
    refine rw_iload f_X0_ask_42 rfl ?_
    refine rw_callV f_X0_ask_44 rfl (by first | assumption | exact hW.k rfl | exact hW.k0) (by first | assumption | exact hW.1 | omega | exact Nat.succ_ne_zero _) rfl rfl rfl rfl (rn_ki (C_mostLeft hC ?_))
    refine rw_ge f_X0_ask_47 (fun c1 => ?_) (fun c1 => ?_)
    · refine rw_iinc f_X0_ask_54 rfl rfl ?_
      refine rw_goto f_X0_ask_57 ?_
      simpa [sp_askB, c1, am_put, am_kill] using kk
    · refine rw_iload f_X0_ask_50 rfl ?_
      refine rw_istore f_X0_ask_52 rfl rfl ?_
      refine rw_iinc f_X0_ask_54 rfl rfl ?_
      refine rw_goto f_X0_ask_57 ?_
      simpa [sp_askB, c1, am_put, am_kill] using kk
  have fin : ∀ {set b : Int32}, k (if what = 0 then b else sp_most nM (fun a => mkV V a) set b) h → Rn (d + 4) n_X0_ask 27 [am_r x, am_i what, am_i t, am_i set, am_i b, am_i 3] [] h (kI k) := by
    intro set b hk
    refine rw_iload f_X0_ask_27 rfl ?_
    refine rw_const f_X0_ask_29 ?_
    refine rw_icmpT f_X0_ask_30 (by decide) ?_
    refine rw_iload f_X0_ask_60 rfl ?_
    first | refine rw_ne0B f_X0_ask_61 (fun c1 => ?_) (fun c1 => ?_) | refine rw_ne0 f_X0_ask_61 (fun c1 => ?_) (fun c1 => ?_)
    · refine rw_aload f_X0_ask_69 rfl ?_
      refine rw_iload f_X0_ask_70 rfl ?_
      refine rw_iload f_X0_ask_71 rfl ?_
      refine rw_callV f_X0_ask_73 rfl (by first | assumption | exact hW.k rfl | exact hW.k0) (by first | assumption | exact hW.1 | omega | exact Nat.succ_ne_zero _) rfl rfl rfl rfl (rn_ki (C_mostLeft hC ?_))
      refine rw_iret f_X0_ask_76 ?_
      simpa [c1] using hk
    · refine rw_iload f_X0_ask_64 rfl ?_
      refine rw_goto f_X0_ask_66 ?_
      refine rw_iret f_X0_ask_76 ?_
      simpa [c1] using hk
  unfold sp_ask at hk
  refine rw_aload f_X0_ask_0 rfl ?_
  refine rw_iload f_X0_ask_1 rfl ?_
  refine rw_callV f_X0_ask_2 rfl (by first | assumption | exact hW.k rfl | exact hW.k0) (by first | assumption | exact hW.1 | omega | exact Nat.succ_ne_zero _) rfl rfl rfl rfl (rn_ki (C_swore hC ?_))
  refine rw_istore f_X0_ask_5 rfl rfl ?_
  refine rw_iload f_X0_ask_6 rfl ?_
  first | refine rw_eq0B f_X0_ask_7 (fun c1 => ?_) (fun c1 => ?_) | refine rw_eq0 f_X0_ask_7 (fun c1 => ?_) (fun c1 => ?_)
  · refine rw_const f_X0_ask_19 ?_
    refine rw_iret f_X0_ask_20 ?_
    simpa [c1] using hk
  · refine rw_iload f_X0_ask_10 rfl ?_
    refine rw_const f_X0_ask_11 ?_
    refine rw_const f_X0_ask_12 ?_
    refine rw_callS f_X0_ask_13 rfl rfl rfl (rn_ki (C_isIn ?_))
    first | refine rw_ne0B f_X0_ask_16 (fun c2 => ?_) (fun c2 => ?_) | refine rw_ne0 f_X0_ask_16 (fun c2 => ?_) (fun c2 => ?_)
    · refine rw_const f_X0_ask_21 ?_
      refine rw_istore f_X0_ask_22 rfl rfl ?_
      refine rw_const f_X0_ask_24 ?_
      refine rw_istore f_X0_ask_25 rfl rfl ?_
      refine one (by decide) (one (by decide) ?_)
      rw [if_neg (by rw [c2]; decide), if_neg c1] at hk
      exact fin hk
    · refine rw_const f_X0_ask_19 ?_
      refine rw_iret f_X0_ask_20 ?_
      simpa [c1, c2] using hk
def pr_leave (V : am_M) (man deed : Int32) (b : Nat) : Bool := decide (V 34 b = 0) && decide (V 26 b = man) && decide (V 28 b = deed) && decide (V 33 b = 0) && !decide (V 29 b < V 34 20)
/-- from a button down: what must be undone ahead of those -/
def lvd (V : am_M) : Nat → Int32 → Int32
  | 0, s => s
  | n + 1, s => lvd V n (if hasB s (nI n) = true ∧ onB V (V 31 n) = true then s ||| ((1 : Int32) <<< (V 31 n &&& 31)) else s)
def sp_lset (V : am_M) (nB : Nat) (man deed : Int32) : Int32 := lvd V nB (bs (pr_leave V man deed) nB)
theorem C_leaveSet (hC : CR h V x r nM nD nB nA nU nT nL) {man deed : Int32} (hk : k (sp_lset V nB man deed) h) : Rn (d + 4) n_X0_leaveSet 0 [am_r x, am_i man, am_i deed, am_u, am_u, am_u] [] h (kI k) := by
  have hC' := hC
  obtain ⟨hW, hr, hG, hN, hA, hT, hX, hI, hS, hF⟩ := hC'
  obtain ⟨⟨rK, r0⟩, ⟨hLM, hM⟩, ⟨hLD, hD⟩, ⟨hLO, hO⟩, ⟨⟨hlk, hla⟩, hlike⟩, ⟨htk, hwear⟩, gf, gu, gh, gs⟩ := hG
  obtain ⟨⟨⟨fM, fM6, fD, fD6, fB, fB10⟩, fO, ⟨fH, fSt⟩, fHr, fFr, fWr⟩, ⟨fA, fU, fAU, fT, fT30, fL, fL10⟩, fTp, fNow, fWere, fBox, fTg⟩ := hF
  have kLM := hLM.1.1; have zLM := hLM.2
  have kLD := hLD.1.1; have zLD := hLD.2
  have kLO := hLO.1.1; have zLO := hLO.2
  unfold sp_lset at hk
  have down : ∀ n, n ≤ nB → ∀ s j, k (lvd V n s) h → Rn (d + 4) n_X0_leaveSet 102 [am_r x, am_i man, am_i deed, am_i s, am_i (nI n - 1), j] [] h (kI k) := by
    intro n
    induction n with
    | zero =>
      intro _ s j hk
      refine rw_iload f_X0_leaveSet_102 rfl ?_
      refine rw_ifT f_X0_leaveSet_104 (by decide) ?_
      refine rw_iload f_X0_leaveSet_170 rfl ?_
      refine rw_iret f_X0_leaveSet_171 ?_
      exact hk
    | succ n ih =>
      intro hn s j hk
      rw [nI_pred]
      obtain ⟨oc, op, oz, o0, o1, o2, o3, o4, o5⟩ := COath.parts hW.al (hO n (by omega))
      simp only [lvd] at hk
      refine rw_iload f_X0_leaveSet_102 rfl ?_
      refine rw_ifF f_X0_leaveSet_104 (decide_eq_false (nI_pos (by omega))) ?_
      refine rw_iload f_X0_leaveSet_107 rfl ?_
      refine rw_iload f_X0_leaveSet_108 rfl ?_
      refine rw_callS f_X0_leaveSet_110 rfl rfl rfl (rn_ki (C_has ?_))
      first | refine rw_eq0B f_X0_leaveSet_113 (fun c1 => ?_) (fun c1 => ?_) | refine rw_eq0 f_X0_leaveSet_113 (fun c1 => ?_) (fun c1 => ?_)
      · refine rw_iinc f_X0_leaveSet_164 rfl rfl ?_
        refine rw_goto f_X0_leaveSet_167 ?_
        rw [← Int32.sub_eq_add_neg]
        refine ih (by omega) _ _ ?_
        simpa [c1] using hk
      · refine rw_aload f_X0_leaveSet_116 rfl ?_
        refine rw_aload f_X0_leaveSet_117 rfl ?_
        refine rw_getR f_X0_leaveSet_118 (by first | assumption | exact hW.k rfl | exact hW.k0) (by first | assumption | exact hW.r0 rfl | exact hW.r rfl | rfl) ?_
        refine rw_getR f_X0_leaveSet_121 (by first | assumption | exact hW.k rfl | exact hW.k0) (by first | assumption | exact hW.r0 rfl | exact hW.r rfl | rfl) ?_
        refine rw_iload f_X0_leaveSet_124 rfl ?_
        refine rw_callV f_X0_leaveSet_126 rfl (by first | assumption | exact hW.k rfl | exact hW.k0) (by first | assumption | exact hW.1 | omega | exact Nat.succ_ne_zero _) rfl rfl rfl rfl (rn_kr (J_getL (by assumption) (by omega) ?_))
        refine rw_castC f_X0_leaveSet_129 (by assumption) ?_
        refine rw_getIC f_X0_leaveSet_132 (by assumption) ?_
        rw [o5]
        refine rw_callV f_X0_leaveSet_135 rfl (by first | assumption | exact hW.k rfl | exact hW.k0) (by first | assumption | exact hW.1 | omega | exact Nat.succ_ne_zero _) rfl rfl rfl rfl (rn_ki (C_isOnX hC ?_))
        first | refine rw_eq0B f_X0_leaveSet_138 (fun c2 => ?_) (fun c2 => ?_) | refine rw_eq0 f_X0_leaveSet_138 (fun c2 => ?_) (fun c2 => ?_)
        · refine rw_iinc f_X0_leaveSet_164 rfl rfl ?_
          refine rw_goto f_X0_leaveSet_167 ?_
          rw [← Int32.sub_eq_add_neg]
          refine ih (by omega) _ _ ?_
          simpa [c1, c2] using hk
        · refine rw_iload f_X0_leaveSet_141 rfl ?_
          refine rw_const f_X0_leaveSet_142 ?_
          refine rw_aload f_X0_leaveSet_143 rfl ?_
          refine rw_getR f_X0_leaveSet_144 (by first | assumption | exact hW.k rfl | exact hW.k0) (by first | assumption | exact hW.r0 rfl | exact hW.r rfl | rfl) ?_
          refine rw_getR f_X0_leaveSet_147 (by first | assumption | exact hW.k rfl | exact hW.k0) (by first | assumption | exact hW.r0 rfl | exact hW.r rfl | rfl) ?_
          refine rw_iload f_X0_leaveSet_150 rfl ?_
          refine rw_callV f_X0_leaveSet_152 rfl (by first | assumption | exact hW.k rfl | exact hW.k0) (by first | assumption | exact hW.1 | omega | exact Nat.succ_ne_zero _) rfl rfl rfl rfl (rn_kr (J_getL (by assumption) (by omega) ?_))
          refine rw_castC f_X0_leaveSet_155 (by assumption) ?_
          refine rw_getIC f_X0_leaveSet_158 (by assumption) ?_
          rw [o5]
          refine rw_ishl f_X0_leaveSet_161 ?_
          refine rw_ior f_X0_leaveSet_162 ?_
          refine rw_istore f_X0_leaveSet_163 rfl rfl ?_
          refine rw_iinc f_X0_leaveSet_164 rfl rfl ?_
          refine rw_goto f_X0_leaveSet_167 ?_
          rw [← Int32.sub_eq_add_neg]
          refine ih (by omega) _ _ ?_
          simpa [c1, c2] using hk
  refine rw_const f_X0_leaveSet_0 ?_
  refine rw_istore f_X0_leaveSet_1 rfl rfl ?_
  refine rw_const f_X0_leaveSet_2 ?_
  refine rw_istore f_X0_leaveSet_3 rfl rfl ?_
  refine rn_forJ (N := nB) (fun b j => [am_r x, am_i man, am_i deed, am_i (bs (pr_leave V man deed) b), am_i (nI b), j]) (fun _ => h) (fun b hb j ih => ?_) (fun j => ?_) am_u
  · obtain ⟨oc, op, oz, o0, o1, o2, o3, o4, o5⟩ := COath.parts hW.al (hO b (by omega))
    refine rw_iload f_X0_leaveSet_5 rfl ?_
    refine rw_aload f_X0_leaveSet_7 rfl ?_
    refine rw_callV f_X0_leaveSet_8 rfl (by first | assumption | exact hW.k rfl | exact hW.k0) (by first | assumption | exact hW.1 | omega | exact Nat.succ_ne_zero _) rfl rfl rfl rfl (rn_ki (C_buttons hC ?_))
    refine rw_icmpF f_X0_leaveSet_11 (decide_eq_false (nI_ge hb (by omega))) ?_
    refine rw_aload f_X0_leaveSet_14 rfl ?_
    refine rw_getR f_X0_leaveSet_15 (by first | assumption | exact hW.k rfl | exact hW.k0) (by first | assumption | exact hW.r0 rfl | exact hW.r rfl | rfl) ?_
    refine rw_getR f_X0_leaveSet_18 (by first | assumption | exact hW.k rfl | exact hW.k0) (by first | assumption | exact hW.r0 rfl | exact hW.r rfl | rfl) ?_
    refine rw_iload f_X0_leaveSet_21 rfl ?_
    refine rw_callV f_X0_leaveSet_23 rfl (by first | assumption | exact hW.k rfl | exact hW.k0) (by first | assumption | exact hW.1 | omega | exact Nat.succ_ne_zero _) rfl rfl rfl rfl (rn_kr (J_getL (by assumption) (by omega) ?_))
    refine rw_castC f_X0_leaveSet_26 (by assumption) ?_
    refine rw_astore f_X0_leaveSet_29 rfl rfl ?_
    refine rw_aload f_X0_leaveSet_31 rfl ?_
    refine rw_iload f_X0_leaveSet_32 rfl ?_
    refine rw_callV f_X0_leaveSet_34 rfl (by first | assumption | exact hW.k rfl | exact hW.k0) (by first | assumption | exact hW.1 | omega | exact Nat.succ_ne_zero _) rfl rfl rfl rfl (rn_ki (C_isOn hC (by omega) ?_))
    first | refine rw_eq0B f_X0_leaveSet_37 (fun c1 => ?_) (fun c1 => ?_) | refine rw_eq0 f_X0_leaveSet_37 (fun c1 => ?_) (fun c1 => ?_)
    · refine rw_iinc f_X0_leaveSet_88 rfl rfl ?_
      refine rw_goto f_X0_leaveSet_91 ?_
      rw [nI_1']
      simp only [decide_eq_true_eq, decide_eq_false_iff_not] at c1
      first | (rw [bs_no (by simp [pr_leave, c1])] at ih; exact ih _) | (rw [bs_yes (by simp [pr_leave, c1])] at ih; exact ih _)
    · refine rw_aload f_X0_leaveSet_40 rfl ?_
      refine rw_getIC f_X0_leaveSet_42 (by assumption) ?_
      rw [o0]
      refine rw_iload f_X0_leaveSet_45 rfl ?_
      refine rw_ne f_X0_leaveSet_46 (fun c2 => ?_) (fun c2 => ?_)
      · refine rw_iinc f_X0_leaveSet_88 rfl rfl ?_
        refine rw_goto f_X0_leaveSet_91 ?_
        rw [nI_1']
        simp only [decide_eq_true_eq, decide_eq_false_iff_not] at c1
        first | (rw [bs_no (by simp [pr_leave, c1, c2])] at ih; exact ih _) | (rw [bs_yes (by simp [pr_leave, c1, c2])] at ih; exact ih _)
      · refine rw_aload f_X0_leaveSet_49 rfl ?_
        refine rw_getIC f_X0_leaveSet_51 (by assumption) ?_
        rw [o2]
        refine rw_iload f_X0_leaveSet_54 rfl ?_
        refine rw_ne f_X0_leaveSet_55 (fun c3 => ?_) (fun c3 => ?_)
        · refine rw_iinc f_X0_leaveSet_88 rfl rfl ?_
          refine rw_goto f_X0_leaveSet_91 ?_
          rw [nI_1']
          simp only [decide_eq_true_eq, decide_eq_false_iff_not] at c1
          first | (rw [bs_no (by simp [pr_leave, c1, c2, c3])] at ih; exact ih _) | (rw [bs_yes (by simp [pr_leave, c1, c2, c3])] at ih; exact ih _)
        · refine rw_aload f_X0_leaveSet_58 rfl ?_
          refine rw_isP f_X0_leaveSet_60 (by assumption) (by assumption) rfl ?_
          first | refine rw_ne0B f_X0_leaveSet_63 (fun c4 => ?_) (fun c4 => ?_) | refine rw_ne0 f_X0_leaveSet_63 (fun c4 => ?_) (fun c4 => ?_)
          · refine rw_iinc f_X0_leaveSet_88 rfl rfl ?_
            refine rw_goto f_X0_leaveSet_91 ?_
            rw [nI_1']
            simp only [decide_eq_true_eq, decide_eq_false_iff_not] at c1
            first | (rw [bs_no (by simp [pr_leave, c1, c2, c3, c4])] at ih; exact ih _) | (rw [bs_yes (by simp [pr_leave, c1, c2, c3, c4])] at ih; exact ih _)
          · refine rw_aload f_X0_leaveSet_66 rfl ?_
            refine rw_getIC f_X0_leaveSet_68 (by assumption) ?_
            refine rw_aload f_X0_leaveSet_71 rfl ?_
            refine rw_getR f_X0_leaveSet_72 (by first | assumption | exact hW.k rfl | exact hW.k0) (by first | assumption | exact hW.r0 rfl | exact hW.r rfl | rfl) ?_
            refine rw_getI f_X0_leaveSet_75 (by first | assumption | exact hW.k rfl | exact hW.k0) ?_
            rw [o3, hN.2.1]
            refine rw_lt f_X0_leaveSet_78 (fun c5 => ?_) (fun c5 => ?_)
            · refine rw_iinc f_X0_leaveSet_88 rfl rfl ?_
              refine rw_goto f_X0_leaveSet_91 ?_
              rw [nI_1']
              simp only [decide_eq_true_eq, decide_eq_false_iff_not] at c1
              first | (rw [bs_no (by simp [pr_leave, c1, c2, c3, c4, c5])] at ih; exact ih _) | (rw [bs_yes (by simp [pr_leave, c1, c2, c3, c4, c5])] at ih; exact ih _)
            · refine rw_iload f_X0_leaveSet_81 rfl ?_
              refine rw_const f_X0_leaveSet_82 ?_
              refine rw_iload f_X0_leaveSet_83 rfl ?_
              refine rw_ishl f_X0_leaveSet_85 ?_
              refine rw_ior f_X0_leaveSet_86 ?_
              refine rw_istore f_X0_leaveSet_87 rfl rfl ?_
              refine rw_iinc f_X0_leaveSet_88 rfl rfl ?_
              refine rw_goto f_X0_leaveSet_91 ?_
              rw [nI_1']
              simp only [decide_eq_true_eq, decide_eq_false_iff_not] at c1
              first | (rw [bs_no (by simp [pr_leave, c1, c2, c3, c4, c5])] at ih; exact ih _) | (rw [bs_yes (by simp [pr_leave, c1, c2, c3, c4, c5])] at ih; exact ih _)
  · refine rw_iload f_X0_leaveSet_5 rfl ?_
    refine rw_aload f_X0_leaveSet_7 rfl ?_
    refine rw_callV f_X0_leaveSet_8 rfl (by first | assumption | exact hW.k rfl | exact hW.k0) (by first | assumption | exact hW.1 | omega | exact Nat.succ_ne_zero _) rfl rfl rfl rfl (rn_ki (C_buttons hC ?_))
    refine rw_icmpT f_X0_leaveSet_11 (decide_eq_true (Int32.le_refl _)) ?_
    refine rw_aload f_X0_leaveSet_94 rfl ?_
    refine rw_callV f_X0_leaveSet_95 rfl (by first | assumption | exact hW.k rfl | exact hW.k0) (by first | assumption | exact hW.1 | omega | exact Nat.succ_ne_zero _) rfl rfl rfl rfl (rn_ki (C_buttons hC ?_))
    refine rw_const f_X0_leaveSet_98 ?_
    refine rw_isub f_X0_leaveSet_99 ?_
    refine rw_istore f_X0_leaveSet_100 rfl rfl ?_
    exact down nB (Nat.le_refl _) _ _ hk
def sp_asked (V : am_M) (nB : Nat) (man deed : Int32) : Int32 := if isIn man 0 (V 0 56 - 1) = false then -1 else if isIn deed 0 (V 0 57 - 1) = false then -1 else orS (fun b => hasB (sp_lset V nB man deed) (nI b)) (V 27) nB
theorem C_asked (hC : CR h V x r nM nD nB nA nU nT nL) {man deed : Int32} (hk : k (sp_asked V nB man deed) h) : Rn (d + 5) n_X0_asked 0 [am_r x, am_i man, am_i deed, am_u, am_u, am_u] [] h (kI k) := by
  have hC' := hC
  obtain ⟨hW, hr, hG, hN, hA, hT, hX, hI, hS, hF⟩ := hC'
  obtain ⟨⟨rK, r0⟩, ⟨hLM, hM⟩, ⟨hLD, hD⟩, ⟨hLO, hO⟩, ⟨⟨hlk, hla⟩, hlike⟩, ⟨htk, hwear⟩, gf, gu, gh, gs⟩ := hG
  obtain ⟨⟨⟨fM, fM6, fD, fD6, fB, fB10⟩, fO, ⟨fH, fSt⟩, fHr, fFr, fWr⟩, ⟨fA, fU, fAU, fT, fT30, fL, fL10⟩, fTp, fNow, fWere, fBox, fTg⟩ := hF
  have kLM := hLM.1.1; have zLM := hLM.2
  have kLD := hLD.1.1; have zLD := hLD.2
  have kLO := hLO.1.1; have zLO := hLO.2
  unfold sp_asked at hk
  have loop : ∀ s, k (orS (fun b => hasB s (nI b)) (V 27) nB) h → Rn (d + 5) n_X0_asked 31 [am_r x, am_i man, am_i deed, am_i s, am_i 0, am_i 0] [] h (kI k) := by
    intro s hk
    refine rn_for (N := nB) (fun b => [am_r x, am_i man, am_i deed, am_i s, am_i (orS (fun b => hasB s (nI b)) (V 27) b), am_i (nI b)]) (fun _ => h) (fun b hb ih => ?_) ?_
    · obtain ⟨oc, op, oz, o0, o1, o2, o3, o4, o5⟩ := COath.parts hW.al (hO b (by omega))
      simp only [orS] at ih
      refine rw_iload f_X0_asked_31 rfl ?_
      refine rw_aload f_X0_asked_33 rfl ?_
      refine rw_callV f_X0_asked_34 rfl (by first | assumption | exact hW.k rfl | exact hW.k0) (by first | assumption | exact hW.1 | omega | exact Nat.succ_ne_zero _) rfl rfl rfl rfl (rn_ki (C_buttons hC ?_))
      refine rw_icmpF f_X0_asked_37 (decide_eq_false (nI_ge hb (by omega))) ?_
      refine rw_iload f_X0_asked_40 rfl ?_
      refine rw_iload f_X0_asked_41 rfl ?_
      refine rw_callS f_X0_asked_43 rfl rfl rfl (rn_ki (C_has ?_))
      first | refine rw_eq0B f_X0_asked_46 (fun c1 => ?_) (fun c1 => ?_) | refine rw_eq0 f_X0_asked_46 (fun c1 => ?_) (fun c1 => ?_)
      · refine rw_iinc f_X0_asked_74 rfl rfl ?_
        refine rw_goto f_X0_asked_77 ?_
        rw [nI_1']
        first | (rw [if_neg (by simp [c1])] at ih; exact ih) | (rw [if_pos (by simp [c1])] at ih; exact ih)
      · refine rw_iload f_X0_asked_49 rfl ?_
        refine rw_const f_X0_asked_51 ?_
        refine rw_aload f_X0_asked_52 rfl ?_
        refine rw_getR f_X0_asked_53 (by first | assumption | exact hW.k rfl | exact hW.k0) (by first | assumption | exact hW.r0 rfl | exact hW.r rfl | rfl) ?_
        refine rw_getR f_X0_asked_56 (by first | assumption | exact hW.k rfl | exact hW.k0) (by first | assumption | exact hW.r0 rfl | exact hW.r rfl | rfl) ?_
        refine rw_iload f_X0_asked_59 rfl ?_
        refine rw_callV f_X0_asked_61 rfl (by first | assumption | exact hW.k rfl | exact hW.k0) (by first | assumption | exact hW.1 | omega | exact Nat.succ_ne_zero _) rfl rfl rfl rfl (rn_kr (J_getL (by assumption) (by omega) ?_))
        refine rw_castC f_X0_asked_64 (by assumption) ?_
        refine rw_getIC f_X0_asked_67 (by assumption) ?_
        rw [o1]
        refine rw_ishl f_X0_asked_70 ?_
        refine rw_ior f_X0_asked_71 ?_
        refine rw_istore f_X0_asked_72 rfl rfl ?_
        refine rw_iinc f_X0_asked_74 rfl rfl ?_
        refine rw_goto f_X0_asked_77 ?_
        rw [nI_1']
        first | (rw [if_neg (by simp [c1])] at ih; exact ih) | (rw [if_pos (by simp [c1])] at ih; exact ih)
    · refine rw_iload f_X0_asked_31 rfl ?_
      refine rw_aload f_X0_asked_33 rfl ?_
      refine rw_callV f_X0_asked_34 rfl (by first | assumption | exact hW.k rfl | exact hW.k0) (by first | assumption | exact hW.1 | omega | exact Nat.succ_ne_zero _) rfl rfl rfl rfl (rn_ki (C_buttons hC ?_))
      refine rw_icmpT f_X0_asked_37 (decide_eq_true (Int32.le_refl _)) ?_
      refine rw_iload f_X0_asked_80 rfl ?_
      refine rw_iret f_X0_asked_82 ?_
      exact hk
  refine rw_aload f_X0_asked_0 rfl ?_
  refine rw_iload f_X0_asked_1 rfl ?_
  refine rw_callV f_X0_asked_2 rfl (by first | assumption | exact hW.k rfl | exact hW.k0) (by first | assumption | exact hW.1 | omega | exact Nat.succ_ne_zero _) rfl rfl rfl rfl (rn_ki (C_isMan hC ?_))
  first | refine rw_eq0B f_X0_asked_5 (fun c1 => ?_) (fun c1 => ?_) | refine rw_eq0 f_X0_asked_5 (fun c1 => ?_) (fun c1 => ?_)
  · refine rw_const f_X0_asked_16 ?_
    refine rw_iret f_X0_asked_17 ?_
    simpa [c1] using hk
  · refine rw_aload f_X0_asked_8 rfl ?_
    refine rw_iload f_X0_asked_9 rfl ?_
    refine rw_callV f_X0_asked_10 rfl (by first | assumption | exact hW.k rfl | exact hW.k0) (by first | assumption | exact hW.1 | omega | exact Nat.succ_ne_zero _) rfl rfl rfl rfl (rn_ki (C_isDeed hC ?_))
    first | refine rw_ne0B f_X0_asked_13 (fun c2 => ?_) (fun c2 => ?_) | refine rw_ne0 f_X0_asked_13 (fun c2 => ?_) (fun c2 => ?_)
    · refine rw_aload f_X0_asked_18 rfl ?_
      refine rw_iload f_X0_asked_19 rfl ?_
      refine rw_iload f_X0_asked_20 rfl ?_
      refine rw_callV f_X0_asked_21 rfl (by first | assumption | exact hW.k rfl | exact hW.k0) (by first | assumption | exact hW.1 | omega | exact Nat.succ_ne_zero _) rfl rfl rfl rfl (rn_ki (C_leaveSet hC ?_))
      refine rw_istore f_X0_asked_24 rfl rfl ?_
      refine rw_const f_X0_asked_25 ?_
      refine rw_istore f_X0_asked_26 rfl rfl ?_
      refine rw_const f_X0_asked_28 ?_
      refine rw_istore f_X0_asked_29 rfl rfl ?_
      exact loop _ (by simpa [c1, c2] using hk)
    · refine rw_const f_X0_asked_16 ?_
      refine rw_iret f_X0_asked_17 ?_
      simpa [c1, c2] using hk
def pr_prom (V : am_M) (man : Int32) (b : Nat) : Bool := decide (V 34 b = 0) && decide (V 26 b = man) && !decide (V 33 b = 0)
theorem C_promisesOf (hC : CR h V x r nM nD nB nA nU nT nL) {man : Int32} (hk : k (bs (pr_prom V man) nB) h) : Rn (d + 4) n_X0_promisesOf 0 [am_r x, am_i man, am_u, am_u] [] h (kI k) := by
  have hC' := hC
  obtain ⟨hW, hr, hG, hN, hA, hT, hX, hI, hS, hF⟩ := hC'
  obtain ⟨⟨rK, r0⟩, ⟨hLM, hM⟩, ⟨hLD, hD⟩, ⟨hLO, hO⟩, ⟨⟨hlk, hla⟩, hlike⟩, ⟨htk, hwear⟩, gf, gu, gh, gs⟩ := hG
  obtain ⟨⟨⟨fM, fM6, fD, fD6, fB, fB10⟩, fO, ⟨fH, fSt⟩, fHr, fFr, fWr⟩, ⟨fA, fU, fAU, fT, fT30, fL, fL10⟩, fTp, fNow, fWere, fBox, fTg⟩ := hF
  have kLM := hLM.1.1; have zLM := hLM.2
  have kLD := hLD.1.1; have zLD := hLD.2
  have kLO := hLO.1.1; have zLO := hLO.2
  refine rw_const f_X0_promisesOf_0 ?_
  refine rw_istore f_X0_promisesOf_1 rfl rfl ?_
  refine rw_const f_X0_promisesOf_2 ?_
  refine rw_istore f_X0_promisesOf_3 rfl rfl ?_
  refine rn_for (N := nB) (fun b => [am_r x, am_i man, am_i (bs (pr_prom V man) b), am_i (nI b)]) (fun _ => h) (fun b hb ih => ?_) ?_
  · obtain ⟨oc, op, oz, o0, o1, o2, o3, o4, o5⟩ := COath.parts hW.al (hO b (by omega))
    refine rw_iload f_X0_promisesOf_4 rfl ?_
    refine rw_aload f_X0_promisesOf_5 rfl ?_
    refine rw_callV f_X0_promisesOf_6 rfl (by first | assumption | exact hW.k rfl | exact hW.k0) (by first | assumption | exact hW.1 | omega | exact Nat.succ_ne_zero _) rfl rfl rfl rfl (rn_ki (C_buttons hC ?_))
    refine rw_icmpF f_X0_promisesOf_9 (decide_eq_false (nI_ge hb (by omega))) ?_
    refine rw_aload f_X0_promisesOf_12 rfl ?_
    refine rw_iload f_X0_promisesOf_13 rfl ?_
    refine rw_callV f_X0_promisesOf_14 rfl (by first | assumption | exact hW.k rfl | exact hW.k0) (by first | assumption | exact hW.1 | omega | exact Nat.succ_ne_zero _) rfl rfl rfl rfl (rn_ki (C_isOn hC (by omega) ?_))
    first | refine rw_eq0B f_X0_promisesOf_17 (fun c1 => ?_) (fun c1 => ?_) | refine rw_eq0 f_X0_promisesOf_17 (fun c1 => ?_) (fun c1 => ?_)
    · refine rw_iinc f_X0_promisesOf_67 rfl rfl ?_
      refine rw_goto f_X0_promisesOf_70 ?_
      rw [nI_1']
      simp only [decide_eq_true_eq, decide_eq_false_iff_not] at c1
      first | (rw [bs_no (by simp [pr_prom, c1])] at ih; exact ih) | (rw [bs_yes (by simp [pr_prom, c1])] at ih; exact ih)
    · refine rw_aload f_X0_promisesOf_20 rfl ?_
      refine rw_getR f_X0_promisesOf_21 (by first | assumption | exact hW.k rfl | exact hW.k0) (by first | assumption | exact hW.r0 rfl | exact hW.r rfl | rfl) ?_
      refine rw_getR f_X0_promisesOf_24 (by first | assumption | exact hW.k rfl | exact hW.k0) (by first | assumption | exact hW.r0 rfl | exact hW.r rfl | rfl) ?_
      refine rw_iload f_X0_promisesOf_27 rfl ?_
      refine rw_callV f_X0_promisesOf_28 rfl (by first | assumption | exact hW.k rfl | exact hW.k0) (by first | assumption | exact hW.1 | omega | exact Nat.succ_ne_zero _) rfl rfl rfl rfl (rn_kr (J_getL (by assumption) (by omega) ?_))
      refine rw_castC f_X0_promisesOf_31 (by assumption) ?_
      refine rw_getIC f_X0_promisesOf_34 (by assumption) ?_
      rw [o0]
      refine rw_iload f_X0_promisesOf_37 rfl ?_
      refine rw_ne f_X0_promisesOf_38 (fun c2 => ?_) (fun c2 => ?_)
      · refine rw_iinc f_X0_promisesOf_67 rfl rfl ?_
        refine rw_goto f_X0_promisesOf_70 ?_
        rw [nI_1']
        simp only [decide_eq_true_eq, decide_eq_false_iff_not] at c1
        first | (rw [bs_no (by simp [pr_prom, c1, c2])] at ih; exact ih) | (rw [bs_yes (by simp [pr_prom, c1, c2])] at ih; exact ih)
      · refine rw_aload f_X0_promisesOf_41 rfl ?_
        refine rw_getR f_X0_promisesOf_42 (by first | assumption | exact hW.k rfl | exact hW.k0) (by first | assumption | exact hW.r0 rfl | exact hW.r rfl | rfl) ?_
        refine rw_getR f_X0_promisesOf_45 (by first | assumption | exact hW.k rfl | exact hW.k0) (by first | assumption | exact hW.r0 rfl | exact hW.r rfl | rfl) ?_
        refine rw_iload f_X0_promisesOf_48 rfl ?_
        refine rw_callV f_X0_promisesOf_49 rfl (by first | assumption | exact hW.k rfl | exact hW.k0) (by first | assumption | exact hW.1 | omega | exact Nat.succ_ne_zero _) rfl rfl rfl rfl (rn_kr (J_getL (by assumption) (by omega) ?_))
        refine rw_castC f_X0_promisesOf_52 (by assumption) ?_
        refine rw_isP f_X0_promisesOf_55 (by assumption) (by assumption) rfl ?_
        first | refine rw_eq0B f_X0_promisesOf_58 (fun c3 => ?_) (fun c3 => ?_) | refine rw_eq0 f_X0_promisesOf_58 (fun c3 => ?_) (fun c3 => ?_)
        · refine rw_iinc f_X0_promisesOf_67 rfl rfl ?_
          refine rw_goto f_X0_promisesOf_70 ?_
          rw [nI_1']
          simp only [decide_eq_true_eq, decide_eq_false_iff_not] at c1
          first | (rw [bs_no (by simp [pr_prom, c1, c2, c3])] at ih; exact ih) | (rw [bs_yes (by simp [pr_prom, c1, c2, c3])] at ih; exact ih)
        · refine rw_iload f_X0_promisesOf_61 rfl ?_
          refine rw_const f_X0_promisesOf_62 ?_
          refine rw_iload f_X0_promisesOf_63 rfl ?_
          refine rw_ishl f_X0_promisesOf_64 ?_
          refine rw_ior f_X0_promisesOf_65 ?_
          refine rw_istore f_X0_promisesOf_66 rfl rfl ?_
          refine rw_iinc f_X0_promisesOf_67 rfl rfl ?_
          refine rw_goto f_X0_promisesOf_70 ?_
          rw [nI_1']
          simp only [decide_eq_true_eq, decide_eq_false_iff_not] at c1
          first | (rw [bs_no (by simp [pr_prom, c1, c2, c3])] at ih; exact ih) | (rw [bs_yes (by simp [pr_prom, c1, c2, c3])] at ih; exact ih)
  · refine rw_iload f_X0_promisesOf_4 rfl ?_
    refine rw_aload f_X0_promisesOf_5 rfl ?_
    refine rw_callV f_X0_promisesOf_6 rfl (by first | assumption | exact hW.k rfl | exact hW.k0) (by first | assumption | exact hW.1 | omega | exact Nat.succ_ne_zero _) rfl rfl rfl rfl (rn_ki (C_buttons hC ?_))
    refine rw_icmpT f_X0_promisesOf_9 (decide_eq_true (Int32.le_refl _)) ?_
    refine rw_iload f_X0_promisesOf_73 rfl ?_
    refine rw_iret f_X0_promisesOf_74 ?_
    exact hk
end CQ4
