/-! THE CLASS: an act is kept, whole -/
section CKeep3
variable {d : Nat} {h : am_H} {V : am_M} {x r nM nD nB nA nU nT nL : Nat}
/-- a new act lies behind the others, what was undone is gone -/
theorem CR_add (hC : CR h V x r nM nD nB nA nU nT nL) (hn : nA ≤ 39) {h3 h4 h5 : am_H} {A' cap' : Nat} (f3 : Fr no no 4 31 h h3) (hq : KeptOK h3 x (hp_n h) (V 34)) (n3 : hp_n h3 = hp_n h + 4)
    (hL4 : AL h4 (x + 15) (nA + 1) A' cap') (hA' : A' = arr h (x + 15) ∧ 0 < lcap h (x + 15) ∨ A' = hp_n h3) (he4 : ∀ j, j < nA → hp_R h4 A' j = hp_R h3 (arr h (x + 15)) j) (hq4 : hp_R h4 A' nA = hp_n h) (f4 : Fr (at_ (x + 15)) (fun b => b = x + 15 ∨ (b = arr h (x + 15) ∧ 0 < lcap h (x + 15))) 1 100 h3 h4)
    (hL5 : AL h5 (x + 16) 0 (arr h (x + 16)) (lcap h (x + 16))) (f5 : Fr (at_ (x + 16)) (fun b => b = arr h (x + 16) ∧ 0 < lcap h (x + 16)) 0 0 h4 h5) : CR h5 (actV V nA) x r nM nD nB (nA + 1) 0 nT nL ∧ CFr x 6 250 h h5 := by
  have hC0 := hC
  obtain ⟨hW, hr, hG, hN, hA, hT, hX, hI, hS, hF⟩ := hC
  have al := hW.al
  have hLA := hA.1
  have hLU := hA.2.1
  have al3 := f3.al al
  have l15 := Al_lt al hLA.1.1 (by decide)
  have l16 := Al_lt al hLU.1.1 (by decide)
  have a15 := arr_lt al hLA
  have a16 := arr_lt al hLU
  have fr : Fr (fun b => b = x + 15 ∨ b = x + 16) (fun b => b = x + 15 ∨ (b = arr h (x + 15) ∧ 0 < lcap h (x + 15)) ∨ (b = arr h (x + 16) ∧ 0 < lcap h (x + 16))) 5 131 h h5 :=
    Fr_tr (Fr_tr (WI := fun b => b = x + 15 ∨ b = x + 16) (WR := fun b => b = x + 15 ∨ (b = arr h (x + 15) ∧ 0 < lcap h (x + 15)) ∨ (b = arr h (x + 16) ∧ 0 < lcap h (x + 16))) (c := 5) (s := 131) f3 f4 (fun _ _ w => absurd w id) (fun _ _ w => absurd w id) (fun _ _ w => Or.inl w) (fun _ _ w => w.elim Or.inl (fun w => Or.inr (Or.inl w))) (by omega) (by omega)) f5 (fun _ _ w => w) (fun _ _ w => w) (fun _ _ w => Or.inr w) (fun _ _ w => Or.inr (Or.inr w)) (by omega) (by omega)
  have k15 : 0 < lcap h (x + 15) → (hp_K h (arr h (x + 15))).1 = 5 := LST_k5 hLA
  have k16 : 0 < lcap h (x + 16) → (hp_K h (arr h (x + 16))).1 = 5 := LST_k5 hLU
  obtain ⟨⟨a1, a2, a3, a4, a5, a6⟩, ⟨b1, b2, b3⟩, hi2, hr2⟩ := CR_A hC0 fr (fun b w => w.elim Or.inl (fun w => Or.inr (Or.inl w))) (fun b w => by
    rcases w with w | w | w
    · exact Or.inl (Or.inl w)
    · exact Or.inr (Or.inl ⟨Or.inl w.1, by rw [w.1]; exact k15 w.2⟩)
    · exact Or.inr (Or.inl ⟨Or.inr w.1, by rw [w.1]; exact k16 w.2⟩))
  -- apart: the two arrays
  have n56 : ¬ (arr h (x + 15) = arr h (x + 16) ∧ 0 < lcap h (x + 15)) := fun w => by
    have := hS.1 (x + 15) (x + 16) (Or.inl rfl) (Or.inr (Or.inl rfl)) (k15 w.2) w.1
    omega
  have n65 : ¬ (arr h (x + 16) = arr h (x + 15) ∧ 0 < lcap h (x + 16)) := fun w => by
    have := hS.1 (x + 16) (x + 15) (Or.inr (Or.inl rfl)) (Or.inl rfl) (k16 w.2) w.1
    omega
  have nA16 : ¬ (A' = arr h (x + 16) ∧ 0 < lcap h (x + 16)) := fun w => by
    rcases hA' with q | q
    · exact n65 ⟨by rw [← w.1, q.1], w.2⟩
    · omega
  have n15 : ¬ (x + 15 = arr h (x + 16) ∧ 0 < lcap h (x + 16)) := fun w => by
    have := k16 w.2
    rw [← w.1, hLA.1.1] at this; cases this
  have w50 : ¬ (0 = arr h (x + 16) ∧ 0 < lcap h (x + 16)) := fun w => by
    have := k16 w.2
    rw [← w.1, al.2 0 (Or.inr rfl)] at this; cases this
  have al4 := f4.al al3
  have n4 : hp_n h3 ≤ hp_n h4 := f4.n
  have lA' : A' < hp_n h4 := (AL_lt al4 hL4).2
  have e15 : arr h5 (x + 15) = A' := by
    show hp_R h5 (x + 15) 1 = _
    rw [f5.R (by omega) n15]; exact hL4.2.1
  have e16 : arr h5 (x + 16) = arr h (x + 16) := hL5.2.1
  have L15 : LST h5 (x + 15) (nA + 1) := by
    refine ⟨?_, hLA.2⟩
    have q := AL_fr al4 hL4 f5 (show ¬ x + 15 = x + 16 by omega) n15 (fun w => nA16 w.1) w50
    have e2 : lcap h5 (x + 15) = cap' := by
      show (hp_K h5 (arr h5 (x + 15))).2 = _
      rw [e15]
      rcases q.2.2.2.2.2.1 with z | z
      · rw [z.1]
      · have := q.2.2.2.1; omega
    rw [e15, e2]; exact q
  have L16 : LST h5 (x + 16) 0 := by
    refine ⟨?_, hLU.2⟩
    have e2 : lcap h5 (x + 16) = lcap h (x + 16) := by show (hp_K h5 (arr h5 (x + 16))).2 = _; rw [e16, fr.K a16]
    rw [e16, e2]; exact hL5
  have elem : ∀ j, j < nA + 1 → el h5 (x + 15) j = hp_R h4 A' j := by
    intro j hj
    show hp_R h5 (arr h5 (x + 15)) j = _
    rw [e15, f5.R lA' nA16]
  have n40 : ¬ nA = 40 := by omega
  have eA : (if nA = 40 then 40 else nA + 1) = nA + 1 := if_neg n40
  refine ⟨⟨a1, a2, CReg_V (actV_reg V nA) a3, ?_, ?_, CTug_V (fun a j q => actV_o (by omega) (by omega)) a4, CBox_V (fun a j q => actV_o (by omega) (by omega)) a5, CInt_V (fun a j q => actV_o (by omega) (by omega)) a6, ?_, ⟨WB_V (actV_reg V nA) hF.1, ?_⟩⟩, ?_⟩
  · refine CNow_V (fun j => actV_o (by omega) (by omega)) ?_
    unfold CNow
    have k7 : hp_K h (x + 7) = (102, 0) := hW.k rfl
    have k8 : hp_K h (x + 8) = (1, 10) := hW.k rfl
    have k9 : hp_K h (x + 9) = (1, 10) := hW.k rfl
    rw [fr.I (Al_lt al k7 (by decide)) (by omega), fr.I (Al_lt al k8 (by decide)) (by omega), fr.I (Al_lt al k9 (by decide)) (by omega)]
    exact hN
  · refine CAct_mk (K := fun i => if i < nA then kk h x nA nU i else hp_n h) L15 L16 (fun i hi => ?_) (fun j hj => absurd hj (Nat.not_lt_zero j)) (fun i hi => ?_) (fun i j hi hj e => ?_)
    · rw [elem i hi]
      by_cases e : i < nA
      · rw [if_pos e, he4 i e, f3.R a15 id]; exact hA.e1 e
      · rw [if_neg e, show i = nA by omega]; exact hq4
    · by_cases e : i < nA
      · rw [if_pos e]
        have q : KeptOK h x (kk h x nA nU i) _ := hA.2.2.1 i (by omega)
        refine KeptOK_congr (fun j hj => ?_) (KeptOK_fr al q fr (fun w => ?_) hi2 hr2)
        · show actV V nA 35 (24 * i + j) = V 35 (24 * i + j)
          rw [actV_row (by omega) (by rw [eA]; omega) hj, if_neg n40, if_neg (by omega)]
        · have k8 := q.1
          rcases w with w | w | w
          · rw [w, hLA.1.1] at k8; cases k8
          · have := k15 w.2; rw [← w.1, k8] at this; cases this
          · have := k16 w.2; rw [← w.1, k8] at this; cases this
      · rw [if_neg e, show i = nA by omega]
        have f35 : Fr (fun b => b = x + 15 ∨ b = x + 16) (fun b => b = x + 15 ∨ (b = arr h (x + 15) ∧ 0 < lcap h (x + 15)) ∨ (b = arr h (x + 16) ∧ 0 < lcap h (x + 16))) 1 100 h3 h5 := Fr_tr f4 f5 (fun _ _ w => Or.inl w) (fun _ _ w => w.elim Or.inl (fun w => Or.inr (Or.inl w))) (fun _ _ w => Or.inr w) (fun _ _ w => Or.inr (Or.inr w)) (by omega) (by omega)
        refine KeptOK_congr (fun j hj => ?_) (KeptOK_fr al3 hq f35 (fun w => by omega) (fun b w q => by omega) (fun b w q => ?_))
        · show actV V nA 35 (24 * nA + j) = V 34 j
          rw [actV_row (by omega) (by rw [eA]; omega) hj, if_neg n40, if_pos rfl]
        · rcases w with w | w | w
          · omega
          · rw [w.1, f3.K a15, k15 w.2] at q; omega
          · rw [w.1, f3.K a16, k16 w.2] at q; omega
    · have lk : ∀ i, i < nA → kk h x nA nU i < hp_n h := fun i hi => Al_lt al (hA.2.2.1 i (by omega)).1 (by decide)
      by_cases e1 : i < nA
      · by_cases e2 : j < nA
        · rw [if_pos e1, if_pos e2] at e
          exact hA.2.2.2 i j (by omega) (by omega) e
        · rw [if_pos e1, if_neg e2] at e
          have := lk i e1
          omega
      · by_cases e2 : j < nA
        · rw [if_neg e1, if_pos e2] at e
          have := lk j e2
          omega
        · omega
  · refine CSep_mk (l0 := x + 15) al hS fr (isL_lt hC0) b1 (fun l q n => ?_) ?_
    · rcases q with e | e | e | e | e | e
      · exact absurd e n
      · rw [e]; exact e16
      · rw [e]; exact b2
      · rw [e]; exact b3 0 (by omega)
      · rw [e]; exact b3 1 (by omega)
      · rw [e]; exact b3 2 (by omega)
    · rw [e15]
      rcases hA' with q | q
      · exact Or.inl q.1
      · exact Or.inr (by omega)
  · obtain ⟨⟨s1, s2, s3, s4, s5, s6, s7⟩, sT, s8, s9, s10, s11⟩ := hF.2
    refine ⟨⟨?_, rfl, by omega, by rw [actV_o (by omega) (by omega)]; exact s4, s5, by rw [actV_o (by omega) (by omega)]; exact s6, s7⟩, by rw [actV_o (by omega) (by omega)]; exact sT, ?_, ?_, ?_, ?_⟩
    · show nI (if nA = 40 then 40 else nA + 1) = _
      rw [eA]
    · intro b hb; rw [actV_o (by omega) (by omega)]; exact s8 b hb
    · intro i hi b hb
      show ∃ t, t ≤ 99 ∧ actV V nA 35 (24 * i + (10 + b)) = nI t
      rw [actV_row (by omega) (by rw [eA]; omega) (by omega), if_neg n40]
      by_cases e : i = nA
      · rw [if_pos e]; exact s8 b hb
      · rw [if_neg e]; exact s9 i (by omega) b hb
    · intro b hb e
      rw [actV_o (by omega) (by omega)] at e
      intro c hc
      show ∃ t, t ≤ 99 ∧ actV V nA 51 _ = nI t
      rw [actV_o (by omega) (by omega)]
      exact s10 b hb e c hc
    · intro j hj; rw [actV_o (by omega) (by omega)]; exact s11 j hj
  · refine Fr_w fr (fun b _ w => by left; omega) (fun b hb w => ?_) (by omega) (by omega)
    rcases w with w | w | w
    · left; omega
    · rw [w.1]; exact hW.om (by rw [k15 w.2]; decide)
    · rw [w.1]; exact hW.om (by rw [k16 w.2]; decide)
theorem C_keep1 (hC : CR h V x r nM nD nB nA nU nT nL) (hn : nA ≤ 39) {k : am_H → Prop} (hk : ∀ h', CR h' (actV V nA) x r nM nD nB (nA + 1) 0 nT nL → CFr x 6 250 h h' → k h') : Rn (d + 8) n_X0_keepAct 21 [am_r x] [] h (kV k) := by
  have hC' := hC
  obtain ⟨hW, hr, hG, hN, hA, hT, hX, hI, hS, hF⟩ := hC'
  obtain ⟨⟨rK, r0⟩, ⟨hLM, hM⟩, ⟨hLD, hD⟩, ⟨hLO, hO⟩, ⟨⟨hlk, hla⟩, hlike⟩, ⟨htk, hwear⟩, gf, gu, gh, gs⟩ := hG
  obtain ⟨⟨⟨fM, fM6, fD, fD6, fB, fB10⟩, fO, ⟨fH, fSt⟩, fHr, fFr, fWr⟩, ⟨fA, fU, fAU, fT, fT30, fL, fL10⟩, fTp, fNow, fWere, fBox, fTg⟩ := hF
  have kLM := hLM.1.1; have zLM := hLM.2
  have kLD := hLD.1.1; have zLD := hLD.2
  have kLO := hLO.1.1; have zLO := hLO.2
  have hLA := hA.1
  have hLU := hA.2.1
  have al := hW.al
  have l15 := Al_lt al hLA.1.1 (by decide)
  have l16 := Al_lt al hLU.1.1 (by decide)
  have f1 : Fr no no 1 1 h (hp_new h 108 0 1) := Fr_new
  have al1 := f1.al al
  have hW1 : CW (hp_new h 108 0 1) x := CW_fr hW f1 (fun _ _ _ _ => id)
  have hp1 : DP (hp_new h 108 0 1) (x + 7) (x + 8) (x + 9) (V 34) := by
    unfold DP
    rw [f1.I (Al_lt al (nowK hW).1 (by decide)) id, f1.I (Al_lt al (nowK hW).2.2.2.1 (by decide)) id, f1.I (Al_lt al (nowK hW).2.2.2.2.1 (by decide)) id]
    exact hN
  refine rw_aload f_X0_keepAct_21 rfl ?_
  refine rw_getR f_X0_keepAct_22 hW.k0 (hW.r0 rfl) ?_
  refine rw_new f_X0_keepAct_25 ?_
  refine rw_dupr f_X0_keepAct_28 ?_
  refine rw_aload f_X0_keepAct_29 rfl ?_
  refine rw_getR f_X0_keepAct_30 hW1.k0 (hW1.r0 rfl) ?_
  refine rw_callS f_X0_keepAct_33 rfl rfl rfl (rn_kr (C_copy al1 (nowK hW1) hp1 (fun h2 hK2 hp2 f2 n2 => ?_)))
  have n1 : hp_n (hp_new h 108 0 1) = hp_n h + 1 := rfl
  rw [n1] at hK2 hp2 n2
  have kq : hp_K h2 (hp_n h) = (108, 0) := by rw [f2.K (Nat.lt_succ_self _)]; exact new_K
  refine rw_callI f_X0_keepAct_36 rfl (show ¬ hp_n h = 0 by have := al.1; omega) rfl rfl rfl (rn_kv (C_keptInit kq (by have := al.1; omega) ?_))
  have f12 : Fr no no 4 31 h h2 := Fr_tr f1 f2 (fun _ _ w => w) (fun _ _ w => w) (fun _ _ w => w) (fun _ _ w => w) (by omega) (by omega)
  have f3 : Fr no no 4 31 h (hp_sR h2 (hp_n h) 0 (hp_n h + 1)) := Fr_tr f12 Fr_sR (fun _ _ w => w) (fun _ _ w => w) (fun _ _ w => w) (fun b hb w => by have w' : b = hp_n h := w; omega) (by omega) (by omega)
  have n3 : hp_n (hp_sR h2 (hp_n h) 0 (hp_n h + 1)) = hp_n h + 4 := n2
  have hq : KeptOK (hp_sR h2 (hp_n h) 0 (hp_n h + 1)) x (hp_n h) (V 34) := by
    have l84 : x + 84 < hp_n h := by
      have := hW.2.2.2.2 (x + 84) (by omega) (by omega)
      exact Al_lt' al (by omega)
    refine ⟨kq, l84, ?_⟩
    rw [sR_same]
    refine CDay_of (S := hp_n h + 1 + 1) (T := hp_n h + 1 + 2) ?_ hp2 (by omega) (by omega) (by omega)
    obtain ⟨d1, d2, d3, d4, d5, d6, d7⟩ := hK2
    exact ⟨d1, by rw [sR_ne (by omega)]; exact d2, by rw [sR_ne (by omega)]; exact d3, d4, d5, d6, d7⟩
  show Rn (d + 8) n_X0_keepAct 39 [am_r x] [am_r (hp_n h), am_r (x + 15)] (hp_sR h2 (hp_n h) 0 (hp_n h + 1)) (kV k)
  generalize hp_sR h2 (hp_n h) 0 (hp_n h + 1) = h3 at *
  have al3 := f3.al al
  obtain ⟨L15, e15, el15⟩ := LST_fr al hLA f3 id id (fun w => w.1) id
  obtain ⟨L16, e16, el16⟩ := LST_fr al hLU f3 id id (fun w => w.1) id
  have c15 : lcap h3 (x + 15) = lcap h (x + 15) := by show (hp_K h3 (arr h3 (x + 15))).2 = _; rw [e15, f3.K (arr_lt al hLA)]
  have c16 : lcap h3 (x + 16) = lcap h (x + 16) := by show (hp_K h3 (arr h3 (x + 16))).2 = _; rw [e16, f3.K (arr_lt al hLU)]
  have L15' := L15.1
  rw [e15, c15] at L15'
  refine rw_callV f_X0_keepAct_39 rfl L15.1.1 hLA.2 rfl rfl rfl rfl (rn_ki (J_add al3 L15' hLA.2 (by omega) (by rw [hq.1]; decide) (fun h4 A' cap' hL4 hA' he4 hq4 f4 => ?_)))
  refine rw_popi f_X0_keepAct_42 ?_
  have al4 := f4.al al3
  have r4 : hp_R h4 x 10 = x + 16 := by
    rw [f4.R (by have := f3.n; have := Al_lt al hW.k0 (by decide); omega) (fun w => ?_), f3.R (Al_lt al hW.k0 (by decide)) id]
    · exact hW.r0 rfl
    · rcases w with w | w
      · omega
      · have := LST_k5 hLA w.2
        rw [← w.1, hW.k0] at this; cases this
  have L16'' : AL h4 (x + 16) nU (arr h (x + 16)) (lcap h (x + 16)) := by
    have q := L16.1
    rw [e16, c16] at q
    refine AL_fr al3 q f4 (show ¬ x + 16 = x + 15 by omega) (fun w => ?_) (fun w => ?_) (fun w => ?_)
    · rcases w with w | w
      · omega
      · have := LST_k5 hLA w.2
        rw [← w.1, hLU.1.1] at this; cases this
    · rcases w with ⟨w | w, w2⟩
      · have := LST_k5 hLU w2
        rw [w, hLA.1.1] at this; cases this
      · have := hS.1 (x + 15) (x + 16) (Or.inl rfl) (Or.inr (Or.inl rfl)) (LST_k5 hLA w.2) w.1.symm
        omega
    · rcases w with w | w
      · omega
      · have := LST_k5 hLA w.2
        rw [← w.1, al.2 0 (Or.inr rfl)] at this; cases this
  refine rw_aload f_X0_keepAct_43 rfl ?_
  have kx4 : hp_K h4 x = (100, 0) := by
    rw [f4.K (by have := f3.n; have := Al_lt al hW.k0 (by decide); omega), f3.K (Al_lt al hW.k0 (by decide))]; exact hW.k0
  refine rw_getR f_X0_keepAct_44 kx4 r4 ?_
  refine rw_callV f_X0_keepAct_47 rfl L16''.1 hLU.2 rfl rfl rfl rfl (rn_kv (J_clear L16'' (fun h5 hL5 f5 => ?_)))
  refine rw_vret f_X0_keepAct_50 ?_
  obtain ⟨c1, c2⟩ := CR_add hC hn f3 hq n3 hL4 hA' he4 hq4 f4 hL5 f5
  exact hk h5 c1 c2
theorem C_keepAct (hC : CR h V x r nM nD nB nA nU nT nL) {k : am_H → Prop} (hk : ∀ h', CR h' (actV V nA) x r nM nD nB (if nA = 40 then 40 else nA + 1) 0 nT nL → CFr x 6 250 h h' → k h') : Rn (d + 8) n_X0_keepAct 0 [am_r x] [] h (kV k) := by
  have hC' := hC
  obtain ⟨hW, hr, hG, hN, hA, hT, hX, hI, hS, hF⟩ := hC'
  obtain ⟨⟨rK, r0⟩, ⟨hLM, hM⟩, ⟨hLD, hD⟩, ⟨hLO, hO⟩, ⟨⟨hlk, hla⟩, hlike⟩, ⟨htk, hwear⟩, gf, gu, gh, gs⟩ := hG
  obtain ⟨⟨⟨fM, fM6, fD, fD6, fB, fB10⟩, fO, ⟨fH, fSt⟩, fHr, fFr, fWr⟩, ⟨fA, fU, fAU, fT, fT30, fL, fL10⟩, fTp, fNow, fWere, fBox, fTg⟩ := hF
  have kLM := hLM.1.1; have zLM := hLM.2
  have kLD := hLD.1.1; have zLD := hLD.2
  have kLO := hLO.1.1; have zLO := hLO.2
  have hLA := hA.1
  have hLU := hA.2.1
  have kLA := hLA.1.1
  have zLA := hLA.2
  by_cases e : nA = 40
  · obtain rfl : nU = 0 := by omega
    subst e
    rw [if_pos rfl] at hk
    refine rw_aload f_X0_keepAct_0 rfl ?_
    refine rw_getR f_X0_keepAct_1 (by first | assumption | exact hW.k rfl | exact hW.k0) (by first | assumption | exact hW.r0 rfl | exact hW.r rfl | rfl) ?_
    refine rw_callV f_X0_keepAct_4 rfl (by first | assumption | exact hW.k rfl | exact hW.k0) (by first | assumption | exact hW.1 | omega | exact Nat.succ_ne_zero _) rfl rfl rfl rfl (rn_ki (J_sizeL (by assumption) ?_))
    refine rw_const f_X0_keepAct_7 ?_
    refine rw_icmpF f_X0_keepAct_9 (decide_eq_false (fun c => c rfl)) ?_
    refine rw_aload f_X0_keepAct_12 rfl ?_
    refine rw_getR f_X0_keepAct_13 (by first | assumption | exact hW.k rfl | exact hW.k0) (by first | assumption | exact hW.r0 rfl | exact hW.r rfl | rfl) ?_
    refine rw_const f_X0_keepAct_16 ?_
    refine rw_callV f_X0_keepAct_17 rfl (by first | assumption | exact hW.k rfl | exact hW.k0) (by first | assumption | exact hW.1 | omega | exact Nat.succ_ne_zero _) rfl rfl rfl rfl (rn_kr (J_remove (n := 39) hW.al hLA.1 zLA (Nat.zero_le _) (fun h1 q1 q2 q3 q4 => ?_)))
    first | refine rw_popi f_X0_keepAct_20 ?_ | refine rw_popr f_X0_keepAct_20 ?_
    skip
    have k5 := LST_k5 hLA (by have := hLA.1.2.2.2.1; omega)
    refine C_keep1 (CR_drop hC q1 (fun j hj => q3 j (Nat.zero_le _) hj) q4) (by omega) (fun h' c1 c2 => ?_)
    rw [shV_act] at c1
    refine hk h' c1 (Fr_tr q4 c2 (fun b _ w => by left; have w' : b = x + 15 := w; omega) (fun b _ w => ?_) (fun _ _ w => w) (fun _ _ w => w) (by omega) (by omega))
    rw [show b = _ from w]
    exact hW.om (by rw [k5]; decide)
  · rw [if_neg e] at hk
    refine rw_aload f_X0_keepAct_0 rfl ?_
    refine rw_getR f_X0_keepAct_1 (by first | assumption | exact hW.k rfl | exact hW.k0) (by first | assumption | exact hW.r0 rfl | exact hW.r rfl | rfl) ?_
    refine rw_callV f_X0_keepAct_4 rfl (by first | assumption | exact hW.k rfl | exact hW.k0) (by first | assumption | exact hW.1 | omega | exact Nat.succ_ne_zero _) rfl rfl rfl rfl (rn_ki (J_sizeL (by assumption) ?_))
    refine rw_const f_X0_keepAct_7 ?_
    refine rw_icmpT f_X0_keepAct_9 (decide_eq_true (fun c => e (nI_inj (by omega) (by omega) (c : nI nA = nI 40)))) ?_
    exact C_keep1 hC (by omega) hk
end CKeep3
