/-! THE CLASS: will, images, tugs, the tape -/
def itF (V : am_M) (nB : Nat) : Nat → (Nat → Int32) → (Nat → Int32)
  | 0, f => f
  | n + 1, f => goF V nB (itF V nB n f)
theorem itF_ok {V : am_M} {nB : Nat} {f : Nat → Int32} (ok : okDay f) : ∀ n, okDay (itF V nB n f)
  | 0 => ok
  | n + 1 => (itF_ok ok n).go
section CActs3
variable {c s d : Nat} {h h' : am_H} {V : am_M} {x r nM nD nB nA nU nT nL : Nat} {k : Int32 → am_H → Prop}
theorem CR.wb (hC : CR h V x r nM nD nB nA nU nT nL) : WB V nM nD nB := hC.2.2.2.2.2.2.2.2.2.1
theorem CR.ws (hC : CR h V x r nM nD nB nA nU nT nL) : WS V nA nU nT nL := hC.2.2.2.2.2.2.2.2.2.2
/-- scratch of the class: no cell of the model -/
abbrev sW (h : am_H) (x r : Nat) : Nat → Prop := fun b => (x + 10 ≤ b ∧ b ≤ x + 12) ∨ b = hp_R h r 13
theorem CR_sW (hC : CR h V x r nM nD nB nA nU nT nL) (on : On (sW h x r) h h') : CR h' V x r nM nD nB nA nU nT nL ∧ CFr x 0 0 h h' := by
  have kt := hC.2.2.1.2.2.2.2.2.1.1
  have ad := hC.2.2.1.2.2.2.2.1.1.2.2
  refine ⟨CR_fr hC on.fr (fun b w => ?_), Fr_w on.fr (fun b _ w => ?_) (fun _ _ w => absurd w id) (Nat.le_refl _) (Nat.le_refl _)⟩
  · unfold Scr
    rcases w with w | w
    · right; right; right; right; right; left; exact w
    · right; left; rw [w, kt]; exact ⟨rfl, rfl⟩
  · rcases w with w | w
    · left; omega
    · show b < x + 33 ∨ x + 84 < b
      rw [w]; omega
def sp_will (V : am_M) (nB : Nat) (b n : Int32) : Int32 := if isIn b 0 (V 0 58 - 1) = false then -1 else if isIn n 0 60 = false then -1 else itF V nB n.toNatClampNeg (V 34) b.toNatClampNeg
theorem C_will (hC : CR h V x r nM nD nB nA nU nT nL) {b n : Int32} (hk : ∀ h', CR h' V x r nM nD nB nA nU nT nL → CFr x 0 0 h h' → k (sp_will V nB b n) h') : Rn (d + 333) n_X0_will 0 [am_r x, am_i b, am_i n, am_u] [] h (kI k) := by
  have hC' := hC
  obtain ⟨hW, hr, hG, hN, hA, hT, hX, hI, hS, hF⟩ := hC'
  obtain ⟨⟨rK, r0⟩, ⟨hLM, hM⟩, ⟨hLD, hD⟩, ⟨hLO, hO⟩, ⟨⟨hlk, hla⟩, hlike⟩, ⟨htk, hwear⟩, gf, gu, gh, gs⟩ := hG
  obtain ⟨⟨⟨fM, fM6, fD, fD6, fB, fB10⟩, fO, ⟨fH, fSt⟩, fHr, fFr, fWr⟩, ⟨fA, fU, fAU, fT, fT30, fL, fL10⟩, fTp, fNow, fWere, fBox, fTg⟩ := hF
  have kLM := hLM.1.1; have zLM := hLM.2
  have kLD := hLD.1.1; have zLD := hLD.2
  have kLO := hLO.1.1; have zLO := hLO.2
  unfold sp_will at hk
  by_cases e1 : isIn b 0 (V 0 58 - 1) = true
  · by_cases e2 : isIn n 0 60 = true
    · obtain ⟨j, rfl, hj⟩ := isIn_nat (n := nB) (by omega) (by rw [← fB]; exact e1)
      obtain ⟨N, rfl, hN6⟩ := isIn_nat (n := 61) (by omega) e2
      rw [nI_clamp (by omega), nI_clamp (by omega)] at hk
      refine rw_aload f_X0_will_0 rfl ?_
      refine rw_iload f_X0_will_1 rfl ?_
      refine rw_callV f_X0_will_2 rfl (by first | assumption | exact hW.k rfl | exact hW.k0) (by first | assumption | exact hW.1 | omega | exact Nat.succ_ne_zero _) rfl rfl rfl rfl (rn_ki (C_isButton hC ?_))
      refine rw_ifF f_X0_will_5 (by rw [e1]; decide) ?_
      refine rw_iload f_X0_will_8 rfl ?_
      refine rw_const f_X0_will_9 ?_
      refine rw_const f_X0_will_10 ?_
      refine rw_callS f_X0_will_12 rfl rfl rfl (rn_ki (C_isIn ?_))
      refine rw_ifT f_X0_will_15 (by rw [e2]; decide) ?_
      refine rw_aload f_X0_will_20 rfl ?_
      refine rw_getR f_X0_will_21 (by first | assumption | exact hW.k rfl | exact hW.k0) (by first | assumption | exact hW.r0 rfl | exact hW.r rfl | rfl) ?_
      refine rw_aload f_X0_will_24 rfl ?_
      refine rw_getR f_X0_will_25 (by first | assumption | exact hW.k rfl | exact hW.k0) (by first | assumption | exact hW.r0 rfl | exact hW.r rfl | rfl) ?_
      refine rw_callV f_X0_will_28 rfl (by first | assumption | exact hW.k rfl | exact hW.k0) (by first | assumption | exact hW.1 | omega | exact Nat.succ_ne_zero _) rfl rfl rfl rfl (rn_kv (C_dayOf (thenK hW) ⟨(nowK hW).1, (nowK hW).2.1, (nowK hW).2.2.1, (nowK hW).2.2.2.1, (nowK hW).2.2.2.2.1⟩ hN (by omega) (by omega) (fun h1 on1 hp1 => ?_)))
      refine rw_const f_X0_will_31 ?_
      refine rw_istore f_X0_will_32 rfl rfl ?_
      skip
      have on1' : On (sW h x r) h h1 := on1.w (fun b w => by rcases w with w | w | w <;> (left; omega))
      refine rn_inv (N := N) (fun i ls hh => ls = [am_r x, am_i (nI j), am_i (nI N), am_i (nI i)] ∧ On (sW h x r) h hh ∧ DP hh (x + 10) (x + 11) (x + 12) (itF V nB i (V 34))) (fun i hi ls hh q ih => ?_) (fun ls hh q => ?_) ⟨rfl, on1', hp1⟩
      · obtain ⟨rfl, on, hp⟩ := q
        obtain ⟨hC1, fr1⟩ := CR_sW hC on
        have hB := hC1.b
        have hW := hC1.1
        have hr := hC1.2.1
        have rt : hp_R hh r 13 = hp_R h r 13 := by rw [on.R]
        refine rw_iload f_X0_will_33 rfl ?_
        refine rw_iload f_X0_will_34 rfl ?_
        refine rw_icmpF f_X0_will_35 (decide_eq_false (nI_ge hi (by omega))) ?_
        refine rw_aload f_X0_will_38 rfl ?_
        refine rw_getR f_X0_will_39 (by first | assumption | exact hW.k rfl | exact hW.k0) (by first | assumption | exact hW.r0 rfl | exact hW.r rfl | rfl) ?_
        refine rw_aload f_X0_will_42 rfl ?_
        refine rw_getR f_X0_will_43 (by first | assumption | exact hW.k rfl | exact hW.k0) (by first | assumption | exact hW.r0 rfl | exact hW.r rfl | rfl) ?_
        refine rw_callV f_X0_will_46 rfl (by first | assumption | exact hW.k rfl | exact hW.k0) (by first | assumption | exact hW.1 | omega | exact Nat.succ_ne_zero _) rfl rfl rfl rfl (rn_ki (C_goOn (d := d + 1) hB (thenK hW) (itF_ok fNow i) hp (fun h2 on2 p2 => ?_)))
        first | refine rw_popi f_X0_will_49 ?_ | refine rw_popr f_X0_will_49 ?_
        refine rw_iinc f_X0_will_50 rfl rfl ?_
        refine rw_goto f_X0_will_53 ?_
        rw [nI_1']
        refine ih _ h2 ⟨rfl, on.tr (on2.w (fun b w => ?_)), p2⟩
        rcases w with w | w | w | w
        · left; omega
        · left; omega
        · left; omega
        · right; rw [w, rt]
      · obtain ⟨rfl, on, hp⟩ := q
        obtain ⟨hC1, fr1⟩ := CR_sW hC on
        have hW := hC1.1
        have e3 := (hp.1 j (by omega)).1
        have hk2 := hk hh hC1 fr1
        rw [if_neg (by rw [e1]; decide), if_neg (by rw [e2]; decide)] at hk2
        refine rw_iload f_X0_will_33 rfl ?_
        refine rw_iload f_X0_will_34 rfl ?_
        refine rw_icmpT f_X0_will_35 (decide_eq_true (Int32.le_refl _)) ?_
        refine rw_aload f_X0_will_56 rfl ?_
        refine rw_getR f_X0_will_57 (by first | assumption | exact hW.k rfl | exact hW.k0) (by first | assumption | exact hW.r0 rfl | exact hW.r rfl | rfl) ?_
        refine rw_getR f_X0_will_60 (by first | assumption | exact hW.k rfl | exact hW.k0) (by first | assumption | exact hW.r0 rfl | exact hW.r rfl | rfl) ?_
        refine rw_iload f_X0_will_63 rfl ?_
        refine rw_xaldE f_X0_will_64 (by first | assumption | exact hW.k rfl | exact hW.k0) rfl (by omega) (by omega) ?_
        refine rw_iret f_X0_will_65 ?_
        rw [e3]
        exact hk2
    · have e2' : isIn n 0 60 = false := by simpa using e2
      have hk2 := hk h hC Fr_refl
      rw [if_neg (by rw [e1]; decide), if_pos e2'] at hk2
      refine rw_aload f_X0_will_0 rfl ?_
      refine rw_iload f_X0_will_1 rfl ?_
      refine rw_callV f_X0_will_2 rfl (by first | assumption | exact hW.k rfl | exact hW.k0) (by first | assumption | exact hW.1 | omega | exact Nat.succ_ne_zero _) rfl rfl rfl rfl (rn_ki (C_isButton hC ?_))
      refine rw_ifF f_X0_will_5 (by rw [e1]; decide) ?_
      refine rw_iload f_X0_will_8 rfl ?_
      refine rw_const f_X0_will_9 ?_
      refine rw_const f_X0_will_10 ?_
      refine rw_callS f_X0_will_12 rfl rfl rfl (rn_ki (C_isIn ?_))
      refine rw_ifF f_X0_will_15 (by rw [e2']; decide) ?_
      refine rw_const f_X0_will_18 ?_
      refine rw_iret f_X0_will_19 ?_
      exact hk2
  · have e1' : isIn b 0 (V 0 58 - 1) = false := by simpa using e1
    have hk2 := hk h hC Fr_refl
    rw [if_pos e1'] at hk2
    refine rw_aload f_X0_will_0 rfl ?_
    refine rw_iload f_X0_will_1 rfl ?_
    refine rw_callV f_X0_will_2 rfl (by first | assumption | exact hW.k rfl | exact hW.k0) (by first | assumption | exact hW.1 | omega | exact Nat.succ_ne_zero _) rfl rfl rfl rfl (rn_ki (C_isButton hC ?_))
    refine rw_ifT f_X0_will_5 (by rw [e1']; decide) ?_
    refine rw_const f_X0_will_18 ?_
    refine rw_iret f_X0_will_19 ?_
    exact hk2
/-- an image of the day at hand -/
def imgV (V : am_M) (b : Nat) : am_M := fun a j => if a = 50 ∧ j = b then 1 else if a = 51 ∧ 24 * b ≤ j ∧ j < 24 * b + 23 then V 34 (j - 24 * b) else V a j
theorem imgV_o {b a j : Nat} (h1 : ¬ a = 50) (h2 : ¬ a = 51) : imgV V b a j = V a j := by unfold imgV; rw [if_neg (fun q => h1 q.1), if_neg (fun q => h2 q.1)]
theorem imgV_reg (V : am_M) (b : Nat) : ∀ a j, regA a j = true → imgV V b a j = V a j := fun a j e => imgV_o (by rintro rfl; cases e) (by rintro rfl; cases e)
theorem imgV_box {b i j : Nat} (hj : j < 23) : imgV V b 51 (24 * i + j) = if i = b then V 34 j else V 51 (24 * i + j) := by
  unfold imgV
  rw [if_neg (by omega)]
  by_cases e : i = b
  · subst e; rw [if_pos rfl, if_pos ⟨rfl, by omega, by omega⟩, show 24 * i + j - 24 * i = j by omega]
  · rw [if_neg e, if_neg (by omega)]
theorem imgV_has {b i : Nat} : imgV V b 50 i = if i = b then 1 else V 50 i := by
  unfold imgV
  by_cases e : i = b
  · rw [if_pos ⟨rfl, e⟩, if_pos e]
  · rw [if_neg (fun q => e q.2), if_neg (by omega), if_neg e]
theorem WS_o {V' : am_M} (e : ∀ a j, ((a = 0 ∧ (j = 69 ∨ j = 70 ∨ j = 93 ∨ j = 85 ∨ j = 1)) ∨ a = 34 ∨ a = 35 ∨ a = 49) → V' a j = V a j) (eb : ∀ b, b < 3 → V' 50 b = 1 → okDay (fun j => V' 51 (24 * b + j))) (hF : WS V nA nU nT nL) : WS V' nA nU nT nL := by
  obtain ⟨⟨s1, s2, s3, s4, s5, s6, s7⟩, sT, s8, s9, s10, s11⟩ := hF
  refine ⟨⟨by rw [e 0 _ (by omega)]; exact s1, by rw [e 0 _ (by omega)]; exact s2, s3, by rw [e 0 _ (by omega)]; exact s4, s5, by rw [e 0 _ (by omega)]; exact s6, s7⟩, by rw [e 0 _ (by omega)]; exact sT, ?_, ?_, eb, ?_⟩
  · intro b hb; rw [e _ _ (by omega)]; exact s8 b hb
  · intro i hi b hb
    show ∃ t, t ≤ 99 ∧ V' 35 (24 * i + (10 + b)) = nI t
    rw [e _ _ (by omega)]; exact s9 i hi b hb
  · intro j hj; rw [e _ _ (by omega)]; exact s11 j hj
theorem CAct_V {V' : am_M} (e : ∀ j, V' 35 j = V 35 j) (hA : CAct h V x nA nU) : CAct h V' x nA nU := by
  obtain ⟨a1, a2, a3, a4⟩ := hA
  refine ⟨a1, a2, fun i hi => ?_, a4⟩
  have e2 : (fun j => V' 35 (24 * i + j)) = (fun j => V 35 (24 * i + j)) := funext fun j => e _
  rw [e2]; exact a3 i hi
/-- what stands fast while boxes change -/
theorem CR_B {WR : Nat → Prop} (hC : CR h V x r nM nD nB nA nU nT nL) (fr : Fr no WR c s h h') (hr : ∀ b, WR b → hp_K h b = (108, 0) ∧ x + 30 ≤ b ∧ b ≤ x + 84) : (CW h' x ∧ hp_R h' x 0 = r ∧ CReg h' V x r nM nD nB ∧ CNow h' V x ∧ CAct h' V x nA nU ∧ CTug h' V x nT ∧ CInt h' V x nL ∧ CSep h' x r) ∧ ∀ a f, CDay h x a f → CDay h' x a f := by
  have hC0 := hC
  obtain ⟨hW, hrr, hG, hN, hA, hT, hX, hI, hS, hF⟩ := hC
  have al := hW.al
  have nk : ∀ b t u, hp_K h b = (t, u) → ¬ t = 108 → ¬ WR b := fun b t u e ht w => by
    have := (hr b w).1; rw [e] at this; cases this; exact ht rfl
  have nk1 : ∀ b, (hp_K h b).1 = 5 → ¬ WR b := fun b e w => by rw [(hr b w).1] at e; cases e
  have w0 : ¬ WR 0 := fun w => by
    have := (hr 0 w).1
    have z := al.2 0 (Or.inr rfl)
    rw [this] at z; cases z
  obtain ⟨g1, g2⟩ := CReg_fr al hG fr (fun b w => absurd w id) (fun b w q => by
    have k8 := (hr b w).1
    rcases q with q | q | q | q | q | q | q | q
    · rw [k8] at q; dsimp only at q; omega
    · rw [q] at w; exact w0 w
    · exact nk b 130 0 (by rw [q]; exact hG.2.1.1.1.1) (by decide) w
    · exact nk b 130 0 (by rw [q]; exact hG.2.2.1.1.1.1) (by decide) w
    · exact nk b 130 0 (by rw [q]; exact hG.2.2.2.1.1.1.1) (by decide) w
    · exact nk1 b (by rw [q.1]; exact LST_k5 hG.2.1.1 q.2) w
    · exact nk1 b (by rw [q.1]; exact LST_k5 hG.2.2.1.1 q.2) w
    · exact nk1 b (by rw [q.1]; exact LST_k5 hG.2.2.2.1.1 q.2) w)
  have stR : ∀ a k b, cw_R a k = some b → ¬ WR (x + a) := by
    intro a k b e
    unfold cw_R at e
    split at e <;> first | exact nk _ _ _ (hW.k rfl) (by decide) | cases e
  have dd : ∀ a f, CDay h x a f → CDay h' x a f := fun a f q => CDay_fr al q fr (fun b w => absurd w id) (fun b w => by have := hr b w; omega)
  have lf : ∀ l n, LST h l n → LST h' l n ∧ arr h' l = arr h l ∧ (∀ i, i < n → el h' l i = el h l i) := fun l n hL => LST_fr al hL fr id (nk _ _ _ hL.1.1 (by decide)) (fun w => nk1 _ (LST_k5 hL w.2) w.1) w0
  have eI : ∀ b t u, hp_K h b = (t, u) → ¬ t = 0 → hp_I h' b = hp_I h b := fun b t u e ht => fr.I (Al_lt al e ht) id
  have ekk : ∀ i, i < nA + nU → kk h' x nA nU i = kk h x nA nU i := by
    intro i hi
    unfold kk
    by_cases e : i < nA
    · rw [if_pos e, if_pos e]; exact (lf _ _ hA.1).2.2 i e
    · rw [if_neg e, if_neg e]; exact (lf _ _ hA.2.1).2.2 _ (by omega)
  refine ⟨⟨CW_fr hW fr stR, by rw [fr.R (Al_lt al hW.k0 (by decide)) (nk _ _ _ hW.k0 (by decide))]; exact hrr, g1, ?_, ⟨(lf _ _ hA.1).1, (lf _ _ hA.2.1).1, fun i hi => ?_, fun i j hi hj => ?_⟩, ⟨(lf _ _ hT.1).1, fun i hi => ?_, fun i j hi hj => ?_⟩, ?_, ?_⟩, dd⟩
  · unfold CNow
    rw [eI _ _ _ (hW.k (a := 7) rfl) (by decide), eI _ _ _ (hW.k (a := 8) rfl) (by decide), eI _ _ _ (hW.k (a := 9) rfl) (by decide)]
    exact hN
  · rw [ekk i hi]
    obtain ⟨q1, q2, q3⟩ := hA.2.2.1 i hi
    have la := Al_lt al q1 (by decide)
    refine ⟨by rw [fr.K la]; exact q1, q2, ?_⟩
    rw [fr.R la (fun w => by have := hr _ w; omega)]
    exact dd _ _ q3
  · rw [ekk i hi, ekk j hj]; exact hA.2.2.2 i j hi hj
  · rw [(lf _ _ hT.1).2.2 i hi]
    obtain ⟨q1, q2⟩ := hT.2.1 i hi
    rw [fr.K (Al_lt al q1 (by decide)), eI _ _ _ q1 (by decide)]
    exact ⟨q1, q2⟩
  · rw [(lf _ _ hT.1).2.2 i hi, (lf _ _ hT.1).2.2 j hj]; exact hT.2.2 i j hi hj
  · unfold CInt
    rw [eI _ _ _ hW.k0 (by decide), eI _ _ _ (hW.k (a := 17) rfl) (by decide), eI _ _ _ (hW.k (a := 13) rfl) (by decide)]
    exact hI
  · refine CSep_mk (l0 := x + 15) al hS fr (isL_lt hC0) g2 (fun l q _ => ?_) (Or.inl (lf _ _ hA.1).2.1)
    rcases q with e | e | e | e | e | e <;> rw [e]
    · exact (lf _ _ hA.1).2.1
    · exact (lf _ _ hA.2.1).2.1
    · exact (lf _ _ hT.1).2.1
    · exact (lf _ _ hG.2.1.1).2.1
    · exact (lf _ _ hG.2.2.1.1).2.1
    · exact (lf _ _ hG.2.2.2.1.1).2.1
theorem CW.l84 (hW : CW h x) : x + 84 < hp_n h := by
  have := hW.2.2.2.2 (x + 84) (by omega) (by omega)
  exact Al_lt' hW.al (by omega)
theorem C_image (hC : CR h V x r nM nD nB nA nU nT nL) {b : Int32} (hk0 : isIn b 0 2 = false → k (-1) h) (hk1 : isIn b 0 2 = true → ∀ h', CR h' (imgV V b.toNatClampNeg) x r nM nD nB nA nU nT nL → CFr x 3 30 h h' → k (V 34 20) h') : Rn (d + 2) n_X0_image 0 [am_r x, am_i b] [] h (kI k) := by
  have hC' := hC
  obtain ⟨hW, hr, hG, hN, hA, hT, hX, hI, hS, hF⟩ := hC'
  obtain ⟨⟨rK, r0⟩, ⟨hLM, hM⟩, ⟨hLD, hD⟩, ⟨hLO, hO⟩, ⟨⟨hlk, hla⟩, hlike⟩, ⟨htk, hwear⟩, gf, gu, gh, gs⟩ := hG
  obtain ⟨⟨⟨fM, fM6, fD, fD6, fB, fB10⟩, fO, ⟨fH, fSt⟩, fHr, fFr, fWr⟩, ⟨fA, fU, fAU, fT, fT30, fL, fL10⟩, fTp, fNow, fWere, fBox, fTg⟩ := hF
  have kLM := hLM.1.1; have zLM := hLM.2
  have kLD := hLD.1.1; have zLD := hLD.2
  have kLO := hLO.1.1; have zLO := hLO.2
  have al := hW.al
  have l84 := hW.l84
  by_cases e : isIn b 0 2 = true
  · obtain ⟨j, rfl, hj⟩ := isIn_nat (n := 3) (by omega) e
    rw [nI_clamp (by omega)] at hk1
    have kb : hp_K h (x + (30 + j)) = (108, 0) := by
      rcases (by omega : j = 0 ∨ j = 1 ∨ j = 2) with q | q | q <;> (subst q; exact hW.k rfl)
    have rb : hp_R h (x + 29) j = x + (30 + j) := by
      rcases (by omega : j = 0 ∨ j = 1 ∨ j = 2) with q | q | q <;> (subst q; exact hW.r rfl)
    refine rw_iload f_X0_image_0 rfl ?_
    refine rw_const f_X0_image_1 ?_
    refine rw_const f_X0_image_2 ?_
    refine rw_callS f_X0_image_3 rfl rfl rfl (rn_ki (C_isIn ?_))
    refine rw_ifT f_X0_image_6 (by rw [e]; decide) ?_
    refine rw_aload f_X0_image_11 rfl ?_
    refine rw_getR f_X0_image_12 (by first | assumption | exact hW.k rfl | exact hW.k0) (by first | assumption | exact hW.r0 rfl | exact hW.r rfl | rfl) ?_
    refine rw_iload f_X0_image_15 rfl ?_
    refine rw_aaldE f_X0_image_16 (by first | assumption | exact hW.k rfl | exact hW.k0) rfl (by omega) (by omega) (by first | assumption | exact hW.r0 rfl | exact hW.r rfl | rfl) ?_
    refine rw_aload f_X0_image_17 rfl ?_
    refine rw_getR f_X0_image_18 (by first | assumption | exact hW.k rfl | exact hW.k0) (by first | assumption | exact hW.r0 rfl | exact hW.r rfl | rfl) ?_
    refine rw_callS f_X0_image_21 rfl rfl rfl (rn_kr (C_copy al (nowK hW) hN (fun h1 hK1 hp1 f1 n1 => ?_)))
    skip
    have lb := Al_lt al kb (by decide)
    have kb1 : hp_K h1 (x + (30 + j)) = (108, 0) := by rw [f1.K lb]; exact kb
    have C1 := CR_fr hC f1 (fun b w => absurd w id)
    obtain ⟨⟨a1, a2, a3, a4, a5, a6, a7, a8⟩, dd⟩ := CR_B (h' := hp_sR h1 (x + (30 + j)) 0 (hp_n h)) C1 Fr_sR (fun b w => by have w' : b = x + (30 + j) := w; rw [w']; exact ⟨kb1, by omega, by omega⟩)
    have hW := a1
    refine rw_putR f_X0_image_24 kb1 ?_
    have e20 : hp_I (hp_sR h1 (x + (30 + j)) 0 (hp_n h)) (x + 7) 2 = V 34 20 := a4.2.1
    refine rw_aload f_X0_image_27 rfl ?_
    refine rw_getR f_X0_image_28 (by first | assumption | exact hW.k rfl | exact hW.k0) (by first | assumption | exact hW.r0 rfl | exact hW.r rfl | rfl) ?_
    refine rw_getI f_X0_image_31 (by first | assumption | exact hW.k rfl | exact hW.k0) ?_
    refine rw_iret f_X0_image_34 ?_
    rw [e20]
    have dn : CDay (hp_sR h1 (x + (30 + j)) 0 (hp_n h)) x (hp_n h) (V 34) := dd _ _ (CDay_of hK1 hp1 l84 (by omega) (by omega))
    refine hk1 e _ ⟨a1, a2, CReg_V (imgV_reg V j) a3, CNow_V (fun _ => imgV_o (by decide) (by decide)) a4, CAct_V (fun _ => imgV_o (by decide) (by decide)) a5, CTug_V (fun a j q => imgV_o (by omega) (by omega)) a6, ?_, CInt_V (fun a j q => imgV_o (by omega) (by omega)) a7, a8, WB_V (imgV_reg V j) hC.wb, WS_o (fun a j q => imgV_o (by omega) (by omega)) ?_ hC.ws⟩ (Fr_tr f1 Fr_sR (fun _ _ w => absurd w id) (fun _ _ w => absurd w id) (fun _ _ w => absurd w id) (fun b _ w => by left; have w' : b = x + (30 + j) := w; omega) (by omega) (by omega))
    · intro b hb
      by_cases eb : b = j
      · right
        subst eb
        rw [sR_same, imgV_has, if_pos rfl]
        exact ⟨by omega, rfl, CDay_congr (fun i hi => by rw [imgV_box hi, if_pos rfl]) dn⟩
      · rw [sR_ne (by omega), imgV_has, if_neg eb]
        rcases C1.2.2.2.2.2.2.1 b hb with q | ⟨q1, q2, q3⟩
        · exact Or.inl q
        · exact Or.inr ⟨q1, q2, CDay_congr (fun i hi => by rw [imgV_box hi, if_neg eb]) (dd _ _ q3)⟩
    · intro b hb eb i hi
      show ∃ t, t ≤ 99 ∧ imgV V j 51 (24 * b + (10 + i)) = nI t
      rw [imgV_box (by omega)]
      by_cases e3 : b = j
      · rw [if_pos e3]; exact fNow i hi
      · rw [if_neg e3]
        rw [imgV_has, if_neg e3] at eb
        exact fBox b hb eb i hi
  · have e' : isIn b 0 2 = false := by simpa using e
    refine rw_iload f_X0_image_0 rfl ?_
    refine rw_const f_X0_image_1 ?_
    refine rw_const f_X0_image_2 ?_
    refine rw_callS f_X0_image_3 rfl rfl rfl (rn_ki (C_isIn ?_))
    refine rw_ifF f_X0_image_6 (by rw [e']; decide) ?_
    refine rw_const f_X0_image_9 ?_
    refine rw_iret f_X0_image_10 ?_
    exact hk0 e'
/-- back to an image -/
def backV (V : am_M) (b : Nat) : am_M := fun a j => if a = 0 ∧ (j = 69 ∨ j = 70) then 0 else if a = 34 ∧ j < 23 then V 51 (24 * b + j) else V a j
theorem backV_o {b a j : Nat} (h1 : ¬ a = 34) (h2 : ¬ (a = 0 ∧ (j = 69 ∨ j = 70))) : backV V b a j = V a j := by unfold backV; rw [if_neg h2, if_neg (fun q => h1 q.1)]
theorem backV_n {b j : Nat} (hj : j < 23) : backV V b 34 j = V 51 (24 * b + j) := by unfold backV; rw [if_neg (by omega), if_pos ⟨rfl, hj⟩]
theorem backV_reg (V : am_M) (b : Nat) : ∀ a j, regA a j = true → backV V b a j = V a j := fun a j e => backV_o (by rintro rfl; cases e) (by rintro ⟨rfl, rfl | rfl⟩ <;> cases e)
theorem C_back (hC : CR h V x r nM nD nB nA nU nT nL) {b : Int32} (hk0 : (isIn b 0 2 && decide (V 50 b.toNatClampNeg = 1)) = false → k (-1) h) (hk1 : (isIn b 0 2 && decide (V 50 b.toNatClampNeg = 1)) = true → ∀ h', CR h' (backV V b.toNatClampNeg) x r nM nD nB 0 0 nT nL → CFr x 0 0 h h' → k (V 51 (24 * b.toNatClampNeg + 20)) h') : Rn (d + 2) n_X0_back 0 [am_r x, am_i b] [] h (kI k) := by
  have hC' := hC
  obtain ⟨hW, hr, hG, hN, hA, hT, hX, hI, hS, hF⟩ := hC'
  obtain ⟨⟨rK, r0⟩, ⟨hLM, hM⟩, ⟨hLD, hD⟩, ⟨hLO, hO⟩, ⟨⟨hlk, hla⟩, hlike⟩, ⟨htk, hwear⟩, gf, gu, gh, gs⟩ := hG
  obtain ⟨⟨⟨fM, fM6, fD, fD6, fB, fB10⟩, fO, ⟨fH, fSt⟩, fHr, fFr, fWr⟩, ⟨fA, fU, fAU, fT, fT30, fL, fL10⟩, fTp, fNow, fWere, fBox, fTg⟩ := hF
  have kLM := hLM.1.1; have zLM := hLM.2
  have kLD := hLD.1.1; have zLD := hLD.2
  have kLO := hLO.1.1; have zLO := hLO.2
  have al := hW.al
  by_cases e : isIn b 0 2 = true
  · rw [e, Bool.true_and] at hk0 hk1
    obtain ⟨j, rfl, hj⟩ := isIn_nat (n := 3) (by omega) e
    rw [nI_clamp (by omega)] at hk0 hk1
    have kb : hp_K h (x + (30 + j)) = (108, 0) := by
      rcases (by omega : j = 0 ∨ j = 1 ∨ j = 2) with q | q | q <;> (subst q; exact hW.k rfl)
    have rb : hp_R h (x + 29) j = x + (30 + j) := by
      rcases (by omega : j = 0 ∨ j = 1 ∨ j = 2) with q | q | q <;> (subst q; exact hW.r rfl)
    rcases hX j hj with q | ⟨q1, q2, q3⟩
    · have q' := q.1
      refine rw_iload f_X0_back_0 rfl ?_
      refine rw_const f_X0_back_1 ?_
      refine rw_const f_X0_back_2 ?_
      refine rw_callS f_X0_back_3 rfl rfl rfl (rn_ki (C_isIn ?_))
      refine rw_ifF f_X0_back_6 (by rw [e]; decide) ?_
      refine rw_aload f_X0_back_9 rfl ?_
      refine rw_getR f_X0_back_10 (by first | assumption | exact hW.k rfl | exact hW.k0) (by first | assumption | exact hW.r0 rfl | exact hW.r rfl | rfl) ?_
      refine rw_iload f_X0_back_13 rfl ?_
      refine rw_aaldE f_X0_back_14 (by first | assumption | exact hW.k rfl | exact hW.k0) rfl (by omega) (by omega) (by first | assumption | exact hW.r0 rfl | exact hW.r rfl | rfl) ?_
      refine rw_getR f_X0_back_15 (by first | assumption | exact hW.k rfl | exact hW.k0) (by first | assumption | exact hW.r0 rfl | exact hW.r rfl | rfl) ?_
      skip
      refine rw_null f_X0_back_18 (fun c1 => ?_) (fun c1 => absurd rfl c1)
      refine rw_const f_X0_back_21 ?_
      refine rw_iret f_X0_back_22 ?_
      exact hk0 (by rw [q.2]; decide)
    · obtain ⟨⟨g1, g2, g3, g4, g5, g6⟩, g7⟩ := q3
      have z1 : ¬ hp_R h (x + (30 + j)) 0 = 0 := q1
      refine rw_iload f_X0_back_0 rfl ?_
      refine rw_const f_X0_back_1 ?_
      refine rw_const f_X0_back_2 ?_
      refine rw_callS f_X0_back_3 rfl rfl rfl (rn_ki (C_isIn ?_))
      refine rw_ifF f_X0_back_6 (by rw [e]; decide) ?_
      refine rw_aload f_X0_back_9 rfl ?_
      refine rw_getR f_X0_back_10 (by first | assumption | exact hW.k rfl | exact hW.k0) (by first | assumption | exact hW.r0 rfl | exact hW.r rfl | rfl) ?_
      refine rw_iload f_X0_back_13 rfl ?_
      refine rw_aaldE f_X0_back_14 (by first | assumption | exact hW.k rfl | exact hW.k0) rfl (by omega) (by omega) (by first | assumption | exact hW.r0 rfl | exact hW.r rfl | rfl) ?_
      refine rw_getR f_X0_back_15 (by first | assumption | exact hW.k rfl | exact hW.k0) (by first | assumption | exact hW.r0 rfl | exact hW.r rfl | rfl) ?_
      skip
      refine rw_null f_X0_back_18 (fun c1 => absurd c1 q1) (fun c1 => ?_)
      refine rw_aload f_X0_back_23 rfl ?_
      refine rw_getR f_X0_back_24 (by first | assumption | exact hW.k rfl | exact hW.k0) (by first | assumption | exact hW.r0 rfl | exact hW.r rfl | rfl) ?_
      refine rw_aload f_X0_back_27 rfl ?_
      refine rw_getR f_X0_back_28 (by first | assumption | exact hW.k rfl | exact hW.k0) (by first | assumption | exact hW.r0 rfl | exact hW.r rfl | rfl) ?_
      refine rw_iload f_X0_back_31 rfl ?_
      refine rw_aaldE f_X0_back_32 (by first | assumption | exact hW.k rfl | exact hW.k0) rfl (by omega) (by omega) (by first | assumption | exact hW.r0 rfl | exact hW.r rfl | rfl) ?_
      refine rw_getR f_X0_back_33 (by first | assumption | exact hW.k rfl | exact hW.k0) (by first | assumption | exact hW.r0 rfl | exact hW.r rfl | rfl) ?_
      refine rw_callV f_X0_back_36 rfl (by first | assumption | exact hW.k rfl | exact hW.k0) (by first | assumption | exact hW.1 | omega | exact Nat.succ_ne_zero _) rfl rfl rfl rfl (rn_kv (C_dayOf (nowK hW) ⟨g1, rfl, rfl, g2, g3⟩ g7 (by omega) (by omega) (fun h1 on1 hp1 => ?_)))
      skip
      have on1' : On (nowW x) h h1 := on1.w (fun b w => by show x + 7 ≤ b ∧ b ≤ x + 9; omega)
      have C1 := CR_nowOn hC on1' hp1 (fBox j hj q2)
      have L15 := C1.2.2.2.2.1.1
      have L16 := C1.2.2.2.2.1.2.1
      have hW1 := C1.1
      have al1 := hW1.al
      have S1 := C1.2.2.2.2.2.2.2.2.1
      have z15 := L15.1
      refine rw_aload f_X0_back_39 rfl ?_
      refine rw_getR f_X0_back_40 hW1.k0 (hW1.r0 rfl) ?_
      refine rw_callV f_X0_back_43 rfl z15.1 L15.2 rfl rfl rfl rfl (rn_kv (J_clear z15 (fun h2 hL2 f2 => ?_)))
      have k15 : 0 < lcap h1 (x + 15) → (hp_K h1 (arr h1 (x + 15))).1 = 5 := LST_k5 L15
      have k16 : 0 < lcap h1 (x + 16) → (hp_K h1 (arr h1 (x + 16))).1 = 5 := LST_k5 L16
      have nst : ∀ a t u, cw_K a = some (t, u) → ¬ t = 5 → ¬ (x + a = arr h1 (x + 15) ∧ 0 < lcap h1 (x + 15)) := fun a t u e ht q => by have := k15 q.2; rw [← q.1, hW1.k e] at this; exact ht this
      have hW2 : CW h2 x := CW_fr hW1 f2 (fun a kk_ b e => by
        unfold cw_R at e
        split at e <;> first | exact nst _ _ _ rfl (by decide) | cases e)
      have n0 : ¬ (0 = arr h1 (x + 15) ∧ 0 < lcap h1 (x + 15)) := fun q => by have := k15 q.2; rw [← q.1, al1.2 0 (Or.inr rfl)] at this; cases this
      have L16b := LST_fr al1 L16 f2 (show ¬ x + 16 = x + 15 by omega) (nst 16 130 0 rfl (by decide)) (fun w => by
        have := S1.1 (x + 15) (x + 16) (Or.inl rfl) (Or.inr (Or.inl rfl)) (k15 w.1.2) w.1.1.symm
        omega) n0
      have z16 := L16b.1.1
      refine rw_aload f_X0_back_46 rfl ?_
      refine rw_getR f_X0_back_47 hW2.k0 (hW2.r0 rfl) ?_
      refine rw_callV f_X0_back_50 rfl z16.1 L16b.1.2 rfl rfl rfl rfl (rn_kv (J_clear z16 (fun h3 hL3 f3 => ?_)))
      have e16 : arr h2 (x + 16) = arr h1 (x + 16) := L16b.2.1
      have a16 := arr_lt al1 L16
      have a15 := arr_lt al1 L15
      have c16 : lcap h2 (x + 16) = lcap h1 (x + 16) := by show (hp_K h2 (arr h2 (x + 16))).2 = _; rw [e16, f2.K a16]
      rw [e16, c16] at hL3 f3
      have fr : Fr (fun b => b = x + 15 ∨ b = x + 16) (fun b => (b = arr h1 (x + 15) ∧ 0 < lcap h1 (x + 15)) ∨ (b = arr h1 (x + 16) ∧ 0 < lcap h1 (x + 16))) 0 0 h1 h3 := Fr_tr f2 f3 (fun _ _ w => Or.inl w) (fun _ _ w => Or.inl w) (fun _ _ w => Or.inr w) (fun _ _ w => Or.inr w) (by omega) (by omega)
      obtain ⟨⟨a1, a2, a3, a4, a5, a6⟩, ⟨b1, b2, b3⟩, hi2, hr2⟩ := CR_A C1 fr (fun b w => by omega) (fun b w => by
        rcases w with w | w
        · exact Or.inr (Or.inl ⟨Or.inl w.1, by rw [w.1]; exact k15 w.2⟩)
        · exact Or.inr (Or.inl ⟨Or.inr w.1, by rw [w.1]; exact k16 w.2⟩))
      have e15c : arr h3 (x + 15) = arr h1 (x + 15) := by
        show hp_R h3 (x + 15) 1 = _
        rw [fr.R (Al_lt al1 L15.1.1 (by decide)) (fun w => ?_)]
        rcases w with w | w
        · have := k15 w.2; rw [← w.1, L15.1.1] at this; cases this
        · have := k16 w.2; rw [← w.1, L15.1.1] at this; cases this
      have hL2' : AL h3 (x + 15) 0 (arr h1 (x + 15)) (lcap h1 (x + 15)) := AL_fr (f2.al al1) hL2 f3 (show ¬ x + 15 = x + 16 by omega) (fun w => by have := k16 w.2; rw [← w.1, L15.1.1] at this; cases this) (fun w => by
        have := S1.1 (x + 16) (x + 15) (Or.inr (Or.inl rfl)) (Or.inl rfl) (k16 w.1.2) w.1.1.symm
        omega) (fun q => by have := k16 q.2; rw [← q.1, al1.2 0 (Or.inr rfl)] at this; cases this)
      have hW := a1
      have e20 : hp_I h3 (x + 7) 2 = V 51 (24 * j + 20) := by
        rw [fr.I (Al_lt al1 (nowK hW1).1 (by decide)) (by omega)]; exact hp1.2.1
      refine rw_aload f_X0_back_53 rfl ?_
      refine rw_getR f_X0_back_54 (by first | assumption | exact hW.k rfl | exact hW.k0) (by first | assumption | exact hW.r0 rfl | exact hW.r rfl | rfl) ?_
      refine rw_getI f_X0_back_57 (by first | assumption | exact hW.k rfl | exact hW.k0) ?_
      refine rw_iret f_X0_back_60 ?_
      rw [e20]
      have o : ∀ {a i : Nat}, ¬ a = 34 → nowV V (fun i => V 51 (24 * j + i)) a i = V a i := fun h1 => nowV_o h1
      have reg : ∀ a i, regA a i = true → backV V j a i = nowV V (fun i => V 51 (24 * j + i)) a i := fun a i e => by rw [backV_reg V j a i e, nowV_reg _ _ a i e]
      refine hk1 (decide_eq_true q2) h3 ⟨a1, a2, CReg_V reg a3, ?_, ?_, CTug_V (fun a i q => by rw [backV_o (by omega) (by omega), o (by omega)]) a4, CBox_V (fun a i q => by rw [backV_o (by omega) (by omega), o (by omega)]) a5, CInt_V (fun a i q => by rw [backV_o (by omega) (by omega), o (by omega)]) a6, ?_, WB_V reg C1.wb, ?_⟩ (CFr_tr (CFr_now on1') (Fr_w (c := 0) (s := 0) fr (fun b _ w => by left; omega) (fun b _ w => ?_) (Nat.le_refl _) (Nat.le_refl _)) (Nat.le_refl _) (Nat.le_refl _))
      · refine CNow_dp (f := fun i => V 51 (24 * j + i)) ?_ (fun i hi => backV_n hi)
        unfold DP
        rw [fr.I (Al_lt al1 (nowK hW1).1 (by decide)) (by omega), fr.I (Al_lt al1 (nowK hW1).2.2.2.1 (by decide)) (by omega), fr.I (Al_lt al1 (nowK hW1).2.2.2.2.1 (by decide)) (by omega)]
        exact hp1
      · refine CAct_mk (K := fun _ => 0) ⟨?_, L15.2⟩ ⟨?_, L16.2⟩ (fun i hi => absurd hi (Nat.not_lt_zero i)) (fun i hi => absurd hi (Nat.not_lt_zero i)) (fun i hi => absurd hi (Nat.not_lt_zero i)) (fun i _ hi => absurd hi (Nat.not_lt_zero i))
        · have c : lcap h3 (x + 15) = lcap h1 (x + 15) := by show (hp_K h3 (arr h3 (x + 15))).2 = _; rw [e15c, fr.K a15]
          rw [e15c, c]; exact hL2'
        · have c0 : arr h3 (x + 16) = arr h1 (x + 16) := hL3.2.1
          have c : lcap h3 (x + 16) = lcap h1 (x + 16) := by show (hp_K h3 (arr h3 (x + 16))).2 = _; rw [c0, fr.K a16]
          rw [c0, c]; exact hL3
      · refine CSep_mk (l0 := x + 15) al1 S1 fr (isL_lt C1) b1 (fun l q _ => ?_) (Or.inl e15c)
        rcases q with e | e | e | e | e | e <;> rw [e]
        · exact e15c
        · exact hL3.2.1
        · exact b2
        · exact b3 0 (by omega)
        · exact b3 1 (by omega)
        · exact b3 2 (by omega)
      · obtain ⟨⟨s1, s2, s3, s4, s5, s6, s7⟩, sT, s8, s9, s10, s11⟩ := hC.ws
        refine ⟨⟨rfl, rfl, by omega, by rw [backV_o (by decide) (by decide)]; exact s4, s5, by rw [backV_o (by decide) (by decide)]; exact s6, s7⟩, by rw [backV_o (by decide) (by decide)]; exact sT, ?_, fun i hi => absurd hi (Nat.not_lt_zero i), ?_, ?_⟩
        · intro b hb; rw [backV_n (by omega)]; exact fBox j hj q2 b hb
        · intro b hb eb
          rw [backV_o (by decide) (by omega)] at eb
          intro i hi
          show ∃ t, t ≤ 99 ∧ backV V j 51 _ = nI t
          rw [backV_o (by decide) (by omega)]
          exact s10 b hb eb i hi
        · intro i hi; rw [backV_o (by decide) (by omega)]; exact s11 i hi
      · rcases w with w | w
        · rw [show b = _ from w.1]; exact hW1.om (by rw [k15 w.2]; decide)
        · rw [show b = _ from w.1]; exact hW1.om (by rw [k16 w.2]; decide)
  · have e' : isIn b 0 2 = false := by simpa using e
    rw [e', Bool.false_and] at hk0
    refine rw_iload f_X0_back_0 rfl ?_
    refine rw_const f_X0_back_1 ?_
    refine rw_const f_X0_back_2 ?_
    refine rw_callS f_X0_back_3 rfl rfl rfl (rn_ki (C_isIn ?_))
    refine rw_ifT f_X0_back_6 (by rw [e']; decide) ?_
    refine rw_const f_X0_back_21 ?_
    refine rw_iret f_X0_back_22 ?_
    exact hk0 rfl
end CActs3
