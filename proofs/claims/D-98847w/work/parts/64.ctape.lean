/-! THE CLASS: the tape, what is laid -/
section CTape
variable {c s d : Nat} {h h' : am_H} {V : am_M} {x r nM nD nB nA nU nT nL : Nat} {k : Int32 → am_H → Prop}
/-- what stands fast while ints of the class's object, the tape, the laid row and scratch change -/
theorem CR_I {WI : Nat → Prop} (hC : CR h V x r nM nD nB nA nU nT nL) (fr : Fr WI no c s h h') (hi : ∀ b, WI b → b = x ∨ b = x + 13 ∨ b = x + 17 ∨ Scr h x b) : CW h' x ∧ hp_R h' x 0 = r ∧ CReg h' V x r nM nD nB ∧ CNow h' V x ∧ CAct h' V x nA nU ∧ CTug h' V x nT ∧ CBox h' V x ∧ CSep h' x r := by
  have hC0 := hC
  obtain ⟨hW, hrr, hG, hN, hA, hT, hX, hI, hS, hF⟩ := hC
  have al := hW.al
  have k0 := hW.k0
  have k13 : hp_K h (x + 13) = (2, 1600) := hW.k rfl
  have k17 : hp_K h (x + 17) = (1, 10) := hW.k rfl
  -- kinds and places that do not change
  have nI : ∀ b t u, hp_K h b = (t, u) → ¬ (t = 100 ∨ t = 1 ∨ t = 2 ∨ t = 3 ∨ t = 4 ∨ t = 102 ∨ t = 103 ∨ t = 104 ∨ t = 106 ∨ t = 107 ∨ t = 109) → ¬ WI b := by
    intro b t u e ht w
    rcases hi b w with q | q | q | q
    · rw [q, k0] at e; cases e; omega
    · rw [q, k13] at e; cases e; omega
    · rw [q, k17] at e; cases e; omega
    · unfold Scr at q
      rw [e] at q
      dsimp only at q
      have k10 : hp_K h (x + 10) = (102, 0) := hW.k rfl
      have k11 : hp_K h (x + 11) = (1, 10) := hW.k rfl
      have k12 : hp_K h (x + 12) = (1, 10) := hW.k rfl
      rcases q with q | q | q | q | q | q | q
      · omega
      · omega
      · omega
      · omega
      · omega
      · rcases (by omega : b = x + 10 ∨ b = x + 11 ∨ b = x + 12) with z | z | z
        · rw [z, k10] at e; cases e; omega
        · rw [z, k11] at e; cases e; omega
        · rw [z, k12] at e; cases e; omega
      · omega
  have nA_ : ∀ b t u, hp_K h b = (t, u) → (b < x + 10 ∨ x + 84 < b) → ¬ b = x → ¬ (t = 103 ∨ t = 104 ∨ t = 106 ∨ t = 107 ∨ (t = 1 ∧ u = 4) ∨ (t = 1 ∧ u = 6) ∨ (t = 3 ∧ u = 1024) ∨ (t = 4 ∧ u = 100)) → ¬ WI b := by
    intro b t u e ha n1 ht w
    rcases hi b w with q | q | q | q
    · exact n1 q
    · omega
    · omega
    · unfold Scr at q
      rw [e] at q
      dsimp only at q
      omega
  have w0 : ¬ no 0 := id
  obtain ⟨g1, g2⟩ := CReg_fr al hG fr (fun b w q => by
    rcases q with q | q | q | q | q
    · exact nI b (hp_K h b).1 (hp_K h b).2 rfl (by omega) w
    · exact nI b 130 0 (by rw [q]; exact hG.2.1.1.1.1) (by decide) w
    · exact nI b 130 0 (by rw [q]; exact hG.2.2.1.1.1.1) (by decide) w
    · exact nI b 130 0 (by rw [q]; exact hG.2.2.2.1.1.1.1) (by decide) w
    · have k3 := hG.2.2.2.2.1.1
      exact nA_ b 1 36 (by rw [q]; exact k3.1) (by rw [q]; omega) (by intro e; rw [← q, e, k0] at k3; cases k3.1) (by decide) w) (fun b w => absurd w id)
  have dd : ∀ a f, CDay h x a f → CDay h' x a f := fun a f q => CDay_fr al q fr (fun b w q => by
    rcases hi b w with e | e | e | e
    · omega
    · omega
    · omega
    · unfold Scr at e
      rcases q.2 with z | z
      · omega
      · rw [z] at e; simp at e; omega) (fun b w => absurd w id)
  have lf : ∀ l n, LST h l n → LST h' l n ∧ arr h' l = arr h l ∧ (∀ i, i < n → el h' l i = el h l i) := fun l n hL => LST_fr al hL fr (nI _ _ _ hL.1.1 (by decide)) id (fun w => w.1) id
  have l15 := lf _ _ hA.1
  have l16 := lf _ _ hA.2.1
  have l28 := lf _ _ hT.1
  have ekk : ∀ i, i < nA + nU → kk h' x nA nU i = kk h x nA nU i := by
    intro i hi
    unfold kk
    by_cases e : i < nA
    · rw [if_pos e, if_pos e]; exact l15.2.2 i e
    · rw [if_neg e, if_neg e]; exact l16.2.2 _ (by omega)
  refine ⟨CW_fr hW fr (fun _ _ _ _ => id), by rw [fr.R (Al_lt al k0 (by decide)) id]; exact hrr, g1, ?_, ⟨l15.1, l16.1, fun i hi => ?_, fun i j hi hj => ?_⟩, ⟨l28.1, fun i hi => ?_, fun i j hi hj => ?_⟩, fun b hb => ?_, ?_⟩
  · unfold CNow
    have k7 : hp_K h (x + 7) = (102, 0) := hW.k rfl
    have k8 : hp_K h (x + 8) = (1, 10) := hW.k rfl
    have k9 : hp_K h (x + 9) = (1, 10) := hW.k rfl
    rw [fr.I (Al_lt al k7 (by decide)) (nA_ _ _ _ k7 (by omega) (by omega) (by decide)), fr.I (Al_lt al k8 (by decide)) (nA_ _ _ _ k8 (by omega) (by omega) (by decide)), fr.I (Al_lt al k9 (by decide)) (nA_ _ _ _ k9 (by omega) (by omega) (by decide))]
    exact hN
  · rw [ekk i hi]
    obtain ⟨q1, q2, q3⟩ := hA.2.2.1 i hi
    have la := Al_lt al q1 (by decide)
    refine ⟨by rw [fr.K la]; exact q1, q2, ?_⟩
    rw [fr.R la id]
    exact dd _ _ q3
  · rw [ekk i hi, ekk j hj]; exact hA.2.2.2 i j hi hj
  · rw [l28.2.2 i hi]
    obtain ⟨q1, q2⟩ := hT.2.1 i hi
    have lb := Al_lt al q1 (by decide)
    rw [fr.K lb, fr.I lb (nI _ _ _ q1 (by decide))]
    exact ⟨q1, q2⟩
  · rw [l28.2.2 i hi, l28.2.2 j hj]; exact hT.2.2 i j hi hj
  · have e : hp_K h (x + (30 + b)) = (108, 0) := by
      rcases (by omega : b = 0 ∨ b = 1 ∨ b = 2) with q | q | q <;> (subst q; exact hW.k rfl)
    rw [fr.R (Al_lt al e (by decide)) id]
    rcases hX b hb with q | ⟨q1, q2, q3⟩
    · exact Or.inl q
    · exact Or.inr ⟨q1, q2, dd _ _ q3⟩
  · refine CSep_mk (l0 := x + 15) al hS fr (isL_lt hC0) g2 (fun l q _ => ?_) (Or.inl l15.2.1)
    rcases q with e | e | e | e | e | e <;> rw [e]
    · exact l15.2.1
    · exact l16.2.1
    · exact l28.2.1
    · exact (lf _ _ hG.2.1.1).2.1
    · exact (lf _ _ hG.2.2.1.1).2.1
    · exact (lf _ _ hG.2.2.2.1.1).2.1
/-- ints at places of the object change, and what they tell -/
theorem CR_I2 {WI : Nat → Prop} {V' : am_M} {nL' : Nat} (hC : CR h V x r nM nD nB nA nU nT nL) (fr : Fr WI no c s h h') (hi : ∀ b, WI b → b = x ∨ b = x + 13 ∨ b = x + 17 ∨ Scr h x b) (e : ∀ a j, ¬ ((a = 0 ∧ (j = 1 ∨ j = 94 ∨ j = 2 ∨ j = 3 ∨ j = 85)) ∨ a = 1 ∨ a = 42) → V' a j = V a j) (hI : CInt h' V' x nL') (hl : V' 0 85 = nI nL' ∧ nL' ≤ 10) (ht : ∃ t, V' 0 1 = nI t ∧ t ≤ 1600) : CR h' V' x r nM nD nB nA nU nT nL' := by
  obtain ⟨a1, a2, a3, a4, a5, a6, a7, a8⟩ := CR_I hC fr hi
  have reg : ∀ a j, regA a j = true → V' a j = V a j := fun a j q => e a j (by
    rintro (⟨rfl, rfl | rfl | rfl | rfl | rfl⟩ | rfl | rfl) <;> cases q)
  obtain ⟨⟨s1, s2, s3, s4, s5, s6, s7⟩, sT, s8, s9, s10, s11⟩ := hC.ws
  refine ⟨a1, a2, CReg_V reg a3, CNow_V (fun _ => e _ _ (by omega)) a4, CAct_V (fun _ => e _ _ (by omega)) a5, CTug_V (fun a j q => e _ _ (by omega)) a6, CBox_V (fun a j q => e _ _ (by omega)) a7, hI, a8, WB_V reg hC.wb, ⟨by rw [e _ _ (by omega)]; exact s1, by rw [e _ _ (by omega)]; exact s2, s3, by rw [e _ _ (by omega)]; exact s4, s5, hl.1, hl.2⟩, ht, ?_, ?_, ?_, ?_⟩
  · intro b hb; rw [e _ _ (by omega)]; exact s8 b hb
  · intro i hi b hb
    show ∃ t, t ≤ 99 ∧ V' 35 _ = nI t
    rw [e _ _ (by omega)]; exact s9 i hi b hb
  · intro b hb eb
    rw [e _ _ (by omega)] at eb
    intro i hi
    show ∃ t, t ≤ 99 ∧ V' 51 _ = nI t
    rw [e _ _ (by omega)]; exact s10 b hb eb i hi
  · intro i hi; rw [e _ _ (by omega)]; exact s11 i hi
/-- four bytes more on the tape -/
def bytV (V : am_M) (t : Nat) (v : Int32) : am_M := fun a j => if a = 0 ∧ j = 1 then nI (t + 4) else if a = 1 ∧ j = t then (v >>> (24 &&& 31)) &&& 255 else if a = 1 ∧ j = t + 1 then (v >>> (16 &&& 31)) &&& 255 else if a = 1 ∧ j = t + 2 then (v >>> (8 &&& 31)) &&& 255 else if a = 1 ∧ j = t + 3 then (v >>> (0 &&& 31)) &&& 255 else V a j
theorem bytV_o {t a j : Nat} {v : Int32} (h1 : ¬ (a = 1 ∧ t ≤ j ∧ j < t + 4)) (h2 : ¬ (a = 0 ∧ j = 1)) : bytV V t v a j = V a j := by
  unfold bytV
  rw [if_neg h2, if_neg (by omega), if_neg (by omega), if_neg (by omega), if_neg (by omega)]
theorem byte_255 (y : Int32) : vp_nar .byte (y.toInt8.toInt32) &&& 255 = y &&& 255 := by
  rw [vp_nar_byte]
  apply Int32.toBitVec_inj.mp
  simp only [Int32.toBitVec_and, Int8.toBitVec_toInt32, Int32.toBitVec_toInt8]
  apply BitVec.eq_of_getLsbD_eq
  intro i hi
  have e : ∀ i, i < 32 → (255 : Int32).toBitVec.getLsbD i = decide (i < 8) := by decide +kernel
  simp only [BitVec.getLsbD_and, e i hi, BitVec.getLsbD_signExtend, BitVec.getLsbD_setWidth]
  by_cases h8 : i < 8
  · simp [h8, hi]
  · simp [h8]
theorem C_bytes (hC : CR h V x r nM nD nB nA nU nT nL) {t : Nat} (ht : V 0 1 = nI t) (ht4 : t + 4 ≤ 1600) {v : Int32} {k : am_H → Prop} (hk : ∀ h', CR h' (bytV V t v) x r nM nD nB nA nU nT nL → CFr x 0 0 h h' → k h') : Rn d n_X0_bytes 0 [am_r x, am_i v, am_u] [] h (kV k) := by
  have hC' := hC
  obtain ⟨hW, hr, hG, hN, hA, hT, hX, hI, hS, hF⟩ := hC'
  obtain ⟨⟨rK, r0⟩, ⟨hLM, hM⟩, ⟨hLD, hD⟩, ⟨hLO, hO⟩, ⟨⟨hlk, hla⟩, hlike⟩, ⟨htk, hwear⟩, gf, gu, gh, gs⟩ := hG
  obtain ⟨⟨⟨fM, fM6, fD, fD6, fB, fB10⟩, fO, ⟨fH, fSt⟩, fHr, fFr, fWr⟩, ⟨fA, fU, fAU, fT, fT30, fL, fL10⟩, fTp, fNow, fWere, fBox, fTg⟩ := hF
  have kLM := hLM.1.1; have zLM := hLM.2
  have kLD := hLD.1.1; have zLD := hLD.2
  have kLO := hLO.1.1; have zLO := hLO.2
  obtain ⟨⟨i1, i2, i3, i4, i5, i6⟩, i7, i8⟩ := hI
  have kx := hW.k0
  have k13 : hp_K h (x + 13) = (2, 1600) := hW.k rfl
  have r13 : hp_R h x 3 = x + 13 := hW.r0 rfl
  have step : ∀ {K : am_R → am_H → Prop} {g : am_H} {q : Nat} {s s' : Int32}, g.2 = h.2 → hp_I g x 5 = nI q → q < 1600 → ¬ s < 0 → s + -8 = s' → Rn d n_X0_bytes 3 [am_r x, am_i v, am_i s'] [] (hp_sI (hp_sI g (x + 13) q (vp_nar .byte (v >>> (s &&& 31)).toInt8.toInt32)) x 5 (nI (q + 1))) K → Rn d n_X0_bytes 3 [am_r x, am_i v, am_i s] [] g K := by
    intro K g q s s' eg e5 hq hs es kk
    have kx' : hp_K g x = (100, 0) := by show g.2.2.2.1 x = _; rw [eg]; exact kx
    have k13' : hp_K g (x + 13) = (2, 1600) := by show g.2.2.2.1 (x + 13) = _; rw [eg]; exact k13
    have r13' : hp_R g x 3 = x + 13 := by show g.2.2.1 x 3 = _; rw [eg]; exact r13
    refine rw_iload f_X0_bytes_3 rfl ?_
    refine rw_ifF f_X0_bytes_4 (decide_eq_false hs) ?_
    refine rw_aload f_X0_bytes_7 rfl ?_
    refine rw_getR f_X0_bytes_8 (by first | assumption | exact hW.k rfl | exact hW.k0) (by first | assumption | exact hW.r0 rfl | exact hW.r rfl | rfl) ?_
    refine rw_aload f_X0_bytes_11 rfl ?_
    refine rw_getI f_X0_bytes_12 (by first | assumption | exact hW.k rfl | exact hW.k0) ?_
    rw [e5]
    refine rw_iload f_X0_bytes_15 rfl ?_
    refine rw_iload f_X0_bytes_16 rfl ?_
    refine rw_ishr f_X0_bytes_17 ?_
    refine rw_un f_X0_bytes_18 ?_
    refine rw_bastE (j := q) f_X0_bytes_19 (by first | assumption | exact hW.k rfl | exact hW.k0) (by first | rfl | exact nI_addl _ _ | (simp only [nI, Int32.ofNat_add, Int32.ofNat_mul]; rfl) | (simp only [nI_addl, nI_mull, nI_lit, nI_1']; done) | (simp only [nI_1, nI_0, nI_addl, nI_mull, ← nI_succ]; rfl)) (by omega) (by omega) ?_
    refine rw_aload f_X0_bytes_20 rfl ?_
    first | refine rw_dupr f_X0_bytes_21 ?_ | refine rw_dupi f_X0_bytes_21 ?_
    refine rw_getI f_X0_bytes_22 (by first | assumption | exact hW.k rfl | exact hW.k0) ?_
    rw [show hp_I (hp_sI g (x + 13) q (vp_nar .byte (f_i2b (v >>> (s &&& 31))))) x 5 = nI q from (sI_ne (by omega)).trans e5]
    refine rw_const f_X0_bytes_25 ?_
    refine rw_iadd f_X0_bytes_26 ?_
    refine rw_putI f_X0_bytes_27 (by first | assumption | exact hW.k rfl | exact hW.k0) ?_
    refine rw_iinc f_X0_bytes_30 rfl rfl ?_
    refine rw_goto f_X0_bytes_33 ?_
    rw [nI_1', es]
    exact kk
  have e5 : hp_I h x 5 = nI t := by rw [i1]; exact ht
  refine rw_const f_X0_bytes_0 ?_
  refine rw_istore f_X0_bytes_2 rfl rfl ?_
  refine step (s' := 16) rfl e5 (by omega) (by decide) (by decide) ?_
  refine step (s' := 8) rfl sI_same (by omega) (by decide) (by decide) ?_
  refine step (s' := 0) rfl sI_same (by omega) (by decide) (by decide) ?_
  refine step (s' := -8) rfl sI_same (by omega) (by decide) (by decide) ?_
  generalize hg : hp_sI _ x 5 (nI (t + 1 + 1 + 1 + 1)) = g
  have on : On (fun b => b = x ∨ b = x + 13) h g := by
    rw [← hg]
    have A : ∀ b, b = x → (b = x ∨ b = x + 13) := fun b e => Or.inl e
    exact ((((((((On_sI (Or.inr rfl)).tr (On_sI (Or.inl rfl))).tr (On_sI (Or.inr rfl))).tr (On_sI (Or.inl rfl))).tr (On_sI (Or.inr rfl))).tr (On_sI (Or.inl rfl))).tr (On_sI (Or.inr rfl))).tr (On_sI (Or.inl rfl)))
  refine rw_iload f_X0_bytes_3 rfl ?_
  refine rw_ifT f_X0_bytes_4 (by decide) ?_
  refine rw_vret f_X0_bytes_36 ?_
  skip
  have on' := on.fr
  refine hk g (CR_I2 (nL' := nL) hC on' (fun b w => w.elim Or.inl (fun w => Or.inr (Or.inl w))) (fun a j q => bytV_o (by omega) (by omega)) ⟨⟨?_, ?_, ?_, ?_, ?_, ?_⟩, fun j hj => ?_, fun j hj => ?_⟩ ⟨?_, fL10⟩ ⟨t + 4, rfl, by omega⟩) (Fr_w on' (fun b _ w => by left; omega) (fun _ _ w => absurd w id) (Nat.le_refl _) (Nat.le_refl _))
  · rw [← hg]; exact sI_same
  · rw [← hg, bytV_o (by omega) (by omega), ← i2]; simp [sI_if]
  · rw [← hg, bytV_o (by omega) (by omega), ← i3]; simp [sI_if]
  · rw [← hg, bytV_o (by omega) (by omega), ← i4]; simp [sI_if]
  · rw [← hg, ← i5]; simp [sI_if]
  · rw [bytV_o (by omega) (by omega)]; exact i6
  · rw [on.I (by omega), bytV_o (by omega) (by omega)]; exact i7 j hj
  · rw [← hg]
    simp only [sI_if, bytV]
    by_cases c3 : j = t + 3
    · subst c3
      simp [byte_255]
    · by_cases c2 : j = t + 2
      · subst c2
        simp [byte_255]
      · by_cases c1 : j = t + 1
        · subst c1
          simp [byte_255]
        · by_cases c0 : j = t
          · subst c0
            simp
            rw [if_neg (show ¬ j = j + 1 + 1 + 1 by omega), if_neg (show ¬ j = j + 1 + 1 by omega)]
            exact byte_255 _
          · simp [c0, c1, c2, c3, Nat.add_assoc]
            exact i8 j hj
  · rw [bytV_o (by omega) (by omega)]; exact i6
/-- twenty bytes more -/
def feedV (V : am_M) (t : Nat) (a b c d e : Int32) : am_M := bytV (bytV (bytV (bytV (bytV V t a) (t + 4) b) (t + 8) c) (t + 12) d) (t + 16) e
theorem C_feed (hC : CR h V x r nM nD nB nA nU nT nL) {t : Nat} (ht : V 0 1 = nI t) (htt : t ≤ 1600) {a b c_ d_ e_ : Int32} (hk0 : ¬ t + 20 ≤ 1600 → k (-1) h) (hk1 : t + 20 ≤ 1600 → ∀ h', CR h' (feedV V t a b c_ d_ e_) x r nM nD nB nA nU nT nL → CFr x 0 0 h h' → k (nI (t + 20)) h') : Rn (d + 1) n_X0_feed 0 [am_r x, am_i a, am_i b, am_i c_, am_i d_, am_i e_] [] h (kI k) := by
  have hC' := hC
  obtain ⟨hW, hr, hG, hN, hA, hT, hX, hI, hS, hF⟩ := hC'
  obtain ⟨⟨rK, r0⟩, ⟨hLM, hM⟩, ⟨hLD, hD⟩, ⟨hLO, hO⟩, ⟨⟨hlk, hla⟩, hlike⟩, ⟨htk, hwear⟩, gf, gu, gh, gs⟩ := hG
  obtain ⟨⟨⟨fM, fM6, fD, fD6, fB, fB10⟩, fO, ⟨fH, fSt⟩, fHr, fFr, fWr⟩, ⟨fA, fU, fAU, fT, fT30, fL, fL10⟩, fTp, fNow, fWere, fBox, fTg⟩ := hF
  have kLM := hLM.1.1; have zLM := hLM.2
  have kLD := hLD.1.1; have zLD := hLD.2
  have kLO := hLO.1.1; have zLO := hLO.2
  have i1 := hI.1.1
  rw [ht] at i1
  have e20 : nI t + 20 = nI (t + 20) := nI_addl t 20
  have e16 : (1600 : Int32) = nI 1600 := rfl
  by_cases q : t + 20 ≤ 1600
  · have le : nI (t + 20) ≤ 1600 := by rw [e16]; exact nI_le q (by omega)
    refine rw_aload f_X0_feed_0 rfl ?_
    refine rw_getI f_X0_feed_1 (by first | assumption | exact hW.k rfl | exact hW.k0) ?_
    rw [i1]
    refine rw_const f_X0_feed_4 ?_
    refine rw_iadd f_X0_feed_6 ?_
    rw [e20]
    refine rw_const f_X0_feed_7 ?_
    refine rw_icmpT f_X0_feed_10 (decide_eq_true le) ?_
    refine rw_aload f_X0_feed_15 rfl ?_
    refine rw_iload f_X0_feed_16 rfl ?_
    refine rw_callV f_X0_feed_17 rfl (by first | assumption | exact hW.k rfl | exact hW.k0) (by first | assumption | exact hW.1 | omega | exact Nat.succ_ne_zero _) rfl rfl rfl rfl (rn_kv (C_bytes hC ht (by omega) (fun h1 C1 F1 => ?_)))
    skip
    have hW := C1.1
    refine rw_aload f_X0_feed_20 rfl ?_
    refine rw_iload f_X0_feed_21 rfl ?_
    refine rw_callV f_X0_feed_22 rfl (by first | assumption | exact hW.k rfl | exact hW.k0) (by first | assumption | exact hW.1 | omega | exact Nat.succ_ne_zero _) rfl rfl rfl rfl (rn_kv (C_bytes (t := t + 4) C1 rfl (by omega) (fun h2 C2 F2 => ?_)))
    skip
    have hW := C2.1
    refine rw_aload f_X0_feed_25 rfl ?_
    refine rw_iload f_X0_feed_26 rfl ?_
    refine rw_callV f_X0_feed_27 rfl (by first | assumption | exact hW.k rfl | exact hW.k0) (by first | assumption | exact hW.1 | omega | exact Nat.succ_ne_zero _) rfl rfl rfl rfl (rn_kv (C_bytes (t := t + 8) C2 rfl (by omega) (fun h3 C3 F3 => ?_)))
    skip
    have hW := C3.1
    refine rw_aload f_X0_feed_30 rfl ?_
    refine rw_iload f_X0_feed_31 rfl ?_
    refine rw_callV f_X0_feed_33 rfl (by first | assumption | exact hW.k rfl | exact hW.k0) (by first | assumption | exact hW.1 | omega | exact Nat.succ_ne_zero _) rfl rfl rfl rfl (rn_kv (C_bytes (t := t + 12) C3 rfl (by omega) (fun h4 C4 F4 => ?_)))
    skip
    have hW := C4.1
    refine rw_aload f_X0_feed_36 rfl ?_
    refine rw_iload f_X0_feed_37 rfl ?_
    refine rw_callV f_X0_feed_39 rfl (by first | assumption | exact hW.k rfl | exact hW.k0) (by first | assumption | exact hW.1 | omega | exact Nat.succ_ne_zero _) rfl rfl rfl rfl (rn_kv (C_bytes (t := t + 16) C4 rfl (by omega) (fun h5 C5 F5 => ?_)))
    skip
    have hW := C5.1
    have j5 : hp_I h5 x 5 = nI (t + 20) := C5.2.2.2.2.2.2.2.1.1.1
    refine rw_aload f_X0_feed_42 rfl ?_
    refine rw_getI f_X0_feed_43 (by first | assumption | exact hW.k rfl | exact hW.k0) ?_
    refine rw_iret f_X0_feed_46 ?_
    rw [j5]
    exact hk1 q h5 C5 (CFr_tr (CFr_tr (CFr_tr (CFr_tr F1 F2 (Nat.le_refl _) (Nat.le_refl _)) F3 (Nat.le_refl _) (Nat.le_refl _)) F4 (Nat.le_refl _) (Nat.le_refl _)) F5 (Nat.le_refl _) (Nat.le_refl _))
  · have nle : ¬ nI (t + 20) ≤ 1600 := by rw [e16]; exact nI_ge (by omega) (by omega)
    refine rw_aload f_X0_feed_0 rfl ?_
    refine rw_getI f_X0_feed_1 (by first | assumption | exact hW.k rfl | exact hW.k0) ?_
    rw [i1]
    refine rw_const f_X0_feed_4 ?_
    refine rw_iadd f_X0_feed_6 ?_
    rw [e20]
    refine rw_const f_X0_feed_7 ?_
    refine rw_icmpF f_X0_feed_10 (decide_eq_false nle) ?_
    refine rw_const f_X0_feed_13 ?_
    refine rw_iret f_X0_feed_14 ?_
    exact hk0 q
end CTape
