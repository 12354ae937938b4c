/-! THE CLASS: tugs, the tape -/
section CTugs
variable {c s d : Nat} {h h' : am_H} {V : am_M} {x r nM nD nB nA nU nT nL : Nat} {k : Int32 → am_H → Prop}
/-- what stands fast while tugs change -/
theorem CR_T {WI WR : Nat → Prop} (hC : CR h V x r nM nD nB nA nU nT nL) (fr : Fr WI WR c s h h') (hi : ∀ b, WI b → b = x + 28 ∨ hp_K h b = (122, 0)) (hr : ∀ b, WR b → b = x + 28 ∨ (b = arr h (x + 28) ∧ 0 < lcap h (x + 28))) : CW h' x ∧ hp_R h' x 0 = r ∧ CReg h' V x r nM nD nB ∧ CNow h' V x ∧ CAct h' V x nA nU ∧ CBox h' V x ∧ CInt h' V x nL ∧ hp_R h' r = hp_R h r ∧ ∀ l, isL h x r l → ¬ l = x + 28 → arr h' l = arr h l := by
  have hC0 := hC
  obtain ⟨hW, hrr, hG, hN, hA, hT, hX, hI, hS, hF⟩ := hC
  have al := hW.al
  have k28 := hT.1.1.1
  have k5 : 0 < lcap h (x + 28) → (hp_K h (arr h (x + 28))).1 = 5 := LST_k5 hT.1
  have nI : ∀ b t u, hp_K h b = (t, u) → ¬ b = x + 28 → ¬ t = 122 → ¬ WI b := fun b t u e n1 ht w => by
    rcases hi b w with q | q
    · exact n1 q
    · rw [e] at q; cases q; exact ht rfl
  have nR : ∀ b t u, hp_K h b = (t, u) → ¬ b = x + 28 → ¬ t = 5 → ¬ WR b := fun b t u e n1 ht w => by
    rcases hr b w with q | q
    · exact n1 q
    · have := k5 q.2; rw [← q.1, e] at this; exact ht this
  have w0 : ¬ WR 0 := fun w => by
    rcases hr 0 w with q | q
    · omega
    · have := k5 q.2; rw [← q.1, al.2 0 (Or.inr rfl)] at this; cases this
  have arl : ∀ l n, LST h l n → isL h x r l → ¬ l = x + 28 → ¬ (WR (arr h l) ∧ 0 < lcap h l) := by
    intro l n hL q n1 w
    have kl := LST_k5 hL w.2
    rcases hr _ w.1 with e | e
    · rw [e, k28] at kl; cases kl
    · exact n1 (hS.1 l (x + 28) q (Or.inr (Or.inr (Or.inl rfl))) kl e.1)
  have s0 := hS.2 0 (by omega)
  have s1 := hS.2 1 (by omega)
  have s2 := hS.2 2 (by omega)
  obtain ⟨g1, g2⟩ := CReg_fr al hG fr (fun b w q => by
    rcases q with q | q | q | q | q
    · rcases hi b w with e | e
      · rw [e, k28] at q; dsimp only at q; omega
      · rw [e] at q; dsimp only at q; omega
    · exact nI b 130 0 (by rw [q]; exact hG.2.1.1.1.1) (by omega) (by decide) w
    · exact nI b 130 0 (by rw [q]; exact hG.2.2.1.1.1.1) (by omega) (by decide) w
    · exact nI b 130 0 (by rw [q]; exact hG.2.2.2.1.1.1.1) (by omega) (by decide) w
    · have k3 := hG.2.2.2.2.1.1.1
      exact nI b 1 36 (by rw [q]; exact k3) (by intro e; rw [← q, e, k28] at k3; cases k3) (by decide) w) (fun b w q => by
    rcases q with q | q | q | q | q | q | q | q
    · rcases hr b w with e | e
      · rw [e, k28] at q; dsimp only at q; omega
      · have := k5 e.2; rw [← e.1] at this; omega
    · rw [q] at w; exact w0 w
    · exact nR b 130 0 (by rw [q]; exact hG.2.1.1.1.1) (by omega) (by decide) w
    · exact nR b 130 0 (by rw [q]; exact hG.2.2.1.1.1.1) (by omega) (by decide) w
    · exact nR b 130 0 (by rw [q]; exact hG.2.2.2.1.1.1.1) (by omega) (by decide) w
    · exact arl _ _ hG.2.1.1 (Or.inr (Or.inr (Or.inr (Or.inl rfl)))) (by omega) ⟨by rw [← q.1]; exact w, q.2⟩
    · exact arl _ _ hG.2.2.1.1 (Or.inr (Or.inr (Or.inr (Or.inr (Or.inl rfl))))) (by omega) ⟨by rw [← q.1]; exact w, q.2⟩
    · exact arl _ _ hG.2.2.2.1.1 (Or.inr (Or.inr (Or.inr (Or.inr (Or.inr rfl))))) (by omega) ⟨by rw [← q.1]; exact w, q.2⟩)
  have stR : ∀ a k b, cw_R a k = some b → ¬ WR (x + a) := by
    intro a k b e
    unfold cw_R at e
    split at e <;> first | exact nR _ _ _ (hW.k rfl) (by omega) (by decide) | cases e
  have dd : ∀ a f, CDay h x a f → CDay h' x a f := fun a f q => CDay_fr al q fr (fun b w q => by
    rcases hi b w with e | e
    · omega
    · rw [e] at q; simp at q) (fun b w q => by
    rcases hr b w with e | e
    · omega
    · have := k5 e.2; rw [← e.1] at this; omega)
  have lf : ∀ l n, LST h l n → isL h x r l → ¬ l = x + 28 → LST h' l n ∧ arr h' l = arr h l ∧ (∀ i, i < n → el h' l i = el h l i) := fun l n hL q n1 => LST_fr al hL fr (nI _ _ _ hL.1.1 n1 (by decide)) (nR _ _ _ hL.1.1 n1 (by decide)) (arl l n hL q n1) w0
  have i15 : isL h x r (x + 15) := Or.inl rfl
  have i16 : isL h x r (x + 16) := Or.inr (Or.inl rfl)
  have l15 := lf _ _ hA.1 i15 (by omega)
  have l16 := lf _ _ hA.2.1 i16 (by omega)
  have eI : ∀ b t u, hp_K h b = (t, u) → ¬ t = 0 → ¬ b = x + 28 → ¬ t = 122 → hp_I h' b = hp_I h b := fun b t u e ht n1 n2 => fr.I (Al_lt al e ht) (nI b t u e n1 n2)
  have ekk : ∀ i, i < nA + nU → kk h' x nA nU i = kk h x nA nU i := by
    intro i hi
    unfold kk
    by_cases e : i < nA
    · rw [if_pos e, if_pos e]; exact l15.2.2 i e
    · rw [if_neg e, if_neg e]; exact l16.2.2 _ (by omega)
  refine ⟨CW_fr hW fr stR, by rw [fr.R (Al_lt al hW.k0 (by decide)) (nR _ _ _ hW.k0 (by omega) (by decide))]; exact hrr, g1, ?_, ⟨l15.1, l16.1, fun i hi => ?_, fun i j hi hj => ?_⟩, fun b hb => ?_, ?_, g2, fun l q n1 => ?_⟩
  · unfold CNow
    rw [eI _ _ _ (hW.k (a := 7) rfl) (by decide) (by omega) (by decide), eI _ _ _ (hW.k (a := 8) rfl) (by decide) (by omega) (by decide), eI _ _ _ (hW.k (a := 9) rfl) (by decide) (by omega) (by decide)]
    exact hN
  · rw [ekk i hi]
    obtain ⟨q1, q2, q3⟩ := hA.2.2.1 i hi
    have la := Al_lt al q1 (by decide)
    refine ⟨by rw [fr.K la]; exact q1, q2, ?_⟩
    rw [fr.R la (nR _ _ _ q1 (by omega) (by decide))]
    exact dd _ _ q3
  · rw [ekk i hi, ekk j hj]; exact hA.2.2.2 i j hi hj
  · have e : hp_K h (x + (30 + b)) = (108, 0) := by
      rcases (by omega : b = 0 ∨ b = 1 ∨ b = 2) with q | q | q <;> (subst q; exact hW.k rfl)
    rw [fr.R (Al_lt al e (by decide)) (nR _ _ _ e (by omega) (by decide))]
    rcases hX b hb with q | ⟨q1, q2, q3⟩
    · exact Or.inl q
    · exact Or.inr ⟨q1, q2, dd _ _ q3⟩
  · unfold CInt
    rw [eI _ _ _ hW.k0 (by decide) (by omega) (by decide), eI _ _ _ (hW.k (a := 17) rfl) (by decide) (by omega) (by decide), eI _ _ _ (hW.k (a := 13) rfl) (by decide) (by omega) (by decide)]
    exact hI
  · rcases q with e | e | e | e | e | e
    · rw [e]; exact l15.2.1
    · rw [e]; exact l16.2.1
    · exact absurd e n1
    · rw [e]; exact (lf _ _ hG.2.1.1 (Or.inr (Or.inr (Or.inr (Or.inl rfl)))) (by omega)).2.1
    · rw [e]; exact (lf _ _ hG.2.2.1.1 (Or.inr (Or.inr (Or.inr (Or.inr (Or.inl rfl))))) (by omega)).2.1
    · rw [e]; exact (lf _ _ hG.2.2.2.1.1 (Or.inr (Or.inr (Or.inr (Or.inr (Or.inr rfl))))) (by omega)).2.1
/-- a tug more -/
def tugV (V : am_M) (n : Nat) (w nu is_ : Int32) : am_M := fun a j => if a = 0 ∧ j = 93 then nI (n + 1) else if a = 45 ∧ j = n then w else if a = 46 ∧ j = n then nu else if a = 47 ∧ j = n then V 0 94 else if a = 48 ∧ j = n then -1 else if a = 49 ∧ j = n then is_ else V a j
theorem tugV_o {n a j : Nat} {w nu is_ : Int32} (h1 : ¬ (45 ≤ a ∧ a ≤ 49 ∧ j = n)) (h2 : ¬ (a = 0 ∧ j = 93)) : tugV V n w nu is_ a j = V a j := by
  unfold tugV
  rw [if_neg h2, if_neg (by omega), if_neg (by omega), if_neg (by omega), if_neg (by omega), if_neg (by omega)]
theorem tugV_reg (V : am_M) (n : Nat) (w nu is_ : Int32) : ∀ a j, regA a j = true → tugV V n w nu is_ a j = V a j := by
  intro a j e
  refine tugV_o ?_ (by rintro ⟨rfl, rfl⟩; cases e)
  intro q
  rcases (by omega : a = 45 ∨ a = 46 ∨ a = 47 ∨ a = 48 ∨ a = 49) with z | z | z | z | z <;> (subst z; cases e)
theorem C_tugInit {a : Nat} (ha : hp_K h a = (122, 0)) (z : ¬ a = 0) {w nu is_ t : Int32} (hi : is_ = 0 ∨ is_ = 1) {k : am_H → Prop} (hk : k (hp_sI (hp_sI (hp_sI (hp_sI (hp_sI h a 4 (-1)) a 0 w) a 1 nu) a 3 is_) a 2 t)) : Rn d n_X22_init 0 [am_r a, am_i w, am_i nu, am_i is_, am_i t] [] h (kV k) := by
  refine rw_aload f_X22_init_0 rfl ?_
  refine rw_obj f_X22_init_1 (by first | assumption | omega) rfl ?_
  refine rw_aload f_X22_init_4 rfl ?_
  refine rw_const f_X22_init_5 ?_
  refine rw_putI f_X22_init_6 (by assumption) ?_
  refine rw_aload f_X22_init_9 rfl ?_
  refine rw_iload f_X22_init_10 rfl ?_
  refine rw_putI f_X22_init_11 (by assumption) ?_
  refine rw_aload f_X22_init_14 rfl ?_
  refine rw_iload f_X22_init_15 rfl ?_
  refine rw_putI f_X22_init_16 (by assumption) ?_
  refine rw_aload f_X22_init_19 rfl ?_
  refine rw_iload f_X22_init_20 rfl ?_
  refine rw_putZ f_X22_init_21 (by assumption) (by first | exact Or.inl rfl | exact Or.inr rfl | exact bI_01 _ | assumption) ?_
  refine rw_aload f_X22_init_24 rfl ?_
  refine rw_iload f_X22_init_25 rfl ?_
  refine rw_putI f_X22_init_27 (by assumption) ?_
  refine rw_vret f_X22_init_30 ?_
  exact hk
def ok_tug (nT : Nat) (w nu : Int32) : Bool := isIn w 0 2 && isIn nu 0 9 && !decide (nT = 30)
theorem C_tug (hC : CR h V x r nM nD nB nA nU nT nL) {w nu is_ : Int32} (hb : is_ = 0 ∨ is_ = 1) (hk0 : ok_tug nT w nu = false → k (-1) h) (hk1 : ok_tug nT w nu = true → ∀ h', CR h' (tugV V nT w nu is_) x r nM nD nB nA nU (nT + 1) nL → CFr x 2 110 h h' → k (nI nT) h') : Rn (d + 7) n_X0_tug 0 [am_r x, am_i w, am_i nu, am_i is_] [] h (kI k) := by
  have hC' := hC
  obtain ⟨hW, hr, hG, hN, hA, hT, hX, hI, hS, hF⟩ := hC'
  obtain ⟨⟨rK, r0⟩, ⟨hLM, hM⟩, ⟨hLD, hD⟩, ⟨hLO, hO⟩, ⟨⟨hlk, hla⟩, hlike⟩, ⟨htk, hwear⟩, gf, gu, gh, gs⟩ := hG
  obtain ⟨⟨⟨fM, fM6, fD, fD6, fB, fB10⟩, fO, ⟨fH, fSt⟩, fHr, fFr, fWr⟩, ⟨fA, fU, fAU, fT, fT30, fL, fL10⟩, fTp, fNow, fWere, fBox, fTg⟩ := hF
  have kLM := hLM.1.1; have zLM := hLM.2
  have kLD := hLD.1.1; have zLD := hLD.2
  have kLO := hLO.1.1; have zLO := hLO.2
  unfold ok_tug at hk0 hk1
  have hLT := hT.1
  have kLT := hLT.1.1
  have zLT := hLT.2
  have al := hW.al
  have e30 : (nI nT = 30) ↔ nT = 30 := by rw [show (30 : Int32) = nI 30 from rfl, nI_eq (by omega) (by omega)]
  have i2 := hI.1.2.1
  have tail : (isIn w 0 2 && isIn nu 0 9 && !decide (nT = 30)) = true → Rn (d + 7) n_X0_tug 33 [am_r x, am_i w, am_i nu, am_i is_] [] h (kI k) := by
    intro ok
    have n30 : ¬ nT = 30 := by
      intro e; rw [e] at ok; simp at ok
    have f1 : Fr no no 1 5 h (hp_new h 122 0 5) := Fr_new
    have kn : hp_K (hp_new h 122 0 5) (hp_n h) = (122, 0) := new_K
    have lx := Al_lt al hW.k0 (by decide)
    have l84 := hW.l84
    have kx1 : hp_K (hp_new h 122 0 5) x = (100, 0) := by rw [f1.K lx]; exact hW.k0
    have et : hp_I (hp_new h 122 0 5) x 6 = V 0 94 := by rw [f1.I lx id]; exact i2
    refine rw_aload f_X0_tug_33 rfl ?_
    refine rw_getR f_X0_tug_34 hW.k0 (hW.r0 rfl) ?_
    refine rw_new f_X0_tug_37 ?_
    refine rw_dupr f_X0_tug_40 ?_
    refine rw_iload f_X0_tug_41 rfl ?_
    refine rw_iload f_X0_tug_42 rfl ?_
    refine rw_iload f_X0_tug_43 rfl ?_
    refine rw_aload f_X0_tug_44 rfl ?_
    refine rw_getI f_X0_tug_45 kx1 ?_
    rw [et]
    refine rw_callI f_X0_tug_48 rfl (show ¬ hp_n h = 0 by omega) rfl rfl rfl (rn_kv (C_tugInit kn (by omega) hb ?_))
    generalize hg : hp_sI (hp_sI (hp_sI (hp_sI (hp_sI (hp_new h 122 0 5) (hp_n h) 4 (-1)) (hp_n h) 0 w) (hp_n h) 1 nu) (hp_n h) 3 is_) (hp_n h) 2 (V 0 94) = g
    have on : On (at_ (hp_n h)) (hp_new h 122 0 5) g := by
      rw [← hg]
      have A : at_ (hp_n h) (hp_n h) := rfl
      exact ((((On_sI A).tr (On_sI A)).tr (On_sI A)).tr (On_sI A)).tr (On_sI A)
    have fg : Fr no no 1 5 h g := Fr_tr f1 on.fr (fun _ _ w => w) (fun _ _ w => w) (fun b hb w => by have w' : b = hp_n h := w; omega) (fun _ _ w => w) (by omega) (by omega)
    have ng : hp_n g = hp_n h + 1 := by rw [on.n]; rfl
    have kg : hp_K g (hp_n h) = (122, 0) := by rw [on.K]; exact kn
    have g0 : hp_I g (hp_n h) 0 = w ∧ hp_I g (hp_n h) 1 = nu ∧ hp_I g (hp_n h) 2 = V 0 94 ∧ hp_I g (hp_n h) 3 = is_ ∧ hp_I g (hp_n h) 4 = -1 := by
      rw [← hg]; simp [sI_if]
    have alg := fg.al al
    obtain ⟨L28, e28, el28⟩ := LST_fr al hLT fg id id (fun w => w.1) id
    have c28 : lcap g (x + 28) = lcap h (x + 28) := by show (hp_K g (arr g (x + 28))).2 = _; rw [e28, fg.K (arr_lt al hLT)]
    have z28 := L28.1
    rw [e28, c28] at z28
    refine rw_callV f_X0_tug_51 rfl z28.1 zLT rfl rfl rfl rfl (rn_ki (J_add alg z28 zLT (by omega) (by rw [kg]; decide) (fun h2 A' cap' hL2 hA' he2 hq2 f2 => ?_)))
    have fr : Fr (at_ (x + 28)) (fun b => b = x + 28 ∨ (b = arr h (x + 28) ∧ 0 < lcap h (x + 28))) 2 105 h h2 := Fr_tr fg f2 (fun _ _ w => absurd w id) (fun _ _ w => absurd w id) (fun _ _ w => w) (fun _ _ w => w) (by omega) (by omega)
    obtain ⟨a1, a2, a3, a4, a5, a6, a7, a8, a9⟩ := CR_T hC fr (fun b w => Or.inl w) (fun b w => w)
    have hL2' : LST h2 (x + 28) (nT + 1) := by
      refine ⟨?_, zLT⟩
      have e1 : arr h2 (x + 28) = A' := hL2.2.1
      have e2 : lcap h2 (x + 28) = cap' := by
        show (hp_K h2 (arr h2 (x + 28))).2 = _
        rw [e1]
        rcases hL2.2.2.2.2.2.1 with z | z
        · rw [z.1]
        · have := hL2.2.2.2.1; omega
      rw [e1, e2]; exact hL2
    refine rw_popi f_X0_tug_54 ?_
    refine rw_aload f_X0_tug_55 rfl ?_
    refine rw_getR f_X0_tug_56 a1.k0 (a1.r0 rfl) ?_
    refine rw_callV f_X0_tug_59 rfl hL2'.1.1 zLT rfl rfl rfl rfl (rn_ki (J_sizeL hL2' ?_))
    refine rw_const f_X0_tug_62 ?_
    refine rw_isub f_X0_tug_63 ?_
    rw [nI_pred]
    refine rw_iret f_X0_tug_64 ?_
    have k5 : 0 < lcap h (x + 28) → (hp_K h (arr h (x + 28))).1 = 5 := LST_k5 hLT
    have eln : el h2 (x + 28) nT = hp_n h := by show hp_R h2 (arr h2 (x + 28)) nT = _; rw [show arr h2 (x + 28) = A' from hL2.2.1]; exact hq2
    have elo : ∀ i, i < nT → el h2 (x + 28) i = el h (x + 28) i := fun i hi => by
      show hp_R h2 (arr h2 (x + 28)) i = _
      rw [show arr h2 (x + 28) = A' from hL2.2.1, he2 i hi, fg.R (arr_lt al hLT) id]
    have lte : ∀ i, i < nT → el h (x + 28) i < hp_n h := fun i hi => Al_lt al (hT.2.1 i hi).1 (by decide)
    refine hk1 ok h2 ⟨a1, a2, CReg_V (tugV_reg V nT w nu is_) a3, CNow_V (fun _ => tugV_o (by omega) (by omega)) a4, CAct_V (fun _ => tugV_o (by omega) (by omega)) a5, ⟨hL2', fun i hi => ?_, fun i j hi hj e => ?_⟩, CBox_V (fun a j q => tugV_o (by omega) (by omega)) a6, CInt_V (fun a j q => tugV_o (by omega) (by omega)) a7, ?_, WB_V (tugV_reg V nT w nu is_) hC.wb, ?_⟩ (Fr_w fr (fun b _ w => by left; have w' : b = x + 28 := w; omega) (fun b _ w => ?_) (by omega) (by omega))
    · by_cases e : i = nT
      · subst e
        rw [eln]
        have lh : hp_n h < hp_n g := by omega
        rw [f2.K lh, f2.I lh (show ¬ hp_n h = x + 28 by omega)]
        refine ⟨kg, ?_⟩
        simp [tugV, g0]
      · rw [elo i (by omega)]
        obtain ⟨q1, q2⟩ := hT.2.1 i (by omega)
        have lb := lte i (by omega)
        rw [fr.K lb, fr.I lb (fun w => by have w' : el h (x + 28) i = x + 28 := w; rw [w', kLT] at q1; cases q1)]
        refine ⟨q1, ?_⟩
        rw [tugV_o (by omega) (by omega), tugV_o (by omega) (by omega), tugV_o (by omega) (by omega), tugV_o (by omega) (by omega), tugV_o (by omega) (by omega)]
        exact q2
    · by_cases e1 : i = nT
      · by_cases e2 : j = nT
        · omega
        · rw [e1, eln, elo j (by omega)] at e
          have := lte j (by omega)
          omega
      · by_cases e2 : j = nT
        · rw [e2, eln, elo i (by omega)] at e
          have := lte i (by omega)
          omega
        · rw [elo i (by omega), elo j (by omega)] at e
          exact hT.2.2 i j (by omega) (by omega) e
    · refine CSep_mk (l0 := x + 28) al hS fr (isL_lt hC) a8 a9 ?_
      rw [show arr h2 (x + 28) = A' from hL2.2.1]
      rcases hA' with q | q
      · exact Or.inl q.1
      · right; rw [q, ng]; omega
    · obtain ⟨⟨s1, s2, s3, s4, s5, s6, s7⟩, sT, s8, s9, s10, s11⟩ := hC.ws
      refine ⟨⟨by rw [tugV_o (by omega) (by omega)]; exact s1, by rw [tugV_o (by omega) (by omega)]; exact s2, s3, rfl, by omega, by rw [tugV_o (by omega) (by omega)]; exact s6, s7⟩, by rw [tugV_o (by omega) (by omega)]; exact sT, ?_, ?_, ?_, ?_⟩
      · intro b hb; rw [tugV_o (by omega) (by omega)]; exact s8 b hb
      · intro i hi b hb
        show ∃ t, t ≤ 99 ∧ tugV V nT w nu is_ 35 _ = nI t
        rw [tugV_o (by omega) (by omega)]; exact s9 i hi b hb
      · intro b hb eb
        rw [tugV_o (by omega) (by omega)] at eb
        intro i hi
        show ∃ t, t ≤ 99 ∧ tugV V nT w nu is_ 51 _ = nI t
        rw [tugV_o (by omega) (by omega)]
        exact s10 b hb eb i hi
      · intro i hi
        by_cases e : i = nT
        · have : tugV V nT w nu is_ 49 i = is_ := by subst e; simp [tugV]
          rw [this]; exact hb
        · rw [tugV_o (by omega) (by omega)]; exact s11 i (by omega)
    · rcases w with w | w
      · left; omega
      · rw [w.1]; exact hW.om (by rw [k5 w.2]; decide)
  refine rw_iload f_X0_tug_0 rfl ?_
  refine rw_const f_X0_tug_1 ?_
  refine rw_const f_X0_tug_2 ?_
  refine rw_callS f_X0_tug_3 rfl rfl rfl (rn_ki (C_isIn ?_))
  first | refine rw_eq0B f_X0_tug_6 (fun c1 => ?_) (fun c1 => ?_) | refine rw_eq0 f_X0_tug_6 (fun c1 => ?_) (fun c1 => ?_)
  · refine rw_const f_X0_tug_31 ?_
    refine rw_iret f_X0_tug_32 ?_
    exact hk0 (by first | (simp [c1]; done) | (simp only [e30] at c3; simp [c1, c2, c3]))
  · refine rw_iload f_X0_tug_9 rfl ?_
    refine rw_const f_X0_tug_10 ?_
    refine rw_const f_X0_tug_11 ?_
    refine rw_callS f_X0_tug_13 rfl rfl rfl (rn_ki (C_isIn ?_))
    first | refine rw_eq0B f_X0_tug_16 (fun c2 => ?_) (fun c2 => ?_) | refine rw_eq0 f_X0_tug_16 (fun c2 => ?_) (fun c2 => ?_)
    · refine rw_const f_X0_tug_31 ?_
      refine rw_iret f_X0_tug_32 ?_
      exact hk0 (by first | (simp [c1, c2]; done) | (simp only [e30] at c3; simp [c1, c2, c3]))
    · refine rw_aload f_X0_tug_19 rfl ?_
      refine rw_getR f_X0_tug_20 (by first | assumption | exact hW.k rfl | exact hW.k0) (by first | assumption | exact hW.r0 rfl | exact hW.r rfl | rfl) ?_
      refine rw_callV f_X0_tug_23 rfl (by first | assumption | exact hW.k rfl | exact hW.k0) (by first | assumption | exact hW.1 | omega | exact Nat.succ_ne_zero _) rfl rfl rfl rfl (rn_ki (J_sizeL (by assumption) ?_))
      refine rw_const f_X0_tug_26 ?_
      refine rw_ne f_X0_tug_28 (fun c3 => ?_) (fun c3 => ?_)
      · exact tail (by simp only [e30] at c3; simp [c1, c2, c3])
      · refine rw_const f_X0_tug_31 ?_
        refine rw_iret f_X0_tug_32 ?_
        exact hk0 (by first | (simp [c1, c2, c3]; done) | (simp only [e30] at c3; simp [c1, c2, c3]))
/-- a tug is untold -/
def untV (V : am_M) (n : Nat) : am_M := fun a j => if a = 48 ∧ j = n then V 0 94 else V a j
theorem untV_o {n a j : Nat} (h1 : ¬ (a = 48 ∧ j = n)) : untV V n a j = V a j := if_neg h1
def ok_untell (V : am_M) (nT : Nat) (i : Int32) : Bool := isIn i 0 (nI nT - 1) && decide (V 48 i.toNatClampNeg < 0)
theorem C_untell (hC : CR h V x r nM nD nB nA nU nT nL) {i : Int32} (hk0 : ok_untell V nT i = false → k 0 h) (hk1 : ok_untell V nT i = true → ∀ h', CR h' (untV V i.toNatClampNeg) x r nM nD nB nA nU nT nL → CFr x 0 0 h h' → k 1 h') : Rn (d + 3) n_X0_untell 0 [am_r x, am_i i] [] h (kI k) := by
  have hC' := hC
  obtain ⟨hW, hr, hG, hN, hA, hT, hX, hI, hS, hF⟩ := hC'
  obtain ⟨⟨rK, r0⟩, ⟨hLM, hM⟩, ⟨hLD, hD⟩, ⟨hLO, hO⟩, ⟨⟨hlk, hla⟩, hlike⟩, ⟨htk, hwear⟩, gf, gu, gh, gs⟩ := hG
  obtain ⟨⟨⟨fM, fM6, fD, fD6, fB, fB10⟩, fO, ⟨fH, fSt⟩, fHr, fFr, fWr⟩, ⟨fA, fU, fAU, fT, fT30, fL, fL10⟩, fTp, fNow, fWere, fBox, fTg⟩ := hF
  have kLM := hLM.1.1; have zLM := hLM.2
  have kLD := hLD.1.1; have zLD := hLD.2
  have kLO := hLO.1.1; have zLO := hLO.2
  unfold ok_untell at hk0 hk1
  have hLT := hT.1
  have kLT := hLT.1.1
  have zLT := hLT.2
  have al := hW.al
  have i2 := hI.1.2.1
  by_cases e : isIn i 0 (nI nT - 1) = true
  · rw [e, Bool.true_and] at hk0 hk1
    obtain ⟨j, rfl, hj⟩ := isIn_nat (n := nT) (by omega) e
    rw [nI_clamp (by omega)] at hk0 hk1
    obtain ⟨t0, t1, t2, t3, t4, t5⟩ := hT.2.1 j hj
    have zt := Al_ne al t0 (by decide)
    have tail : decide (V 48 j < 0) = true → Rn (d + 3) n_X0_untell 36 [am_r x, am_i (nI j)] [] h (kI k) := by
      intro ok
      refine rw_aload f_X0_untell_36 rfl ?_
      refine rw_getR f_X0_untell_37 (by first | assumption | exact hW.k rfl | exact hW.k0) (by first | assumption | exact hW.r0 rfl | exact hW.r rfl | rfl) ?_
      refine rw_iload f_X0_untell_40 rfl ?_
      refine rw_callV f_X0_untell_41 rfl (by first | assumption | exact hW.k rfl | exact hW.k0) (by first | assumption | exact hW.1 | omega | exact Nat.succ_ne_zero _) rfl rfl rfl rfl (rn_kr (J_getL (by assumption) (by omega) ?_))
      refine rw_cast f_X0_untell_44 (by first | assumption | exact hW.k rfl | exact hW.k0) ?_
      refine rw_aload f_X0_untell_47 rfl ?_
      refine rw_getI f_X0_untell_48 (by first | assumption | exact hW.k rfl | exact hW.k0) ?_
      rw [i2]
      refine rw_putI f_X0_untell_51 (by first | assumption | exact hW.k rfl | exact hW.k0) ?_
      refine rw_const f_X0_untell_54 ?_
      refine rw_zret f_X0_untell_55 (by first | exact Or.inl rfl | exact Or.inr rfl | exact bI_01 _ | assumption) ?_
      skip
      have fr : Fr (at_ (el h (x + 28) j)) no 0 0 h (hp_sI h (el h (x + 28) j) 4 (V 0 94)) := Fr_sI
      obtain ⟨a1, a2, a3, a4, a5, a6, a7, a8, a9⟩ := CR_T hC fr (fun b w => Or.inr (by rw [show b = _ from w]; exact t0)) (fun b w => absurd w id)
      have reg : ∀ a i, regA a i = true → untV V j a i = V a i := fun a i e2 => untV_o (by rintro ⟨rfl, rfl⟩; cases e2)
      obtain ⟨L, e28, el28⟩ := LST_fr al hLT fr (show ¬ x + 28 = el h (x + 28) j from fun q => by rw [← q, kLT] at t0; cases t0) id (fun w => w.1) id
      refine hk1 ok _ ⟨a1, a2, CReg_V reg a3, CNow_V (fun _ => untV_o (by omega)) a4, CAct_V (fun _ => untV_o (by omega)) a5, ⟨L, fun i hi => ?_, fun i1 i2 h1 h2 => ?_⟩, CBox_V (fun a i q => untV_o (by omega)) a6, CInt_V (fun a i q => untV_o (by omega)) a7, CSep_mk (l0 := x + 28) al hS fr (isL_lt hC) a8 a9 (Or.inl e28), WB_V reg hC.wb, WS_o (fun a i q => untV_o (by omega)) (fun b hb eb => ?_) hC.ws⟩ (Fr_w fr (fun b _ w => ?_) (fun _ _ w => absurd w id) (Nat.le_refl _) (Nat.le_refl _))
      · rw [el28 i hi]
        obtain ⟨u0, u1, u2, u3, u4, u5⟩ := hT.2.1 i hi
        by_cases ei : i = j
        · subst ei
          refine ⟨t0, by rw [sI_ne (by simp), untV_o (by omega)]; exact t1, by rw [sI_ne (by simp), untV_o (by omega)]; exact t2, by rw [sI_ne (by simp), untV_o (by omega)]; exact t3, by rw [sI_ne (by simp), untV_o (by omega)]; exact t4, by rw [sI_same]; unfold untV; rw [if_pos ⟨rfl, rfl⟩]⟩
        · have ne : ¬ el h (x + 28) i = el h (x + 28) j := fun q => ei (hT.2.2 i j hi hj q)
          refine ⟨u0, by rw [sI_ne (fun q => ne q.1), untV_o (by omega)]; exact u1, by rw [sI_ne (fun q => ne q.1), untV_o (by omega)]; exact u2, by rw [sI_ne (fun q => ne q.1), untV_o (by omega)]; exact u3, by rw [sI_ne (fun q => ne q.1), untV_o (by omega)]; exact u4, by rw [sI_ne (fun q => ne q.1), untV_o (by omega)]; exact u5⟩
      · rw [el28 i1 h1, el28 i2 h2]; exact hT.2.2 i1 i2 h1 h2
      · rw [untV_o (by omega)] at eb
        intro i hi
        show ∃ t, t ≤ 99 ∧ untV V j 51 _ = nI t
        rw [untV_o (by omega)]
        exact fBox b hb eb i hi
      · rw [show b = _ from w]; exact hW.om (by rw [t0]; decide)
    refine rw_iload f_X0_untell_0 rfl ?_
    refine rw_const f_X0_untell_1 ?_
    refine rw_aload f_X0_untell_2 rfl ?_
    refine rw_getR f_X0_untell_3 (by first | assumption | exact hW.k rfl | exact hW.k0) (by first | assumption | exact hW.r0 rfl | exact hW.r rfl | rfl) ?_
    refine rw_callV f_X0_untell_6 rfl (by first | assumption | exact hW.k rfl | exact hW.k0) (by first | assumption | exact hW.1 | omega | exact Nat.succ_ne_zero _) rfl rfl rfl rfl (rn_ki (J_sizeL (by assumption) ?_))
    refine rw_const f_X0_untell_9 ?_
    refine rw_isub f_X0_untell_10 ?_
    refine rw_callS f_X0_untell_11 rfl rfl rfl (rn_ki (C_isIn ?_))
    first | refine rw_eq0B f_X0_untell_14 (fun c1 => ?_) (fun c1 => ?_) | refine rw_eq0 f_X0_untell_14 (fun c1 => ?_) (fun c1 => ?_)
    · refine rw_const f_X0_untell_34 ?_
      refine rw_zret f_X0_untell_35 (by first | exact Or.inl rfl | exact Or.inr rfl | exact bI_01 _ | assumption) ?_
      first | (rw [e] at c1; exact absurd c1 (by decide)) | exact hk0 (by simp [c1])
    · refine rw_aload f_X0_untell_17 rfl ?_
      refine rw_getR f_X0_untell_18 (by first | assumption | exact hW.k rfl | exact hW.k0) (by first | assumption | exact hW.r0 rfl | exact hW.r rfl | rfl) ?_
      refine rw_iload f_X0_untell_21 rfl ?_
      refine rw_callV f_X0_untell_22 rfl (by first | assumption | exact hW.k rfl | exact hW.k0) (by first | assumption | exact hW.1 | omega | exact Nat.succ_ne_zero _) rfl rfl rfl rfl (rn_kr (J_getL (by assumption) (by omega) ?_))
      refine rw_cast f_X0_untell_25 (by first | assumption | exact hW.k rfl | exact hW.k0) ?_
      refine rw_getI f_X0_untell_28 (by first | assumption | exact hW.k rfl | exact hW.k0) ?_
      rw [t5]
      refine rw_lt0 f_X0_untell_31 (fun c2 => ?_) (fun c2 => ?_)
      · exact tail (by simp [c1, c2])
      · refine rw_const f_X0_untell_34 ?_
        refine rw_zret f_X0_untell_35 (by first | exact Or.inl rfl | exact Or.inr rfl | exact bI_01 _ | assumption) ?_
        first | (rw [e] at c1; exact absurd c1 (by decide)) | exact hk0 (by simp [c1, c2])
  · have e' : isIn i 0 (nI nT - 1) = false := by simpa using e
    rw [e', Bool.false_and] at hk0
    refine rw_iload f_X0_untell_0 rfl ?_
    refine rw_const f_X0_untell_1 ?_
    refine rw_aload f_X0_untell_2 rfl ?_
    refine rw_getR f_X0_untell_3 (by first | assumption | exact hW.k rfl | exact hW.k0) (by first | assumption | exact hW.r0 rfl | exact hW.r rfl | rfl) ?_
    refine rw_callV f_X0_untell_6 rfl (by first | assumption | exact hW.k rfl | exact hW.k0) (by first | assumption | exact hW.1 | omega | exact Nat.succ_ne_zero _) rfl rfl rfl rfl (rn_ki (J_sizeL (by assumption) ?_))
    refine rw_const f_X0_untell_9 ?_
    refine rw_isub f_X0_untell_10 ?_
    refine rw_callS f_X0_untell_11 rfl rfl rfl (rn_ki (C_isIn ?_))
    refine rw_ifT f_X0_untell_14 (by rw [e']; decide) ?_
    refine rw_const f_X0_untell_34 ?_
    refine rw_zret f_X0_untell_35 (by first | exact Or.inl rfl | exact Or.inr rfl | exact bI_01 _ | assumption) ?_
    exact hk0 rfl
end CTugs
