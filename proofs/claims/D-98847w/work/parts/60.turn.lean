/-! THE CLASS: undo, redo -/
/-- the row n and the day at hand change places -/
def turnV (V : am_M) (n a' u' : Nat) : am_M := fun a j => if a = 0 ∧ j = 69 then nI a' else if a = 0 ∧ j = 70 then nI u' else if a = 35 then (if 24 * n ≤ j ∧ j < 24 * n + 23 then V 34 (j - 24 * n) else V 35 j) else if a = 34 then (if j < 23 then V 35 (24 * n + j) else V 34 j) else V a j
theorem turnV_o {V : am_M} {n a' u' a j : Nat} (h1 : ¬ a = 35) (h2 : ¬ a = 34) (h3 : ¬ (a = 0 ∧ (j = 69 ∨ j = 70))) : turnV V n a' u' a j = V a j := by
  unfold turnV; rw [if_neg (by omega), if_neg (by omega), if_neg h1, if_neg h2]
theorem turnV_reg (V : am_M) (n a' u' : Nat) : ∀ a j, regA a j = true → turnV V n a' u' a j = V a j := by
  intro a j e
  refine turnV_o (by rintro rfl; cases e) (by rintro rfl; cases e) ?_
  rintro ⟨rfl, rfl | rfl⟩ <;> cases e
theorem turnV_now {V : am_M} {n a' u' j : Nat} (hj : j < 23) : turnV V n a' u' 34 j = V 35 (24 * n + j) := by
  unfold turnV; rw [if_neg (by omega), if_neg (by omega), if_neg (by omega), if_pos rfl, if_pos hj]
theorem turnV_row {V : am_M} {n a' u' i j : Nat} (hj : j < 23) : turnV V n a' u' 35 (24 * i + j) = if i = n then V 34 j else V 35 (24 * i + j) := by
  unfold turnV; rw [if_neg (by omega), if_neg (by omega), if_pos rfl]
  by_cases e : i = n
  · subst e; rw [if_pos rfl, if_pos (by omega), show 24 * i + j - 24 * i = j by omega]
  · rw [if_neg e, if_neg (by omega)]
section CTurn
variable {d c s : Nat} {WI WR : Nat → Prop} {h h' : am_H} {V : am_M} {x r nM nD nB nA nU nT nL : Nat}
theorem CNow_dp {f : Nat → Int32} (hp : DP h (x + 7) (x + 8) (x + 9) f) (e : ∀ j, j < 23 → V 34 j = f j) : CNow h V x := by
  obtain ⟨q1, q2, q3, q4⟩ := hp
  exact ⟨fun b hb => by rw [e b (by omega), e (10 + b) (by omega)]; exact q1 b hb, by rw [e 20 (by omega)]; exact q2, by rw [e 21 (by omega)]; exact q3, by rw [e 22 (by omega)]; exact q4⟩
theorem CR_turn (hC : CR h V x r nM nD nB nA nU nT nL) {n a' u' l0 : Nat} (hn : n < nA + nU) (hs : a' + u' = nA + nU) (fr : Fr WI WR c s h h') (hi : ∀ b, WI b → b = x + 15 ∨ b = x + 16 ∨ (x + 7 ≤ b ∧ b ≤ x + 9)) (hr : ∀ b, WR b → (b = x + 15 ∨ b = x + 16) ∨ ((b = arr h (x + 15) ∨ b = arr h (x + 16)) ∧ (hp_K h b).1 = 5) ∨ b = kk h x nA nU n)
    (L15 : LST h' (x + 15) a') (L16 : LST h' (x + 16) u') (e15 : ∀ i, i < a' → el h' (x + 15) i = kk h x nA nU i) (e16 : ∀ j, j < u' → el h' (x + 16) j = kk h x nA nU (nA + nU - 1 - j)) (hq : KeptOK h' x (kk h x nA nU n) (V 34)) (hp : DP h' (x + 7) (x + 8) (x + 9) (fun j => V 35 (24 * n + j)))
    (hl0 : l0 = x + 15 ∨ l0 = x + 16) (s1 : ∀ l, (l = x + 15 ∨ l = x + 16) → ¬ l = l0 → arr h' l = arr h l) (s2 : arr h' l0 = arr h l0 ∨ hp_n h ≤ arr h' l0) : CR h' (turnV V n a' u') x r nM nD nB a' u' nT nL := by
  have hC0 := hC
  obtain ⟨hW, hrr, hG, hN, hA, hT, hX, hI, hS, hF⟩ := hC
  have al := hW.al
  have kn := (hA.2.2.1 n hn).1
  obtain ⟨⟨a1, a2, a3, a4, a5, a6⟩, ⟨b1, b2, b3⟩, hi2, hr2⟩ := CR_A hC0 fr (fun b w => by have := hi b w; omega) (fun b w => by
    rcases hr b w with q | q | q
    · exact Or.inl q
    · exact Or.inr (Or.inl q)
    · exact Or.inr (Or.inr ⟨by rw [q, kn], by rw [q]; exact (hA.2.2.1 n hn).2.1⟩))
  refine ⟨a1, a2, CReg_V (turnV_reg V n a' u') a3, CNow_dp hp (fun j hj => turnV_now hj), ?_, CTug_V (fun a j q => turnV_o (by omega) (by omega) (by omega)) a4, CBox_V (fun a j q => turnV_o (by omega) (by omega) (by omega)) a5, CInt_V (fun a j q => turnV_o (by omega) (by omega) (by omega)) a6, ?_, ⟨WB_V (turnV_reg V n a' u') hF.1, ?_⟩⟩
  · refine CAct_mk (K := kk h x nA nU) L15 L16 e15 (fun j hj => by rw [hs]; exact e16 j hj) (fun i hi' => ?_) (fun i j hi' hj e => hA.2.2.2 i j (by omega) (by omega) e)
    by_cases e : i = n
    · rw [e]
      refine KeptOK_congr (fun j hj => ?_) hq
      show turnV V n a' u' 35 (24 * n + j) = V 34 j
      rw [turnV_row hj, if_pos rfl]
    · have q : KeptOK h x (kk h x nA nU i) _ := hA.2.2.1 i (by omega)
      refine KeptOK_congr (fun j hj => ?_) (KeptOK_fr al q fr (fun w => ?_) hi2 hr2)
      · show turnV V n a' u' 35 (24 * i + j) = V 35 (24 * i + j)
        rw [turnV_row hj, if_neg e]
      · have k8 := q.1
        rcases hr _ w with (z | z) | z | z
        · rw [z, hA.1.1.1] at k8; cases k8
        · rw [z, hA.2.1.1.1] at k8; cases k8
        · rw [k8] at z; exact absurd z.2 (by decide)
        · exact e (hA.2.2.2 i n (by omega) hn z)
  · refine CSep_mk (l0 := l0) al hS fr (isL_lt hC0) b1 (fun l q nn => ?_) s2
    rcases q with e | e | e | e | e | e
    · exact s1 l (Or.inl e) nn
    · exact s1 l (Or.inr e) nn
    · rw [e]; exact b2
    · rw [e]; exact b3 0 (by omega)
    · rw [e]; exact b3 1 (by omega)
    · rw [e]; exact b3 2 (by omega)
  · obtain ⟨⟨z1, z2, z3, z4, z5, z6, z7⟩, sT, s8, s9, s10, s11⟩ := hF.2
    refine ⟨⟨rfl, rfl, by omega, by rw [turnV_o (by decide) (by decide) (by decide)]; exact z4, z5, by rw [turnV_o (by decide) (by decide) (by decide)]; exact z6, z7⟩, by rw [turnV_o (by decide) (by decide) (by decide)]; exact sT, ?_, ?_, ?_, ?_⟩
    · intro b hb; rw [turnV_now (by omega)]; exact s9 n hn b hb
    · intro i hi' b hb
      show ∃ t, t ≤ 99 ∧ turnV V n a' u' 35 (24 * i + (10 + b)) = nI t
      rw [turnV_row (by omega)]
      by_cases e : i = n
      · rw [if_pos e]; exact s8 b hb
      · rw [if_neg e]; exact s9 i (by omega) b hb
    · intro b hb e
      rw [turnV_o (by decide) (by decide) (by omega)] at e
      intro c hc
      show ∃ t, t ≤ 99 ∧ turnV V n a' u' 51 _ = nI t
      rw [turnV_o (by decide) (by decide) (by omega)]
      exact s10 b hb e c hc
    · intro j hj; rw [turnV_o (by decide) (by decide) (by omega)]; exact s11 j hj
/-- a Kept's day and the day at hand change places -/
theorem C_turned (hW : CW h x) {a : Nat} {f g : Nat → Int32} (hN : DP h (x + 7) (x + 8) (x + 9) f) (hq : KeptOK h x a g) {k : Nat → am_H → Prop} (hk : ∀ h', Fr (nowW x) (at_ a) 3 30 h h' → KeptOK h' x a f → DP h' (x + 7) (x + 8) (x + 9) g → k a h') : Rn (d + 2) n_X0_turned 0 [am_r x, am_r a, am_u] [] h (kR k) := by
  have al := hW.al
  have hW0 := hW
  have l84 : x + 84 < hp_n h := by
    have := hW.2.2.2.2 (x + 84) (by omega) (by omega)
    exact Al_lt' al (by omega)
  obtain ⟨ka, la, hd⟩ := hq
  have lta := Al_lt al ka (by decide)
  refine rw_aload f_X0_turned_0 rfl ?_
  refine rw_getR f_X0_turned_1 (by first | assumption | exact hW.k rfl | exact hW.k0) (by first | assumption | exact hW.r0 rfl | exact hW.r rfl | rfl) ?_
  refine rw_callS f_X0_turned_4 rfl rfl rfl (rn_kr (C_copy al (nowK hW) hN (fun h1 hK1 hp1 f1 n1 => ?_)))
  refine rw_astore f_X0_turned_7 rfl rfl ?_
  skip
  have hW1 : CW h1 x := CW_fr hW0 f1 (fun _ _ _ _ => id)
  have hd1 : CDay h1 x (hp_R h a 0) g := CDay_fr al hd f1 (fun b w => absurd w id) (fun b w => absurd w id)
  have ra : hp_R h1 a 0 = hp_R h a 0 := by rw [f1.R lta id]
  have ka1 : hp_K h1 a = (108, 0) := by rw [f1.K lta]; exact ka
  obtain ⟨⟨g1, g2, g3, g4, g5, g6⟩, g7⟩ := hd1
  have hW := hW1
  have k1a : ¬ hp_R h a 0 = 0 := by omega
  refine rw_aload f_X0_turned_8 rfl ?_
  refine rw_getR f_X0_turned_9 (by first | assumption | exact hW.k rfl | exact hW.k0) (by first | assumption | exact hW.r0 rfl | exact hW.r rfl | rfl) ?_
  refine rw_aload f_X0_turned_12 rfl ?_
  refine rw_getR f_X0_turned_13 (by first | assumption | exact hW.k rfl | exact hW.k0) (by first | assumption | exact hW.r0 rfl | exact hW.r rfl | rfl) ?_
  refine rw_callV f_X0_turned_16 rfl (by first | assumption | exact hW.k rfl | exact hW.k0) (by first | assumption | exact hW.1 | omega | exact Nat.succ_ne_zero _) rfl rfl rfl rfl (rn_kv (C_dayOf (nowK hW) ⟨g1, rfl, rfl, g2, g3⟩ g7 (by omega) (by omega) (fun h2 on2 hp2 => ?_)))
  refine rw_aload f_X0_turned_19 rfl ?_
  refine rw_aload f_X0_turned_20 rfl ?_
  skip
  have ka2 : hp_K h2 a = (108, 0) := by rw [on2.K]; exact ka1
  refine rw_putR f_X0_turned_21 (by first | assumption | exact hW.k rfl | exact hW.k0) ?_
  refine rw_aload f_X0_turned_24 rfl ?_
  refine rw_aret f_X0_turned_25 ?_
  skip
  have f2 : Fr (nowW x) no 0 0 h1 h2 := Fr_w on2.fr (fun b _ w => by have w' : b = x + 7 ∨ b = x + 8 ∨ b = x + 9 := w; show x + 7 ≤ b ∧ b ≤ x + 9; omega) (fun _ _ w => w) (Nat.le_refl _) (Nat.le_refl _)
  refine hk _ (Fr_tr (Fr_tr (WI := nowW x) (WR := at_ a) (c := 3) (s := 30) f1 f2 (fun _ _ w => absurd w id) (fun _ _ w => absurd w id) (fun _ _ w => w) (fun _ _ w => absurd w id) (by omega) (by omega)) Fr_sR (fun _ _ w => w) (fun _ _ w => w) (fun _ _ w => absurd w id) (fun _ _ w => w) (by omega) (by omega)) ⟨ka2, la, ?_⟩ ?_
  · rw [sR_same]
    have hK2 := hK1.on on2
    have hp3 : DP h2 (hp_n h) (hp_n h + 1) (hp_n h + 2) f := by
      unfold DP
      rw [on2.I (by omega), on2.I (by omega), on2.I (by omega)]
      exact hp1
    refine CDay_of (S := hp_n h + 1) (T := hp_n h + 2) ?_ hp3 (by omega) (by omega) (by omega)
    obtain ⟨d1, d2, d3, d4, d5, d6, d7⟩ := hK2
    exact ⟨d1, by rw [sR_ne (by omega)]; exact d2, by rw [sR_ne (by omega)]; exact d3, d4, d5, d6, d7⟩
  · exact hp2
/-- outside: the class's cells -/
theorem C_turn_out (hW : CW h x) {l : Nat} (hL : ∃ n, LST h l n) : 0 < lcap h l → (arr h l < x + 33 ∨ x + 84 < arr h l) := by
  intro w
  obtain ⟨n, hL⟩ := hL
  exact hW.om (by rw [LST_k5 hL w]; decide)
variable {k : Int32 → am_H → Prop}
theorem C_undo (hC : CR h V x r nM nD nB nA nU nT nL) (hk0 : nA = 0 → k 0 h) (hk1 : ∀ n, nA = n + 1 → ∀ h', CR h' (turnV V n n (nU + 1)) x r nM nD nB n (nU + 1) nT nL → CFr x 6 250 h h' → k 1 h') : Rn (d + 9) n_X0_undo 0 [am_r x] [] h (kI k) := by
  have hC' := hC
  obtain ⟨hW, hr, hG, hN, hA, hT, hX, hI, hS, hF⟩ := hC'
  obtain ⟨⟨rK, r0⟩, ⟨hLM, hM⟩, ⟨hLD, hD⟩, ⟨hLO, hO⟩, ⟨⟨hlk, hla⟩, hlike⟩, ⟨htk, hwear⟩, gf, gu, gh, gs⟩ := hG
  obtain ⟨⟨⟨fM, fM6, fD, fD6, fB, fB10⟩, fO, ⟨fH, fSt⟩, fHr, fFr, fWr⟩, ⟨fA, fU, fAU, fT, fT30, fL, fL10⟩, fTp, fNow, fWere, fBox, fTg⟩ := hF
  have kLM := hLM.1.1; have zLM := hLM.2
  have kLD := hLD.1.1; have zLD := hLD.2
  have kLO := hLO.1.1; have zLO := hLO.2
  have hLA := hA.1
  have hLU := hA.2.1
  have kLA := hLA.1.1
  have zLA := hLA.2
  have zLU := hLU.2
  have al := hW.al
  have l15 := Al_lt al hLA.1.1 (by decide)
  have l16 := Al_lt al hLU.1.1 (by decide)
  have a15 := arr_lt al hLA
  have a16 := arr_lt al hLU
  have l0 := Al_lt al hW.k0 (by decide)
  cases nA with
  | zero =>
    refine rw_aload f_X0_undo_0 rfl ?_
    refine rw_getR f_X0_undo_1 (by first | assumption | exact hW.k rfl | exact hW.k0) (by first | assumption | exact hW.r0 rfl | exact hW.r rfl | rfl) ?_
    refine rw_callV f_X0_undo_4 rfl (by first | assumption | exact hW.k rfl | exact hW.k0) (by first | assumption | exact hW.1 | omega | exact Nat.succ_ne_zero _) rfl rfl rfl rfl (rn_ki (J_isEmptyL hLA ?_))
    refine rw_ifF f_X0_undo_7 (by decide) ?_
    refine rw_const f_X0_undo_10 ?_
    refine rw_zret f_X0_undo_11 (by first | exact Or.inl rfl | exact Or.inr rfl | exact bI_01 _ | assumption) ?_
    exact hk0 rfl
  | succ n =>
    have c15 : 0 < lcap h (x + 15) := by have := hLA.1.2.2.2.1; omega
    have k5 := LST_k5 hLA c15
    refine rw_aload f_X0_undo_0 rfl ?_
    refine rw_getR f_X0_undo_1 (by first | assumption | exact hW.k rfl | exact hW.k0) (by first | assumption | exact hW.r0 rfl | exact hW.r rfl | rfl) ?_
    refine rw_callV f_X0_undo_4 rfl (by first | assumption | exact hW.k rfl | exact hW.k0) (by first | assumption | exact hW.1 | omega | exact Nat.succ_ne_zero _) rfl rfl rfl rfl (rn_ki (J_isEmptyL hLA ?_))
    refine rw_ifT f_X0_undo_7 (by simp [bI]) ?_
    refine rw_aload f_X0_undo_12 rfl ?_
    refine rw_getR f_X0_undo_13 (by first | assumption | exact hW.k rfl | exact hW.k0) (by first | assumption | exact hW.r0 rfl | exact hW.r rfl | rfl) ?_
    refine rw_aload f_X0_undo_16 rfl ?_
    refine rw_aload f_X0_undo_17 rfl ?_
    refine rw_getR f_X0_undo_18 (by first | assumption | exact hW.k rfl | exact hW.k0) (by first | assumption | exact hW.r0 rfl | exact hW.r rfl | rfl) ?_
    refine rw_aload f_X0_undo_21 rfl ?_
    refine rw_getR f_X0_undo_22 (by first | assumption | exact hW.k rfl | exact hW.k0) (by first | assumption | exact hW.r0 rfl | exact hW.r rfl | rfl) ?_
    refine rw_callV f_X0_undo_25 rfl (by first | assumption | exact hW.k rfl | exact hW.k0) (by first | assumption | exact hW.1 | omega | exact Nat.succ_ne_zero _) rfl rfl rfl rfl (rn_ki (J_sizeL (by assumption) ?_))
    refine rw_const f_X0_undo_28 ?_
    refine rw_isub f_X0_undo_29 ?_
    rw [nI_pred]
    refine rw_callV f_X0_undo_30 rfl (by first | assumption | exact hW.k rfl | exact hW.k0) (by first | assumption | exact hW.1 | omega | exact Nat.succ_ne_zero _) rfl rfl rfl rfl (rn_kr (J_remove (i := n) al hLA.1 zLA (Nat.le_refl _) (fun h1 L1 q2 q3 f1 => ?_)))
    skip
    have n015 : ¬ (at_ (arr h (x + 15)) 0) := fun w => by have w' : 0 = arr h (x + 15) := w; rw [← w', al.2 0 (Or.inr rfl)] at k5; cases k5
    have nL16 : ¬ x + 16 = arr h (x + 15) := fun e => by rw [← e, hLU.1.1] at k5; cases k5
    have n16 : ¬ (at_ (arr h (x + 15)) (arr h (x + 16)) ∧ 0 < lcap h (x + 16)) := by
      intro w
      have := hS.1 (x + 15) (x + 16) (Or.inl rfl) (Or.inr (Or.inl rfl)) k5 w.1.symm
      omega
    have nst : ∀ a t u, cw_K a = some (t, u) → ¬ t = 5 → ¬ x + a = arr h (x + 15) := fun a t u e ht q => by rw [← q, hW.k e] at k5; exact ht k5
    have hW1 : CW h1 x := CW_fr hW f1 (fun a kk_ b e => by
      unfold cw_R at e
      split at e <;> first | exact nst _ _ _ rfl (by decide) | cases e)
    have al1 := hW1.al
    have hN1 : DP h1 (x + 7) (x + 8) (x + 9) (V 34) := by
      unfold DP
      rw [f1.I (Al_lt al (nowK hW).1 (by decide)) (show ¬ x + 7 = x + 15 by omega), f1.I (Al_lt al (nowK hW).2.2.2.1 (by decide)) (show ¬ x + 8 = x + 15 by omega), f1.I (Al_lt al (nowK hW).2.2.2.2.1 (by decide)) (show ¬ x + 9 = x + 15 by omega)]
      exact hN
    have eK : el h (x + 15) n = kk h x (n + 1) nU n := hA.e1 (by omega)
    have hq : KeptOK h x (kk h x (n + 1) nU n) (fun j => V 35 (24 * n + j)) := hA.2.2.1 n (by omega)
    have hq1 : KeptOK h1 x (kk h x (n + 1) nU n) (fun j => V 35 (24 * n + j)) := KeptOK_fr al hq f1 (fun w => by rw [← show _ = _ from w, hq.1] at k5; cases k5) (fun b w q => by have w' : b = x + 15 := w; omega) (fun b w q => by rw [show b = _ from w, k5] at q; omega)
    rw [show hp_R h (arr h (x + 15)) n = kk h x (n + 1) nU n from eK]
    have hqk := hq1.1
    have hqz : ¬ kk h x (n + 1) nU n = 0 := by have := hq1.2.1; omega
    have L16a := LST_fr al hLU f1 (show ¬ x + 16 = x + 15 by omega) nL16 n16 n015
    refine rw_cast f_X0_undo_33 hqk ?_
    refine rw_callV f_X0_undo_36 rfl hW1.k0 hW1.1 rfl rfl rfl rfl (rn_kr (C_turned hW1 hN1 hq1 (fun h2 f2 hq2 hp2 => ?_)))
    have nq15 : ¬ x + 15 = kk h x (n + 1) nU n := by have := hq.2.1; omega
    have nq16 : ¬ x + 16 = kk h x (n + 1) nU n := by have := hq.2.1; omega
    have nqA : ∀ l m, LST h1 l m → ¬ (at_ (kk h x (n + 1) nU n) (arr h1 l) ∧ 0 < lcap h1 l) := fun l m hL w => by
      have := LST_k5 hL w.2
      rw [show arr h1 l = _ from w.1, hqk] at this; cases this
    have nq0 : ¬ at_ (kk h x (n + 1) nU n) 0 := fun w => hqz w.symm
    have l1 := f1.n
    have L15 : LST h1 (x + 15) n := by
      refine ⟨?_, zLA⟩
      have e1 : arr h1 (x + 15) = arr h (x + 15) := L1.2.1
      have e2 : lcap h1 (x + 15) = lcap h (x + 15) := by show (hp_K h1 (arr h1 (x + 15))).2 = _; rw [e1, f1.K a15]
      rw [e1, e2]; exact L1
    have L15b := LST_fr al1 L15 f2 (show ¬ (x + 7 ≤ x + 15 ∧ x + 15 ≤ x + 9) by omega) nq15 (nqA _ _ L15) nq0
    have L16b := LST_fr al1 L16a.1 f2 (show ¬ (x + 7 ≤ x + 16 ∧ x + 16 ≤ x + 9) by omega) nq16 (nqA _ _ L16a.1) nq0
    have al2 := f2.al al1
    have z16 := L16b.1.1
    have kk2 := hq2.1
    refine rw_callV f_X0_undo_39 rfl z16.1 L16b.1.2 rfl rfl rfl rfl (rn_ki (J_add al2 z16 L16b.1.2 (by omega) (by rw [kk2]; decide) (fun h3 A' cap' hL3 hA' he3 hq3 f3 => ?_)))
    refine rw_popi f_X0_undo_42 ?_
    refine rw_const f_X0_undo_43 ?_
    refine rw_zret f_X0_undo_44 (Or.inr rfl) ?_
    have e16 : arr h2 (x + 16) = arr h (x + 16) := L16b.2.1.trans L16a.2.1
    have c16 : lcap h2 (x + 16) = lcap h (x + 16) := by show (hp_K h2 (arr h2 (x + 16))).2 = _; rw [e16, f2.K (by omega), f1.K a16]
    rw [e16, c16] at hA' f3
    rw [e16] at he3
    have e15 : arr h2 (x + 15) = arr h (x + 15) := L15b.2.1.trans L1.2.1
    have k16 : 0 < lcap h (x + 16) → (hp_K h (arr h (x + 16))).1 = 5 := LST_k5 hLU
    have fr : Fr (fun b => b = x + 15 ∨ b = x + 16 ∨ (x + 7 ≤ b ∧ b ≤ x + 9)) (fun b => b = x + 16 ∨ b = arr h (x + 15) ∨ (b = arr h (x + 16) ∧ 0 < lcap h (x + 16)) ∨ b = kk h x (n + 1) nU n) 4 130 h h3 :=
      Fr_tr (Fr_tr (WI := fun b => b = x + 15 ∨ b = x + 16 ∨ (x + 7 ≤ b ∧ b ≤ x + 9)) (WR := fun b => b = x + 16 ∨ b = arr h (x + 15) ∨ (b = arr h (x + 16) ∧ 0 < lcap h (x + 16)) ∨ b = kk h x (n + 1) nU n) (c := 3) (s := 30) f1 f2 (fun _ _ w => Or.inl w) (fun _ _ w => Or.inr (Or.inl w)) (fun _ _ w => Or.inr (Or.inr w)) (fun _ _ w => Or.inr (Or.inr (Or.inr w))) (by omega) (by omega)) f3 (fun _ _ w => w) (fun _ _ w => w) (fun _ _ w => Or.inr (Or.inl w)) (fun _ _ w => w.elim Or.inl (fun w => Or.inr (Or.inr (Or.inl w)))) (by omega) (by omega)
    have n15 : ¬ (x + 15 = x + 16 ∨ (x + 15 = arr h (x + 16) ∧ 0 < lcap h (x + 16))) := fun w => by
      rcases w with w | w
      · omega
      · have := k16 w.2
        rw [← w.1, hLA.1.1] at this; cases this
    have m1 : ¬ ((arr h (x + 15) = x + 16 ∨ (arr h (x + 15) = arr h (x + 16) ∧ 0 < lcap h (x + 16))) ∧ 0 < lcap h2 (x + 15)) := fun w => by
      rcases w.1 with w | w
      · exact nL16 w.symm
      · exact n16 ⟨w.1.symm, w.2⟩
    have m0 : ¬ (0 = x + 16 ∨ (0 = arr h (x + 16) ∧ 0 < lcap h (x + 16))) := fun w => by
      rcases w with w | w
      · omega
      · have := k16 w.2
        rw [← w.1, al.2 0 (Or.inr rfl)] at this; cases this
    have L15c := LST_fr al2 L15b.1 f3 (show ¬ x + 15 = x + 16 by omega) n15 (by rw [e15]; exact m1) m0
    refine hk1 n rfl h3 (CR_turn (n := n) (l0 := x + 16) hC (by omega) (by omega) fr (fun b w => w) (fun b w => ?_) L15c.1 ?_ (fun i hi => ?_) (fun j hj => ?_) ?_ ?_ (Or.inr rfl) (fun l q nn => ?_) ?_) ?_
    · rcases w with w | w | w | w
      · exact Or.inl (Or.inr w)
      · exact Or.inr (Or.inl ⟨Or.inl w, by rw [w]; exact k5⟩)
      · exact Or.inr (Or.inl ⟨Or.inr w.1, by rw [w.1]; exact k16 w.2⟩)
      · exact Or.inr (Or.inr w)
    · refine ⟨?_, zLU⟩
      have e1 : arr h3 (x + 16) = A' := hL3.2.1
      have e2 : lcap h3 (x + 16) = cap' := by
        show (hp_K h3 (arr h3 (x + 16))).2 = _
        rw [e1]
        rcases hL3.2.2.2.2.2.1 with z | z
        · rw [z.1]
        · have := hL3.2.2.2.1; omega
      rw [e1, e2]; exact hL3
    · rw [L15c.2.2 i hi, L15b.2.2 i hi]
      show hp_R h1 (arr h1 (x + 15)) i = _
      rw [show arr h1 (x + 15) = arr h (x + 15) from L1.2.1, q2 i hi]
      exact hA.e1 (by omega)
    · show hp_R h3 (arr h3 (x + 16)) j = _
      rw [show arr h3 (x + 16) = A' from hL3.2.1]
      by_cases e : j = nU
      · rw [e, hq3]; congr 1; omega
      · rw [he3 j (by omega)]
        have := L16b.2.2 j (by omega)
        have t2 := L16a.2.2 j (by omega)
        show hp_R h2 (arr h (x + 16)) j = _
        rw [← e16]
        refine this.trans (t2.trans ?_)
        rw [hA.e2 (by omega)]
    · refine KeptOK_fr al2 hq2 f3 (fun w => ?_) (fun b w q => by have w' : b = x + 16 := w; omega) (fun b w q => ?_)
      · rcases w with w | w
        · omega
        · have := k16 w.2
          rw [← w.1, hq.1] at this; cases this
      · rcases w with w | w
        · omega
        · have := k16 w.2
          rw [w.1, f2.K (by omega), f1.K a16, this] at q; omega
    · unfold DP
      have b1 := (nowK hW1).1
      have b2 := (nowK hW1).2.2.2.1
      have b3 := (nowK hW1).2.2.2.2.1
      have m2 := f2.n
      rw [f3.I (by have := Al_lt al1 b1 (by decide); omega) (show ¬ x + 7 = x + 16 by omega), f3.I (by have := Al_lt al1 b2 (by decide); omega) (show ¬ x + 8 = x + 16 by omega), f3.I (by have := Al_lt al1 b3 (by decide); omega) (show ¬ x + 9 = x + 16 by omega)]
      exact hp2
    · rcases q with q | q
      · rw [q, L15c.2.1, e15]
      · exact absurd q nn
    · rw [show arr h3 (x + 16) = A' from hL3.2.1]
      rcases hA' with q | q
      · exact Or.inl q.1
      · right; rw [q]; have := f2.n; omega
    · refine Fr_w fr (fun b _ w => by left; omega) (fun b _ w => ?_) (by omega) (by omega)
      rcases w with w | w | w | w
      · left; omega
      · rw [w]; exact hW.om (by rw [k5]; decide)
      · rw [w.1]; exact hW.om (by rw [k16 w.2]; decide)
      · right; rw [w]; exact hq.2.1
theorem C_redo (hC : CR h V x r nM nD nB nA nU nT nL) (hk0 : nU = 0 → k 0 h) (hk1 : ∀ n, nU = n + 1 → ∀ h', CR h' (turnV V nA (nA + 1) n) x r nM nD nB (nA + 1) n nT nL → CFr x 6 250 h h' → k 1 h') : Rn (d + 9) n_X0_redo 0 [am_r x] [] h (kI k) := by
  have hC' := hC
  obtain ⟨hW, hr, hG, hN, hA, hT, hX, hI, hS, hF⟩ := hC'
  obtain ⟨⟨rK, r0⟩, ⟨hLM, hM⟩, ⟨hLD, hD⟩, ⟨hLO, hO⟩, ⟨⟨hlk, hla⟩, hlike⟩, ⟨htk, hwear⟩, gf, gu, gh, gs⟩ := hG
  obtain ⟨⟨⟨fM, fM6, fD, fD6, fB, fB10⟩, fO, ⟨fH, fSt⟩, fHr, fFr, fWr⟩, ⟨fA, fU, fAU, fT, fT30, fL, fL10⟩, fTp, fNow, fWere, fBox, fTg⟩ := hF
  have kLM := hLM.1.1; have zLM := hLM.2
  have kLD := hLD.1.1; have zLD := hLD.2
  have kLO := hLO.1.1; have zLO := hLO.2
  have hLA := hA.1
  have hLU := hA.2.1
  have kLU := hLU.1.1
  have zLU := hLU.2
  have zLA := hLA.2
  have al := hW.al
  have l16 := Al_lt al hLU.1.1 (by decide)
  have l15 := Al_lt al hLA.1.1 (by decide)
  have a16 := arr_lt al hLU
  have a15 := arr_lt al hLA
  have l0 := Al_lt al hW.k0 (by decide)
  cases nU with
  | zero =>
    refine rw_aload f_X0_redo_0 rfl ?_
    refine rw_getR f_X0_redo_1 (by first | assumption | exact hW.k rfl | exact hW.k0) (by first | assumption | exact hW.r0 rfl | exact hW.r rfl | rfl) ?_
    refine rw_callV f_X0_redo_4 rfl (by first | assumption | exact hW.k rfl | exact hW.k0) (by first | assumption | exact hW.1 | omega | exact Nat.succ_ne_zero _) rfl rfl rfl rfl (rn_ki (J_isEmptyL hLU ?_))
    refine rw_ifF f_X0_redo_7 (by decide) ?_
    refine rw_const f_X0_redo_10 ?_
    refine rw_zret f_X0_redo_11 (by first | exact Or.inl rfl | exact Or.inr rfl | exact bI_01 _ | assumption) ?_
    exact hk0 rfl
  | succ n =>
    have c16 : 0 < lcap h (x + 16) := by have := hLU.1.2.2.2.1; omega
    have k5 := LST_k5 hLU c16
    refine rw_aload f_X0_redo_0 rfl ?_
    refine rw_getR f_X0_redo_1 (by first | assumption | exact hW.k rfl | exact hW.k0) (by first | assumption | exact hW.r0 rfl | exact hW.r rfl | rfl) ?_
    refine rw_callV f_X0_redo_4 rfl (by first | assumption | exact hW.k rfl | exact hW.k0) (by first | assumption | exact hW.1 | omega | exact Nat.succ_ne_zero _) rfl rfl rfl rfl (rn_ki (J_isEmptyL hLU ?_))
    refine rw_ifT f_X0_redo_7 (by simp [bI]) ?_
    refine rw_aload f_X0_redo_12 rfl ?_
    refine rw_getR f_X0_redo_13 (by first | assumption | exact hW.k rfl | exact hW.k0) (by first | assumption | exact hW.r0 rfl | exact hW.r rfl | rfl) ?_
    refine rw_aload f_X0_redo_16 rfl ?_
    refine rw_aload f_X0_redo_17 rfl ?_
    refine rw_getR f_X0_redo_18 (by first | assumption | exact hW.k rfl | exact hW.k0) (by first | assumption | exact hW.r0 rfl | exact hW.r rfl | rfl) ?_
    refine rw_aload f_X0_redo_21 rfl ?_
    refine rw_getR f_X0_redo_22 (by first | assumption | exact hW.k rfl | exact hW.k0) (by first | assumption | exact hW.r0 rfl | exact hW.r rfl | rfl) ?_
    refine rw_callV f_X0_redo_25 rfl (by first | assumption | exact hW.k rfl | exact hW.k0) (by first | assumption | exact hW.1 | omega | exact Nat.succ_ne_zero _) rfl rfl rfl rfl (rn_ki (J_sizeL (by assumption) ?_))
    refine rw_const f_X0_redo_28 ?_
    refine rw_isub f_X0_redo_29 ?_
    rw [nI_pred]
    refine rw_callV f_X0_redo_30 rfl (by first | assumption | exact hW.k rfl | exact hW.k0) (by first | assumption | exact hW.1 | omega | exact Nat.succ_ne_zero _) rfl rfl rfl rfl (rn_kr (J_remove (i := n) al hLU.1 zLU (Nat.le_refl _) (fun h1 L1 q2 q3 f1 => ?_)))
    skip
    have n016 : ¬ (at_ (arr h (x + 16)) 0) := fun w => by have w' : 0 = arr h (x + 16) := w; rw [← w', al.2 0 (Or.inr rfl)] at k5; cases k5
    have nL15 : ¬ x + 15 = arr h (x + 16) := fun e => by rw [← e, hLA.1.1] at k5; cases k5
    have n15x : ¬ (at_ (arr h (x + 16)) (arr h (x + 15)) ∧ 0 < lcap h (x + 15)) := by
      intro w
      have := hS.1 (x + 16) (x + 15) (Or.inr (Or.inl rfl)) (Or.inl rfl) k5 w.1.symm
      omega
    have nst : ∀ a t u, cw_K a = some (t, u) → ¬ t = 5 → ¬ x + a = arr h (x + 16) := fun a t u e ht q => by rw [← q, hW.k e] at k5; exact ht k5
    have hW1 : CW h1 x := CW_fr hW f1 (fun a kk_ b e => by
      unfold cw_R at e
      split at e <;> first | exact nst _ _ _ rfl (by decide) | cases e)
    have al1 := hW1.al
    have hN1 : DP h1 (x + 7) (x + 8) (x + 9) (V 34) := by
      unfold DP
      rw [f1.I (Al_lt al (nowK hW).1 (by decide)) (show ¬ x + 7 = x + 16 by omega), f1.I (Al_lt al (nowK hW).2.2.2.1 (by decide)) (show ¬ x + 8 = x + 16 by omega), f1.I (Al_lt al (nowK hW).2.2.2.2.1 (by decide)) (show ¬ x + 9 = x + 16 by omega)]
      exact hN
    have eK : el h (x + 16) n = kk h x nA (n + 1) nA := by rw [hA.e2 (by omega)]; congr 1; omega
    have hq : KeptOK h x (kk h x nA (n + 1) nA) (fun j => V 35 (24 * nA + j)) := hA.2.2.1 nA (by omega)
    have hq1 : KeptOK h1 x (kk h x nA (n + 1) nA) (fun j => V 35 (24 * nA + j)) := KeptOK_fr al hq f1 (fun w => by rw [← show _ = _ from w, hq.1] at k5; cases k5) (fun b w q => by have w' : b = x + 16 := w; omega) (fun b w q => by rw [show b = _ from w, k5] at q; omega)
    rw [show hp_R h (arr h (x + 16)) n = kk h x nA (n + 1) nA from eK]
    have hqk := hq1.1
    have hqz : ¬ kk h x nA (n + 1) nA = 0 := by have := hq1.2.1; omega
    have L15a := LST_fr al hLA f1 (show ¬ x + 15 = x + 16 by omega) nL15 n15x n016
    refine rw_cast f_X0_redo_33 hqk ?_
    refine rw_callV f_X0_redo_36 rfl hW1.k0 hW1.1 rfl rfl rfl rfl (rn_kr (C_turned hW1 hN1 hq1 (fun h2 f2 hq2 hp2 => ?_)))
    have nq16 : ¬ x + 16 = kk h x nA (n + 1) nA := by have := hq.2.1; omega
    have nq15 : ¬ x + 15 = kk h x nA (n + 1) nA := by have := hq.2.1; omega
    have nqA : ∀ l m, LST h1 l m → ¬ (at_ (kk h x nA (n + 1) nA) (arr h1 l) ∧ 0 < lcap h1 l) := fun l m hL w => by
      have := LST_k5 hL w.2
      rw [show arr h1 l = _ from w.1, hqk] at this; cases this
    have nq0 : ¬ at_ (kk h x nA (n + 1) nA) 0 := fun w => hqz w.symm
    have l1 := f1.n
    have L16 : LST h1 (x + 16) n := by
      refine ⟨?_, zLU⟩
      have e1 : arr h1 (x + 16) = arr h (x + 16) := L1.2.1
      have e2 : lcap h1 (x + 16) = lcap h (x + 16) := by show (hp_K h1 (arr h1 (x + 16))).2 = _; rw [e1, f1.K a16]
      rw [e1, e2]; exact L1
    have L16b := LST_fr al1 L16 f2 (show ¬ (x + 7 ≤ x + 16 ∧ x + 16 ≤ x + 9) by omega) nq16 (nqA _ _ L16) nq0
    have L15b := LST_fr al1 L15a.1 f2 (show ¬ (x + 7 ≤ x + 15 ∧ x + 15 ≤ x + 9) by omega) nq15 (nqA _ _ L15a.1) nq0
    have al2 := f2.al al1
    have z16 := L15b.1.1
    have kk2 := hq2.1
    refine rw_callV f_X0_redo_39 rfl z16.1 L15b.1.2 rfl rfl rfl rfl (rn_ki (J_add al2 z16 L15b.1.2 (by omega) (by rw [kk2]; decide) (fun h3 A' cap' hL3 hA' he3 hq3 f3 => ?_)))
    refine rw_popi f_X0_redo_42 ?_
    refine rw_const f_X0_redo_43 ?_
    refine rw_zret f_X0_redo_44 (Or.inr rfl) ?_
    have e15 : arr h2 (x + 15) = arr h (x + 15) := L15b.2.1.trans L15a.2.1
    have c15 : lcap h2 (x + 15) = lcap h (x + 15) := by show (hp_K h2 (arr h2 (x + 15))).2 = _; rw [e15, f2.K (by omega), f1.K a15]
    rw [e15, c15] at hA' f3
    rw [e15] at he3
    have e16 : arr h2 (x + 16) = arr h (x + 16) := L16b.2.1.trans L1.2.1
    have k15 : 0 < lcap h (x + 15) → (hp_K h (arr h (x + 15))).1 = 5 := LST_k5 hLA
    have fr : Fr (fun b => b = x + 16 ∨ b = x + 15 ∨ (x + 7 ≤ b ∧ b ≤ x + 9)) (fun b => b = x + 15 ∨ b = arr h (x + 16) ∨ (b = arr h (x + 15) ∧ 0 < lcap h (x + 15)) ∨ b = kk h x nA (n + 1) nA) 4 130 h h3 :=
      Fr_tr (Fr_tr (WI := fun b => b = x + 16 ∨ b = x + 15 ∨ (x + 7 ≤ b ∧ b ≤ x + 9)) (WR := fun b => b = x + 15 ∨ b = arr h (x + 16) ∨ (b = arr h (x + 15) ∧ 0 < lcap h (x + 15)) ∨ b = kk h x nA (n + 1) nA) (c := 3) (s := 30) f1 f2 (fun _ _ w => Or.inl w) (fun _ _ w => Or.inr (Or.inl w)) (fun _ _ w => Or.inr (Or.inr w)) (fun _ _ w => Or.inr (Or.inr (Or.inr w))) (by omega) (by omega)) f3 (fun _ _ w => w) (fun _ _ w => w) (fun _ _ w => Or.inr (Or.inl w)) (fun _ _ w => w.elim Or.inl (fun w => Or.inr (Or.inr (Or.inl w)))) (by omega) (by omega)
    have n16x : ¬ (x + 16 = x + 15 ∨ (x + 16 = arr h (x + 15) ∧ 0 < lcap h (x + 15))) := fun w => by
      rcases w with w | w
      · omega
      · have := k15 w.2
        rw [← w.1, hLU.1.1] at this; cases this
    have m1 : ¬ ((arr h (x + 16) = x + 15 ∨ (arr h (x + 16) = arr h (x + 15) ∧ 0 < lcap h (x + 15))) ∧ 0 < lcap h2 (x + 16)) := fun w => by
      rcases w.1 with w | w
      · exact nL15 w.symm
      · exact n15x ⟨w.1.symm, w.2⟩
    have m0 : ¬ (0 = x + 15 ∨ (0 = arr h (x + 15) ∧ 0 < lcap h (x + 15))) := fun w => by
      rcases w with w | w
      · omega
      · have := k15 w.2
        rw [← w.1, al.2 0 (Or.inr rfl)] at this; cases this
    have L16c := LST_fr al2 L16b.1 f3 (show ¬ x + 16 = x + 15 by omega) n16x (by rw [e16]; exact m1) m0
    refine hk1 n rfl h3 (CR_turn (n := nA) (l0 := x + 15) hC (by omega) (by omega) fr (fun b w => by omega) (fun b w => ?_) ?_ L16c.1 (fun j hj => ?_) (fun i hi => ?_) ?_ ?_ (Or.inl rfl) (fun l q nn => ?_) ?_) ?_
    · rcases w with w | w | w | w
      · exact Or.inl (Or.inl w)
      · exact Or.inr (Or.inl ⟨Or.inr w, by rw [w]; exact k5⟩)
      · exact Or.inr (Or.inl ⟨Or.inl w.1, by rw [w.1]; exact k15 w.2⟩)
      · exact Or.inr (Or.inr w)
    · refine ⟨?_, zLA⟩
      have e1 : arr h3 (x + 15) = A' := hL3.2.1
      have e2 : lcap h3 (x + 15) = cap' := by
        show (hp_K h3 (arr h3 (x + 15))).2 = _
        rw [e1]
        rcases hL3.2.2.2.2.2.1 with z | z
        · rw [z.1]
        · have := hL3.2.2.2.1; omega
      rw [e1, e2]; exact hL3
    · show hp_R h3 (arr h3 (x + 15)) j = _
      rw [show arr h3 (x + 15) = A' from hL3.2.1]
      by_cases e : j = nA
      · rw [e, hq3]
      · rw [he3 j (by omega)]
        have := L15b.2.2 j (by omega)
        have t2 := L15a.2.2 j (by omega)
        show hp_R h2 (arr h (x + 15)) j = _
        rw [← e15]
        refine this.trans (t2.trans ?_)
        rw [hA.e1 (by omega)]
    · rw [L16c.2.2 i hi, L16b.2.2 i hi]
      show hp_R h1 (arr h1 (x + 16)) i = _
      rw [show arr h1 (x + 16) = arr h (x + 16) from L1.2.1, q2 i hi]
      rw [show hp_R h (arr h (x + 16)) i = _ from hA.e2 (by omega)]
    · refine KeptOK_fr al2 hq2 f3 (fun w => ?_) (fun b w q => by have w' : b = x + 15 := w; omega) (fun b w q => ?_)
      · rcases w with w | w
        · omega
        · have := k15 w.2
          rw [← w.1, hq.1] at this; cases this
      · rcases w with w | w
        · omega
        · have := k15 w.2
          rw [w.1, f2.K (by omega), f1.K a15, this] at q; omega
    · unfold DP
      have b1 := (nowK hW1).1
      have b2 := (nowK hW1).2.2.2.1
      have b3 := (nowK hW1).2.2.2.2.1
      have m2 := f2.n
      rw [f3.I (by have := Al_lt al1 b1 (by decide); omega) (show ¬ x + 7 = x + 15 by omega), f3.I (by have := Al_lt al1 b2 (by decide); omega) (show ¬ x + 8 = x + 15 by omega), f3.I (by have := Al_lt al1 b3 (by decide); omega) (show ¬ x + 9 = x + 15 by omega)]
      exact hp2
    · rcases q with q | q
      · exact absurd q nn
      · rw [q, L16c.2.1, e16]
    · rw [show arr h3 (x + 15) = A' from hL3.2.1]
      rcases hA' with q | q
      · exact Or.inl q.1
      · right; rw [q]; have := f2.n; omega
    · refine Fr_w fr (fun b _ w => by left; omega) (fun b _ w => ?_) (by omega) (by omega)
      rcases w with w | w | w | w
      · left; omega
      · rw [w]; exact hW.om (by rw [k5]; decide)
      · rw [w.1]; exact hW.om (by rw [k15 w.2]; decide)
      · right; rw [w]; exact hq.2.1
end CTurn
