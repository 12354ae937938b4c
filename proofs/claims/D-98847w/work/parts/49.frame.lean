/-! FRAMES of the class's pictures -/
section CFrames
variable {WI WR : Nat → Prop} {c s : Nat} {h h' : am_H} {V : am_M} {x r nM nD nB nA nU nT nL : Nat}
theorem LST_fr {l n : Nat} (al : Al h) (hL : LST h l n) (fr : Fr WI WR c s h h') (hl : ¬ WI l) (hl2 : ¬ WR l) (hA : ¬ (WR (arr h l) ∧ 0 < lcap h l)) (h0 : ¬ WR 0) : LST h' l n ∧ arr h' l = arr h l ∧ (∀ i, i < n → el h' l i = el h l i) := by
  obtain ⟨k1, k2, k3, k4, k5, k6, k7⟩ := hL.1
  have ll := Al_lt al k1 (by decide)
  have lA : arr h l < hp_n h := by
    rcases k6 with e | e
    · exact Al_lt al e.1 (by decide)
    · exact Al_lt al e.2.2 (by decide)
  have e1 : arr h' l = arr h l := by show hp_R h' l 1 = _; rw [fr.R ll hl2]
  have e2 : lcap h' l = lcap h l := by show (hp_K h' (arr h' l)).2 = _; rw [e1, fr.K lA]
  refine ⟨⟨?_, hL.2⟩, e1, fun i hi => ?_⟩
  · rw [e1, e2]; exact AL_fr al hL.1 fr hl hl2 hA h0
  · show hp_R h' (arr h' l) i = _
    rw [e1, fr.R lA (fun w => hA ⟨w, by omega⟩)]
theorem Tree_fr (al : Al h) (fr : Fr WI WR c s h h') (hi : ∀ b, WI b → ¬ ((hp_K h b).1 = 119 ∨ (hp_K h b).1 = 120 ∨ (hp_K h b).1 = 121)) (hr : ∀ b, WR b → ¬ ((hp_K h b).1 = 118 ∨ (hp_K h b).1 = 121)) : ∀ n a c, Tree h n a c → Tree h' n a c := by
  intro n
  induction n with
  | zero => intro a c q; exact absurd q id
  | succ n ih =>
    intro a c q
    rcases q with ⟨e, q⟩ | ⟨e, q, q2⟩ | ⟨e, c1, q1, q2⟩ | ⟨e, c1, c2, q1, q2, q3⟩
    · have la := Al_lt al e (by decide)
      have eI := fr.I la (fun w => hi a w (by rw [e]; simp))
      exact Or.inl ⟨by rw [fr.K la]; exact e, by rw [eI]; exact q⟩
    · have la := Al_lt al e (by decide)
      have eI := fr.I la (fun w => hi a w (by rw [e]; simp))
      exact Or.inr (Or.inl ⟨by rw [fr.K la]; exact e, by rw [eI]; exact q, by rw [eI]; exact q2⟩)
    · have la := Al_lt al e (by decide)
      have eR := fr.R la (fun w => hr a w (by rw [e]; simp))
      exact Or.inr (Or.inr (Or.inl ⟨by rw [fr.K la]; exact e, c1, by rw [eR]; exact ih _ _ q1, q2⟩))
    · have la := Al_lt al e (by decide)
      have eI := fr.I la (fun w => hi a w (by rw [e]; simp))
      have eR := fr.R la (fun w => hr a w (by rw [e]; simp))
      exact Or.inr (Or.inr (Or.inr ⟨by rw [fr.K la]; exact e, c1, c2, by rw [eR]; exact ih _ _ q1, by rw [eR]; exact ih _ _ q2, by rw [eI]; exact q3⟩))
/-- ints that a regiment's picture rests on -/
def regI (h : am_H) (r b : Nat) : Prop := ((hp_K h b).1 = 101 ∨ (hp_K h b).1 = 112 ∨ (hp_K h b).1 = 113 ∨ (hp_K h b).1 = 115 ∨ (hp_K h b).1 = 116 ∨ (hp_K h b).1 = 119 ∨ (hp_K h b).1 = 120 ∨ (hp_K h b).1 = 121) ∨ b = hp_R h r 0 ∨ b = hp_R h r 1 ∨ b = hp_R h r 2 ∨ b = hp_R h r 3
/-- links -/
def regR (h : am_H) (r b : Nat) : Prop := ((hp_K h b).1 = 101 ∨ (hp_K h b).1 = 118 ∨ (hp_K h b).1 = 121) ∨ b = 0 ∨ b = hp_R h r 0 ∨ b = hp_R h r 1 ∨ b = hp_R h r 2 ∨ (b = arr h (hp_R h r 0) ∧ 0 < lcap h (hp_R h r 0)) ∨ (b = arr h (hp_R h r 1) ∧ 0 < lcap h (hp_R h r 1)) ∨ (b = arr h (hp_R h r 2) ∧ 0 < lcap h (hp_R h r 2))
theorem CReg_fr (al : Al h) (hG : CReg h V x r nM nD nB) (fr : Fr WI WR c s h h') (hi : ∀ b, WI b → ¬ regI h r b) (hr : ∀ b, WR b → ¬ regR h r b) : CReg h' V x r nM nD nB ∧ hp_R h' r = hp_R h r := by
  obtain ⟨⟨rK, r0⟩, ⟨hLM, hM⟩, ⟨hLD, hD⟩, ⟨hLO, hO⟩, ⟨⟨hlk, hla⟩, hlike⟩, ⟨htk, hwear⟩, gf, gu, gh, gs⟩ := hG
  have lr := Al_lt al rK (by decide)
  have w0 : ¬ WR 0 := fun w => hr 0 w (Or.inr (Or.inl rfl))
  have eR : hp_R h' r = hp_R h r := fr.R lr (fun w => hr r w (Or.inl (by rw [rK]; simp)))
  have eI : hp_I h' r = hp_I h r := fr.I lr (fun w => hi r w (Or.inl (by rw [rK]; simp)))
  obtain ⟨m1, m2, m3⟩ := LST_fr al hLM fr (fun w => hi _ w (by unfold regI; simp)) (fun w => hr _ w (by unfold regR; simp)) (fun w => hr _ w.1 (by unfold regR; simp [w.2])) w0
  obtain ⟨d1, d2, d3⟩ := LST_fr al hLD fr (fun w => hi _ w (by unfold regI; simp)) (fun w => hr _ w (by unfold regR; simp)) (fun w => hr _ w.1 (by unfold regR; simp [w.2])) w0
  obtain ⟨o1, o2, o3⟩ := LST_fr al hLO fr (fun w => hi _ w (by unfold regI; simp)) (fun w => hr _ w (by unfold regR; simp)) (fun w => hr _ w.1 (by unfold regR; simp [w.2])) w0
  refine ⟨⟨⟨by rw [fr.K lr]; exact rK, r0⟩, ?_⟩, eR⟩
  rw [eR, eI]
  refine ⟨⟨m1, fun i hi' => ?_⟩, ⟨d1, fun i hi' => ?_⟩, ⟨o1, fun i hi' => ?_⟩, ⟨⟨?_, hla⟩, fun i j a b => ?_⟩, ⟨?_, ?_⟩, gf, gu, gh, gs⟩
  · rw [m3 i hi']
    obtain ⟨q1, q2⟩ := hM i hi'
    have lb := Al_lt al q1 (by decide)
    exact ⟨by rw [fr.K lb]; exact q1, by rw [fr.I lb (fun w => hi _ w (Or.inl (by rw [q1]; simp)))]; exact q2⟩
  · rw [d3 i hi']
    obtain ⟨q1, q2⟩ := hD i hi'
    have lb := Al_lt al q1 (by decide)
    exact ⟨by rw [fr.K lb]; exact q1, by rw [fr.I lb (fun w => hi _ w (Or.inl (by rw [q1]; simp)))]; exact q2⟩
  · rw [o3 i hi']
    obtain ⟨q1, q2⟩ := hO i hi'
    have lb : el h (hp_R h r 2) i < hp_n h := by
      rcases q1 with q1 | q1
      · exact Al_lt al q1.1 (by decide)
      · exact Al_lt al q1.1 (by decide)
    exact ⟨by rw [fr.K lb]; exact q1, by rw [fr.I lb (fun w => hi _ w (Or.inl (by rcases q1 with q1 | q1 <;> (rw [q1.1]; simp))))]; exact q2⟩
  · rw [fr.K (Al_lt al hlk (by decide))]; exact hlk
  · rw [fr.I (Al_lt al hlk (by decide)) (fun w => hi _ w (by unfold regI; simp))]; exact hlike i j a b
  · rw [fr.K (Al_lt al htk (by decide))]; exact htk
  · rcases hwear with q | ⟨q1, q2, n, q3, q4, q5⟩
    · exact Or.inl q
    · exact Or.inr ⟨q1, q2, n, q3, q4, Tree_fr al fr (fun b w e => hi b w (Or.inl (by omega))) (fun b w e => hr b w (Or.inl (by omega))) _ _ _ q5⟩
theorem CDay_fr {a : Nat} {f : Nat → Int32} (al : Al h) (hd : CDay h x a f) (fr : Fr WI WR c s h h') (hi : ∀ b, WI b → ¬ (x + 84 < b ∧ ((hp_K h b).1 = 102 ∨ hp_K h b = (1, 10)))) (hr : ∀ b, WR b → ¬ (x + 84 < b ∧ (hp_K h b).1 = 102)) : CDay h' x a f := by
  obtain ⟨⟨k1, k2, k3, k4, k5, k6⟩, q1, q2⟩ := hd
  have la := Al_lt al k1 (by decide)
  have lb := Al_lt al k2 (by decide)
  have lc := Al_lt al k3 (by decide)
  have eR := fr.R la (fun w => hr _ w ⟨k4, by rw [k1]⟩)
  have eI := fr.I la (fun w => hi _ w ⟨k4, Or.inl (by rw [k1])⟩)
  have eI1 := fr.I lb (fun w => hi _ w ⟨k5, Or.inr k2⟩)
  have eI2 := fr.I lc (fun w => hi _ w ⟨k6, Or.inr k3⟩)
  unfold CDay
  rw [eR, eI, eI1, eI2, fr.K la, fr.K lb, fr.K lc]
  exact ⟨⟨k1, k2, k3, k4, k5, k6⟩, q1, q2⟩
theorem CW_fr (hW : CW h x) (fr : Fr WI WR c s h h') (hr : ∀ a k b, cw_R a k = some b → ¬ WR (x + a)) : CW h' x := by
  obtain ⟨k1, k2, k3, k4, k5⟩ := hW
  have lt : ∀ a t u, cw_K a = some (t, u) → ¬ t = 0 → x + a < hp_n h := fun a t u e ht => Al_lt k4 (k2 a t u e) ht
  have nz : ∀ a t u, cw_K a = some (t, u) → ¬ t = 0 := by
    intro a t u e
    unfold cw_K at e
    split at e <;> first | (cases e; decide) | cases e
  have hk : ∀ a k b, cw_R a k = some b → ∃ t u, cw_K a = some (t, u) := by
    intro a k b e
    unfold cw_R at e
    split at e <;> first | exact ⟨_, _, rfl⟩ | cases e
  refine ⟨k1, fun a t u e => ?_, fun a k b e => ?_, fr.al k4, fun b h1 h2 => ?_⟩
  · rw [fr.K (lt a t u e (nz a t u e))]; exact k2 a t u e
  · obtain ⟨t, u, e2⟩ := hk a k b e
    rw [fr.R (lt a t u e2 (nz a t u e2)) (hr a k b e)]; exact k3 a k b e
  · have := k5 b h1 h2
    rw [fr.K (Al_lt' k4 (by omega))]; exact this
/-- cells that nothing rests on: rows at hand, what is told, orders, pairs, 'then', the model's -/
def Scr (h : am_H) (x b : Nat) : Prop := ((hp_K h b).1 = 103 ∨ (hp_K h b).1 = 104 ∨ (hp_K h b).1 = 106 ∨ (hp_K h b).1 = 107) ∨ ((hp_K h b).1 = 1 ∧ (hp_K h b).2 = 4) ∨ ((hp_K h b).1 = 1 ∧ (hp_K h b).2 = 6) ∨ ((hp_K h b).1 = 3 ∧ (hp_K h b).2 = 1024) ∨ ((hp_K h b).1 = 4 ∧ (hp_K h b).2 = 100) ∨ (x + 10 ≤ b ∧ b ≤ x + 12) ∨ (x + 33 ≤ b ∧ b ≤ x + 84 ∧ ((hp_K h b).1 = 1 ∨ (hp_K h b).1 = 3 ∨ (hp_K h b).1 = 4 ∨ (hp_K h b).1 = 109))
theorem CR_fr' (hC : CR h V x r nM nD nB nA nU nT nL) (fr : Fr WI no c s h h') (hw : ∀ b, WI b → Scr h x b ∨ (x + 7 ≤ b ∧ b ≤ x + 9)) : CW h' x ∧ hp_R h' x 0 = r ∧ CReg h' V x r nM nD nB ∧ CAct h' V x nA nU ∧ CTug h' V x nT ∧ CBox h' V x ∧ CInt h' V x nL ∧ CSep h' x r := by
  obtain ⟨hW, hr, hG, hN, hA, hT, hX, hI, hS, hF⟩ := hC
  have al := hW.al
  have k7 : hp_K h (x + 7) = (102, 0) := hW.k rfl
  have k8 : hp_K h (x + 8) = (1, 10) := hW.k rfl
  have k9 : hp_K h (x + 9) = (1, 10) := hW.k rfl
  have k10 : hp_K h (x + 10) = (102, 0) := hW.k rfl
  have k11 : hp_K h (x + 11) = (1, 10) := hW.k rfl
  have k12 : hp_K h (x + 12) = (1, 10) := hW.k rfl
  have three : ∀ b, x + 7 ≤ b ∧ b ≤ x + 12 → hp_K h b = (102, 0) ∨ hp_K h b = (1, 10) := by
    intro b hb
    rcases (by omega : b = x + 7 ∨ b = x + 8 ∨ b = x + 9 ∨ b = x + 10 ∨ b = x + 11 ∨ b = x + 12) with e | e | e | e | e | e
    · rw [e]; exact Or.inl k7
    · rw [e]; exact Or.inr k8
    · rw [e]; exact Or.inr k9
    · rw [e]; exact Or.inl k10
    · rw [e]; exact Or.inr k11
    · rw [e]; exact Or.inr k12
  -- a cell of a kind that no cell at hand has
  have nk : ∀ b, ¬ ((hp_K h b).1 = 1 ∨ (hp_K h b).1 = 3 ∨ (hp_K h b).1 = 4 ∨ ((hp_K h b).1 = 102 ∧ b ≤ x + 84) ∨ (hp_K h b).1 = 103 ∨ (hp_K h b).1 = 104 ∨ (hp_K h b).1 = 106 ∨ (hp_K h b).1 = 107 ∨ (hp_K h b).1 = 109) → ¬ WI b := by
    intro b hb w
    rcases hw b w with (q | q | q | q | q | q | q) | q
    · omega
    · omega
    · omega
    · omega
    · omega
    · rcases three b (by omega) with e | e <;> (rw [e] at hb; simp at hb) <;> omega
    · omega
    · rcases three b (by omega) with e | e <;> (rw [e] at hb; simp at hb) <;> omega
  have na : ∀ b t u, hp_K h b = (t, u) → (b < x + 7 ∨ (x + 12 < b ∧ b < x + 33) ∨ x + 84 < b) → ¬ (t = 103 ∨ t = 104 ∨ t = 106 ∨ t = 107 ∨ (t = 1 ∧ u = 4) ∨ (t = 1 ∧ u = 6) ∨ (t = 3 ∧ u = 1024) ∨ (t = 4 ∧ u = 100)) → ¬ WI b := by
    intro b t u e ha hb w
    have := hw b w
    unfold Scr at this
    rw [e] at this
    dsimp only at this
    omega
  have sI : ∀ a t u, cw_K a = some (t, u) → (a < 7 ∨ (12 < a ∧ a < 33)) → ¬ (t = 103 ∨ t = 104 ∨ t = 106 ∨ t = 107 ∨ (t = 1 ∧ u = 4) ∨ (t = 1 ∧ u = 6) ∨ (t = 3 ∧ u = 1024) ∨ (t = 4 ∧ u = 100)) → ¬ t = 0 → hp_I h' (x + a) = hp_I h (x + a) := by
    intro a t u e ha hb ht
    exact fr.I (Al_lt al (hW.k e) ht) (na _ _ _ (hW.k e) (by omega) hb)
  have sR : ∀ b t u, hp_K h b = (t, u) → ¬ t = 0 → hp_R h' b = hp_R h b := fun b t u e ht => fr.R (Al_lt al e ht) id
  have e0 : hp_I h' x = hp_I h x := sI 0 _ _ rfl (by omega) (by decide) (by decide)
  have dI : ∀ b, WI b → ¬ (x + 84 < b ∧ ((hp_K h b).1 = 102 ∨ hp_K h b = (1, 10))) := by
    intro b w q
    have := hw b w
    unfold Scr at this
    rcases q.2 with e | e
    · omega
    · rw [e] at this; simp at this; omega
  have dR : ∀ b, no b → ¬ (x + 84 < b ∧ (hp_K h b).1 = 102) := fun b w => absurd w id
  obtain ⟨g1, g2⟩ := CReg_fr al hG fr (fun b w q => by
    rcases q with q | q | q | q | q
    · exact nk b (by omega) w
    · exact nk b (by rw [q, hG.2.1.1.1.1]; simp) w
    · exact nk b (by rw [q, hG.2.2.1.1.1.1]; simp) w
    · exact nk b (by rw [q, hG.2.2.2.1.1.1.1]; simp) w
    · have e := hG.2.2.2.2.1.1
      exact na b 1 36 (by rw [q]; exact e.1) (by rw [q]; omega) (by decide) w) (fun b w => absurd w id)
  have rr : hp_R h' x 0 = r := by rw [sR x _ _ hW.k0 (by decide)]; exact hr
  have L15 := LST_fr al hA.1 fr (nk _ (by rw [hA.1.1.1]; simp)) id (fun w => w.1) id
  have L16 := LST_fr al hA.2.1 fr (nk _ (by rw [hA.2.1.1.1]; simp)) id (fun w => w.1) id
  have L28 := LST_fr al hT.1 fr (nk _ (by rw [hT.1.1.1]; simp)) id (fun w => w.1) id
  have ekk : ∀ i, i < nA + nU → kk h' x nA nU i = kk h x nA nU i := by
    intro i hi
    unfold kk
    by_cases e : i < nA
    · rw [if_pos e, if_pos e]; exact L15.2.2 i e
    · rw [if_neg e, if_neg e]; exact L16.2.2 _ (by omega)
  have isl : ∀ l, isL h' x r l → isL h x r l := by
    intro l q; unfold isL at q ⊢; rw [g2] at q; exact q
  have arrs : ∀ l, isL h x r l → arr h' l = arr h l ∧ hp_K h l = (130, 0) ∧ arr h l < hp_n h := by
    intro l q
    have ax : ∀ {n : Nat}, LST h l n → arr h' l = arr h l ∧ hp_K h l = (130, 0) ∧ arr h l < hp_n h := fun {n} hL => ⟨by show hp_R h' l 1 = _; rw [sR l _ _ hL.1.1 (by decide)], hL.1.1, (AL_lt al hL.1).2⟩
    rcases q with e | e | e | e | e | e
    · rw [e] at ax ⊢; exact ax hA.1
    · rw [e] at ax ⊢; exact ax hA.2.1
    · rw [e] at ax ⊢; exact ax hT.1
    · rw [e] at ax ⊢; exact ax hG.2.1.1
    · rw [e] at ax ⊢; exact ax hG.2.2.1.1
    · rw [e] at ax ⊢; exact ax hG.2.2.2.1.1
  refine ⟨CW_fr hW fr (fun _ _ _ _ => id), rr, g1, ⟨L15.1, L16.1, ?_, ?_⟩, ⟨L28.1, ?_, ?_⟩, ?_, ?_, ⟨?_, ?_⟩⟩
  · intro i hi
    rw [ekk i hi]
    obtain ⟨q1, q2, q3⟩ := hA.2.2.1 i hi
    refine ⟨by rw [fr.K (Al_lt al q1 (by decide))]; exact q1, q2, ?_⟩
    rw [sR _ _ _ q1 (by decide)]
    exact CDay_fr al q3 fr dI dR
  · intro i j hi hj
    rw [ekk i hi, ekk j hj]
    exact hA.2.2.2 i j hi hj
  · intro i hi
    rw [L28.2.2 i hi]
    obtain ⟨q1, q2⟩ := hT.2.1 i hi
    have lb := Al_lt al q1 (by decide)
    rw [fr.K lb, fr.I lb (nk _ (by rw [q1]; simp))]
    exact ⟨q1, q2⟩
  · intro i j hi hj
    rw [L28.2.2 i hi, L28.2.2 j hj]
    exact hT.2.2 i j hi hj
  · intro b hb
    have e : hp_K h (x + (30 + b)) = (108, 0) := by
      rcases (by omega : b = 0 ∨ b = 1 ∨ b = 2) with q | q | q <;> (subst q; exact hW.k rfl)
    rw [sR _ _ _ e (by decide)]
    rcases hX b hb with q | ⟨q1, q2, q3⟩
    · exact Or.inl q
    · exact Or.inr ⟨q1, q2, CDay_fr al q3 fr dI dR⟩
  · unfold CInt
    rw [e0, sI 17 _ _ rfl (by omega) (by decide) (by decide), sI 13 _ _ rfl (by omega) (by decide) (by decide)]
    exact hI
  · intro l l' q q' e1 e2
    have a1 := arrs l (isl l q)
    have a2 := arrs l' (isl l' q')
    rw [a1.1, fr.K a1.2.2] at e1
    rw [a1.1, a2.1] at e2
    exact hS.1 l l' (isl l q) (isl l' q') e1 e2
  · intro k hk
    rw [g2]; exact hS.2 k hk
theorem CR_fr (hC : CR h V x r nM nD nB nA nU nT nL) (fr : Fr WI no c s h h') (hw : ∀ b, WI b → Scr h x b) : CR h' V x r nM nD nB nA nU nT nL := by
  obtain ⟨q1, q2, q3, q4, q5, q6, q7, q8⟩ := CR_fr' hC fr (fun b w => Or.inl (hw b w))
  obtain ⟨hW, hr, hG, hN, hA, hT, hX, hI, hS, hF⟩ := hC
  refine ⟨q1, q2, q3, ?_, q4, q5, q6, q7, q8, hF⟩
  have na : ∀ a t u, cw_K a = some (t, u) → (7 ≤ a ∧ a ≤ 9) → ¬ (t = 103 ∨ t = 104 ∨ t = 106 ∨ t = 107 ∨ (t = 1 ∧ u = 4) ∨ (t = 1 ∧ u = 6) ∨ (t = 3 ∧ u = 1024) ∨ (t = 4 ∧ u = 100)) → ¬ t = 0 → hp_I h' (x + a) = hp_I h (x + a) := by
    intro a t u e ha hb ht
    refine fr.I (Al_lt hW.al (hW.k e) ht) (fun w => ?_)
    have := hw _ w
    unfold Scr at this
    rw [hW.k e] at this
    dsimp only at this
    omega
  unfold CNow
  rw [na 8 _ _ rfl (by omega) (by decide) (by decide), na 9 _ _ rfl (by omega) (by decide) (by decide), na 7 _ _ rfl (by omega) (by decide) (by decide)]
  exact hN
/-- the regiment alone -/
def CB (h : am_H) (V : am_M) (x r nM nD nB : Nat) : Prop := CW h x ∧ hp_R h x 0 = r ∧ CReg h V x r nM nD nB ∧ WB V nM nD nB
theorem CR.b (hC : CR h V x r nM nD nB nA nU nT nL) : CB h V x r nM nD nB := by
  obtain ⟨hW, hr, hG, hN, hA, hT, hX, hI, hS, hF⟩ := hC
  exact ⟨hW, hr, hG, hF.1⟩
theorem nregI (hG : CReg h V x r nM nD nB) {b t u : Nat} (hk : hp_K h b = (t, u)) (ht : ¬ (t = 101 ∨ t = 112 ∨ t = 113 ∨ t = 115 ∨ t = 116 ∨ t = 119 ∨ t = 120 ∨ t = 121 ∨ t = 130 ∨ (t = 1 ∧ u = 36))) : ¬ regI h r b := by
  intro q
  rcases q with q | q | q | q | q
  · rw [hk] at q; dsimp only at q; omega
  · rw [q, hG.2.1.1.1.1] at hk; cases hk; omega
  · rw [q, hG.2.2.1.1.1.1] at hk; cases hk; omega
  · rw [q, hG.2.2.2.1.1.1.1] at hk; cases hk; omega
  · rw [q, hG.2.2.2.2.1.1.1] at hk; cases hk; omega
theorem CB_fr (hB : CB h V x r nM nD nB) (fr : Fr WI no c s h h') (hi : ∀ b, WI b → ¬ regI h r b) : CB h' V x r nM nD nB := by
  obtain ⟨hW, hr, hG, hF⟩ := hB
  obtain ⟨g1, g2⟩ := CReg_fr hW.al hG fr hi (fun b w => absurd w id)
  exact ⟨CW_fr hW fr (fun _ _ _ _ => id), by rw [fr.R (Al_lt hW.al hW.k0 (by decide)) id]; exact hr, g1, hF⟩
theorem stepsOf_V {V V' : am_M} (e : ∀ a j, regA a j = true → V' a j = V a j) (n : Nat) : stepsOf V' n = stepsOf V n := by
  unfold stepsOf
  apply List.map_congr_left
  intro j _
  rw [e 5 j rfl, e 6 j rfl]
theorem CReg_V {V' : am_M} (e : ∀ a j, regA a j = true → V' a j = V a j) (hG : CReg h V x r nM nD nB) : CReg h V' x r nM nD nB := by
  obtain ⟨g0, ⟨hLM, hM⟩, ⟨hLD, hD⟩, ⟨hLO, hO⟩, ⟨hlk, hlike⟩, ⟨htk, hwear⟩, gf, gu, gh, gs⟩ := hG
  refine ⟨g0, ⟨hLM, fun i hi => ?_⟩, ⟨hLD, fun i hi => ?_⟩, ⟨hLO, fun i hi => ?_⟩, ⟨hlk, fun i j a b => ?_⟩, ⟨htk, ?_⟩, ?_, ?_, ?_, ?_⟩
  · unfold CMan; rw [e 15 i rfl, e 16 i rfl, e 17 i rfl]; exact hM i hi
  · unfold CDeed; rw [e 18 i rfl]; exact hD i hi
  · unfold COath; rw [e 33 i rfl, e 26 i rfl, e 27 i rfl, e 28 i rfl, e 29 i rfl, e 30 i rfl, e 31 i rfl]; exact hO i hi
  · rw [e 19 _ rfl]; exact hlike i j a b
  · unfold CWear
    rw [e 0 66 rfl, e 0 18 rfl]
    rcases hwear with q | ⟨q1, q2, n, q3, q4, q5⟩
    · exact Or.inl q
    · exact Or.inr ⟨q1, q2, n, q3, q4, by rw [stepsOf_V e]; exact q5⟩
  · rw [e 0 59 rfl]; exact gf
  · rw [e 0 21 rfl]; exact gu
  · rw [e 0 60 rfl]; exact gh
  · rw [e 0 61 rfl]; exact gs
theorem WB_V {V' : am_M} (e : ∀ a j, regA a j = true → V' a j = V a j) (hF : WB V nM nD nB) : WB V' nM nD nB := by
  obtain ⟨f1, f2, f3, f4, f5, f6⟩ := hF
  refine ⟨?_, fun b hb => ?_, ?_, fun i hi => ?_, fun a b ha hb => ?_, ?_⟩
  · rw [e 0 56 rfl, e 0 57 rfl, e 0 58 rfl]; exact f1
  · rw [e 26 b rfl, e 27 b rfl, e 28 b rfl, e 30 b rfl, e 31 b rfl, e 33 b rfl]; exact f2 b hb
  · rw [e 0 60 rfl, e 0 61 rfl]; exact f3
  · rw [e 18 i rfl]; exact f4 i hi
  · rw [e 19 _ rfl, e 19 _ rfl, e 19 _ rfl]; exact f5 a b ha hb
  · unfold okWear
    rw [e 0 66 rfl, e 0 18 rfl]
    rcases f6 with q | ⟨q1, n, q2, q3, q4, q5⟩
    · exact Or.inl q
    · exact Or.inr ⟨q1, n, q2, q3, by rw [stepsOf_V e]; exact q4, by rw [stepsOf_V e]; exact q5⟩
end CFrames
