/-! THE CLASS: lists of acts; frames for them -/
section CActs
variable {WI WR : Nat → Prop} {c s : Nat} {h h' : am_H} {V : am_M} {x r nM nD nB nA nU nT nL : Nat}
/-- the class's step: no cell of the model is written -/
abbrev oM (x : Nat) : Nat → Prop := fun b => b < x + 33 ∨ x + 84 < b
abbrev CFr (x c s : Nat) (h h' : am_H) : Prop := Fr (oM x) (oM x) c s h h'
def KeptOK (h : am_H) (x a : Nat) (f : Nat → Int32) : Prop := hp_K h a = (108, 0) ∧ x + 84 < a ∧ CDay h x (hp_R h a 0) f
theorem CAct_mk {K : Nat → Nat} (l1 : LST h (x + 15) nA) (l2 : LST h (x + 16) nU) (e1 : ∀ i, i < nA → el h (x + 15) i = K i) (e2 : ∀ j, j < nU → el h (x + 16) j = K (nA + nU - 1 - j)) (ok : ∀ i, i < nA + nU → KeptOK h x (K i) (fun j => V 35 (24 * i + j))) (inj : ∀ i j, i < nA + nU → j < nA + nU → K i = K j → i = j) : CAct h V x nA nU := by
  have ek : ∀ i, i < nA + nU → kk h x nA nU i = K i := by
    intro i hi
    unfold kk
    by_cases e : i < nA
    · rw [if_pos e]; exact e1 i e
    · rw [if_neg e, e2 _ (by omega)]
      congr 1; omega
  refine ⟨l1, l2, fun i hi => ?_, fun i j hi hj => ?_⟩
  · rw [ek i hi]; exact ok i hi
  · rw [ek i hi, ek j hj]; exact inj i j hi hj
theorem CAct.e1 (q : CAct h V x nA nU) {i : Nat} (hi : i < nA) : el h (x + 15) i = kk h x nA nU i := by unfold kk; rw [if_pos hi]
theorem CAct.e2 (q : CAct h V x nA nU) {j : Nat} (hj : j < nU) : el h (x + 16) j = kk h x nA nU (nA + nU - 1 - j) := by
  unfold kk; rw [if_neg (by omega)]; congr 1; omega
theorem KeptOK_fr {a : Nat} {f : Nat → Int32} (al : Al h) (q : KeptOK h x a f) (fr : Fr WI WR c s h h') (ha : ¬ WR a) (hi : ∀ b, WI b → ¬ (x + 84 < b ∧ ((hp_K h b).1 = 102 ∨ hp_K h b = (1, 10)))) (hr : ∀ b, WR b → ¬ (x + 84 < b ∧ (hp_K h b).1 = 102)) : KeptOK h' x a f := by
  obtain ⟨k1, k2, k3⟩ := q
  have la := Al_lt al k1 (by decide)
  refine ⟨by rw [fr.K la]; exact k1, k2, ?_⟩
  rw [fr.R la ha]
  exact CDay_fr al k3 fr hi hr
theorem arr_lt {l n : Nat} (al : Al h) (hL : LST h l n) : arr h l < hp_n h := (AL_lt al hL.1).2
theorem LST_k5 {l n : Nat} (hL : LST h l n) (hc : 0 < lcap h l) : (hp_K h (arr h l)).1 = 5 := by
  rcases hL.1.2.2.2.2.2.1 with q | q
  · rw [q.1]
  · omega
theorem LST_5c {l n : Nat} (hL : LST h l n) (hc : (hp_K h (arr h l)).1 = 5) : 0 < lcap h l := by
  rcases hL.1.2.2.2.2.2.1 with q | q
  · exact q.2
  · rw [q.2.2] at hc; cases hc
/-- what stands fast while acts, undone, now and kept days change -/
theorem CR_A (hC : CR h V x r nM nD nB nA nU nT nL) (fr : Fr WI WR c s h h') (hi : ∀ b, WI b → b = x + 15 ∨ b = x + 16 ∨ (x + 7 ≤ b ∧ b ≤ x + 12)) (hr : ∀ b, WR b → (b = x + 15 ∨ b = x + 16) ∨ ((b = arr h (x + 15) ∨ b = arr h (x + 16)) ∧ (hp_K h b).1 = 5) ∨ ((hp_K h b).1 = 108 ∧ x + 84 < b)) : (CW h' x ∧ hp_R h' x 0 = r ∧ CReg h' V x r nM nD nB ∧ CTug h' V x nT ∧ CBox h' V x ∧ CInt h' V x nL) ∧ (hp_R h' r = hp_R h r ∧ arr h' (x + 28) = arr h (x + 28) ∧ ∀ k, k < 3 → arr h' (hp_R h r k) = arr h (hp_R h r k)) ∧ (∀ b, WI b → ¬ (x + 84 < b ∧ ((hp_K h b).1 = 102 ∨ hp_K h b = (1, 10)))) ∧ (∀ b, WR b → ¬ (x + 84 < b ∧ (hp_K h b).1 = 102)) := by
  obtain ⟨hW, hrr, hG, hN, hA, hT, hX, hI, hS, hF⟩ := hC
  have al := hW.al
  have k15 := hA.1.1.1
  have k16 := hA.2.1.1.1
  have k7 : hp_K h (x + 7) = (102, 0) := hW.k rfl
  have k8 : hp_K h (x + 8) = (1, 10) := hW.k rfl
  have k9 : hp_K h (x + 9) = (1, 10) := hW.k rfl
  have k10 : hp_K h (x + 10) = (102, 0) := hW.k rfl
  have k11 : hp_K h (x + 11) = (1, 10) := hW.k rfl
  have k12 : hp_K h (x + 12) = (1, 10) := hW.k rfl
  have kI : ∀ b, WI b → b = x + 15 ∨ b = x + 16 ∨ hp_K h b = (102, 0) ∨ hp_K h b = (1, 10) := by
    intro b w
    rcases hi b w with e | e | e
    · exact Or.inl e
    · exact Or.inr (Or.inl e)
    · rcases (by omega : b = x + 7 ∨ b = x + 8 ∨ b = x + 9 ∨ b = x + 10 ∨ b = x + 11 ∨ b = x + 12) with q | q | q | q | q | q <;> rw [q]
      · exact Or.inr (Or.inr (Or.inl k7))
      · exact Or.inr (Or.inr (Or.inr k8))
      · exact Or.inr (Or.inr (Or.inr k9))
      · exact Or.inr (Or.inr (Or.inl k10))
      · exact Or.inr (Or.inr (Or.inr k11))
      · exact Or.inr (Or.inr (Or.inr k12))
  have hi2 : ∀ b, WI b → ¬ (x + 84 < b ∧ ((hp_K h b).1 = 102 ∨ hp_K h b = (1, 10))) := by
    intro b w q
    have := hi b w
    omega
  have hr2 : ∀ b, WR b → ¬ (x + 84 < b ∧ (hp_K h b).1 = 102) := by
    intro b w q
    rcases hr b w with e | e | e <;> omega
  -- kinds of cells whose links change
  have kR : ∀ b, WR b → (hp_K h b).1 = 130 ∨ (hp_K h b).1 = 5 ∨ ((hp_K h b).1 = 108 ∧ x + 84 < b) := by
    intro b w
    rcases hr b w with (e | e) | e | e
    · left; rw [e, k15]
    · left; rw [e, k16]
    · exact Or.inr (Or.inl e.2)
    · exact Or.inr (Or.inr e)
  have arl : ∀ l, isL h x r l → ¬ l = x + 15 → ¬ l = x + 16 → ¬ (WR (arr h l) ∧ 0 < lcap h l) := by
    intro l q n1 n2 w
    have ls : ∀ {n}, LST h l n → False := by
      intro n hL
      have k5 := LST_k5 hL w.2
      rcases hr _ w.1 with (e | e) | e | e
      · rw [e, k15] at k5; cases k5
      · rw [e, k16] at k5; cases k5
      · rcases e.1 with e | e
        · exact n1 (hS.1 l (x + 15) q (Or.inl rfl) k5 e)
        · exact n2 (hS.1 l (x + 16) q (Or.inr (Or.inl rfl)) k5 e)
      · omega
    rcases q with e | e | e | e | e | e
    · exact n1 e
    · exact n2 e
    · rw [e] at ls; exact ls hT.1
    · rw [e] at ls; exact ls hG.2.1.1
    · rw [e] at ls; exact ls hG.2.2.1.1
    · rw [e] at ls; exact ls hG.2.2.2.1.1
  have w0 : ¬ WR 0 := fun w => by
    have := kR 0 w
    rw [al.2 0 (Or.inr rfl)] at this
    omega
  have nI : ∀ b t u, hp_K h b = (t, u) → ¬ b = x + 15 → ¬ b = x + 16 → ¬ (t = 102 ∨ (t = 1 ∧ u = 10)) → ¬ WI b := by
    intro b t u e n1 n2 ht w
    rcases kI b w with q | q | q | q
    · exact n1 q
    · exact n2 q
    · rw [e] at q; cases q; omega
    · rw [e] at q; cases q; omega
  have nR : ∀ b t u, hp_K h b = (t, u) → ¬ b = x + 15 → ¬ b = x + 16 → ¬ (t = 5 ∨ (t = 108 ∧ x + 84 < b)) → ¬ WR b := by
    intro b t u e n1 n2 ht w
    rcases hr b w with (q | q) | q | q
    · exact n1 q
    · exact n2 q
    · rw [e] at q; dsimp only at q; omega
    · rw [e] at q; dsimp only at q; omega
  have s0 := hS.2 0 (by omega)
  have s1 := hS.2 1 (by omega)
  have s2 := hS.2 2 (by omega)
  obtain ⟨g1, g2⟩ := CReg_fr al hG fr (fun b w q => by
    rcases q with q | q | q | q | q
    · rcases kI b w with e | e | e | e
      · rw [e, k15] at q; dsimp only at q; omega
      · rw [e, k16] at q; dsimp only at q; omega
      · rw [e] at q; dsimp only at q; omega
      · rw [e] at q; dsimp only at q; omega
    · exact nI b 130 0 (by rw [q]; exact hG.2.1.1.1.1) (by omega) (by omega) (by decide) w
    · exact nI b 130 0 (by rw [q]; exact hG.2.2.1.1.1.1) (by omega) (by omega) (by decide) w
    · exact nI b 130 0 (by rw [q]; exact hG.2.2.2.1.1.1.1) (by omega) (by omega) (by decide) w
    · have k3 := hG.2.2.2.2.1.1.1
      exact nI b 1 36 (by rw [q]; exact k3) (by intro e; rw [← q, e, k15] at k3; cases k3) (by intro e; rw [← q, e, k16] at k3; cases k3) (by decide) w) (fun b w q => by
    rcases q with q | q | q | q | q | q | q | q
    · have := kR b w; omega
    · rw [q] at w; exact w0 w
    · exact nR b 130 0 (by rw [q]; exact hG.2.1.1.1.1) (by omega) (by omega) (by omega) w
    · exact nR b 130 0 (by rw [q]; exact hG.2.2.1.1.1.1) (by omega) (by omega) (by omega) w
    · exact nR b 130 0 (by rw [q]; exact hG.2.2.2.1.1.1.1) (by omega) (by omega) (by omega) w
    · exact arl _ (Or.inr (Or.inr (Or.inr (Or.inl rfl)))) (by omega) (by omega) ⟨by rw [← q.1]; exact w, q.2⟩
    · exact arl _ (Or.inr (Or.inr (Or.inr (Or.inr (Or.inl rfl))))) (by omega) (by omega) ⟨by rw [← q.1]; exact w, q.2⟩
    · exact arl _ (Or.inr (Or.inr (Or.inr (Or.inr (Or.inr rfl))))) (by omega) (by omega) ⟨by rw [← q.1]; exact w, q.2⟩)
  have stR : ∀ a k b, cw_R a k = some b → ¬ WR (x + a) := by
    intro a k b e
    unfold cw_R at e
    split at e <;> first | exact nR _ _ _ (hW.k rfl) (by omega) (by omega) (by omega) | cases e
  have L28 := LST_fr al hT.1 fr (nI _ _ _ hT.1.1.1 (by omega) (by omega) (by decide)) (nR _ _ _ hT.1.1.1 (by omega) (by omega) (by omega)) (arl _ (Or.inr (Or.inr (Or.inl rfl))) (by omega) (by omega)) w0
  have aL : ∀ l n, LST h l n → isL h x r l → ¬ l = x + 15 → ¬ l = x + 16 → arr h' l = arr h l := by
    intro l n hL q n1 n2
    show hp_R h' l 1 = _
    rw [fr.R (Al_lt al hL.1.1 (by decide)) (nR _ _ _ hL.1.1 n1 n2 (by omega))]
  refine ⟨⟨CW_fr hW fr stR, ?_, g1, ⟨L28.1, fun i hi' => ?_, fun i j hi' hj => ?_⟩, fun b hb => ?_, ?_⟩, ⟨g2, L28.2.1, fun k hk => ?_⟩, hi2, hr2⟩
  · rw [fr.R (Al_lt al hW.k0 (by decide)) (nR _ _ _ hW.k0 (by omega) (by omega) (by omega))]; exact hrr
  · rw [L28.2.2 i hi']
    obtain ⟨q1, q2⟩ := hT.2.1 i hi'
    have lb := Al_lt al q1 (by decide)
    rw [fr.K lb, fr.I lb (nI _ _ _ q1 (by intro e; rw [e, k15] at q1; cases q1) (by intro e; rw [e, k16] at q1; cases q1) (by decide))]
    exact ⟨q1, q2⟩
  · rw [L28.2.2 i hi', L28.2.2 j hj]; exact hT.2.2 i j hi' hj
  · have e : hp_K h (x + (30 + b)) = (108, 0) := by
      rcases (by omega : b = 0 ∨ b = 1 ∨ b = 2) with q | q | q <;> (subst q; exact hW.k rfl)
    rw [fr.R (Al_lt al e (by decide)) (nR _ _ _ e (by omega) (by omega) (by omega))]
    rcases hX b hb with q | ⟨q1, q2, q3⟩
    · exact Or.inl q
    · exact Or.inr ⟨q1, q2, CDay_fr al q3 fr hi2 hr2⟩
  · unfold CInt
    have k0 := hW.k0
    have k17 : hp_K h (x + 17) = (1, 10) := hW.k rfl
    have k13 : hp_K h (x + 13) = (2, 1600) := hW.k rfl
    rw [fr.I (Al_lt al k0 (by decide)) (nI _ _ _ k0 (by omega) (by omega) (by decide)), fr.I (Al_lt al k17 (by decide)) (fun w => by have := hi _ w; omega), fr.I (Al_lt al k13 (by decide)) (nI _ _ _ k13 (by omega) (by omega) (by decide))]
    exact hI
  · rcases (by omega : k = 0 ∨ k = 1 ∨ k = 2) with e | e | e <;> subst e
    · exact aL _ _ hG.2.1.1 (Or.inr (Or.inr (Or.inr (Or.inl rfl)))) (by omega) (by omega)
    · exact aL _ _ hG.2.2.1.1 (Or.inr (Or.inr (Or.inr (Or.inr (Or.inl rfl))))) (by omega) (by omega)
    · exact aL _ _ hG.2.2.2.1.1 (Or.inr (Or.inr (Or.inr (Or.inr (Or.inr rfl))))) (by omega) (by omega)
/-- lists stay apart: one of them may have got a new array -/
theorem CSep_mk {l0 : Nat} (al : Al h) (hS : CSep h x r) (fr : Fr WI WR c s h h') (lt : ∀ l, isL h x r l → arr h l < hp_n h) (hr : hp_R h' r = hp_R h r) (e1 : ∀ l, isL h x r l → ¬ l = l0 → arr h' l = arr h l) (e2 : arr h' l0 = arr h l0 ∨ hp_n h ≤ arr h' l0) : CSep h' x r := by
  have isl : ∀ l, isL h' x r l → isL h x r l := by
    intro l q; unfold isL at q ⊢; rw [hr] at q; exact q
  refine ⟨fun l l' q q' k5 e => ?_, fun k hk => by rw [hr]; exact hS.2 k hk⟩
  have i1 := isl l q
  have i2 := isl l' q'
  by_cases a : l = l0
  · by_cases b : l' = l0
    · rw [a, b]
    · rcases e2 with e2 | e2
      · rw [e1 l' i2 b, a, e2] at e
        rw [a, e2, fr.K (by have := lt l i1; rw [a] at this; exact this)] at k5
        exact hS.1 l l' i1 i2 (by rw [a]; exact k5) (by rw [a]; exact e)
      · rw [e1 l' i2 b, a] at e
        have := lt l' i2
        omega
  · rw [e1 l i1 a] at k5 e
    rw [fr.K (lt l i1)] at k5
    by_cases b : l' = l0
    · rcases e2 with e2 | e2
      · rw [b, e2] at e
        rw [b]
        exact hS.1 l l0 i1 (b ▸ i2) k5 e
      · rw [b] at e
        have := lt l i1
        omega
    · rw [e1 l' i2 b] at e
      exact hS.1 l l' i1 i2 k5 e
theorem isL_lt (hC : CR h V x r nM nD nB nA nU nT nL) : ∀ l, isL h x r l → arr h l < hp_n h := by
  obtain ⟨hW, hrr, hG, hN, hA, hT, hX, hI, hS, hF⟩ := hC
  intro l q
  rcases q with e | e | e | e | e | e <;> rw [e]
  · exact arr_lt hW.al hA.1
  · exact arr_lt hW.al hA.2.1
  · exact arr_lt hW.al hT.1
  · exact arr_lt hW.al hG.2.1.1
  · exact arr_lt hW.al hG.2.2.1.1
  · exact arr_lt hW.al hG.2.2.2.1.1
end CActs
