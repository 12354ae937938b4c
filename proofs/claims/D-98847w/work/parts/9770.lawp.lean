/-! THE LAW: what holds between calls -/
section LawP
variable {h h1 h2 H : am_H} {V V1 V' W : am_M} {x r nM nD nB nA nU nT nL : Nat} {c s : Nat} {b L N U : Nat} {S : Nat → Int32}
theorem CR_V (hC : CR h V x r nM nD nB nA nU nT nL) (e : Eqv V V') : CR h V' x r nM nD nB nA nU nT nL := by
  obtain ⟨hW, hr, hG, hN, hA, hT, hX, hI, hS, hF1, hF2⟩ := hC
  have e0 : ∀ j, (j = 69 ∨ j = 70 ∨ j = 93 ∨ j = 85 ∨ j = 1 ∨ j = 94 ∨ j = 2 ∨ j = 3) → V' 0 j = V 0 j := fun j z => by
    rcases z with z | z | z | z | z | z | z | z <;> (subst z; exact e _ _ rfl)
  refine ⟨hW, hr, CReg_V e.reg hG, CNow_V (fun j => e _ _ rfl) hN, CAct_V (fun j => e _ _ rfl) hA, CTug_V (fun a j z => ?_) hT, CBox_V (fun a j z => ?_) hX, CInt_V (fun a j z => ?_) hI, hS, WB_V e.reg hF1, WS_o (fun a j z => ?_) (fun b hb q => ?_) hF2⟩
  · rcases (by omega : a = 45 ∨ a = 46 ∨ a = 47 ∨ a = 48 ∨ a = 49) with z | z | z | z | z <;> (subst z; exact e _ _ rfl)
  · rcases z with z | z <;> (subst z; exact e _ _ rfl)
  · rcases z with z | z | ⟨z, z2⟩
    · subst z; exact e _ _ rfl
    · subst z; exact e _ _ rfl
    · subst z; exact e0 j (by omega)
  · rcases z with ⟨z, z2⟩ | z | z | z
    · subst z; exact e0 j (by omega)
    · subst z; exact e _ _ rfl
    · subst z; exact e _ _ rfl
    · subst z; exact e _ _ rfl
  · rw [e _ _ rfl] at q
    have := hF2.2.2.2.2.1 b hb q
    intro j hj
    obtain ⟨t, t1, t2⟩ := this j hj
    exact ⟨t, t1, by show V' 51 (24 * b + (10 + j)) = nI t; rw [e _ _ rfl]; exact t2⟩
theorem close_M (hC : CR h V1 x r nM nD nB nA nU nT nL) (e : Eqv V1 W) : CR (mh h (x + 33) W) (nV (mh h (x + 33) W) (x + 33)) x r nM nD nB nA nU nT nL := by
  have f : CR (mh h (x + 33) W) V1 x r nM nD nB nA nU nT nL := CR_fr hC (mh_on (m := x + 33)).fr (fun b w => by
    have w' : x + 33 ≤ b ∧ b ≤ x + 33 + 51 := w
    exact Or.inr (Or.inr (Or.inr (Or.inr (Or.inr (Or.inr ⟨w'.1, by omega, hC.1.2.2.2.2 b w'.1 (by omega)⟩))))))
  exact CR_V f (fun a j q => by rw [nV_mh (rel_51 q)]; exact e a j q)
theorem CR_n (hC : CR h V x r nM nD nB nA nU nT nL) {a : Nat} (ha : a ≤ 51) : x + 33 + a < hp_n h := by
  have k := hC.1.2.2.2.2 (x + 33 + a) (by omega) (by omega)
  apply Classical.byContradiction
  intro z
  have := hC.1.al.2 (x + 33 + a) (Or.inl (by omega))
  omega
theorem CR_x0 (hC : CR h V x r nM nD nB nA nU nT nL) : ¬ x = 0 := hC.1.1
theorem mid_V (hC : CR h V x r nM nD nB nA nU nT nL) (fr : CFr x c s h h1) : nV h1 (x + 33) = nV h (x + 33) := by
  funext a j
  unfold nV
  by_cases ha : a ≤ 51
  · rw [if_pos ha, if_pos ha]
    exact congrFun (fr.I (CR_n hC ha) (fun w => by have w' : x + 33 + a < x + 33 ∨ x + 84 < x + 33 + a := w; omega)) j
  · rw [if_neg ha, if_neg ha]
theorem mid_W (hC : CR h V x r nM nD nB nA nU nT nL) (hW : MW h (x + 33)) (fr : CFr x c s h h1) : MW h1 (x + 33) := by
  have n0 := CR_n hC (a := 0) (by omega)
  refine ⟨by rw [fr.K n0]; exact hW.1, hW.2.1, fun k a t u e => ?_⟩
  obtain ⟨q1, q2⟩ := hW.2.2 k a t u e
  have ha : a ≤ 51 := by
    have := mn_of e
    omega
  rw [fr.R n0 (fun w => by have w' : x + 33 < x + 33 ∨ x + 84 < x + 33 := w; omega), fr.K (CR_n hC ha)]
  exact ⟨q1, q2⟩
theorem Al_pos (al : Al h) : roB (hp_K h 0).1 = true ∧ 0 < hp_n h := ⟨by rw [al.2 0 (Or.inr rfl)]; rfl, al.1⟩
theorem RO_0 (al : Al h) (ro : RO h h1) : hp_R h1 0 = hp_R h 0 := (ro.2 0 (Al_pos al).2 (Al_pos al).1).2.1
theorem EM_RO (al : Al h) (em : EM h) (ro : RO h h1) : EM h1 := by
  unfold EM
  rw [RO_0 al ro, (ro.2 _ (Al_lt al em (by decide)) (by rw [show hp_K h (hp_R h 0 1) = (15, 0) from em]; rfl)).2.2]
  exact em
theorem SWd_RO (al : Al h) (sw : SWd h) (ro : RO h h1) : SWd h1 := by
  obtain ⟨q1, ⟨q2, q3⟩, q4, q5⟩ := sw
  have z := RO_0 al ro
  have a2 := ro.2 _ (Al_lt al q2 (by decide)) (by rw [q2]; rfl)
  have a4 := ro.2 _ (Al_lt al q4 (by decide)) (by rw [q4]; rfl)
  refine ⟨fun i hi => ?_, ⟨?_, fun j hj => ?_⟩, ?_, fun j hj => ?_⟩
  · obtain ⟨p1, p2, p3, p4⟩ := q1 i hi
    have a := ro.2 _ (Al_lt al p3 (by decide)) (by rw [p3]; rfl)
    rw [z, a.2.2, a.1]
    exact ⟨p1, p2, p3, p4⟩
  · rw [z, a2.2.2]; exact q2
  · rw [z, a2.2.1]; exact q3 j hj
  · rw [z, a4.2.2]; exact q4
  · rw [z, a4.2.1]; exact q5 j hj
/-- what holds between calls: class and model tell the same; the words, the empty row and the script stand -/
def WL (b L : Nat) (S : Nat → Int32) (x N U : Nat) (h : am_H) : Prop := (∃ r nM nD nB nA nU nT nL, CR h (nV h (x + 33)) x r nM nD nB nA nU nT nL) ∧ MW h (x + 33) ∧ SWd h ∧ EM h ∧ (hp_K h b = (11, L) ∧ hp_I h b = S) ∧ hp_n h ≤ N ∧ hp_u h ≤ U
theorem WL.mono (w : WL b L S x N U h) : WL b L S x (N + 4813) (U + 96200) h := ⟨w.1, w.2.1, w.2.2.1, w.2.2.2.1, w.2.2.2.2.1, by have := w.2.2.2.2.2.1; omega, by have := w.2.2.2.2.2.2; omega⟩
theorem WL.sc (w : WL b L S x N U h) (al : Al h) (ro : RO h h1) : hp_K h1 b = (11, L) ∧ hp_I h1 b = S := by
  obtain ⟨-, -, -, -, ⟨k1, k2⟩, -⟩ := w
  have a := ro.2 b (Al_lt al k1 (by decide)) (by rw [k1]; rfl)
  rw [a.2.2, a.1]
  exact ⟨k1, k2⟩
/-- behind a call of the class -/
theorem leaf (w : WL b L S x N U h) (hC0 : CR h (nV h (x + 33)) x r nM nD nB nA nU nT nL) {r' nM' nD' nB' nA' nU' nT' nL' : Nat} (hC1 : CR h1 V1 x r' nM' nD' nB' nA' nU' nT' nL') (fr : CFr x c s h h1) (hc : c ≤ 4813) (hs : s ≤ 96200) (ro : RO h h1) : MW h1 (x + 33) ∧ mh h1 (x + 33) (nV h (x + 33)) = h1 ∧ (hp_K h1 b = (11, L) ∧ hp_I h1 b = S) ∧ ∀ W, Eqv V1 W → RO (mh h1 (x + 33) (nV h (x + 33))) (mh h1 (x + 33) W) → WL b L S x (N + 4813) (U + 96200) (mh h1 (x + 33) W) := by
  have al := hC0.1.al
  have hW1 := mid_W hC0 w.2.1 fr
  have e1 : mh h1 (x + 33) (nV h (x + 33)) = h1 := by rw [← mid_V hC0 fr]; exact mh_self
  refine ⟨hW1, e1, w.sc al ro, fun W e ro2 => ?_⟩
  rw [e1] at ro2
  have rr := ro.tr ro2
  obtain ⟨-, -, sw, em, sc, hn, hu⟩ := id w
  refine ⟨⟨r', nM', nD', nB', nA', nU', nT', nL', close_M hC1 e⟩, hW1, SWd_RO al sw rr, EM_RO al em rr, w.sc al rr, ?_, ?_⟩
  · show hp_n h1 ≤ _
    have := fr.1.2
    omega
  · show hp_u h1 ≤ _
    have := fr.2.1
    omega
theorem rn_roI {d i pc : Nat} {ls st : List am_V} {h : am_H} {Q : Int32 → am_H → Prop} (k : Rn d i pc ls st h (kI (fun v h' => RO h h' → Q v h'))) : Rn d i pc ls st h (kI Q) := rn_mono (rn_ro k) (fun _ _ ⟨⟨v, e, q⟩, ro⟩ => ⟨v, e, q ro⟩)
theorem rn_roL {d i pc : Nat} {ls st : List am_V} {h : am_H} {Q : Int64 → am_H → Prop} (k : Rn d i pc ls st h (kL (fun v h' => RO h h' → Q v h'))) : Rn d i pc ls st h (kL Q) := rn_mono (rn_ro k) (fun _ _ ⟨⟨v, e, q⟩, ro⟩ => ⟨v, e, q ro⟩)
/-- the model answers the same from there on -/
def Mdl (b L : Nat) (S : Nat → Int32) (x N U i : Nat) (ls : List am_V) (v : Int32) (h1 : am_H) : Prop := ∀ k2 : Int32 → am_H → Prop, (∀ h2, WL b L S x (N + 4813) (U + 96200) h2 → k2 v h2) → Rn 1199 i 0 ls [] h1 (kI k2)
def MdlL (b L : Nat) (S : Nat → Int32) (x N U i : Nat) (ls : List am_V) (v : Int64) (h1 : am_H) : Prop := ∀ k2 : Int64 → am_H → Prop, (∀ h2, WL b L S x (N + 4813) (U + 96200) h2 → k2 v h2) → Rn 1199 i 0 ls [] h1 (kL k2)
theorem CFr_refl : CFr x 0 0 h h := Fr_w Fr_refl (fun _ _ w => absurd w id) (fun _ _ w => absurd w id) (Nat.le_refl _) (Nat.le_refl _)
end LawP
