/-! THE CLASS: an act is kept -/
section CKeep2
variable {d : Nat} {h : am_H} {V : am_M} {x r nM nD nB nA nU nT nL : Nat}
theorem CDay_congr {a : Nat} {f g : Nat → Int32} (e : ∀ j, j < 23 → g j = f j) (q : CDay h x a f) : CDay h x a g := by
  obtain ⟨k1, q1, q2, q3, q4⟩ := q
  exact ⟨k1, fun b hb => by rw [e b (by omega), e (10 + b) (by omega)]; exact q1 b hb, by rw [e 20 (by omega)]; exact q2, by rw [e 21 (by omega)]; exact q3, by rw [e 22 (by omega)]; exact q4⟩
theorem KeptOK_congr {a : Nat} {f g : Nat → Int32} (e : ∀ j, j < 23 → g j = f j) (q : KeptOK h x a f) : KeptOK h x a g := ⟨q.1, q.2.1, CDay_congr e q.2.2⟩
/-- the rows move on by one -/
def shV (V : am_M) : am_M := fun a j => if a = 0 ∧ j = 69 then nI 39 else if a = 35 then (if j < 936 then V 35 (24 + j) else V 35 j) else V a j
theorem shV_o {V : am_M} {a j : Nat} (h1 : ¬ a = 35) (h2 : ¬ (a = 0 ∧ j = 69)) : shV V a j = V a j := by
  unfold shV; rw [if_neg h2, if_neg h1]
theorem shV_act (V : am_M) : actV (shV V) 39 = actV V 40 := by
  funext a j
  unfold actV
  by_cases e1 : a = 0 ∧ j = 69
  · rw [if_pos e1, if_pos e1]; rfl
  · rw [if_neg e1, if_neg e1]
    by_cases e2 : a = 0 ∧ j = 70
    · rw [if_pos e2, if_pos e2]
    · rw [if_neg e2, if_neg e2]
      by_cases e3 : a = 35
      · rw [if_pos e3, if_pos e3, if_neg (show ¬ (39 = 40) by decide), if_pos (show (40 = 40) from rfl)]
        by_cases e4 : j < 936
        · rw [if_pos e4, if_neg (by omega)]
          unfold shV
          rw [if_neg (by omega), if_pos rfl, if_pos e4]
        · rw [if_neg e4]
          by_cases e5 : j < 959
          · rw [if_pos e5, if_pos (by omega), shV_o (by omega) (by omega)]
          · rw [if_neg e5, if_neg (by omega)]
            unfold shV
            rw [if_neg (by omega), if_pos rfl, if_neg e4]
      · rw [if_neg e3, if_neg e3, shV_o e3 e1]
theorem CInt_V {V' : am_M} (e : ∀ a j, (a = 1 ∨ a = 42 ∨ (a = 0 ∧ (j = 1 ∨ j = 94 ∨ j = 2 ∨ j = 3 ∨ j = 85))) → V' a j = V a j) (hI : CInt h V x nL) : CInt h V' x nL := by
  obtain ⟨⟨i1, i2, i3, i4, i5, i6⟩, i7, i8⟩ := hI
  refine ⟨⟨?_, ?_, ?_, ?_, i5, ?_⟩, fun j hj => ?_, fun j hj => ?_⟩
  · rw [e 0 1 (by decide)]; exact i1
  · rw [e 0 94 (by decide)]; exact i2
  · rw [e 0 2 (by decide)]; exact i3
  · rw [e 0 3 (by decide)]; exact i4
  · rw [e 0 85 (by decide)]; exact i6
  · rw [e 42 j (by omega)]; exact i7 j hj
  · rw [e 1 j (by omega)]; exact i8 j hj
theorem CTug_V {V' : am_M} (e : ∀ a j, (45 ≤ a ∧ a ≤ 49) → V' a j = V a j) (hT : CTug h V x nT) : CTug h V' x nT := by
  obtain ⟨t1, t2, t3⟩ := hT
  refine ⟨t1, fun i hi => ?_, t3⟩
  rw [e 45 i (by omega), e 46 i (by omega), e 47 i (by omega), e 48 i (by omega), e 49 i (by omega)]
  exact t2 i hi
theorem CBox_V {V' : am_M} (e : ∀ a j, (a = 50 ∨ a = 51) → V' a j = V a j) (hX : CBox h V x) : CBox h V' x := by
  intro b hb
  have e2 : (fun j => V' 51 (24 * b + j)) = (fun j => V 51 (24 * b + j)) := funext fun j => e 51 _ (by omega)
  rw [e 50 b (by omega), e2]; exact hX b hb
theorem CNow_V {V' : am_M} (e : ∀ j, V' 34 j = V 34 j) (hN : CNow h V x) : CNow h V' x := by
  unfold CNow
  rw [e 20, e 21, e 22]
  exact ⟨fun b hb => by rw [e b, e (10 + b)]; exact hN.1 b hb, hN.2⟩
/-- the first act is dropped -/
theorem CR_drop (hC : CR h V x r nM nD nB 40 0 nT nL) {h' : am_H} (hL : AL h' (x + 15) 39 (arr h (x + 15)) (lcap h (x + 15))) (he : ∀ j, j < 39 → hp_R h' (arr h (x + 15)) j = hp_R h (arr h (x + 15)) (j + 1)) (fr : Fr (at_ (x + 15)) (at_ (arr h (x + 15))) 0 0 h h') : CR h' (shV V) x r nM nD nB 39 0 nT nL := by
  have hC0 := hC
  obtain ⟨hW, hr, hG, hN, hA, hT, hX, hI, hS, hF⟩ := hC
  have al := hW.al
  have hLA := hA.1
  have c0 : 0 < lcap h (x + 15) := by have := hLA.1.2.2.2.1; omega
  have k5 := LST_k5 hLA c0
  have hr15 : arr h' (x + 15) = arr h (x + 15) := hL.2.1
  obtain ⟨⟨a1, a2, a3, a4, a5, a6⟩, ⟨b1, b2, b3⟩, hi2, hr2⟩ := CR_A hC0 fr (fun b w => Or.inl w) (fun b w => Or.inr (Or.inl ⟨Or.inl w, by rw [show b = _ from w]; exact k5⟩))
  have n16 : ¬ (at_ (arr h (x + 15)) (arr h (x + 16)) ∧ 0 < lcap h (x + 16)) := by
    intro w
    have := hS.1 (x + 15) (x + 16) (Or.inl rfl) (Or.inr (Or.inl rfl)) k5 w.1.symm
    omega
  have nA16 : ¬ x + 16 = arr h (x + 15) := fun e => by rw [← e, hA.2.1.1.1] at k5; cases k5
  have L16 := LST_fr al hA.2.1 fr (show ¬ x + 16 = x + 15 by omega) nA16 n16 (fun w => by have w' : 0 = arr h (x + 15) := w; rw [← w', al.2 0 (Or.inr rfl)] at k5; cases k5)
  have l15 : LST h' (x + 15) 39 := by
    refine ⟨?_, hLA.2⟩
    have e2 : lcap h' (x + 15) = lcap h (x + 15) := by show (hp_K h' (arr h' (x + 15))).2 = _; rw [hr15, fr.K (arr_lt al hLA)]
    rw [hr15, e2]; exact hL
  have regV : ∀ a j, regA a j = true → shV V a j = V a j := by
    intro a j e
    exact shV_o (by rintro rfl; cases e) (by rintro ⟨rfl, rfl⟩; cases e)
  refine ⟨a1, a2, CReg_V regV a3, ?_, ?_, CTug_V (fun a j q => shV_o (by omega) (by omega)) a4, CBox_V (fun a j q => shV_o (by omega) (by omega)) a5, CInt_V (fun a j q => shV_o (by omega) (by omega)) a6, ?_, ⟨WB_V regV hF.1, ?_⟩⟩
  · refine CNow_V (fun j => shV_o (by omega) (by omega)) ?_
    unfold CNow
    have k7 : hp_K h (x + 7) = (102, 0) := hW.k rfl
    have k8 : hp_K h (x + 8) = (1, 10) := hW.k rfl
    have k9 : hp_K h (x + 9) = (1, 10) := hW.k rfl
    rw [fr.I (Al_lt al k7 (by decide)) (show ¬ x + 7 = x + 15 by omega), fr.I (Al_lt al k8 (by decide)) (show ¬ x + 8 = x + 15 by omega), fr.I (Al_lt al k9 (by decide)) (show ¬ x + 9 = x + 15 by omega)]
    exact hN
  · refine CAct_mk (K := fun i => kk h x 40 0 (i + 1)) l15 L16.1 (fun i hi => ?_) (fun j hj => absurd hj (Nat.not_lt_zero j)) (fun i hi => ?_) (fun i j hi hj e => ?_)
    · show hp_R h' (arr h' (x + 15)) i = _
      rw [hr15, he i hi]
      exact hA.e1 (by omega)
    · have q : KeptOK h x (kk h x 40 0 (i + 1)) _ := hA.2.2.1 (i + 1) (by omega)
      refine KeptOK_congr (fun j hj => ?_) (KeptOK_fr al q fr (fun w => ?_) hi2 hr2)
      · show shV V 35 (24 * i + j) = V 35 (24 * (i + 1) + j)
        unfold shV
        rw [if_neg (by omega), if_pos rfl, if_pos (by omega), show 24 + (24 * i + j) = 24 * (i + 1) + j by omega]
      · rw [← show _ = _ from w, q.1] at k5; cases k5
    · have := hA.2.2.2 (i + 1) (j + 1) (by omega) (by omega) e
      omega
  · refine CSep_mk (l0 := x + 15) al hS fr (isL_lt hC0) b1 (fun l q n => ?_) (Or.inl hr15)
    rcases q with e | e | e | e | e | e
    · exact absurd e n
    · rw [e]; exact L16.2.1
    · rw [e]; exact b2
    · rw [e]; exact b3 0 (by omega)
    · rw [e]; exact b3 1 (by omega)
    · rw [e]; exact b3 2 (by omega)
  · obtain ⟨⟨s1, s2, s3, s4, s5, s6, s7⟩, sT, s8, s9, s10, s11⟩ := hF.2
    refine ⟨⟨rfl, by rw [shV_o (by omega) (by omega)]; exact s2, by omega, by rw [shV_o (by omega) (by omega)]; exact s4, s5, by rw [shV_o (by omega) (by omega)]; exact s6, s7⟩, by rw [shV_o (by omega) (by omega)]; exact sT, ?_, ?_, ?_, ?_⟩
    · intro b hb; rw [shV_o (by omega) (by omega)]; exact s8 b hb
    · intro i hi b hb
      have := s9 (i + 1) (by omega) b hb
      show ∃ t, t ≤ 99 ∧ shV V 35 (24 * i + (10 + b)) = nI t
      unfold shV
      rw [if_neg (by omega), if_pos rfl, if_pos (by omega), show 24 + (24 * i + (10 + b)) = 24 * (i + 1) + (10 + b) by omega]
      exact this
    · intro b hb e
      rw [shV_o (by omega) (by omega)] at e
      intro c hc
      show ∃ t, t ≤ 99 ∧ shV V 51 _ = nI t
      rw [shV_o (by omega) (by omega)]
      exact s10 b hb e c hc
    · intro j hj; rw [shV_o (by omega) (by omega)]; exact s11 j hj
end CKeep2
