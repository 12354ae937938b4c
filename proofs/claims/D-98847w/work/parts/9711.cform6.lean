/-! THE CLASS: the formula of a regiment -/
section CForm6
variable {h h' : am_H} {R F tp N : Nat} {T : tx} {g : rgT}
theorem RS.sR {j : Nat} {v : Int32} (q : RS h R F tp N T g) (hj : ¬ j = 1) : RS (hp_sI h R j v) R F tp N T g := by
  have rK := q.1.1.1
  exact ⟨q.1.fr (Fr_sI (a := R)) (fun b w => by rw [show b = R from w, rK]; decide) (fun b w => absurd w id) (by rw [sI_ne (by omega)]), q.2.1.fr q.1.2.2.2.2.2.2 (Fr_sI (a := R)) (fun b w => by rw [show b = R from w, rK]; exact Or.inl rfl) (fun b w => w), q.2.2⟩
theorem gu_0 (e : g.2.2.1.2 = 0) : gu g 0 = g := by
  obtain ⟨g1, g2, ⟨w, u⟩, g4⟩ := g
  cases e
  rfl
theorem RT.s_ {p j : Nat} {v : Int32} (q : RT h R N T p) (hj : 9 ≤ j) : RT (hp_sI h R j v) R N T p := by
  unfold RT
  rw [sI_ne (by omega), sI_ne (by omega), sI_ne (by omega), sI_ne (by omega)]
  exact q
theorem C_formula {d p : Nat} (hS : RS h R F tp N T g) (hg : g.2.2.1.2 = 0) (hT : RT h R N T p) {k : Nat → am_H → Prop} {xk : Nat → am_H → Prop} (hok : ∀ v a h', (lv T N 7).1 p 0 = .inl v → RS h' R F tp N T (gu g v.2.2) → RT h' R N T v.2.1 → FF R F (v.2.1 - p) h h' → Tree h' 320 a v.1 → ¬ a = 0 → k a h') (herr : ∀ e h', (lv T N 7).1 p 0 = .inr e → FF R F (N + 1 - p) h h' → Flt h' F e → xk F h') : Rn (d + 57) n_X10_formula 0 [am_r R] [] h (kX (kR k) xk) := by
  have rK := hS.1.1.1
  have rz := hS.1.1.2.1
  have f0 : FS (hp_sI (hp_sI h R 10 0) R 9 0) R F tp N T g 0 0 := ⟨by rw [gu_0 hg]; exact (hS.sR (by omega)).sR (by omega), by rw [sI_ne (by omega), sI_same]; rfl, by rw [sI_same]; rfl⟩
  have t0 : RT (hp_sI (hp_sI h R 10 0) R 9 0) R N T p := (hT.s_ (by omega)).s_ (by omega)
  have rK1 : hp_K (hp_sI h R 10 0) R = (110, 0) := rK
  have rK2 : hp_K (hp_sI (hp_sI h R 10 0) R 9 0) R = (110, 0) := rK
  have ff : FF R F 0 h (hp_sI (hp_sI h R 10 0) R 9 0) := Fr_tr (Fr_sI (a := R)) (Fr_sI (a := R)) (fun b _ w => Or.inr (Or.inl w)) (fun _ _ w => w) (fun b _ w => Or.inr (Or.inl w)) (fun _ _ w => w) (by omega) (by omega)
  have U := (C_lv (R := R) (F := F) (tp := tp) (N := N) (T := T) (g := g) 7 (by omega)).1
  have ho := (fok_lv (T := T) (N := N) 7 (by omega)).1
  refine rw_aload f_X10_formula_0 rfl ?_
  refine rw_const f_X10_formula_1 ?_
  refine rw_putI f_X10_formula_2 (by assumption) ?_
  refine rw_aload f_X10_formula_5 rfl ?_
  refine rw_const f_X10_formula_6 ?_
  refine rw_putI f_X10_formula_7 (by assumption) ?_
  refine rw_aload f_X10_formula_10 rfl ?_
  refine rw_callV f_X10_formula_11 rfl (by assumption) (by first | assumption | omega) rfl rfl rfl rfl (rn_kx rfl rn_hr (U.up (by omega) _ p 0 _ _ f0 t0 (by omega) (fun v a h1 e1 f1 t1 fr1 tr1 az => ?_) (fun e h1 e1 fr1 fl1 => herr e h1 e1 (FF_tr (k1 := 0) ff fr1 (by omega)) fl1)))
  refine rx_aret f_X10_formula_14 ?_
  have o1 := ho p 0 v hT.1 (by omega) e1
  exact hok v a h1 e1 f1.1 t1 (FF_tr (k1 := 0) ff fr1 (by omega)) (Tree_le tr1.tree (by omega)) az
/-- the formula is told to the regiment -/
theorem RS_wear {a u : Nat} {c : am_S} (hS : RS h R F tp N T (gu g u)) (tr : Tree h 320 a c) (az : ¬ a = 0) : RS (hp_sR h (R + 1) 4 a) R F tp N T (g.1, g.2.1, (some c, u), g.2.2.2) := by
  have al := hS.1.2.2.2.2.2.2
  obtain ⟨⟨k1, k2, k3, k4, k5, k6⟩, ⟨lM, lD, lO⟩, sp, ⟨b1, b2, b3⟩, is, w⟩ := hS.2.1
  have fr : Fr no (at_ (R + 1)) 0 0 h (hp_sR h (R + 1) 4 a) := Fr_sR
  have na : ∀ l n, LST h l n → ¬ (at_ (R + 1) (arr h l) ∧ 0 < lcap h l) := fun l n q z => by have := LST_k5 q z.2; rw [show arr h l = R + 1 from z.1, k1] at this; cases this
  have zM := LI_fr gMan al lM fr id (by show ¬ R + 2 = R + 1; omega) (na _ _ lM.1) (by show ¬ 0 = R + 1; omega) (fun b w => absurd w id)
  have zD := LI_fr gDeed al lD fr id (by show ¬ R + 2 + 1 = R + 1; omega) (na _ _ lD.1) (by show ¬ 0 = R + 1; omega) (fun b w => absurd w id)
  have zO := LI_fr gOath al lO fr id (by show ¬ R + 2 + 2 = R + 1; omega) (na _ _ lO.1) (by show ¬ 0 = R + 1; omega) (fun b w => absurd w id)
  refine ⟨hS.1.fr fr (fun b w => absurd w id) (fun b w => by rw [show b = R + 1 from w, k1]; exact ⟨by omega, by decide⟩) rfl, ⟨⟨k1, ?_, ?_, ?_, ?_, ?_⟩, ⟨zM.1, zD.1, zO.1⟩, ?_, ⟨b1, b2, b3⟩, is, ?_⟩, hS.2.2⟩
  · rw [sR_ne (by simp)]; exact k2
  · rw [sR_ne (by simp)]; exact k3
  · rw [sR_ne (by simp)]; exact k4
  · rw [sR_ne (by simp)]; exact k5
  · rw [sR_ne (by simp)]; exact k6
  · have ee : ∀ i, i < 3 → arr (hp_sR h (R + 1) 4 a) (R + 2 + i) = arr h (R + 2 + i) ∧ lcap (hp_sR h (R + 1) 4 a) (R + 2 + i) = lcap h (R + 2 + i) := by
      intro i hi
      rcases (by omega : i = 0 ∨ i = 1 ∨ i = 2) with e | e | e <;> rw [e]
      · exact zM.2
      · exact zD.2
      · exact zO.2
    intro i hi hc
    rw [(ee i hi).2] at hc
    obtain ⟨p1, p2⟩ := sp i hi hc
    refine ⟨by rw [(ee i hi).1]; exact p1, fun j hj e => p2 j hj ?_⟩
    rw [(ee i hi).1, (ee j hj).1] at e; exact e
  · rw [sR_same]
    exact ⟨az, Tree_fr al fr (fun b w => absurd w id) (fun b w q => by rw [show b = R + 1 from w, k1] at q; dsimp only at q; omega) _ _ _ tr⟩
end CForm6
