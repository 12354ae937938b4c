/-! THE CLASS: formulas, the world -/
section CForm
variable {d : Nat} {h h' : am_H} {R F tp N : Nat} {T : tx} {g : rgT} {c s : Nat}
/-- the regiment with u units -/
def gu (g : rgT) (u : Nat) : rgT := (g.1, g.2.1, (g.2.2.1.1, u), g.2.2.2)
/-- what a formula's reading may write: the fault, the reader, the regiment's ints; all else is new -/
abbrev fS (R F : Nat) : Nat → Prop := fun b => b = F ∨ b = R ∨ b = R + 1
abbrev FF (R F k : Nat) (h h' : am_H) : Prop := Fr (fS R F) no (3 * k) (60 * k) h h'
/-- while a formula is read: units u, open dp -/
def FS (h : am_H) (R F tp N : Nat) (T : tx) (g : rgT) (u dp : Nat) : Prop := RS h R F tp N T (gu g u) ∧ hp_I h R 10 = nI u ∧ hp_I h R 9 = nI dp
theorem FS.al {u dp : Nat} (q : FS h R F tp N T g u dp) : Al h := q.1.1.2.2.2.2.2.2
theorem FS.kk {u dp : Nat} (q : FS h R F tp N T g u dp) : ∀ b, fS R F b → (hp_K h b).1 = 110 ∨ (hp_K h b).1 = 103 ∨ (hp_K h b).1 = 101 := by
  intro b w
  rcases w with e | e | e
  · rw [e, q.1.1.2.2.1]; exact Or.inr (Or.inl rfl)
  · rw [e, q.1.1.1.1]; exact Or.inl rfl
  · rw [e, q.1.2.1.1.1]; exact Or.inr (Or.inr rfl)
/-- the world goes on -/
theorem FS.fr {u u2 dp dp2 : Nat} (q : FS h R F tp N T g u dp) (fr : Fr (fS R F) no c s h h') (e1 : hp_I h' R 1 = hp_I h R 1) (e9 : hp_I h' R 9 = nI dp2) (e10 : hp_I h' R 10 = nI u2) (e6 : hp_I h' (R + 1) 6 = nI u2) (eo : ∀ j, (j = 5 ∨ (7 ≤ j ∧ j ≤ 12)) → hp_I h' (R + 1) j = hp_I h (R + 1) j) : FS h' R F tp N T g u2 dp2 := by
  have kk := q.kk
  have al := q.al
  refine ⟨⟨q.1.1.fr fr (fun b w => by have := kk b w; omega) (fun b w => absurd w id) e1, ?_, q.1.2.2⟩, e10, e9⟩
  obtain ⟨⟨k1, k2, k3, k4, k5, k6⟩, ⟨lM, lD, lO⟩, sp, ⟨b1, b2, b3⟩, ⟨i5, i6, i7⟩, w⟩ := q.1.2.1
  have l1 := Al_lt al k1 (by decide)
  have l5 := Al_lt al b1 (by decide)
  have l6 := Al_lt al b3 (by decide)
  have nI : ∀ b t u, hp_K h b = (t, u) → ¬ t = 110 → ¬ t = 103 → ¬ t = 101 → ¬ fS R F b := fun b t u e n1 n2 n3 w => by
    have := kk b w
    rw [e] at this
    dsimp only at this
    omega
  have eR : hp_R h' (R + 1) = hp_R h (R + 1) := fr.R l1 (fun w => w)
  have hi2 : ∀ b, fS R F b → ¬ (112 ≤ (hp_K h b).1 ∧ (hp_K h b).1 ≤ 116) := fun b w => by
    have := kk b w
    omega
  have zM := LI_fr gMan al lM fr (nI _ _ _ lM.1.1.1 (by decide) (by decide) (by decide)) (fun w => w) (fun z => z.1) (fun w => w) hi2
  have zD := LI_fr gDeed al lD fr (nI _ _ _ lD.1.1.1 (by decide) (by decide) (by decide)) (fun w => w) (fun z => z.1) (fun w => w) hi2
  have zO := LI_fr gOath al lO fr (nI _ _ _ lO.1.1.1 (by decide) (by decide) (by decide)) (fun w => w) (fun z => z.1) (fun w => w) hi2
  unfold Rg
  rw [eR, eo 5 (by omega), e6, eo 7 (by omega), eo 8 (by omega), eo 9 (by omega), eo 10 (by omega), eo 11 (by omega), eo 12 (by omega), fr.K l1, fr.K l5, fr.K l6, fr.I l5 (nI _ _ _ b1 (by decide) (by decide) (by decide))]
  refine ⟨⟨k1, k2, k3, k4, k5, k6⟩, ⟨zM.1, zD.1, zO.1⟩, ?_, ⟨b1, b2, b3⟩, ⟨i5, rfl, i7⟩, ?_⟩
  · have ee : ∀ i, i < 3 → arr h' (R + 2 + i) = arr h (R + 2 + i) ∧ lcap h' (R + 2 + i) = lcap h (R + 2 + i) := by
      intro i hi
      rcases (by omega : i = 0 ∨ i = 1 ∨ i = 2) with e | e | e <;> rw [e]
      · exact zM.2
      · exact zD.2
      · exact zO.2
    intro i hi hc
    rw [(ee i hi).2] at hc
    obtain ⟨p1, p2⟩ := sp i hi hc
    refine ⟨by rw [(ee i hi).1]; exact p1, fun j hj e => p2 j hj ?_⟩
    rw [(ee i hi).1, (ee j hj).1] at e; exact e
  · revert w
    show PWear h _ g.2.2.1.1 → PWear h' _ g.2.2.1.1
    cases g.2.2.1.1 with
    | none => exact id
    | some c => exact fun w => ⟨w.1, Tree_fr al fr (fun b w q => by have := kk b w; omega) (fun b w => absurd w id) _ _ _ w.2⟩
/-- a reader's step -/
theorem FS.st {u dp : Nat} (q : FS h R F tp N T g u dp) (st : RSt R F h h') : FS h' R F tp N T g u dp := ⟨st.rs q.1, by rw [st.2 10 (by omega)]; exact q.2.1, by rw [st.2 9 (by omega)]; exact q.2.2⟩
theorem RSt.ff {k : Nat} (st : RSt R F h h') : FF R F k h h' := Fr_w st.1.fr (fun b _ w => by
    rcases w with e | e
    · exact Or.inr (Or.inl e)
    · exact Or.inl e) (fun _ _ w => absurd w id) (by omega) (by omega)
theorem FF_tr {k1 k2 k : Nat} {h1 h2 : am_H} (p : FF R F k1 h h1) (q : FF R F k2 h1 h2) (e : k1 + k2 ≤ k) : FF R F k h h2 := Fr_tr p q (fun _ _ w => w) (fun _ _ w => w) (fun _ _ w => w) (fun _ _ w => w) (by omega) (by omega)
theorem FS.tree {u dp n a : Nat} {cd : am_S} (q : FS h R F tp N T g u dp) (fr : Fr (fS R F) no c s h h') (t : Tree h n a cd) : Tree h' n a cd := Tree_fr q.al fr (fun b w z => by have := q.kk b w; omega) (fun b w => absurd w id) _ _ _ t
theorem C_partInit {a : Nat} (z : ¬ a = 0) {k : am_H → Prop} (hk : k h) : Rn d n_X17_init 0 [am_r a] [] h (kV k) := by
  refine rw_aload f_X17_init_0 rfl ?_
  refine rw_obj f_X17_init_1 (by first | assumption | omega) rfl ?_
  refine rw_vret f_X17_init_4 ?_
  exact hk
theorem C_notInit {a b : Nat} (ha : hp_K h a = (118, 0)) (z : ¬ a = 0) {k : am_H → Prop} (hk : k (hp_sR h a 0 b)) : Rn (d + 1) n_X18_init 0 [am_r a, am_r b] [] h (kV k) := by
  refine rw_aload f_X18_init_0 rfl ?_
  refine rw_callI f_X18_init_1 rfl (by first | assumption | omega) rfl rfl rfl (rn_kv (C_partInit z ?_))
  refine rw_aload f_X18_init_4 rfl ?_
  refine rw_aload f_X18_init_5 rfl ?_
  refine rw_putR f_X18_init_6 (by assumption) ?_
  refine rw_vret f_X18_init_9 ?_
  exact hk
theorem C_numInit {a : Nat} {v : Int32} (ha : hp_K h a = (119, 0)) (z : ¬ a = 0) {k : am_H → Prop} (hk : k (hp_sI h a 0 v)) : Rn (d + 1) n_X19_init 0 [am_r a, am_i v] [] h (kV k) := by
  refine rw_aload f_X19_init_0 rfl ?_
  refine rw_callI f_X19_init_1 rfl (by first | assumption | omega) rfl rfl rfl (rn_kv (C_partInit z ?_))
  refine rw_aload f_X19_init_4 rfl ?_
  refine rw_iload f_X19_init_5 rfl ?_
  refine rw_putI f_X19_init_6 (by assumption) ?_
  refine rw_vret f_X19_init_9 ?_
  exact hk
theorem C_namInit {a : Nat} {v : Int32} (ha : hp_K h a = (120, 0)) (z : ¬ a = 0) {k : am_H → Prop} (hk : k (hp_sI h a 0 v)) : Rn (d + 1) n_X20_init 0 [am_r a, am_i v] [] h (kV k) := by
  refine rw_aload f_X20_init_0 rfl ?_
  refine rw_callI f_X20_init_1 rfl (by first | assumption | omega) rfl rfl rfl (rn_kv (C_partInit z ?_))
  refine rw_aload f_X20_init_4 rfl ?_
  refine rw_iload f_X20_init_5 rfl ?_
  refine rw_putI f_X20_init_6 (by assumption) ?_
  refine rw_vret f_X20_init_9 ?_
  exact hk
theorem C_twoInit {a x y : Nat} {v : Int32} (ha : hp_K h a = (121, 0)) (z : ¬ a = 0) {k : am_H → Prop} (hk : k (hp_sR (hp_sR (hp_sI h a 0 v) a 1 x) a 2 y)) : Rn (d + 1) n_X21_init 0 [am_r a, am_i v, am_r x, am_r y] [] h (kV k) := by
  refine rw_aload f_X21_init_0 rfl ?_
  refine rw_callI f_X21_init_1 rfl (by first | assumption | omega) rfl rfl rfl (rn_kv (C_partInit z ?_))
  refine rw_aload f_X21_init_4 rfl ?_
  refine rw_iload f_X21_init_5 rfl ?_
  refine rw_putI f_X21_init_6 (by assumption) ?_
  refine rw_aload f_X21_init_9 rfl ?_
  refine rw_aload f_X21_init_10 rfl ?_
  refine rw_putR f_X21_init_11 (show hp_K (hp_sI h a 0 v) a = (121, 0) from ha) ?_
  refine rw_aload f_X21_init_14 rfl ?_
  refine rw_aload f_X21_init_15 rfl ?_
  refine rw_putR f_X21_init_16 (show hp_K (hp_sR (hp_sI h a 0 v) a 1 x) a = (121, 0) from ha) ?_
  refine rw_vret f_X21_init_19 ?_
  exact hk
end CForm
