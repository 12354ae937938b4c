/-! THE CLASS: new regiments, the reader, a regiment is read -/
section CRegi
variable {d : Nat} {h h' : am_H} {x R F tp N : Nat} {V : am_M} {T : tx} {g : rgT}
/-- the empty row of lists -/
def EM (h : am_H) : Prop := hp_K h (hp_R h 0 1) = (15, 0)
theorem J0_i {a : Nat} (z : ¬ a = 0) {k : am_H → Prop} (hk : k h) : Rn d n_J0_init 0 [am_r a] [] h (kV k) := by
  refine rw_aload f_J0_init_0 rfl ?_
  refine rw_obj f_J0_init_1 (by first | assumption | omega) rfl ?_
  refine rw_vret f_J0_init_4 ?_
  exact hk
theorem J1_i {a : Nat} (ka : hp_K h a = (130, 0)) (z : ¬ a = 0) {k : am_H → Prop} (hk : k (hp_sI h a 0 0)) : Rn (d + 1) n_J1_init 0 [am_r a] [] h (kV k) := by
  refine rw_aload f_J1_init_0 rfl ?_
  refine rw_callI f_J1_init_1 rfl (by first | assumption | omega) rfl rfl rfl (rn_kv (J0_i z ?_))
  refine rw_aload f_J1_init_4 rfl ?_
  refine rw_const f_J1_init_5 ?_
  refine rw_putI f_J1_init_6 (by assumption) ?_
  refine rw_vret f_J1_init_9 ?_
  exact hk
theorem J2_i {a : Nat} (ka : hp_K h a = (130, 0)) (z : ¬ a = 0) {k : am_H → Prop} (hk : k (hp_sR (hp_sI h a 0 0) a 1 (hp_R h 0 1))) : Rn (d + 2) n_J2_init 0 [am_r a] [] h (kV k) := by
  have kb : hp_K (hp_sI h a 0 0) a = (130, 0) := ka
  refine rw_aload f_J2_init_0 rfl ?_
  refine rw_callI f_J2_init_1 rfl (by first | assumption | omega) rfl rfl rfl (rn_kv (J1_i ka z ?_))
  refine rw_aload f_J2_init_4 rfl ?_
  refine rw_glob f_J2_init_5 ?_
  refine rw_putR f_J2_init_8 (by assumption) ?_
  refine rw_vret f_J2_init_11 ?_
  exact hk
/-- a new list: the heap behind 'new ArrayList()' -/
abbrev hNL (h : am_H) : am_H := hp_sR (hp_sI (hp_new h 130 0 3) (hp_n h) 0 0) (hp_n h) 1 (hp_R (hp_new h 130 0 3) 0 1)
theorem Fr_NL : Fr no no 1 3 h (hNL h) := Fr_tr (Fr_tr (WI := at_ (hp_n h)) (WR := no) (c := 1) (s := 3) Fr_new Fr_sI (fun _ _ w => absurd w id) (fun _ _ w => absurd w id) (fun _ _ w => w) (fun _ _ w => absurd w id) (by omega) (by omega)) Fr_sR (fun b hb w => by have w' : b = hp_n h := w; omega) (fun _ _ w => w) (fun _ _ w => absurd w id) (fun b hb w => by have w' : b = hp_n h := w; omega) (by omega) (by omega)
theorem NL_new (al : Al h) (em : EM h) : LST (hNL h) (hp_n h) 0 ∧ arr (hNL h) (hp_n h) = hp_R h 0 1 ∧ lcap (hNL h) (hp_n h) = 0 := by
  have h0 : ¬ (0 : Nat) = hp_n h := by have := al.1; omega
  have e1 : arr (hNL h) (hp_n h) = hp_R h 0 1 := by
    show hp_R (hNL h) (hp_n h) 1 = _
    rw [sR_same, new_Rne h0]
  have ne : ¬ hp_R h 0 1 = hp_n h := fun e => by have := Al_lt al em (by decide); omega
  have eK : hp_K (hNL h) (hp_R h 0 1) = (15, 0) := by
    show hp_K (hp_new h 130 0 3) _ = _
    rw [new_Kne ne]; exact em
  have e2 : lcap (hNL h) (hp_n h) = 0 := by show (hp_K (hNL h) (arr (hNL h) (hp_n h))).2 = 0; rw [e1, eK]
  refine ⟨⟨⟨new_K, rfl, ?_, by omega, by rw [e2]; omega, Or.inr ⟨e2, ?_, ?_⟩, fun j hj => absurd hj (Nat.not_lt_zero j)⟩, by omega⟩, e1, e2⟩
  · show hp_I (hp_sI (hp_new h 130 0 3) (hp_n h) 0 0) (hp_n h) 2 = nI 0
    rw [sI_ne (by simp), new_I]; rfl
  · show hp_R (hNL h) 0 1 = arr (hNL h) (hp_n h)
    rw [e1, sR_ne (by omega)]
    show hp_R (hp_new h 130 0 3) 0 1 = _
    rw [new_Rne h0]
  · show hp_K (hNL h) (arr (hNL h) (hp_n h)) = _
    rw [e1]; exact eK
theorem EM.fr {WI WR : Nat → Prop} {c s : Nat} (al : Al h) (em : EM h) (fr : Fr WI WR c s h h') (h0 : ¬ WR 0) : EM h' := by
  unfold EM
  rw [fr.R (show 0 < hp_n h from al.1) h0, fr.K (Al_lt al em (by decide))]
  exact em
/-- a list stands while other cells are made and written -/
theorem LST_std {WI WR : Nat → Prop} {c s l n : Nat} (al : Al h) (L : LST h l n) (fr : Fr WI WR c s h h') (h1 : ¬ WI l) (h2 : ¬ WR l) (h3 : lcap h l = 0) (h0 : ¬ WR 0) : LST h' l n ∧ arr h' l = arr h l ∧ lcap h' l = 0 := by
  obtain ⟨z1, z2, z3⟩ := LST_fr al L fr h1 h2 (fun w => by omega) h0
  refine ⟨z1, z2, ?_⟩
  show (hp_K h' (arr h' l)).2 = 0
  rw [z2, fr.K (arr_lt al L)]; exact h3
theorem C_regInit (kR : hp_K h (R + 1) = (101, 0)) (hn : hp_n h = R + 2) (al : Al h) (em : EM h) (zI : ∀ j, hp_I h (R + 1) j = 0) (zR : hp_R h (R + 1) 4 = 0) {k : am_H → Prop} (hk : ∀ h', Rg h' R rg0 → (∀ i, i < 3 → lcap h' (R + 2 + i) = 0) → Fr (at_ (R + 1)) (at_ (R + 1)) 5 49 h h' → hp_n h' = R + 7 → k h') : Rn (d + 3) n_X1_init 0 [am_r (R + 1), am_u] [] h (kV k) := by
  have rz : ¬ R + 1 = 0 := by omega
  -- three lists, two rows
  have lz : ∀ q, ¬ R + 2 + q = 0 := fun q => by omega
  have st : ∀ (h1 : am_H) (j : Nat), hp_K h1 (R + 1) = (101, 0) → R + 1 < hp_n h1 → Al h1 → Fr no (at_ (R + 1)) 1 3 h1 (hp_sR (hNL h1) (R + 1) j (hp_n h1)) := fun h1 j _ _ _ => Fr_tr Fr_NL Fr_sR (fun _ _ w => w) (fun _ _ w => absurd w id) (fun _ _ w => w) (fun _ _ w => w) (by omega) (by omega)
  have a0 : ¬ hp_n h = 0 := by omega
  have k0 : hp_K (hp_new h 130 0 3) (hp_n h) = (130, 0) := new_K
  refine rw_aload f_X1_init_0 rfl ?_
  refine rw_obj f_X1_init_1 (by first | assumption | omega) rfl ?_
  refine rw_aload f_X1_init_4 rfl ?_
  refine rw_new f_X1_init_5 ?_
  first | refine rw_dupr f_X1_init_8 ?_ | refine rw_dupi f_X1_init_8 ?_
  refine rw_callI f_X1_init_9 rfl (by first | assumption | omega) rfl rfl rfl (rn_kv (J2_i k0 a0 ?_))
  have kR0 : hp_K (hNL h) (R + 1) = (101, 0) := by (show hp_K (hp_new h 130 0 3) _ = _; rw [new_Kne (by omega)]; exact kR)
  refine rw_putR f_X1_init_12 (by assumption) ?_
  skip
  have f1 := st h 0 kR (by omega) al
  obtain ⟨L1, A1, C1⟩ := NL_new al em
  have n1 : hp_n (hp_sR (hNL h) (R + 1) 0 (hp_n h)) = R + 3 := by show hp_n h + 1 = _; omega
  have L1' : LST (hp_sR (hNL h) (R + 1) 0 (hp_n h)) (R + 2) 0 ∧ lcap (hp_sR (hNL h) (R + 1) 0 (hp_n h)) (R + 2) = 0 := by
    have := LST_std (h := hNL h) (h' := hp_sR (hNL h) (R + 1) 0 (hp_n h)) (Fr_NL.al al) L1 (Fr_sR (a := R + 1)) id (by show ¬ hp_n h = R + 1; omega) C1 (by show ¬ 0 = R + 1; omega)
    rw [hn] at this ⊢
    exact ⟨this.1, this.2.2⟩
  have kR1 : hp_K (hp_sR (hNL h) (R + 1) 0 (hp_n h)) (R + 1) = (101, 0) := kR0
  have r0 : hp_R (hp_sR (hNL h) (R + 1) 0 (hp_n h)) (R + 1) 0 = R + 2 := by rw [sR_same, hn]
  have al1 := f1.al al
  have em1 : EM (hp_sR (hNL h) (R + 1) 0 (hp_n h)) := em.fr al f1 (by show ¬ 0 = R + 1; omega)
  have I1 : ∀ j, hp_I (hp_sR (hNL h) (R + 1) 0 (hp_n h)) (R + 1) j = 0 := fun j => by rw [f1.I (by omega) id]; exact zI j
  have R1 : hp_R (hp_sR (hNL h) (R + 1) 0 (hp_n h)) (R + 1) 4 = 0 := by rw [sR_ne (by omega)]; exact (congrFun (Fr_NL.R (show R + 1 < hp_n h by omega) id) 4).trans zR
  generalize hp_sR (hNL h) (R + 1) 0 (hp_n h) = h1 at *
  have a1 : ¬ hp_n h1 = 0 := by omega
  have k1 : hp_K (hp_new h1 130 0 3) (hp_n h1) = (130, 0) := new_K
  have kR1' : hp_K (hNL h1) (R + 1) = (101, 0) := by show hp_K (hp_new h1 130 0 3) _ = _; rw [new_Kne (by omega)]; exact kR1
  refine rw_aload f_X1_init_15 rfl ?_
  refine rw_new f_X1_init_16 ?_
  first | refine rw_dupr f_X1_init_19 ?_ | refine rw_dupi f_X1_init_19 ?_
  refine rw_callI f_X1_init_20 rfl (by first | assumption | omega) rfl rfl rfl (rn_kv (J2_i k1 a1 ?_))
  refine rw_putR f_X1_init_23 (by assumption) ?_
  skip
  have f2 := st h1 1 kR1 (by omega) al1
  obtain ⟨L2, A2, C2⟩ := NL_new al1 em1
  have n2 : hp_n (hp_sR (hNL h1) (R + 1) 1 (hp_n h1)) = R + 4 := by show hp_n h1 + 1 = _; omega
  have L2' : LST (hp_sR (hNL h1) (R + 1) 1 (hp_n h1)) (R + 2 + 1) 0 ∧ lcap (hp_sR (hNL h1) (R + 1) 1 (hp_n h1)) (R + 2 + 1) = 0 := by
    have := LST_std (h := hNL h1) (h' := hp_sR (hNL h1) (R + 1) 1 (hp_n h1)) (Fr_NL.al al1) L2 (Fr_sR (a := R + 1)) id (by show ¬ hp_n h1 = R + 1; omega) C2 (by show ¬ 0 = R + 1; omega)
    rw [n1] at this ⊢
    exact ⟨this.1, this.2.2⟩
  have L12 := LST_std al1 L1'.1 f2 id (by show ¬ R + 2 = R + 1; omega) L1'.2 (by show ¬ 0 = R + 1; omega)
  have kR2 : hp_K (hp_sR (hNL h1) (R + 1) 1 (hp_n h1)) (R + 1) = (101, 0) := kR1'
  have r02 : hp_R (hp_sR (hNL h1) (R + 1) 1 (hp_n h1)) (R + 1) 0 = R + 2 := by rw [sR_ne (by omega)]; exact (congrFun (Fr_NL.R (show R + 1 < hp_n h1 by omega) id) 0).trans r0
  have r12 : hp_R (hp_sR (hNL h1) (R + 1) 1 (hp_n h1)) (R + 1) 1 = R + 2 + 1 := by rw [sR_same, n1]
  have al2 := f2.al al1
  have em2 : EM (hp_sR (hNL h1) (R + 1) 1 (hp_n h1)) := em1.fr al1 f2 (by show ¬ 0 = R + 1; omega)
  have I2 : ∀ j, hp_I (hp_sR (hNL h1) (R + 1) 1 (hp_n h1)) (R + 1) j = 0 := fun j => by rw [f2.I (by omega) id]; exact I1 j
  have R2 : hp_R (hp_sR (hNL h1) (R + 1) 1 (hp_n h1)) (R + 1) 4 = 0 := by rw [sR_ne (by omega)]; exact (congrFun (Fr_NL.R (show R + 1 < hp_n h1 by omega) id) 4).trans R1
  generalize hp_sR (hNL h1) (R + 1) 1 (hp_n h1) = h2 at *
  have a2 : ¬ hp_n h2 = 0 := by omega
  have k2 : hp_K (hp_new h2 130 0 3) (hp_n h2) = (130, 0) := new_K
  have kR2' : hp_K (hNL h2) (R + 1) = (101, 0) := by show hp_K (hp_new h2 130 0 3) _ = _; rw [new_Kne (by omega)]; exact kR2
  refine rw_aload f_X1_init_26 rfl ?_
  refine rw_new f_X1_init_27 ?_
  first | refine rw_dupr f_X1_init_30 ?_ | refine rw_dupi f_X1_init_30 ?_
  refine rw_callI f_X1_init_31 rfl (by first | assumption | omega) rfl rfl rfl (rn_kv (J2_i k2 a2 ?_))
  refine rw_putR f_X1_init_34 (by assumption) ?_
  skip
  have f3 := st h2 2 kR2 (by omega) al2
  obtain ⟨L3, A3, C3⟩ := NL_new al2 em2
  have n3 : hp_n (hp_sR (hNL h2) (R + 1) 2 (hp_n h2)) = R + 5 := by show hp_n h2 + 1 = _; omega
  have L3' : LST (hp_sR (hNL h2) (R + 1) 2 (hp_n h2)) (R + 2 + 2) 0 ∧ lcap (hp_sR (hNL h2) (R + 1) 2 (hp_n h2)) (R + 2 + 2) = 0 := by
    have := LST_std (h := hNL h2) (h' := hp_sR (hNL h2) (R + 1) 2 (hp_n h2)) (Fr_NL.al al2) L3 (Fr_sR (a := R + 1)) id (by show ¬ hp_n h2 = R + 1; omega) C3 (by show ¬ 0 = R + 1; omega)
    rw [n2] at this ⊢
    exact ⟨this.1, this.2.2⟩
  have L13 := LST_std al2 L12.1 f3 id (by show ¬ R + 2 = R + 1; omega) L12.2.2 (by show ¬ 0 = R + 1; omega)
  have L23 := LST_std al2 L2'.1 f3 id (by show ¬ R + 2 + 1 = R + 1; omega) L2'.2 (by show ¬ 0 = R + 1; omega)
  have kR3 : hp_K (hp_sR (hNL h2) (R + 1) 2 (hp_n h2)) (R + 1) = (101, 0) := kR2'
  have r03 : hp_R (hp_sR (hNL h2) (R + 1) 2 (hp_n h2)) (R + 1) 0 = R + 2 := by rw [sR_ne (by omega)]; exact (congrFun (Fr_NL.R (show R + 1 < hp_n h2 by omega) id) 0).trans r02
  have r13 : hp_R (hp_sR (hNL h2) (R + 1) 2 (hp_n h2)) (R + 1) 1 = R + 2 + 1 := by rw [sR_ne (by omega)]; exact (congrFun (Fr_NL.R (show R + 1 < hp_n h2 by omega) id) 1).trans r12
  have r23 : hp_R (hp_sR (hNL h2) (R + 1) 2 (hp_n h2)) (R + 1) 2 = R + 2 + 2 := by rw [sR_same, n2]
  have al3 := f3.al al2
  have I3 : ∀ j, hp_I (hp_sR (hNL h2) (R + 1) 2 (hp_n h2)) (R + 1) j = 0 := fun j => by rw [f3.I (by omega) id]; exact I2 j
  have R3 : hp_R (hp_sR (hNL h2) (R + 1) 2 (hp_n h2)) (R + 1) 4 = 0 := by rw [sR_ne (by omega)]; exact (congrFun (Fr_NL.R (show R + 1 < hp_n h2 by omega) id) 4).trans R2
  have f13 : Fr (at_ (R + 1)) (at_ (R + 1)) 3 9 h (hp_sR (hNL h2) (R + 1) 2 (hp_n h2)) := Fr_tr (Fr_tr (WI := at_ (R + 1)) (WR := at_ (R + 1)) (c := 2) (s := 6) f1 f2 (fun _ _ w => absurd w id) (fun _ _ w => w) (fun _ _ w => absurd w id) (fun _ _ w => w) (by omega) (by omega)) f3 (fun _ _ w => w) (fun _ _ w => w) (fun _ _ w => absurd w id) (fun _ _ w => w) (by omega) (by omega)
  generalize hp_sR (hNL h2) (R + 1) 2 (hp_n h2) = h3 at *
  have kR3n : hp_K (hp_new h3 1 36 36) (R + 1) = (101, 0) := by rw [new_Kne (by omega)]; exact kR3
  refine rw_aload f_X1_init_37 rfl ?_
  refine rw_const f_X1_init_38 ?_
  refine rw_newa (n := 36) f_X1_init_40 rfl (by decide) ?_
  refine rw_putR f_X1_init_42 (by assumption) ?_
  refine rw_aload f_X1_init_45 rfl ?_
  refine rw_const f_X1_init_46 ?_
  have kR4 : hp_K (hp_sR (hp_new h3 1 36 36) (R + 1) 3 (hp_n h3)) (R + 1) = (101, 0) := kR3n
  refine rw_putI f_X1_init_48 (by assumption) ?_
  refine rw_aload f_X1_init_51 rfl ?_
  refine rw_const f_X1_init_52 ?_
  refine rw_newa (n := 4) f_X1_init_53 rfl (by decide) ?_
  have kR5 : hp_K (hp_new (hp_sI (hp_sR (hp_new h3 1 36 36) (R + 1) 3 (hp_n h3)) (R + 1) 7 8) 1 4 4) (R + 1) = (101, 0) := by (rw [new_Kne (show ¬ R + 1 = hp_n h3 + 1 by omega)]; exact kR4)
  refine rw_putR f_X1_init_55 (by assumption) ?_
  refine rw_const f_X1_init_58 ?_
  refine rw_istore f_X1_init_59 rfl rfl ?_
  skip
  generalize hH : hp_sR (hp_new (hp_sI (hp_sR (hp_new h3 1 36 36) (R + 1) 3 (hp_n h3)) (R + 1) 7 8) 1 4 4) (R + 1) 13 (hp_n (hp_sI (hp_sR (hp_new h3 1 36 36) (R + 1) 3 (hp_n h3)) (R + 1) 7 8)) = h4
  have e4 : hp_n (hp_sI (hp_sR (hp_new h3 1 36 36) (R + 1) 3 (hp_n h3)) (R + 1) 7 8) = R + 6 := by show hp_n h3 + 1 = _; omega
  have f34 : Fr (at_ (R + 1)) (at_ (R + 1)) 2 40 h3 h4 := by
    rw [← hH]
    exact Fr_tr (Fr_tr (Fr_tr (Fr_tr (WI := no) (WR := at_ (R + 1)) (c := 1) (s := 36) Fr_new Fr_sR (fun _ _ w => w) (fun _ _ w => absurd w id) (fun _ _ w => w) (fun _ _ w => w) (by omega) (by omega)) Fr_sI (WI := at_ (R + 1)) (WR := at_ (R + 1)) (c := 1) (s := 36) (fun _ _ w => absurd w id) (fun _ _ w => w) (fun _ _ w => w) (fun _ _ w => absurd w id) (by omega) (by omega)) Fr_new (WI := at_ (R + 1)) (WR := at_ (R + 1)) (c := 2) (s := 40) (fun _ _ w => w) (fun _ _ w => w) (fun _ _ w => absurd w id) (fun _ _ w => absurd w id) (by omega) (by omega)) Fr_sR (fun _ _ w => w) (fun _ _ w => w) (fun _ _ w => absurd w id) (fun _ _ w => w) (by omega) (by omega)
  have K1 : hp_K h4 (R + 1) = (101, 0) := by rw [← hH]; exact kR5
  have K5 : hp_K h4 (R + 5) = (1, 36) := by
    rw [← hH]
    show hp_K (hp_new (hp_sI (hp_sR (hp_new h3 1 36 36) (R + 1) 3 (hp_n h3)) (R + 1) 7 8) 1 4 4) (R + 5) = _
    rw [new_Kne (by omega)]
    show hp_K (hp_new h3 1 36 36) (R + 5) = _
    rw [← n3]; exact new_K
  have K6 : hp_K h4 (R + 6) = (1, 4) := by
    rw [← hH]
    show hp_K (hp_new (hp_sI (hp_sR (hp_new h3 1 36 36) (R + 1) 3 (hp_n h3)) (R + 1) 7 8) 1 4 4) (R + 6) = _
    rw [← e4]; exact new_K
  have q0 : ∀ j, ¬ j = 13 → ¬ j = 3 → hp_R h4 (R + 1) j = hp_R h3 (R + 1) j := fun j j1 j2 => by
    rw [← hH, sR_ne (by omega), new_Rne (show ¬ R + 1 = hp_n h3 + 1 by omega)]
    show hp_R (hp_sR (hp_new h3 1 36 36) (R + 1) 3 (hp_n h3)) (R + 1) j = _
    rw [sR_ne (by omega), new_Rne (by omega)]
  have q3 : hp_R h4 (R + 1) 3 = R + 5 := by
    rw [← hH, sR_ne (by omega), new_Rne (show ¬ R + 1 = hp_n h3 + 1 by omega)]
    show hp_R (hp_sR (hp_new h3 1 36 36) (R + 1) 3 (hp_n h3)) (R + 1) 3 = _
    rw [sR_same, n3]
  have q13 : hp_R h4 (R + 1) 13 = R + 6 := by rw [← hH, sR_same, e4]
  have qI : ∀ j, hp_I h4 (R + 1) j = if j = 7 then 8 else 0 := fun j => by
    rw [← hH]
    show hp_I (hp_new (hp_sI (hp_sR (hp_new h3 1 36 36) (R + 1) 3 (hp_n h3)) (R + 1) 7 8) 1 4 4) (R + 1) j = _
    rw [new_Ine (show ¬ R + 1 = hp_n h3 + 1 by omega), sI_if]
    by_cases c : j = 7
    · rw [if_pos ⟨rfl, c⟩, if_pos c]
    · rw [if_neg (fun z => c z.2), if_neg c]
      show hp_I (hp_new h3 1 36 36) (R + 1) j = _
      rw [new_Ine (by omega)]; exact I3 j
  have n4 : hp_n h4 = R + 7 := by rw [← hH]; show hp_n h3 + 1 + 1 = _; omega
  clear hH
  have al4 := f34.al al3
  refine rn_inv (N := 36) (fun b ls hh => ls = [am_r (R + 1), am_i (nI b)] ∧ On (at_ (R + 5)) h4 hh ∧ ∀ j, j < b → hp_I hh (R + 5) j = -100) (fun b hb ls hh hI ih => ?_) (fun ls hh hI => ?_) ⟨rfl, On_refl, fun j hj => absurd hj (Nat.not_lt_zero j)⟩
  · obtain ⟨rfl, on, hq⟩ := hI
    have K1' : hp_K hh (R + 1) = (101, 0) := by rw [on.K]; exact K1
    have K5' : hp_K hh (R + 5) = (1, 36) := by rw [on.K]; exact K5
    have q3' : hp_R hh (R + 1) 3 = R + 5 := by rw [on.R]; exact q3
    refine rw_iload f_X1_init_60 rfl ?_
    refine rw_const f_X1_init_61 ?_
    refine rw_icmpF f_X1_init_63 (decide_eq_false (by rw [show (36 : Int32) = nI 36 from rfl]; exact nI_ge hb (by omega))) ?_
    refine rw_aload f_X1_init_66 rfl ?_
    refine rw_getR f_X1_init_67 (by assumption) (by first | assumption | rfl) ?_
    refine rw_iload f_X1_init_70 rfl ?_
    refine rw_const f_X1_init_71 ?_
    refine rw_iastE (j := b) f_X1_init_73 (by assumption) (by first | rfl | exact nI_addl _ _ | (simp only [nI, Int32.ofNat_add, Int32.ofNat_mul]; rfl) | (simp only [nI_addl, nI_mull, nI_lit, nI_1']; done) | (simp only [nI_1, nI_0, nI_addl, nI_mull, ← nI_succ]; rfl)) (by omega) (by omega) ?_
    refine rw_iinc f_X1_init_74 rfl rfl ?_
    refine rw_goto f_X1_init_77 ?_
    rw [nI_1']
    refine ih _ _ ⟨rfl, on.tr (On_sI rfl), fun j hj => ?_⟩
    (by_cases e : j = b)
    · (rw [e, sI_same])
    · (rw [sI_ne (by omega)]; exact hq j (by omega))
  · obtain ⟨rfl, on, hq⟩ := hI
    have fx : Fr (at_ (R + 1)) (at_ (R + 1)) 5 49 h hh := Fr_tr (Fr_tr f13 f34 (WI := at_ (R + 1)) (WR := at_ (R + 1)) (c := 5) (s := 49) (fun _ _ w => w) (fun _ _ w => w) (fun _ _ w => w) (fun _ _ w => w) (by omega) (by omega)) on.fr (fun _ _ w => w) (fun _ _ w => w) (fun b hb w => by have w' : b = R + 5 := w; omega) (fun _ _ w => absurd w id) (by omega) (by omega)
    have f3h : Fr (fun b => b = R + 1 ∨ b = R + 5) (at_ (R + 1)) 2 40 h3 hh := Fr_tr f34 on.fr (fun _ _ w => Or.inl w) (fun _ _ w => w) (fun _ _ w => Or.inr w) (fun _ _ w => absurd w id) (by omega) (by omega)
    have z0 : ¬ (at_ (R + 1)) 0 := by show ¬ 0 = R + 1; omega
    have M1 := LST_std al3 L13.1 f3h (by omega) (by show ¬ R + 2 = R + 1; omega) L13.2.2 z0
    have M2 := LST_std al3 L23.1 f3h (by omega) (by show ¬ R + 2 + 1 = R + 1; omega) L23.2.2 z0
    have M3 := LST_std al3 L3'.1 f3h (by omega) (by show ¬ R + 2 + 2 = R + 1; omega) L3'.2 z0
    have lc : ∀ i, i < 3 → lcap hh (R + 2 + i) = 0 := by
      intro i hi
      rcases (by omega : i = 0 ∨ i = 1 ∨ i = 2) with e | e | e <;> rw [e]
      · exact M1.2.2
      · exact M2.2.2
      · exact M3.2.2
    have K1' : hp_K hh (R + 1) = (101, 0) := by rw [on.K]; exact K1
    have nh : hp_n hh = R + 7 := by rw [on.n]; exact n4
    refine rw_iload f_X1_init_60 rfl ?_
    refine rw_const f_X1_init_61 ?_
    refine rw_icmpT f_X1_init_63 (by decide) ?_
    refine rw_vret f_X1_init_80 ?_
    refine hk hh ⟨⟨K1', ?_, ?_, ?_, ?_, ?_⟩, ⟨⟨M1.1, by decide, fun i v e => by simp [rg0] at e⟩, ⟨M2.1, by decide, fun i v e => by simp [rg0] at e⟩, ⟨M3.1, by decide, fun i v e => by simp [rg0] at e⟩⟩, fun i hi hc => by have := lc i hi; omega, ⟨by rw [on.K]; exact K5, fun j hj => hq j hj, by rw [on.K]; exact K6⟩, ⟨?_, ?_, ?_, ?_, ?_, ?_, ?_, ?_⟩, ?_⟩ lc fx nh
    · rw [on.R, q0 0 (by omega) (by omega)]; exact r03
    · rw [on.R, q0 1 (by omega) (by omega)]; exact r13
    · rw [on.R, q0 2 (by omega) (by omega)]; exact r23
    · rw [on.R]; exact q3
    · rw [on.R]; exact q13
    · rw [on.I (show ¬ R + 1 = R + 5 by omega), qI]; rfl
    · rw [on.I (show ¬ R + 1 = R + 5 by omega), qI]; rfl
    · rw [on.I (show ¬ R + 1 = R + 5 by omega), qI]; rfl
    · rw [on.I (show ¬ R + 1 = R + 5 by omega), qI]; rfl
    · rw [on.I (show ¬ R + 1 = R + 5 by omega), qI]; rfl
    · rw [on.I (show ¬ R + 1 = R + 5 by omega), qI]; rfl
    · rw [on.I (show ¬ R + 1 = R + 5 by omega), qI]; rfl
    · rw [on.I (show ¬ R + 1 = R + 5 by omega), qI]; rfl
    · show hp_R hh (R + 1) 4 = 0
      rw [on.R, q0 4 (by omega) (by omega)]; exact R3
end CRegi
