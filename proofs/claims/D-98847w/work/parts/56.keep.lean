/-! THE CLASS: a copy of a day; an act is kept -/
section CKeep
variable {d : Nat} {h : am_H} {V : am_M} {x r nM nD nB nA nU nT nL : Nat}
/-- a new day: its object and two rows -/
theorem C_dayInit {a : Nat} (ha : hp_K h a = (102, 0)) (hlt : a < hp_n h) (al : Al h) {k : am_H → Prop} (hk : ∀ h', DK h' a (hp_n h) (hp_n h + 1) → Fr no (at_ a) 2 20 h h' → hp_n h' = hp_n h + 2 → k h') : Rn d n_X2_init 0 [am_r a] [] h (kV k) := by
  have z : ¬ a = 0 := Al_ne al ha (by decide)
  refine rw_aload f_X2_init_0 rfl ?_
  refine rw_obj f_X2_init_1 (by first | assumption | omega) rfl ?_
  refine rw_aload f_X2_init_4 rfl ?_
  refine rw_const f_X2_init_5 ?_
  refine rw_newa (n := 10) f_X2_init_7 rfl (by decide) ?_
  have k1 : hp_K (hp_new h 1 10 10) a = (102, 0) := (new_Kne (by omega)).trans ha
  refine rw_putR f_X2_init_9 (by assumption) ?_
  refine rw_aload f_X2_init_12 rfl ?_
  refine rw_const f_X2_init_13 ?_
  refine rw_newa (n := 10) f_X2_init_15 rfl (by decide) ?_
  have k2 : hp_K (hp_new (hp_sR (hp_new h 1 10 10) a 0 (hp_n h)) 1 10 10) a = (102, 0) := (new_Kne (show ¬ a = hp_n h + 1 by omega)).trans k1
  refine rw_putR f_X2_init_17 (by assumption) ?_
  refine rw_vret f_X2_init_20 ?_
  skip
  refine hk _ ⟨k2, ?_, sR_same, ?_, new_K (h := hp_sR (hp_new h 1 10 10) a 0 (hp_n h)), by omega, z⟩ (Fr_tr (Fr_tr Fr_new Fr_sR (WI := no) (WR := at_ a) (c := 1) (s := 10) (fun _ _ w => absurd w id) (fun _ _ w => absurd w id) (fun _ _ w => absurd w id) (fun _ _ w => w) (by omega) (by omega)) (Fr_tr Fr_new Fr_sR (WI := no) (WR := at_ a) (c := 1) (s := 10) (fun _ _ w => absurd w id) (fun _ _ w => absurd w id) (fun _ _ w => absurd w id) (fun _ _ w => w) (by omega) (by omega)) (fun _ _ w => w) (fun _ _ w => w) (fun _ _ w => w) (fun _ _ w => w) (by omega) (by omega)) rfl
  · rw [sR_ne (by simp)]
    rw [new_Rne (show ¬ a = hp_n h + 1 by omega)]
    exact sR_same
  · show hp_K (hp_new (hp_sR (hp_new h 1 10 10) a 0 (hp_n h)) 1 10 10) (hp_n h) = _
    rw [new_Kne (show ¬ hp_n h = hp_n h + 1 by omega)]
    exact new_K
theorem C_copy {D S T : Nat} {f : Nat → Int32} (al : Al h) (hK : DK h D S T) (hp : DP h D S T f) {k : Nat → am_H → Prop} (hk : ∀ h', DK h' (hp_n h) (hp_n h + 1) (hp_n h + 2) → DP h' (hp_n h) (hp_n h + 1) (hp_n h + 2) f → Fr no no 3 30 h h' → hp_n h' = hp_n h + 3 → k (hp_n h) h') : Rn (d + 1) n_X0_copy 0 [am_r D, am_u] [] h (kR k) := by
  obtain ⟨dK, dS, dT, sK, tK, sT, dz⟩ := hK
  obtain ⟨hf, p2, p3, p4⟩ := hp
  have lD := Al_lt al dK (by decide)
  have lS := Al_lt al sK (by decide)
  have lT := Al_lt al tK (by decide)
  have f1 : Fr no no 1 5 h (hp_new h 102 0 5) := Fr_new
  have al1 := f1.al al
  have kn : hp_K (hp_new h 102 0 5) (hp_n h) = (102, 0) := new_K
  refine rw_new f_X0_copy_0 ?_
  refine rw_dupr f_X0_copy_3 ?_
  refine rw_callI f_X0_copy_4 rfl (show ¬ hp_n h = 0 by have := al.1; omega) rfl rfl rfl (rn_kv (C_dayInit kn (Nat.lt_succ_self _) al1 (fun h2 hK2 f2 e2 => ?_)))
  have e2' : hp_n h2 = hp_n h + 3 := e2
  have fr2 : Fr no no 3 30 h h2 := Fr_tr f1 f2 (fun _ _ w => w) (fun _ _ w => w) (fun _ _ w => w) (fun b hb w => by have w' : b = hp_n h := w; omega) (by omega) (by omega)
  have kD : hp_K h2 D = (102, 0) := by rw [fr2.K lD]; exact dK
  have kDn : hp_K h2 (hp_n h) = (102, 0) := hK2.1
  have zn : ¬ hp_n h = 0 := by omega
  have hK3 : DK h2 D S T := ⟨kD, by rw [fr2.R lD id]; exact dS, by rw [fr2.R lD id]; exact dT, by rw [fr2.K lS]; exact sK, by rw [fr2.K lT]; exact tK, sT, dz⟩
  have hp3 : DP h2 D S T f := by
    unfold DP
    rw [fr2.I lD id, fr2.I lS id, fr2.I lT id]
    exact ⟨hf, p2, p3, p4⟩
  have hK2' : DK h2 (hp_n h) (hp_n h + 1) (hp_n h + 2) := hK2
  refine rw_astore f_X0_copy_7 rfl rfl ?_
  refine rw_aload f_X0_copy_8 rfl ?_
  refine rw_aload f_X0_copy_9 rfl ?_
  refine rw_callV f_X0_copy_10 rfl (by assumption) (by first | assumption | omega) rfl rfl rfl rfl (rn_kv (C_dayOf hK2' ⟨hK3.1, hK3.2.1, hK3.2.2.1, hK3.2.2.2.1, hK3.2.2.2.2.1⟩ hp3 (by omega) (by omega) (fun h3 on3 hp4 => ?_)))
  refine rw_aload f_X0_copy_13 rfl ?_
  refine rw_aret f_X0_copy_14 ?_
  skip
  have al2 := fr2.al al
  refine hk h3 (hK2'.on on3) hp4 (Fr_tr fr2 on3.fr (fun _ _ w => w) (fun _ _ w => w) (fun b hb w => by rcases w with e | e | e <;> omega) (fun _ _ w => w) (by omega) (by omega)) ?_
  rw [on3.n]; exact e2
theorem C_keptInit {a b : Nat} (ha : hp_K h a = (108, 0)) (z : ¬ a = 0) {k : am_H → Prop} (hk : k (hp_sR h a 0 b)) : Rn d n_X8_init 0 [am_r a, am_r b] [] h (kV k) := by
  refine rw_aload f_X8_init_0 rfl ?_
  refine rw_obj f_X8_init_1 (by first | assumption | omega) rfl ?_
  refine rw_aload f_X8_init_4 rfl ?_
  refine rw_aload f_X8_init_5 rfl ?_
  refine rw_putR f_X8_init_6 (by assumption) ?_
  refine rw_vret f_X8_init_9 ?_
  exact hk
theorem CDay_of {D S T : Nat} {f : Nat → Int32} (hK : DK h D S T) (hp : DP h D S T f) (h1 : x + 84 < D) (h2 : x + 84 < S) (h3 : x + 84 < T) : CDay h x D f := by
  obtain ⟨dK, dS, dT, sK, tK, sT, dz⟩ := hK
  unfold CDay
  rw [dS, dT]
  exact ⟨⟨dK, sK, tK, h1, h2, h3⟩, hp⟩
theorem nowK (hW : CW h x) : DK h (x + 7) (x + 8) (x + 9) := ⟨hW.k rfl, hW.r rfl, hW.r rfl, hW.k rfl, hW.k rfl, by omega, by omega⟩
theorem thenK (hW : CW h x) : DK h (x + 10) (x + 11) (x + 12) := ⟨hW.k rfl, hW.r rfl, hW.r rfl, hW.k rfl, hW.k rfl, by omega, by omega⟩
/-- the memory behind an act -/
def actV (V : am_M) (nA : Nat) : am_M := fun a j => if a = 0 ∧ j = 69 then nI (if nA = 40 then 40 else nA + 1) else if a = 0 ∧ j = 70 then 0 else if a = 35 then (if nA = 40 then (if j < 936 then V 35 (24 + j) else if j < 959 then V 34 (j - 936) else V 35 j) else (if 24 * nA ≤ j ∧ j < 24 * nA + 23 then V 34 (j - 24 * nA) else V 35 j)) else V a j
theorem actV_reg (V : am_M) (nA : Nat) : ∀ a j, regA a j = true → actV V nA a j = V a j := by
  intro a j e
  unfold actV
  rw [if_neg (by rintro ⟨rfl, rfl⟩; cases e), if_neg (by rintro ⟨rfl, rfl⟩; cases e), if_neg (by rintro rfl; cases e)]
theorem actV_o {V : am_M} {nA a j : Nat} (h1 : ¬ a = 35) (h2 : ¬ (a = 0 ∧ (j = 69 ∨ j = 70))) : actV V nA a j = V a j := by
  unfold actV
  rw [if_neg (by omega), if_neg (by omega), if_neg h1]
/-- row i behind an act -/
theorem actV_row {V : am_M} {nA : Nat} (hA : nA ≤ 40) {i j : Nat} (hi : i < if nA = 40 then 40 else nA + 1) (hj : j < 23) : actV V nA 35 (24 * i + j) = if nA = 40 then (if i = 39 then V 34 j else V 35 (24 * (i + 1) + j)) else (if i = nA then V 34 j else V 35 (24 * i + j)) := by
  unfold actV
  rw [if_neg (by omega), if_neg (by omega), if_pos rfl]
  by_cases e : nA = 40
  · rw [if_pos e, if_pos e]
    rw [if_pos e] at hi
    by_cases e2 : i = 39
    · rw [if_pos e2, if_neg (by omega), if_pos (by omega), show 24 * i + j - 936 = j by omega]
    · rw [if_neg e2, if_pos (by omega), show 24 + (24 * i + j) = 24 * (i + 1) + j by omega]
  · rw [if_neg e, if_neg e]
    rw [if_neg e] at hi
    by_cases e2 : i = nA
    · subst e2; rw [if_pos rfl, if_pos (by omega), show 24 * i + j - 24 * i = j by omega]
    · rw [if_neg e2, if_neg (by omega)]
end CKeep
