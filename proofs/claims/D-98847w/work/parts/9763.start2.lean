/-! THE START: both constructors, and what holds then -/
section Start2
variable {d : Nat} {h h' : am_H} {x : Nat}
theorem cw_a {a t u : Nat} (e : cw_K a = some (t, u)) : a < 33 := by
  unfold cw_K at e
  split at e <;> first | omega | cases e
theorem cw_b {a k b : Nat} (e : cw_R a k = some b) : a < 33 ∧ k < 20 := by
  unfold cw_R at e
  split at e <;> first | omega | cases e
theorem cnK_all : ∀ a, a < 33 → (match cw_K a with | some p => decide (cnK a = p) | none => true) = true := by decide +kernel
theorem cnR_all : ∀ a, a < 33 → ∀ k, k < 20 → (match cw_R a k with | some b => decide (cnR a k = b + 2) | none => true) = true := by decide +kernel
theorem cnK_of {a t u : Nat} (e : cw_K a = some (t, u)) : cnK a = (t, u) := by
  have := cnK_all a (cw_a e)
  rw [e] at this
  simpa using this
theorem cnR_of {a k b : Nat} (e : cw_R a k = some b) : cnR a k = b + 2 := by
  have := cnR_all a (cw_b e).1 k (cw_b e).2
  rw [e] at this
  simpa using this
theorem em_lt (al : Al h) (em : EM h) : hp_R h 0 1 < hp_n h := Al_lt al em (by decide)
theorem nh_list {n u : Nat} {K : Nat → Nat × Nat} {I : am_M} {R : Nat → Nat → Nat} (hx : x = hp_n h) (hz : ¬ x = 0) (al : Al h) (em : EM h) {a : Nat} (ha : a < n) (hK : K a = (130, 0)) (hR : R a 1 = 1) (hI : I a 2 = 0) : LST (nh h x n u K I R) (x + a) 0 ∧ arr (nh h x n u K I R) (x + a) = hp_R h 0 1 ∧ lcap (nh h x n u K I R) (x + a) = 0 := by
  have e1 : arr (nh h x n u K I R) (x + a) = hp_R h 0 1 := by
    show hp_R _ (x + a) 1 = _
    rw [nh_R ha]
    show dec h x (R a 1) = _
    rw [hR]; rfl
  have el := em_lt al em
  have eK : hp_K (nh h x n u K I R) (hp_R h 0 1) = (15, 0) := by
    rw [(nh_fr (K := K) (I := I) (R := R) (n := n) (u := u) hx).K el]; exact em
  have e2 : lcap (nh h x n u K I R) (x + a) = 0 := by show (hp_K _ (arr _ _)).2 = 0; rw [e1, eK]
  refine ⟨⟨⟨(nh_K ha).trans hK, rfl, by rw [nh_I ha, hI]; rfl, by omega, by rw [e2]; omega, Or.inr ⟨e2, ?_, ?_⟩, fun j hj => absurd hj (Nat.not_lt_zero j)⟩, by omega⟩, e1, e2⟩
  · rw [e1, (nh_fr (K := K) (I := I) (R := R) (n := n) (u := u) hx).R (show 0 < hp_n h from al.1) id]
  · rw [e1]; exact eK
/-- the class's heap ahead of its start -/
abbrev hC (h : am_H) (x : Nat) : am_H := nh h x 33 3033 cnK cnI cnR
theorem hC_a (hx : x = hp_n h) (hz : ¬ x = 0) (al : Al h) : CWa (hC h x) x :=
  ⟨hz, fun _ _ _ e => (nh_K (cw_a e)).trans (cnK_of e), fun a k b e => by rw [nh_R (cw_b e).1]; show dec h x (cnR a k) = _; rw [cnR_of e]; rfl, (nh_fr hx).al al⟩
theorem hC_l (hx : x = hp_n h) (hz : ¬ x = 0) (al : Al h) (em : EM h) : ∀ a, (a = 2 ∨ a = 3 ∨ a = 4 ∨ a = 15 ∨ a = 16 ∨ a = 28) → LST (hC h x) (x + a) 0 ∧ arr (hC h x) (x + a) = hp_R h 0 1 ∧ lcap (hC h x) (x + a) = 0 := by
  intro a ha
  rcases ha with e | e | e | e | e | e <;> (subst e; exact nh_list hx hz al em (by decide) rfl rfl rfl)
theorem cnI_5 : ∀ j, j < 36 → cnI 5 j = -100 := by decide +kernel
theorem hC_g (hx : x = hp_n h) (hz : ¬ x = 0) (al : Al h) (em : EM h) : Rg (hC h x) x rg0 := by
  have lk := hC_l hx hz al em
  have r : ∀ {a k c}, a < 33 → cnR a k = c → hp_R (hC h x) (x + a) k = dec h x c := fun ha e => by rw [nh_R ha]; show dec h x (cnR _ _) = _; rw [e]
  have i1 : ∀ j, hp_I (hC h x) (x + 1) j = cnI 1 j := fun j => by rw [nh_I (by decide)]
  refine ⟨⟨nh_K (by decide), r (by decide) rfl, r (by decide) rfl, r (by decide) rfl, r (by decide) rfl, r (by decide) rfl⟩, ⟨⟨(lk 2 (by omega)).1, by decide, fun i v e => by simp [rg0] at e⟩, ⟨(lk 3 (by omega)).1, by decide, fun i v e => by simp [rg0] at e⟩, ⟨(lk 4 (by omega)).1, by decide, fun i v e => by simp [rg0] at e⟩⟩, ?_, ⟨nh_K (by decide), fun j hj => ?_, nh_K (by decide)⟩, ⟨?_, ?_, ?_, ?_, ?_, ?_, ?_, ?_⟩, ?_⟩
  · intro i hi hc
    have := (lk (2 + i) (by omega)).2.2
    rw [show x + (2 + i) = x + 2 + i by omega] at this
    omega
  · rw [nh_I (by decide), cnI_5 j hj]; rfl
  · rw [i1]; rfl
  · rw [i1]; rfl
  · rw [i1]; rfl
  · rw [i1]; rfl
  · rw [i1]; rfl
  · rw [i1]; rfl
  · rw [i1]; rfl
  · rw [i1]; rfl
  · exact r (by decide) rfl
theorem C_init (hx : x = hp_n h) (hz : ¬ x = 0) (al : Al h) (em : EM h) {k : am_H → Prop} (hk : ∀ h', ST (hC h x) h' x x rg0 → LST h' (x + 15) 0 → LST h' (x + 16) 0 → LST h' (x + 28) 0 → DP h' (x + 7) (x + 8) (x + 9) (startF rg0) → hp_I h' x 12 = 0 → (∀ j, ¬ j = 12 → hp_I h' x j = hp_I (hC h x) x j) → (∀ b, b < 3 → hp_R h' (x + (30 + b)) 0 = 0) → k h') : Rn (d + 5) n_X0_init 0 [am_r (x + 0)] [] (nh h x 1 20 cnK (fun _ _ => 0) (fun _ _ => 0)) (kV k) := by
  have hW := hC_a hx hz al
  have lk := hC_l hx hz al em
  have sep : SLs (hC h x) x x := by
    refine ⟨fun l l' hl hl' hc => ?_, fun l i hl hi hc => ?_⟩ <;> (
      rcases hl with e | e | e <;> subst e
      · have := (lk 15 (by omega)).2.2; omega
      · have := (lk 16 (by omega)).2.2; omega
      · have := (lk 28 (by omega)).2.2; omega)
  have r0 : hp_R (hC h x) x 0 = x + 1 := congrFun (nh_R (h := h) (x := x) (n := 33) (u := 3033) (K := cnK) (I := cnI) (R := cnR) (a := 0) (by decide)) 0
  refine C_init1 hx hz ?_
  refine rw_callV (a := x) f_X0_init_197 rfl hW.k0 hz rfl rfl rfl rfl (rn_kv (C_start hW r0 (hC_g hx hz al em) gI_0 (lk 15 (by omega)).1 (lk 16 (by omega)).1 (lk 28 (by omega)).1 sep (Or.inl rfl) (fun h' st l1 l2 l3 dp i12 io bx => ?_)))
  exact rw_vret f_X0_init_200 (hk h' st l1 l2 l3 dp i12 io bx)
theorem mnK_all : ∀ a, a < 52 → (Nat.beq (mnK a).1 1 || Nat.beq (mnK a).1 3 || Nat.beq (mnK a).1 4 || Nat.beq (mnK a).1 109) = true := by decide +kernel
theorem mnT_all : ∀ k, k < 97 → (match mw_tbl k with | some (a, t, u) => Nat.blt a 52 && Nat.beq (mnR 0 k) (a + 2) && Nat.beq (mnK a).1 t && Nat.beq (mnK a).2 u | none => true) = true := by decide +kernel
theorem cond_or {α : Type} {b : Bool} {x y : Option α} {v : α} (e : cond b x y = some v) : (b = true ∧ x = some v) ∨ (b = false ∧ y = some v) := by
  cases b with
  | true => exact Or.inl ⟨rfl, e⟩
  | false => exact Or.inr ⟨rfl, e⟩
theorem mw_lt {k a t u : Nat} (e : mw_tbl k = some (a, t, u)) : k < 97 := by
  apply Classical.byContradiction
  intro hk
  have hb : ∀ c, c ≤ 97 → Nat.ble c k = true := fun c hc => Nat.ble_eq.mpr (by omega)
  have hq : ∀ c, c ≤ 96 → Nat.beq k c = false := fun c hc => Bool.eq_false_iff.mpr (fun z => by have := Nat.eq_of_beq_eq_true z; omega)
  have : mw_tbl k = none := by
    simp only [mw_tbl, hb, hq, cond_true, cond_false, Nat.reduceLeDiff]
  rw [this] at e
  cases e
theorem mn_of {k a t u : Nat} (e : mw_tbl k = some (a, t, u)) : a < 52 ∧ mnR 0 k = a + 2 ∧ mnK a = (t, u) := by
  have q := mnT_all k (mw_lt e)
  rw [e] at q
  dsimp only at q
  rw [Bool.and_eq_true, Bool.and_eq_true, Bool.and_eq_true, Nat.blt_eq] at q
  exact ⟨q.1.1.1, Nat.eq_of_beq_eq_true q.1.1.2, Prod.ext (Nat.eq_of_beq_eq_true q.1.2) (Nat.eq_of_beq_eq_true q.2)⟩
/-- the heap with both -/
abbrev hM (h : am_H) (m : Nat) : am_H := nh h m 52 5784 mnK mnI mnR
theorem hM_w {m : Nat} (hz : ¬ m = 0) : MW (hM h m) m := by
  refine ⟨nh_K (a := 0) (by decide), hz, fun k a t u e => ?_⟩
  obtain ⟨q1, q2, q3⟩ := mn_of e
  refine ⟨?_, (nh_K q1).trans q3⟩
  have := congrFun (nh_R (h := h) (x := m) (n := 52) (u := 5784) (K := mnK) (I := mnI) (R := mnR) (a := 0) (by decide)) k
  refine this.trans ?_
  rw [q2]; rfl
theorem hM_v {m a j : Nat} (ha : a ≤ 51) : nV (hM h m) m a j = mnI a j := by
  unfold nV
  rw [if_pos ha, nh_I (by omega)]
theorem mnI_e {a j : Nat} (h1 : ¬ (a = 0 ∧ (j = 3 ∨ j = 60))) : mnI a j = 0 := by
  unfold mnI
  rw [up_ne (by omega), up_ne (by omega)]
/-- both stand, and tell the same -/
theorem both_start {h1 : am_H} (hx : x = hp_n h) (hz : ¬ x = 0) (al : Al h) (em : EM h) (st : ST (hC h x) h1 x x rg0) (l1 : LST h1 (x + 15) 0) (l2 : LST h1 (x + 16) 0) (l3 : LST h1 (x + 28) 0) (dp : DP h1 (x + 7) (x + 8) (x + 9) (startF rg0)) (i12 : hp_I h1 x 12 = 0) (io : ∀ j, ¬ j = 12 → hp_I h1 x j = hp_I (hC h x) x j) (bx : ∀ b, b < 3 → hp_R h1 (x + (30 + b)) 0 = 0) : hp_n h1 = x + 33 ∧ CR (hM h1 (x + 33)) (nV (hM h1 (x + 33)) (x + 33)) x (x + 1) 0 0 0 0 0 0 0 ∧ MW (hM h1 (x + 33)) (x + 33) ∧ Fr no no 85 8817 h (hM h1 (x + 33)) := by
  obtain ⟨cw, r0, rg, fr, fl, fg⟩ := st
  have lk := hC_l hx hz al em
  have n1 : hp_n h1 = x + 33 := by
    have a := fr.1.1
    have b := fr.1.2
    have e : hp_n (hC h x) = x + 33 := rfl
    omega
  have al1 : Al h1 := cw.2.2.2
  have fM : Fr no no 52 5784 h1 (hM h1 (x + 33)) := nh_fr n1.symm
  have frC : Fr no no 33 3033 h (hC h x) := nh_fr hx
  have f1 : Fr no no 33 3033 h h1 := Fr_tr frC fr (fun _ _ w => w) (fun _ _ w => w) (fun b hb w => by
    rcases w with e | e | e | e | e <;> omega) (fun b hb w => by
    rcases w with e | ⟨-, e⟩ | ⟨-, e⟩ | ⟨-, e⟩
    · omega
    · have := (lk 15 (by omega)).2.2; omega
    · have := (lk 16 (by omega)).2.2; omega
    · have := (lk 28 (by omega)).2.2; omega) (by omega) (by omega)
  have f2 : Fr no no 85 8817 h (hM h1 (x + 33)) := Fr_tr f1 fM (fun _ _ w => w) (fun _ _ w => w) (fun _ _ w => w) (fun _ _ w => w) (by omega) (by omega)
  refine ⟨n1, ?_, hM_w (by omega), f2⟩
  have cap : ∀ a, (a = 2 ∨ a = 3 ∨ a = 4 ∨ a = 15 ∨ a = 16 ∨ a = 28) → lcap h1 (x + a) = 0 := by
    intro a ha
    have := (lk a ha).2.2
    rcases ha with e | e | e | e | e | e <;> subst e
    · rw [← this]; exact (fg 0 (by omega)).2
    · rw [← this]; exact (fg 1 (by omega)).2
    · rw [← this]; exact (fg 2 (by omega)).2
    · rw [← this]; exact (fl _ (by omega)).2
    · rw [← this]; exact (fl _ (by omega)).2
    · rw [← this]; exact (fl _ (by omega)).2
  have lM : ∀ a, LST h1 (x + a) 0 → (a = 15 ∨ a = 16 ∨ a = 28) → LST (hM h1 (x + 33)) (x + a) 0 ∧ lcap (hM h1 (x + 33)) (x + a) = 0 := fun a q ha => by
    have := LST_std al1 q fM id id (cap a (by omega)) id
    exact ⟨this.1, this.2.2⟩
  have eV : ∀ a j, a ≤ 51 → ¬ (a = 0 ∧ (j = 3 ∨ j = 60)) → nV (hM h1 (x + 33)) (x + 33) a j = 0 := fun a j ha hj => (hM_v ha).trans (mnI_e hj)
  have eI : ∀ j, hp_I (hM h1 (x + 33)) x j = hp_I h1 x j := fun j => congrFun (fM.I (show x < hp_n h1 by omega) id) j
  have cI : ∀ j, ¬ j = 8 → ¬ j = 12 → hp_I (hM h1 (x + 33)) x j = 0 := fun j hj hj2 => by
    rw [eI, io j hj2]
    have := congrFun (nh_I (h := h) (x := x) (n := 33) (u := 3033) (K := cnK) (I := cnI) (R := cnR) (a := 0) (by decide)) j
    refine this.trans ?_
    show cnI 0 j = 0
    unfold cnI fill
    simp [am_up, hj]
  refine CR_mk (g := rg0) (CWa_fr cw fM (fun _ _ _ _ => id)) (fun b q1 q2 => ?_) ?_ (Rg.fr2 al1 rg fM (fun _ w => absurd w id) (fun _ w => absurd w id)).1 gI_0 (lM 15 l1 (by omega)).1 (lM 16 l2 (by omega)).1 (lM 28 l3 (by omega)).1 ?_ (Or.inl rfl) ?_ (fun b hb => ?_) ?_ ?_ ?_ ?_
  · have q := mnK_all (b - (x + 33)) (by omega)
    have e := nh_K (h := h1) (x := x + 33) (n := 52) (u := 5784) (K := mnK) (I := mnI) (R := mnR) (a := b - (x + 33)) (by omega)
    rw [show x + 33 + (b - (x + 33)) = b by omega] at e
    rw [e]
    simp only [Bool.or_eq_true, Nat.beq_eq] at q
    omega
  · rw [fM.R (show x < hp_n h1 by omega) id]; exact r0
  · refine ⟨fun l l' hl hl' hc => ?_, fun l i hl hi hc => ?_⟩ <;> (
      rcases hl with e | e | e <;> subst e
      · have := (lM 15 l1 (by omega)).2; omega
      · have := (lM 16 l2 (by omega)).2; omega
      · have := (lM 28 l3 (by omega)).2; omega)
  · obtain ⟨d1, d2, d3, d4⟩ := dp
    refine ⟨fun j hj => ?_, ?_, ?_, ?_⟩
    · rw [fM.I (show x + 8 < hp_n h1 by omega) id, fM.I (show x + 9 < hp_n h1 by omega) id]; exact d1 j hj
    · rw [fM.I (show x + 7 < hp_n h1 by omega) id]; exact d2
    · rw [fM.I (show x + 7 < hp_n h1 by omega) id]; exact d3
    · rw [fM.I (show x + 7 < hp_n h1 by omega) id]; exact d4
  · rw [fM.R (show x + (30 + b) < hp_n h1 by omega) id]; exact bx b hb
  · refine ⟨⟨eV _ _ (by omega) (by omega), eV _ _ (by omega) (by omega), eV _ _ (by omega) (by omega), eV _ _ (by omega) (by omega), eV _ _ (by omega) (by omega), (hM_v (by omega)).trans rfl, eV _ _ (by omega) (by omega)⟩, fun i v e => by simp [rg0] at e, fun i v e => by simp [rg0] at e, fun i v e => by simp [rg0] at e, fun a b ha => absurd ha (Nat.not_lt_zero _), eV _ _ (by omega) (by omega)⟩
  · refine ⟨fun j hj => ?_, eV _ _ (by omega) (by omega), eV _ _ (by omega) (by omega), eV _ _ (by omega) (by omega), eV _ _ (by omega) (by omega), fun b hb => eV _ _ (by omega) (by omega)⟩
    rw [eV _ _ (by omega) (by omega)]
    unfold startF rg0
    split
    · rfl
    · split <;> rfl
  · refine ⟨⟨?_, ?_, ?_, ?_, ?_, eV _ _ (by omega) (by omega)⟩, fun j hj => absurd hj (Nat.not_lt_zero _), fun j hj => ?_⟩
    · rw [cI _ (by omega) (by omega), eV _ _ (by omega) (by omega)]
    · rw [cI _ (by omega) (by omega), eV _ _ (by omega) (by omega)]
    · rw [cI _ (by omega) (by omega), eV _ _ (by omega) (by omega)]
    · rw [eI, io _ (by omega), hM_v (by omega)]
      exact (congrFun (nh_I (h := h) (x := x) (n := 33) (u := 3033) (K := cnK) (I := cnI) (R := cnR) (a := 0) (by decide)) 8).trans rfl
    · rw [eI, i12]; rfl
    · rw [fM.I (show x + 13 < hp_n h1 by omega) id, eV _ _ (by omega) (by omega), fr.I (show x + 13 < hp_n (hC h x) by show x + 13 < x + 33; omega) (fun w => by rcases w with e | e | e | e | e <;> omega), nh_I (by decide), show cnI 13 j = 0 from by unfold cnI fill; simp [am_up]]
      rfl
  · exact ⟨0, eV _ _ (by omega) (by omega), by omega⟩
end Start2
