/-! THE START, part 3: the small machine's heap at the start -/
def st_find (f : Nat → Nat) (a : Nat) : Option Nat := (List.range 22).find? (fun i => Nat.beq a (f i + 1))
theorem st_find_some {f : Nat → Nat} {a i : Nat} (h : st_find f a = some i) : i < 22 ∧ a = f i + 1 :=
  ⟨List.mem_range.mp (List.mem_of_find?_eq_some h), Nat.eq_of_beq_eq_true (List.find?_some (p := fun i => Nat.beq a (f i + 1)) h)⟩
theorem st_find_of {f : Nat → Nat} {i : Nat} (hi : i < 22) : ∃ j, st_find f (f i + 1) = some j ∧ j < 22 ∧ f j = f i := by
  cases h : st_find f (f i + 1) with
  | none =>
    have := List.find?_eq_none.mp h i (List.mem_range.mpr hi)
    simp at this
  | some j =>
    obtain ⟨h1, h2⟩ := st_find_some h
    exact ⟨j, rfl, h1, by omega⟩
/-- data of a start: script, its length; empty array, kept words, named; formatter, mirror; strings and their arrays -/
abbrev st_D : Type := (Nat × Nat) × (Nat × Nat × Nat) × (Nat × Nat) × (Nat → Nat) × (Nat → Nat)
def st_g (D : st_D) (k : Nat) : Nat :=
  if k = 1 then D.2.1.1 + 1 else if k = 2 then D.2.1.2.1 + 1 else if k = 3 then D.2.1.2.2 + 1 else if k = 4 then D.2.2.1.1 else if k = 5 then D.2.2.1.2 + 1 else
  if 10 ≤ k ∧ k < 32 then D.2.2.2.1 (k - 10) + 1 else if 1000 ≤ k then (match st_find D.2.2.2.1 (k - 1000) with | some i => D.2.2.2.2 i + 1 | none => 0) else 0
def st_K (D : st_D) (a : Nat) : Nat × Nat :=
  if a = D.1.1 + 1 then (11, D.1.2) else if a = D.2.1.1 + 1 then (15, 0) else if a = D.2.1.2.1 + 1 then (17, 22) else if a = D.2.1.2.2 + 1 then (17, 4) else
  match st_find D.2.2.2.2 a with | some i => (12, st_len.getD i 0) | none => (0, 0)
def st_I (H : Heap) (a j : Nat) : Int32 := match H[a - 1]? with
  | some ce => match ce.slots[j]? with
    | some (.int v) => v
    | _ => 0
  | none => 0
def st_R (D : st_D) (H : Heap) (a j : Nat) : Nat := if a = 0 then st_g D j else match H[a - 1]? with
  | some ce => match ce.slots[j]? with
    | some (.ref q) => q + 1
    | _ => 0
  | none => 0
def st_h (D : st_D) (H : Heap) : am_H := (st_I H, fun _ _ => 0, st_R D H, st_K D, H.size + 1, 0)
theorem st_hR (D : st_D) (H : Heap) (a j : Nat) : hp_R (st_h D H) a j = st_R D H a j := rfl
theorem st_hK (D : st_D) (H : Heap) (a : Nat) : hp_K (st_h D H) a = st_K D a := rfl
theorem st_R0 (D : st_D) (H : Heap) (k : Nat) : hp_R (st_h D H) 0 k = st_g D k := by
  rw [st_hR]; unfold st_R; rw [if_pos rfl]
theorem st_I_at {H : Heap} {a j : Nat} {cell : Cell} {v : Int32} (h : H[a]? = some cell) (hs : cell.slots[j]? = some (.int v)) : st_I H (a + 1) j = v := by
  unfold st_I; rw [Nat.add_sub_cancel, h]; dsimp only; rw [hs]
theorem st_R_at {D : st_D} {H : Heap} {a j q : Nat} {cell : Cell} (h : H[a]? = some cell) (hs : cell.slots[j]? = some (.ref q)) : st_R D H (a + 1) j = q + 1 := by
  unfold st_R; rw [if_neg (Nat.succ_ne_zero a), Nat.add_sub_cancel, h]; dsimp only; rw [hs]
/-- what the law's start looks like to the small machine -/
def Init (h : am_H) (b L : Nat) : Prop :=
  (hp_K h b = (11, L) ∧ ¬ b = 0 ∧ b < hp_n h) ∧
  (∃ e, hp_R h 0 1 = e ∧ hp_K h e = (15, 0) ∧ ¬ e = 0 ∧ e < hp_n h) ∧
  (∃ e, hp_R h 0 2 = e ∧ hp_K h e = (17, 22) ∧ ¬ e = 0 ∧ e < hp_n h ∧ ∀ j, j < 22 → hp_R h e j = hp_R h 0 (10 + st_kw.getD j 0)) ∧
  (∃ e, hp_R h 0 3 = e ∧ hp_K h e = (17, 4) ∧ ¬ e = 0 ∧ e < hp_n h ∧ ∀ j, j < 4 → hp_R h e j = hp_R h 0 (10 + st_nd.getD j 0)) ∧
  (∀ i, i < 22 → ¬ hp_R h 0 (10 + i) = 0 ∧ ∃ v, hp_R h 0 (1000 + hp_R h 0 (10 + i)) = v ∧ ¬ v = 0 ∧ v < hp_n h ∧ hp_K h v = (12, st_len.getD i 0) ∧ ∀ j, j < st_len.getD i 0 → hp_I h v j = (st_byt.getD i []).getD j 0) ∧
  (0 < hp_n h ∧ ∀ a, (hp_n h ≤ a ∨ a = 0) → (hp_K h a).1 = 0)
theorem st_apart {s : State} {H : Heap} {a : Nat} {c1 c2 : Cell} {t1 t2 : FieldType} (h1 : H[a]? = some c1) (h2 : H[a]? = some c2) (i1 : s.isArrayOf c1 t1) (i2 : s.isArrayOf c2 t2) : t1 = t2 := by
  cases h1.symm.trans h2
  obtain ⟨-, k1, q1, m1, w1⟩ := i1
  obtain ⟨-, k2, q2, m2, w2⟩ := i2
  cases q1.symm.trans q2
  cases w1.symm.trans w2
  rfl
theorem st_len_inj : ∀ i, i < 22 → ∀ j, j < 22 → Int32.ofNat (st_len.getD i 0) = Int32.ofNat (st_len.getD j 0) → st_len.getD i 0 = st_len.getD j 0 := by decide +kernel
section StRel
variable {s : State} {D : st_D} {A : Nat → Prop} {xs : Nat → Int32} {adK adV : Nat → Nat}
/-- the facts of the concrete start -/
def st_F (s : State) (D : st_D) (xs : Nat → Int32) : Prop :=
  va_X D.1.1 D.1.2 xs s s.heap ∧ va_T (.object "java/lang/Object") D.2.1.1 0 (fun _ => .null) (fun q => s.heap.size ≤ q) s s.heap ∧
  va_T (.object "java/lang/String") D.2.1.2.1 22 (fun j => .ref (D.2.2.2.1 (st_kw.getD j 0))) (fun q => s.heap.size ≤ q) s s.heap ∧
  va_T (.object "java/lang/String") D.2.1.2.2 4 (fun j => .ref (D.2.2.2.1 (st_nd.getD j 0))) (fun q => s.heap.size ≤ q) s s.heap ∧
  vk_S 22 st_len st_byt D.2.2.2.1 D.2.2.2.2 (fun q => s.heap.size ≤ q) s s.heap
theorem st_init (hF : st_F s D xs) : Init (st_h D s.heap) (D.1.1 + 1) D.1.2 := by
  obtain ⟨⟨scr, x1, x2, x3, x4, x5⟩, ⟨ce, e1, e2, e3, e4, e5, e6, e7⟩, ⟨ck, k1, k2, k3, k4, k5, k6, k7⟩, ⟨cn, n1, n2, n3, n4, n5, n6, n7⟩, hS, hinj⟩ := hF
  have lt : ∀ {a : Nat} {c : Cell}, s.heap[a]? = some c → a < s.heap.size := fun h => (Array.getElem?_eq_some_iff.mp h).1
  have d1 : ¬ D.2.1.1 = D.1.1 := fun e => by rw [e] at e1; exact absurd (st_apart x1 e1 x2 e2) (by decide)
  have d2 : ¬ D.2.1.2.1 = D.1.1 := fun e => by rw [e] at k1; exact absurd (st_apart x1 k1 x2 k2) (by decide)
  have d3 : ¬ D.2.1.2.2 = D.1.1 := fun e => by rw [e] at n1; exact absurd (st_apart x1 n1 x2 n2) (by decide)
  have d4 : ¬ D.2.1.2.1 = D.2.1.1 := fun e => by rw [e] at k1; exact absurd (st_apart e1 k1 e2 k2) (by decide)
  have d5 : ¬ D.2.1.2.2 = D.2.1.1 := fun e => by rw [e] at n1; exact absurd (st_apart e1 n1 e2 n2) (by decide)
  have d6 : ¬ D.2.1.2.2 = D.2.1.2.1 := fun e => by
    rw [e] at n1
    cases k1.symm.trans n1
    rw [k5] at n5
    exact absurd n5 (by decide)
  have hR0 : ∀ k, hp_R (st_h D s.heap) 0 k = st_g D k := st_R0 D s.heap
  have hg : ∀ i, i < 22 → st_g D (10 + i) = D.2.2.2.1 i + 1 := fun i hi => by
    unfold st_g
    rw [if_neg (by omega), if_neg (by omega), if_neg (by omega), if_neg (by omega), if_neg (by omega), if_pos (by omega), Nat.add_sub_cancel_left]
  refine ⟨⟨if_pos rfl, Nat.succ_ne_zero _, Nat.succ_lt_succ (lt x1)⟩, ⟨D.2.1.1 + 1, rfl, ?_, Nat.succ_ne_zero _, Nat.succ_lt_succ (lt e1)⟩, ⟨D.2.1.2.1 + 1, rfl, ?_, Nat.succ_ne_zero _, Nat.succ_lt_succ (lt k1), fun j hj => ?_⟩, ⟨D.2.1.2.2 + 1, rfl, ?_, Nat.succ_ne_zero _, Nat.succ_lt_succ (lt n1), fun j hj => ?_⟩, fun i hi => ?_, Nat.succ_pos _, fun a ha => ?_⟩
  · show st_K D _ = _
    unfold st_K
    rw [if_neg (by omega), if_pos rfl]
  · show st_K D _ = _
    unfold st_K
    rw [if_neg (by omega), if_neg (by omega), if_pos rfl]
  · rw [hR0, hg _ (st_k3 j hj).2]
    exact st_R_at (D := D) k1 (k6 j hj)
  · show st_K D _ = _
    unfold st_K
    rw [if_neg (by omega), if_neg (by omega), if_neg (by omega), if_pos rfl]
  · rw [hR0, hg _ (st_n3 j hj).2]
    exact st_R_at (D := D) n1 (n6 j hj)
  · rw [hR0 (10 + i), hg i hi, hR0]
    obtain ⟨-, -, -, cv, v1, v2, v3, v4, v5, v6, v7⟩ := hS i hi
    refine ⟨Nat.succ_ne_zero _, D.2.2.2.2 i + 1, ?_, Nat.succ_ne_zero _, Nat.succ_lt_succ (lt v1), ?_, fun j hj => st_I_at v1 (v6 j hj)⟩
    · unfold st_g
      rw [if_neg (by omega), if_neg (by omega), if_neg (by omega), if_neg (by omega), if_neg (by omega), if_neg (by omega), if_pos (by omega), Nat.add_sub_cancel_left]
      obtain ⟨j, q1, q2, q3⟩ := st_find_of (f := D.2.2.2.1) hi
      rw [q1]
      dsimp only
      rw [hinj j i q2 hi q3]
    · rw [st_hK]
      unfold st_K
      have a1 : ¬ D.2.2.2.2 i = D.1.1 := fun e => by rw [e] at v1; exact absurd (st_apart x1 v1 x2 v2) (by decide)
      have a2 : ¬ D.2.2.2.2 i = D.2.1.1 := fun e => by rw [e] at v1; exact absurd (st_apart e1 v1 e2 v2) (by decide)
      have a3 : ¬ D.2.2.2.2 i = D.2.1.2.1 := fun e => by rw [e] at v1; exact absurd (st_apart k1 v1 k2 v2) (by decide)
      have a4 : ¬ D.2.2.2.2 i = D.2.1.2.2 := fun e => by rw [e] at v1; exact absurd (st_apart n1 v1 n2 v2) (by decide)
      rw [if_neg (by omega), if_neg (by omega), if_neg (by omega), if_neg (by omega)]
      obtain ⟨j, q1, q2, q3⟩ := st_find_of (f := D.2.2.2.2) hi
      rw [q1]
      dsimp only
      obtain ⟨-, -, -, cw, w1, w2, w3, w4, w5, w6, w7⟩ := hS j q2
      rw [q3] at w1
      cases v1.symm.trans w1
      rw [st_len_inj j q2 i hi (w5.symm.trans v5)]
  · have ha' : s.heap.size + 1 ≤ a ∨ a = 0 := ha
    show (st_K D a).1 = 0
    unfold st_K
    rw [if_neg (by have := lt x1; omega), if_neg (by have := lt e1; omega), if_neg (by have := lt k1; omega), if_neg (by have := lt n1; omega)]
    cases hf : st_find D.2.2.2.2 a with
    | none => rfl
    | some i =>
      obtain ⟨hi, rfl⟩ := st_find_some hf
      obtain ⟨-, -, -, cv, v1, -⟩ := hS i hi
      have := lt v1
      omega
theorem st_rel {P : sd_P} (hF : st_F s D xs) (hL : D.1.2 ≤ 384) (hP1 : P.2.2.1 = s.heap) (hP2 : P.2.2.2 = st_g D) : sd_Rel P s (st_h D s.heap) s.heap := by
  obtain ⟨⟨scr, x1, x2, x3, x4, x5⟩, ⟨ce, e1, e2, e3, e4, e5, e6, e7⟩, ⟨ck, k1, k2, k3, k4, k5, k6, k7⟩, ⟨cn, n1, n2, n3, n4, n5, n6, n7⟩, hS, hinj⟩ := hF
  have lt : ∀ {a : Nat} {c : Cell}, s.heap[a]? = some c → a < s.heap.size := fun h => (Array.getElem?_eq_some_iff.mp h).1
  have hlo : sd_lo P = s.heap.size := by unfold sd_lo; rw [hP1]
  refine ⟨rfl, fun k => by rw [hP2]; rfl, fun q _ => by rw [hP1], fun a t u hk => ?_⟩
  have hk' : st_K D a = (t, u) := hk
  unfold st_K at hk'
  split at hk'
  · rename_i ea
    cases hk'
    subst ea
    exact Or.inr (Or.inr (Or.inl ⟨0, .int, scr, rfl, Nat.succ_pos _, by rw [hlo]; exact lt x1, by rw [hP1]; exact x1, x2, x3, Nat.le_of_eq x4.symm, by rw [x4], fun j hj => by rw [x5 j hj]; show _ = some (Value.int (st_I _ _ _)); rw [st_I_at x1 (x5 j hj)]⟩))
  · split at hk'
    · rename_i ea
      cases hk'
      subst ea
      exact Or.inr (Or.inr (Or.inl ⟨2, _, ce, rfl, Nat.succ_pos _, by rw [hlo]; exact lt e1, by rw [hP1]; exact e1, e2, e3, e4, e5, fun j hj => absurd hj (Nat.not_lt_zero j)⟩))
    · split at hk'
      · rename_i ea
        cases hk'
        subst ea
        exact Or.inr (Or.inr (Or.inl ⟨2, _, ck, rfl, Nat.succ_pos _, by rw [hlo]; exact lt k1, by rw [hP1]; exact k1, k2, k3, k4, k5, fun j hj => by
          rw [k6 j hj]
          have q := st_R_at (D := D) k1 (k6 j hj)
          unfold sd_val
          dsimp only
          rw [st_hR, q]
          rfl⟩))
      · split at hk'
        · rename_i ea
          cases hk'
          subst ea
          exact Or.inr (Or.inr (Or.inl ⟨2, _, cn, rfl, Nat.succ_pos _, by rw [hlo]; exact lt n1, by rw [hP1]; exact n1, n2, n3, n4, n5, fun j hj => by
          rw [n6 j hj]
          have q := st_R_at (D := D) n1 (n6 j hj)
          unfold sd_val
          dsimp only
          rw [st_hR, q]
          rfl⟩))
        · cases hfi : st_find D.2.2.2.2 a with
          | none => rw [hfi] at hk'; cases hk'; exact Or.inl rfl
          | some i =>
            rw [hfi] at hk'
            cases hk'
            obtain ⟨hi, rfl⟩ := st_find_some hfi
            obtain ⟨-, -, -, cv, v1, v2, v3, v4, v5, v6, v7⟩ := hS i hi
            exact Or.inr (Or.inr (Or.inl ⟨0, .byte, cv, rfl, Nat.succ_pos _, by rw [hlo]; exact lt v1, by rw [hP1]; exact v1, v2, v3, v4, v5, fun j hj => by rw [v6 j hj]; show _ = some (Value.int (st_I _ _ _)); rw [st_I_at v1 (v6 j hj)]⟩))
end StRel
