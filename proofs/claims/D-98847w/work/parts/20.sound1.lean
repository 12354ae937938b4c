/-! SOUND: the small machine's steps are the JVM's. Part 1: what the two heaps have in common; constants, locals, arithmetic, branches -/
def sd_rv (r : Nat) : Value := match r with
  | 0 => .null
  | a + 1 => .ref a
def am_toV (v : am_V) : Value := match v with
  | .inl x => .int x
  | .inr (.inl x) => .long x
  | .inr (.inr (.inl r)) => sd_rv r
  | .inr (.inr (.inr _)) => .null
def sd_lk (ls : List am_V) (k : Nat) : Option (Nat × Value) := match ls[k]? with
  | some (.inl x) => some (k, .int x)
  | some (.inr (.inl x)) => some (k, .long x)
  | some (.inr (.inr (.inl r))) => some (k, sd_rv r)
  | _ => none
def sd_al (ls : List am_V) : List (Nat × Value) := (List.range ls.length).filterMap (sd_lk ls)
/-- the locals -/
def sd_L (ls : List am_V) (A : Array Slot) : Prop := lv_has A ls.length (sd_al ls)
theorem sd_al_mem {ls : List am_V} {q : Nat × Value} (h : q ∈ sd_al ls) : ∃ k v, ls[k]? = some v ∧ q = (k, am_toV v) ∧ ¬ v = am_u := by
  obtain ⟨k, -, hk⟩ := List.mem_filterMap.mp h
  unfold sd_lk at hk
  split at hk
  · rename_i x e; cases hk; exact ⟨k, _, e, rfl, by simp⟩
  · rename_i x e; cases hk; exact ⟨k, _, e, rfl, by simp⟩
  · rename_i x e; cases hk; exact ⟨k, _, e, rfl, by simp⟩
  · cases hk
theorem sd_al_in {ls : List am_V} {k : Nat} {v : am_V} (h : ls[k]? = some v) (hv : ¬ v = am_u) : (k, am_toV v) ∈ sd_al ls := by
  refine List.mem_filterMap.mpr ⟨k, List.mem_range.mpr (List.getElem?_eq_some_iff.mp h).1, ?_⟩
  unfold sd_lk
  rw [h]
  rcases v with x | x | x | x
  · rfl
  · rfl
  · rfl
  · exact absurd rfl hv
theorem sd_L.at {ls : List am_V} {A : Array Slot} (h : sd_L ls A) {k : Nat} {v : am_V} (e : ls[k]? = some v) (hv : ¬ v = am_u) : A[k]? = some (.val (am_toV v)) := h.2.2 _ (sd_al_in e hv)
theorem am_kill_len (ls : List am_V) (k : Nat) : (am_kill ls k).length = ls.length := by
  unfold am_kill
  split
  · rfl
  · split <;> simp
theorem am_put_len (ls : List am_V) (k : Nat) (v : am_V) : (am_put ls k v).length = ls.length := by
  unfold am_put; rw [List.length_set, am_kill_len]
theorem am_putL_len (ls : List am_V) (k : Nat) (v : am_V) : (am_putL ls k v).length = ls.length := by
  unfold am_putL; rw [List.length_set, List.length_set, am_kill_len]
theorem am_kill_get {ls : List am_V} {k j : Nat} {v : am_V} (h : (am_kill ls k)[j]? = some v) (hv : ¬ v = am_u) : ls[j]? = some v ∧ ¬ (j + 1 = k ∧ (am_toV v).category = 2) := by
  unfold am_kill at h
  split at h
  · exact ⟨h, fun q => by omega⟩
  · rename_i k'
    split at h
    · rename_i x e
      by_cases hj : j = k'
      · subst hj
        have hl : j < ls.length := (List.getElem?_eq_some_iff.mp e).1
        rw [List.getElem?_set_self hl] at h
        cases h
        exact absurd rfl hv
      · rw [List.getElem?_set_ne (fun q => hj q.symm)] at h
        exact ⟨h, fun q => hj (by omega)⟩
    · rename_i hne
      refine ⟨h, fun q => ?_⟩
      have hj : j = k' := by omega
      subst hj
      rcases v with x | x | x | x
      · exact absurd q.2 (by simp [am_toV, Value.category])
      · exact hne x h
      · have q2 := q.2
        cases x <;> simp [am_toV, sd_rv, Value.category] at q2
      · exact absurd rfl hv
theorem sd_put {ls : List am_V} {k : Nat} {v : am_V} {A' : Array Slot} (hl : k < ls.length) (h : lv_has A' ls.length ((k, am_toV v) :: (sd_al ls).filter (fun q => !(q.1 == k) && !(q.1 + 1 == k && q.2.category == 2)))) : sd_L (am_put ls k v) A' := by
  unfold sd_L
  rw [am_put_len]
  refine ⟨h.1, h.2.1, fun q hq => h.2.2 q ?_⟩
  obtain ⟨j, w, e, rfl, hw⟩ := sd_al_mem hq
  unfold am_put at e
  by_cases hj : j = k
  · subst hj
    rw [List.getElem?_set_self (by rw [am_kill_len]; exact hl)] at e
    cases e
    exact List.mem_cons_self
  · rw [List.getElem?_set_ne (fun q => hj q.symm)] at e
    obtain ⟨e1, e2⟩ := am_kill_get e hw
    refine List.mem_cons_of_mem _ (List.mem_filter.mpr ⟨sd_al_in e1 hw, ?_⟩)
    have a1 : (j == k) = false := beq_eq_false_iff_ne.mpr hj
    dsimp only
    rw [a1]
    cases hc : (j + 1 == k && (am_toV w).category == 2) with
    | false => rfl
    | true =>
      rw [Bool.and_eq_true, beq_iff_eq, beq_iff_eq] at hc
      exact absurd hc e2
theorem sd_putL {ls : List am_V} {k : Nat} {v : am_V} {A' : Array Slot} (hl : k + 1 < ls.length) (h : lv_has A' ls.length ((k, am_toV v) :: (sd_al ls).filter (fun q => !(q.1 == k) && (!(q.1 == k + 1) && !(q.1 + 1 == k && q.2.category == 2))))) : sd_L (am_putL ls k v) A' := by
  unfold sd_L
  rw [am_putL_len]
  refine ⟨h.1, h.2.1, fun q hq => h.2.2 q ?_⟩
  obtain ⟨j, w, e, rfl, hw⟩ := sd_al_mem hq
  unfold am_putL at e
  by_cases hj1 : j = k + 1
  · subst hj1
    rw [List.getElem?_set_self (by rw [List.length_set, am_kill_len]; exact hl)] at e
    cases e
    exact absurd rfl hw
  · rw [List.getElem?_set_ne (fun q => hj1 q.symm)] at e
    by_cases hj : j = k
    · subst hj
      rw [List.getElem?_set_self (by rw [am_kill_len]; omega)] at e
      cases e
      exact List.mem_cons_self
    · rw [List.getElem?_set_ne (fun q => hj q.symm)] at e
      obtain ⟨e1, e2⟩ := am_kill_get e hw
      refine List.mem_cons_of_mem _ (List.mem_filter.mpr ⟨sd_al_in e1 hw, ?_⟩)
      have a1 : (j == k) = false := beq_eq_false_iff_ne.mpr hj
      have a2 : (j == k + 1) = false := beq_eq_false_iff_ne.mpr hj1
      dsimp only
      rw [a1, a2]
      cases hc : (j + 1 == k && (am_toV w).category == 2) with
      | false => rfl
      | true =>
        rw [Bool.and_eq_true, beq_iff_eq, beq_iff_eq] at hc
        exact absurd hc e2
-- classes and heaps
/-- classes' numbers and slots, arrays' classes by tag, the heap at the law's start, the globals -/
abbrev sd_P : Type := va_G × (Nat → ClassId) × Heap × (Nat → Nat)
def sd_lo (P : sd_P) : Nat := P.2.2.1.size
def sd_A (P : sd_P) : Nat → Prop := fun q => sd_lo P ≤ q
/-- an array's tag: its elements (0 int, 1 long, 2 reference), its type -/
def sd_ar (t : Nat) : Option (Nat × FieldType) := match t with
  | 1 => some (0, .int)
  | 2 => some (0, .byte)
  | 3 => some (0, .boolean)
  | 4 => some (1, .long)
  | 5 => some (2, .object "java/lang/Object")
  | 6 => some (2, .object "OathButtons$Kept")
  | _ => none
/-- arrays that are only read -/
def sd_ro (t : Nat) : Option (Nat × FieldType) := match t with
  | 11 => some (0, .int)
  | 12 => some (0, .byte)
  | 15 => some (2, .object "java/lang/Object")
  | 17 => some (2, .object "java/lang/String")
  | _ => none
def sd_val (tc : Nat) (h : am_H) (a k : Nat) : Value := match tc with
  | 0 => .int (hp_I h a k)
  | 1 => .long (hp_L h a k)
  | _ => sd_rv (hp_R h a k)
