/-! FORMULAS, purely: places, units, lengths -/
section PForm
variable {T : tx} {N : Nat}
theorem tkE_gt {p : Nat} (hp : p < N) : p < tkE T N p := by
  unfold tkE
  rw [if_neg (by omega)]
  by_cases c1 : isLt (T p) = true
  · rw [if_pos c1, rEnd_t hp c1]
    have := rEnd_le (P := isLt) (T := T) (N := N) (q := p + 1)
    omega
  · rw [if_neg c1]
    by_cases c2 : isDg (T p) = true
    · rw [if_pos c2, rEnd_t hp c2]
      have := rEnd_le (P := isDg) (T := T) (N := N) (q := p + 1)
      omega
    · rw [if_neg c2]; omega
theorem tkX_bd {p : Nat} (hp : p < N) : p < tkX T N p ∧ tkX T N p ≤ N := by
  have a := tkE_gt (T := T) hp
  have b := (tkE_ge (T := T) (N := N) (p := p) (by omega)).2
  have c := rEnd_le (P := isSp) (T := T) (N := N) (q := tkE T N p)
  have e := rEnd_N (P := isSp) (T := T) (N := N) (q := tkE T N p) b
  unfold tkX
  omega
theorem tkD_lt {p : Nat} (e : ¬ tkD T N p = 0) : p < N := by
  apply Classical.byContradiction
  intro c
  exact e (by unfold tkD; rw [if_pos (by omega)])
theorem isSH_lt {p : Nat} {c : Int32} (e : isSH T N p c = true) : p < N := by
  unfold isSH at e
  rw [Bool.and_eq_true] at e
  exact tkD_lt (by rw [of_decide_eq_true e.1]; decide)
theorem isV_lt {p i : Nat} (e : isV T N p i = true) : p < N := by
  unfold isV isW at e
  rw [Bool.and_eq_true] at e
  exact tkD_lt (by rw [of_decide_eq_true e.1]; decide)
/-- what holds of a formula's reading: the place goes on, units are counted, steps are few (w: nots allowed) -/
def fok (T : tx) (N w : Nat) (A : fF) : Prop := ∀ p u v, p ≤ N → u ≤ 30 → A p u = .inl v → (p < v.2.1 ∧ v.2.1 ≤ N) ∧ (u < v.2.2 ∧ v.2.2 ≤ 30) ∧ v.1.length + 9 ≤ 10 * (v.2.2 - u) + w
theorem bnd_inl {α β : Type} {r : res α} {f : α → res β} {v : β} (e : bnd r f = .inl v) : ∃ a, r = .inl a ∧ f a = .inl v := by
  cases r with
  | inl a => exact ⟨a, rfl, e⟩
  | inr a => cases e
theorem pMust_inl {c : Bool} {p q : Nat} (e : pMust T N c p = .inl q) : c = true ∧ q = tkX T N p := by
  unfold pMust at e
  cases c with
  | true => rw [if_pos rfl] at e; cases e; exact ⟨rfl, rfl⟩
  | false => rw [if_neg (by decide)] at e; cases e
theorem fok_unit {E : Option fF} {w : Nat} (hw : w ≤ 10) (hE : ∀ e, E = some e → fok T N w e) : fok T N 0 (fUnit T N E) := by
  intro p u v hp hu e
  unfold fUnit at e
  by_cases c1 : (isSH T N p 40 = false ∧ pNamed T N p = none ∧ ¬ tkD T N p = 2) ∨ u = 30
  · rw [if_pos c1] at e; cases e
  · rw [if_neg c1] at e
    by_cases c2 : isSH T N p 40 = true
    · rw [if_pos c2] at e
      have lp := tkX_bd (T := T) (isSH_lt c2)
      cases hEe : E with
      | none => rw [hEe] at e; cases e
      | some E' =>
        rw [hEe] at e
        obtain ⟨r, e1, e⟩ := bnd_inl e
        obtain ⟨q, e2, e⟩ := bnd_inl e
        obtain ⟨e3, e4⟩ := pMust_inl e2
        obtain ⟨f1, f2, f3⟩ := hE _ hEe _ _ _ lp.2 (by omega) e1
        have lq := tkX_bd (T := T) (isSH_lt e3)
        cases e
        refine ⟨⟨?_, ?_⟩, ⟨?_, ?_⟩, ?_⟩ <;> dsimp only <;> omega
    · rw [if_neg c2] at e
      have c1a : ¬ u = 30 := fun z => c1 (Or.inr z)
      cases hn : pNamed T N p with
      | none =>
        rw [hn] at e
        have dp : tkD T N p = 2 := Classical.byContradiction (fun z => c1 (Or.inl ⟨Bool.eq_false_iff.mpr c2, hn, z⟩))
        have lp := tkX_bd (T := T) (tkD_lt (T := T) (N := N) (p := p) (by rw [dp]; decide))
        cases e
        refine ⟨⟨?_, ?_⟩, ⟨?_, ?_⟩, ?_⟩ <;> simp only [List.length_singleton] <;> omega
      | some x =>
        rw [hn] at e
        have lp := tkX_bd (T := T) (isV_lt (fst1_some hn).2.1)
        cases e
        refine ⟨⟨?_, ?_⟩, ⟨?_, ?_⟩, ?_⟩ <;> simp only [List.length_singleton] <;> omega
theorem fok_loop {op : Nat → Option Int32} {A : fF} {w : Nat} (hw : w ≤ 8) (ho : ∀ p s, op p = some s → p < N) (hA : fok T N w A) : ∀ n c p u v, p ≤ N → u ≤ 30 → fLoop T N op A n c p u = .inl v → (p ≤ v.2.1 ∧ v.2.1 ≤ N) ∧ (u ≤ v.2.2 ∧ v.2.2 ≤ 30) ∧ v.1.length ≤ c.length + 10 * (v.2.2 - u) := by
  intro n
  induction n with
  | zero =>
    intro c p u v hp hu e
    cases e
    refine ⟨⟨?_, ?_⟩, ⟨?_, ?_⟩, ?_⟩ <;> dsimp only <;> omega
  | succ n ih =>
    intro c p u v hp hu e
    unfold fLoop at e
    cases ho' : op p with
    | none =>
      rw [ho'] at e
      cases e
      refine ⟨⟨?_, ?_⟩, ⟨?_, ?_⟩, ?_⟩ <;> dsimp only <;> omega
    | some s =>
      rw [ho'] at e
      obtain ⟨r, e1, e⟩ := bnd_inl e
      have lp := tkX_bd (T := T) (ho p s ho')
      obtain ⟨f1, f2, f3⟩ := hA _ _ _ lp.2 hu e1
      obtain ⟨g1, g2, g3⟩ := ih _ _ _ _ f1.2 f2.2 e
      simp only [List.length_append, List.length_singleton] at g3
      refine ⟨⟨?_, ?_⟩, ⟨?_, ?_⟩, ?_⟩ <;> omega
theorem fok_bin {op : Nat → Option Int32} {A : fF} {w : Nat} (hw : w ≤ 8) (ho : ∀ p s, op p = some s → p < N) (hA : fok T N w A) : fok T N w (fBin T N op A) := by
  intro p u v hp hu e
  obtain ⟨r, e1, e⟩ := bnd_inl e
  obtain ⟨f1, f2, f3⟩ := hA _ _ _ hp hu e1
  obtain ⟨g1, g2, g3⟩ := fok_loop hw ho hA _ _ _ _ _ f1.2 f2.2 e
  refine ⟨⟨?_, ?_⟩, ⟨?_, ?_⟩, ?_⟩ <;> omega
theorem opT_lt (p : Nat) (s : Int32) (e : opT T N p = some s) : p < N := by
  unfold opT at e
  split at e
  · rename_i c; rcases c with c | c | c <;> exact isSH_lt c
  · cases e
theorem opS_lt (p : Nat) (s : Int32) (e : opS T N p = some s) : p < N := by
  unfold opS at e
  split at e
  · rename_i c; rcases c with c | c <;> exact isSH_lt c
  · cases e
theorem opR_lt (p : Nat) (s : Int32) (e : opR T N p = some s) : p < N := by
  unfold opR at e
  split at e
  · rename_i c; rcases c with c | c | c <;> exact isSH_lt c
  · cases e
theorem opA_lt (p : Nat) (s : Int32) (e : opA T N p = some s) : p < N := by
  unfold opA at e
  split at e
  · rename_i c; exact isV_lt c
  · cases e
theorem opO_lt (p : Nat) (s : Int32) (e : opO T N p = some s) : p < N := by
  unfold opO at e
  split at e
  · rename_i c; exact isV_lt c
  · cases e
theorem fok_one {O : Option fF} {S : fF} {w : Nat} (hO : ∀ o, O = some o → fok T N w o) (hS : fok T N 0 S) : fok T N (w + 1) (fOne T N O S) := by
  intro p u v hp hu e
  unfold fOne at e
  by_cases c1 : isV T N p wNOT = true
  · rw [if_pos c1] at e
    have lp := tkX_bd (T := T) (isV_lt c1)
    cases hOe : O with
    | none => rw [hOe] at e; cases e
    | some O' =>
      rw [hOe] at e
      obtain ⟨r, e1, e⟩ := bnd_inl e
      obtain ⟨f1, f2, f3⟩ := hO _ hOe _ _ _ lp.2 hu e1
      cases e
      simp only [List.length_append, List.length_singleton]
      refine ⟨⟨?_, ?_⟩, ⟨?_, ?_⟩, ?_⟩ <;> omega
  · rw [if_neg c1] at e
    obtain ⟨r, e1, e⟩ := bnd_inl e
    obtain ⟨f1, f2, f3⟩ := hS _ _ _ hp hu e1
    cases hR : opR T N r.2.1 with
    | none =>
      rw [hR] at e
      cases e
      refine ⟨⟨?_, ?_⟩, ⟨?_, ?_⟩, ?_⟩ <;> omega
    | some s =>
      rw [hR] at e
      obtain ⟨r2, e2, e⟩ := bnd_inl e
      have lp := tkX_bd (T := T) (opR_lt _ _ hR)
      obtain ⟨g1, g2, g3⟩ := hS _ _ _ lp.2 f2.2 e2
      cases e
      simp only [List.length_append, List.length_singleton]
      refine ⟨⟨?_, ?_⟩, ⟨?_, ?_⟩, ?_⟩ <;> omega
theorem fok_sum {E : Option fF} {w : Nat} (hw : w ≤ 10) (hE : ∀ e, E = some e → fok T N w e) : fok T N 0 (fSum T N E) := fok_bin (by omega) opS_lt (fok_bin (by omega) opT_lt (fok_unit hw hE))
theorem fok_lv : ∀ f, f ≤ 7 → fok T N (f + 1) (lv T N f).1 ∧ fok T N (f + 1) (lv T N f).2 := by
  intro f
  induction f with
  | zero =>
    intro _
    have h1 : fok T N 1 (lv T N 0).2 := fok_one (O := none) (S := fSum T N none) (w := 0) (fun o e => by cases e) (fok_sum (E := none) (w := 0) (by omega) (fun o e => by cases e))
    exact ⟨fok_bin (by omega) opO_lt (fok_bin (by omega) opA_lt h1), h1⟩
  | succ f ih =>
    intro hf
    obtain ⟨i1, i2⟩ := ih (by omega)
    have h1 : fok T N (f + 2) (lv T N (f + 1)).2 := fok_one (O := some (lv T N f).2) (S := fSum T N (some (lv T N f).1)) (w := f + 1) (fun o e => by cases e; exact i2) (fok_sum (E := some (lv T N f).1) (w := f + 1) (by omega) (fun o e => by cases e; exact i1))
    exact ⟨fok_bin (by omega) opO_lt (fok_bin (by omega) opA_lt h1), h1⟩
end PForm
