/-! THE CLASS: a line, all lines -/
section PLine
variable {T : tx} {N : Nat}
theorem tkD_N {p : Nat} (e : ¬ tkD T N p = 0) : p < N ∧ p < tkX T N p ∧ tkX T N p ≤ N := by
  have := tkD_lt e
  exact ⟨this, tkX_bd this⟩
theorem isNm_0 {p : Nat} (e : ¬ isNm T N p = false) : ¬ tkD T N p = 0 := fun z => e (by unfold isNm; rw [z]; rfl)
theorem isV_0 {p i : Nat} (e : isV T N p i = true) : ¬ tkD T N p = 0 := fun z => by
  have := isV_lt e
  unfold isV isW at e
  rw [z] at e
  cases e
theorem pFresh_in {l : List Int64} {p : Nat} {v : Int64 × Nat} (e : pFresh T N l p = .inl v) : p < v.2 ∧ v.2 ≤ N := by
  unfold pFresh at e
  split at e
  · cases e
  · rename_i c
    split at e
    · cases e
    · cases e
      exact (tkD_N (isNm_0 c)).2
theorem pKnown_in {l : List Int64} {p : Nat} {v : Nat × Nat} (e : pKnown T N l p = .inl v) : p < v.2 ∧ v.2 ≤ N ∧ v.1 < l.length := by
  unfold pKnown at e
  split at e
  · cases e
  · rename_i c
    cases hx : ixN l (tkW T N p) with
    | none => rw [hx] at e; cases e
    | some i =>
      rw [hx] at e
      cases e
      exact ⟨(tkD_N (isNm_0 c)).2.1, (tkD_N (isNm_0 c)).2.2, ixN_lt hx⟩
theorem pNum_in {lo hi : Int32} {p : Nat} {v : Int32 × Nat} (e : pNum T N lo hi p = .inl v) : p < v.2 ∧ v.2 ≤ N ∧ lo ≤ v.1 ∧ v.1 ≤ hi := by
  unfold pNum at e
  split at e
  · cases e
  · rename_i c
    split at e
    · cases e
    · rename_i c2
      split at e
      · cases e
      · rename_i c3
        cases e
        have z := tkD_N (T := T) (N := N) (p := p) (fun q => c (fun r => by rw [q] at r; exact absurd r (by decide)))
        exact ⟨z.2.1, z.2.2, Int32.not_lt.mp c2, Int32.not_lt.mp c3⟩
theorem pMust_in {c : Bool} {p q : Nat} (h0 : c = true → ¬ tkD T N p = 0) (e : pMust T N c p = .inl q) : p < q ∧ q ≤ N := by
  obtain ⟨c1, rfl⟩ := pMust_inl e
  exact (tkD_N (h0 c1)).2
theorem pAfter_in {i : Nat} {lo hi : Int32} {p : Nat} {v : Int32 × Nat} (e : pAfter T N i lo hi p = .inl v) : p < v.2 ∧ v.2 ≤ N ∧ lo ≤ v.1 ∧ v.1 ≤ hi := by
  obtain ⟨q, e1, e2⟩ := bnd_inl e
  have h1 := pMust_in (fun z => isV_0 (i := i) z) e1
  have h2 := pNum_in e2
  exact ⟨by omega, h2.2⟩
theorem pOpt_in {i : Nat} {lo hi ot : Int32} {p : Nat} {v : Int32 × Nat} (hp : p ≤ N) (h1 : lo ≤ ot) (h2 : ot ≤ hi) (e : pOpt T N i lo hi ot p = .inl v) : p ≤ v.2 ∧ v.2 ≤ N ∧ lo ≤ v.1 ∧ v.1 ≤ hi := by
  unfold pOpt at e
  split at e
  · have := pAfter_in e
    exact ⟨by omega, this.2⟩
  · cases e
    exact ⟨Nat.le_refl _, hp, h1, h2⟩
theorem pSigned_in {p : Nat} {v : Int32 × Nat} (e : pSigned T N p = .inl v) : p < v.2 ∧ v.2 ≤ N := by
  have two : ∀ q, ¬ ¬ tkD T N q = 2 → q < tkX T N q ∧ tkX T N q ≤ N := fun q c => (tkD_N (T := T) (N := N) (p := q) (fun z => c (fun r => by rw [z] at r; exact absurd r (by decide)))).2
  unfold pSigned at e
  split at e
  · rename_i c
    split at e
    · cases e
    · rename_i c2
      split at e
      · cases e
      · cases e
        have z1 := tkX_bd (T := T) (isSH_lt c)
        have z2 := two _ c2
        exact ⟨by show p < tkX T N (tkX T N p); omega, z2.2⟩
  · split at e
    · cases e
    · rename_i c2
      split at e
      · cases e
      · cases e
        exact two _ c2
/-- a number within bounds -/
theorem num_nat {v : Int32} {a b : Nat} (ha : a ≤ b) (hb : b < 2147483648) (h1 : nI a ≤ v) (h2 : v ≤ nI b) : ∃ t, a ≤ t ∧ t ≤ b ∧ v = nI t := by
  have z1 := Int32.le_iff_toInt_le.mp h1
  have z2 := Int32.le_iff_toInt_le.mp h2
  rw [nI_toInt (by omega)] at z2 z1
  refine ⟨v.toInt.toNat, by omega, by omega, ?_⟩
  apply Int32.toInt_inj.mp
  rw [nI_toInt (by omega)]
  omega
-- leaves of formulas
theorem leaves_1 {s : Int32 × Int32} : leaves [s] = if s.1 = 0 ∨ s.1 = 1 then 1 else 0 := by
  show (if s.1 = 0 ∨ s.1 = 1 then 1 else 0) + 0 = _
  rw [Nat.add_zero]
def fle (A : fF) : Prop := ∀ p u v, A p u = .inl v → leaves v.1 + u ≤ v.2.2
theorem fle_unit {E : Option fF} (hE : ∀ e, E = some e → fle e) : fle (fUnit T N E) := by
  intro p u v e
  unfold fUnit at e
  split at e
  · cases e
  · split at e
    · cases E with
      | none => cases e
      | some E =>
        obtain ⟨r, e1, e2⟩ := bnd_inl e
        obtain ⟨q, e3, e4⟩ := bnd_inl e2
        cases e4
        have := hE E rfl _ _ _ e1
        show leaves r.1 + u ≤ r.2.2
        omega
    · split at e <;> (cases e; show leaves _ + u ≤ u + 1; rw [leaves_1]; split <;> omega)
theorem fle_loop {op : Nat → Option Int32} {A : fF} (hA : fle A) : ∀ n c p u v, fLoop T N op A n c p u = .inl v → leaves v.1 + u ≤ leaves c + v.2.2 := by
  intro n
  induction n with
  | zero => intro c p u v e; cases e; exact Nat.le_refl _
  | succ n ih =>
    intro c p u v e
    unfold fLoop at e
    split at e
    · cases e; exact Nat.le_refl _
    · obtain ⟨r, e1, e2⟩ := bnd_inl e
      have h1 := hA _ _ _ e1
      have h2 := ih _ _ _ _ e2
      rw [leaves_app, leaves_app, leaves_1, if_neg (show ¬ ((3 : Int32) = 0 ∨ (3 : Int32) = 1) by decide)] at h2
      omega
theorem fle_bin {op : Nat → Option Int32} {A : fF} (hA : fle A) : fle (fBin T N op A) := by
  intro p u v e
  obtain ⟨r, e1, e2⟩ := bnd_inl e
  have h1 := hA _ _ _ e1
  have h2 := fle_loop hA _ _ _ _ _ e2
  omega
theorem fle_one {O : Option fF} {S : fF} (hO : ∀ o, O = some o → fle o) (hS : fle S) : fle (fOne T N O S) := by
  intro p u v e
  unfold fOne at e
  split at e
  · cases O with
    | none => cases e
    | some O =>
      obtain ⟨r, e1, e2⟩ := bnd_inl e
      cases e2
      have := hO O rfl _ _ _ e1
      show leaves (r.1 ++ [(2, 0)]) + u ≤ r.2.2
      rw [leaves_app, leaves_1, if_neg (by decide)]
      omega
  · obtain ⟨r, e1, e2⟩ := bnd_inl e
    have h1 := hS _ _ _ e1
    split at e2
    · cases e2; exact h1
    · obtain ⟨r2, e3, e4⟩ := bnd_inl e2
      cases e4
      have h2 := hS _ _ _ e3
      show leaves (r.1 ++ r2.1 ++ [(3, _)]) + u ≤ r2.2.2
      rw [leaves_app, leaves_app, leaves_1, if_neg (show ¬ ((3 : Int32) = 0 ∨ (3 : Int32) = 1) by decide)]
      omega
theorem fle_lv : ∀ f, fle (lv T N f).1 ∧ fle (lv T N f).2 := by
  intro f
  induction f with
  | zero =>
    have hS : fle (fSum T N none) := fle_bin (fle_bin (fle_unit (fun e z => by cases z)))
    have hO : fle (fOne T N none (fSum T N none)) := fle_one (fun e z => by cases z) hS
    exact ⟨fle_bin (fle_bin hO), hO⟩
  | succ f ih =>
    have hS : fle (fSum T N (some (lv T N f).1)) := fle_bin (fle_bin (fle_unit (fun e z => by cases z; exact ih.1)))
    have hO : fle (fOne T N (some (lv T N f).2) (fSum T N (some (lv T N f).1))) := fle_one (fun e z => by cases z; exact ih.2) hS
    exact ⟨fle_bin (fle_bin hO), hO⟩
/-- what holds of a regiment that is read -/
def gI (g : rgT) : Prop :=
  (g.1.1.length ≤ 6 ∧ g.1.2.1.length ≤ 6 ∧ g.1.2.2.length ≤ 10 ∧ g.2.1.2 ≤ 15) ∧
  (∀ (i : Nat) (v : oaT), g.1.2.2[i]? = some v → v.2.1 < g.1.1.length ∧ v.2.2.1 < g.1.1.length ∧ v.2.2.2.1 < g.1.2.1.length ∧ (∃ t, t ≤ 99 ∧ v.2.2.2.2.2.2.1 = nI t) ∧ (v.2.2.2.2.2.2.2 = -1 ∨ ∃ a, a < i ∧ v.2.2.2.2.2.2.2 = nI a)) ∧
  (∀ (i : Nat) (v : ddT), g.1.2.1[i]? = some v → ∃ t, 0 < t ∧ t ≤ 24 ∧ v.2 = nI t) ∧
  ((∀ v, g.2.2.2.1 = some v → ∃ t, 0 < t ∧ t ≤ 24 ∧ v = nI t) ∧ (∀ v, g.2.2.2.2.1 = some v → ∃ t, t ≤ 100 ∧ v = nI t)) ∧
  (∀ a b, a < 6 → b < 6 → g.2.1.1 (6 * a + a) = -100 ∧ g.2.1.1 (6 * a + b) = g.2.1.1 (6 * b + a)) ∧
  (match g.2.2.1.1 with | none => g.2.2.1.2 = 0 | some c => c.length ≤ 320 ∧ leaves c ≤ 60)
theorem gI_0 : gI rg0 := ⟨⟨by decide, by decide, by decide, by decide⟩, fun i v e => by simp [rg0] at e, fun i v e => by simp [rg0] at e, ⟨(fun v e => by cases e), (fun v e => by cases e)⟩, fun a b _ _ => ⟨rfl, rfl⟩, rfl⟩
theorem get_snoc {α : Type} {l : List α} {x v : α} {i : Nat} (e : (l ++ [x])[i]? = some v) : l[i]? = some v ∨ (i = l.length ∧ v = x) := by
  by_cases c : i < l.length
  · rw [List.getElem?_append_left c] at e; exact Or.inl e
  · rw [List.getElem?_append_right (by omega)] at e
    by_cases c2 : i = l.length
    · subst c2; rw [Nat.sub_self] at e; simp at e; exact Or.inr ⟨rfl, e.symm⟩
    · rw [List.getElem?_eq_none (by simp; omega)] at e; cases e
theorem pMan_gI {g : rgT} {p : Nat} {v : rgT × Nat} (h : gI g) (hn : g.1.1.length < 6) (e : pMan T N g p = .inl v) : gI v.1 ∧ p < v.2 ∧ v.2 ≤ N := by
  obtain ⟨a, e1, e⟩ := bnd_inl e
  have h1 := pFresh_in e1
  obtain ⟨c, e2, e⟩ := bnd_inl e
  have h2 := pOpt_in h1.2 (by decide) (by decide) e2
  obtain ⟨ho, e3, e⟩ := bnd_inl e
  have h3 := pOpt_in h2.2.1 (by decide) (by decide) e3
  obtain ⟨⟨l1, l2, l3, l4⟩, q2, q3, q4, q5, q6⟩ := h
  have key : ∀ m : mnT, gI ((g.1.1 ++ [m], g.1.2), g.2) := fun m => ⟨⟨by simp; omega, l2, l3, l4⟩, fun i v hv => by
    obtain ⟨z1, z2, z3⟩ := q2 i v hv
    simp only [List.length_append, List.length_singleton]
    exact ⟨by omega, by omega, z3⟩, q3, q4, q5, q6⟩
  split at e
  · rename_i cc
    have := tkD_N (isV_0 cc)
    cases e
    exact ⟨key _, by show p < tkX T N ho.2; omega, this.2.2⟩
  · cases e
    exact ⟨key _, by show p < ho.2; omega, h3.2.1⟩
theorem pDeed_gI {g : rgT} {p : Nat} {v : rgT × Nat} (h : gI g) (hn : g.1.2.1.length < 6) (e : pDeed T N g p = .inl v) : gI v.1 ∧ p < v.2 ∧ v.2 ≤ N := by
  obtain ⟨a, e1, e⟩ := bnd_inl e
  have h1 := pFresh_in e1
  obtain ⟨c, e2, e⟩ := bnd_inl e
  have h2 := pAfter_in e2
  obtain ⟨⟨l1, l2, l3, l4⟩, q2, q3, q4, q5, q6⟩ := h
  cases e
  refine ⟨⟨⟨l1, by simp; omega, l3, l4⟩, fun i v hv => ?_, fun i v hv => ?_, q4, q5, q6⟩, by show p < c.2; omega, h2.2.1⟩
  · obtain ⟨z1, z2, z3, z4⟩ := q2 i v hv
    simp only [List.length_append, List.length_singleton]
    exact ⟨z1, z2, by omega, z4⟩
  · rcases get_snoc hv with z | ⟨-, z⟩
    · exact q3 i v z
    · rw [z]
      obtain ⟨t, t1, t2, t3⟩ := num_nat (a := 1) (b := 24) (by omega) (by omega) h2.2.2.1 h2.2.2.2
      exact ⟨t, by omega, t2, t3⟩
theorem pButton_gI {g : rgT} {p : Nat} {v : rgT × Nat} (h : gI g) (hn : g.1.2.2.length < 10) (e : pButton T N g p = .inl v) : gI v.1 ∧ p < v.2 ∧ v.2 ≤ N := by
  obtain ⟨a, e1, e⟩ := bnd_inl e
  have h1 := pFresh_in e1
  obtain ⟨p2, e2, e⟩ := bnd_inl e
  have h2 := pMust_in (fun z => isV_0 z) e2
  obtain ⟨on_, e3, e⟩ := bnd_inl e
  have h3 := pKnown_in e3
  obtain ⟨p4, e4, e⟩ := bnd_inl e
  have h4 := pMust_in (fun z => isV_0 z) e4
  obtain ⟨by_, e5, e⟩ := bnd_inl e
  have h5 := pKnown_in e5
  split at e
  · cases e
  obtain ⟨p6, e6, e⟩ := bnd_inl e
  have h6 := pMust_in (fun z => by
    rw [Bool.or_eq_true] at z
    rcases z with z | z
    · exact isV_0 z
    · exact isV_0 z) e6
  obtain ⟨de, e7, e⟩ := bnd_inl e
  have h7 := pKnown_in e7
  obtain ⟨un, e8, e⟩ := bnd_inl e
  have h8 := pOpt_in h7.2.1 (by decide) (by decide) e8
  obtain ⟨th, e9, e⟩ := bnd_inl e
  have h9 := pOpt_in h8.2.1 (by decide) (by decide) e9
  obtain ⟨⟨l1, l2, l3, l4⟩, q2, q3, q4, q5, q6⟩ := h
  rw [List.length_map] at h3 h5 h7
  have key : ∀ (b : Bool) (af : Int32), (af = -1 ∨ ∃ a, a < g.1.2.2.length ∧ af = nI a) → gI ((g.1.1, g.1.2.1, g.1.2.2 ++ [(a.1, on_.1, by_.1, de.1, b, un.1, th.1, af)]), g.2) := fun b af haf => ⟨⟨l1, l2, by simp; omega, l4⟩, fun i v hv => by
    rcases get_snoc hv with z | ⟨zi, z⟩
    · exact q2 i v z
    · rw [z, zi]
      obtain ⟨t, t1, t2, t3⟩ := num_nat (a := 1) (b := 99) (by omega) (by omega) h9.2.2.1 h9.2.2.2
      exact ⟨h3.2.2, h5.2.2, h7.2.2, ⟨t, t2, t3⟩, haf⟩, q3, q4, q5, q6⟩
  split at e
  · rename_i cc
    have hx := tkD_N (isV_0 cc)
    obtain ⟨af, e10, e⟩ := bnd_inl e
    have h10 := pKnown_in e10
    rw [List.length_map] at h10
    cases e
    exact ⟨key _ _ (Or.inr ⟨af.1, h10.2.2, rfl⟩), by show p < af.2; omega, h10.2.1⟩
  · cases e
    exact ⟨key _ _ (Or.inl rfl), by show p < th.2; omega, h9.2.1⟩
theorem pFriend_gI {g : rgT} {p : Nat} {v : rgT × Nat} (h : gI g) (hn : g.2.1.2 < 15) (e : pFriend T N g p = .inl v) : gI v.1 ∧ p < v.2 ∧ v.2 ≤ N := by
  obtain ⟨a, e1, e⟩ := bnd_inl e
  have h1 := pKnown_in e1
  obtain ⟨b, e2, e⟩ := bnd_inl e
  have h2 := pKnown_in e2
  rw [List.length_map] at h1 h2
  split at e
  · cases e
  rename_i ne
  split at e
  · cases e
  obtain ⟨s, e3, e⟩ := bnd_inl e
  have h3 := pSigned_in e3
  obtain ⟨⟨l1, l2, l3, l4⟩, q2, q3, q4, q5, q6⟩ := h
  cases e
  refine ⟨⟨⟨l1, l2, l3, by show g.2.1.2 + 1 ≤ 15; omega⟩, q2, q3, q4, fun x y hx hy => ?_, q6⟩, by show p < s.2; omega, h3.2⟩
  obtain ⟨z1, z2⟩ := q5 x y hx hy
  have b1 : b.1 < 6 := by omega
  have a1 : a.1 < 6 := by omega
  show fup (fup g.2.1.1 (6 * a.1 + b.1) s.1) (6 * b.1 + a.1) s.1 (6 * x + x) = -100 ∧ fup (fup g.2.1.1 (6 * a.1 + b.1) s.1) (6 * b.1 + a.1) s.1 (6 * x + y) = fup (fup g.2.1.1 (6 * a.1 + b.1) s.1) (6 * b.1 + a.1) s.1 (6 * y + x)
  constructor
  · rw [fup_n (by omega), fup_n (by omega)]; exact z1
  · unfold fup
    by_cases c1 : 6 * x + y = 6 * b.1 + a.1
    · rw [if_pos c1, if_neg (by omega), if_pos (by omega)]
    · rw [if_neg c1]
      by_cases c2 : 6 * x + y = 6 * a.1 + b.1
      · rw [if_pos c2, if_pos (by omega)]
      · rw [if_neg c2, if_neg (by omega), if_neg (by omega)]
        exact z2
theorem pWear_gI {g : rgT} {p : Nat} {v : rgT × Nat} (h : gI g) (hp : p ≤ N) (e : pWear T N g p = .inl v) : gI v.1 ∧ p < v.2 ∧ v.2 ≤ N := by
  obtain ⟨r, e1, e⟩ := bnd_inl e
  have h1 := (fok_lv (T := T) (N := N) 7 (by omega)).1 p 0 r hp (by omega) e1
  have h2 := (fle_lv (T := T) (N := N) 7).1 p 0 r e1
  obtain ⟨⟨l1, l2, l3, l4⟩, q2, q3, q4, q5, q6⟩ := h
  cases e
  exact ⟨⟨⟨l1, l2, l3, l4⟩, q2, q3, q4, q5, by show r.1.length ≤ 320 ∧ leaves r.1 ≤ 60; omega⟩, h1.1.1, h1.1.2⟩
theorem pLine_gI {g : rgT} {p : Nat} {v : rgT × Nat} (h : gI g) (e : pLine T N g p = .inl v) : gI v.1 ∧ p + 2 ≤ v.2 ∧ v.2 ≤ N := by
  unfold pLine at e
  split at e
  · cases e
  rename_i cl
  have kw : ∀ i, isV T N p i = true → p < tkX T N p ∧ tkX T N p ≤ N := fun i z => (tkD_N (isV_0 z)).2
  unfold canL at cl
  split at e
  · rename_i c
    rw [if_pos c] at cl
    have z := pMan_gI h (by simpa using cl) e
    have := kw _ c
    exact ⟨z.1, by omega, by omega⟩
  rename_i c1
  rw [if_neg c1] at cl
  split at e
  · rename_i c
    rw [if_pos c] at cl
    have z := pDeed_gI h (by simpa using cl) e
    have := kw _ c
    exact ⟨z.1, by omega, by omega⟩
  rename_i c2
  rw [if_neg c2] at cl
  split at e
  · rename_i c
    rw [if_pos c] at cl
    have z := pButton_gI h (by simpa using cl) e
    have := kw _ c
    exact ⟨z.1, by omega, by omega⟩
  rename_i c3
  rw [if_neg c3] at cl
  split at e
  · rename_i c
    rw [if_pos c] at cl
    have z := pFriend_gI h (by simpa using cl) e
    have := kw _ c
    exact ⟨z.1, by omega, by omega⟩
  rename_i c4
  rw [if_neg c4] at cl
  split at e
  · rename_i c
    have k := kw _ c
    have := pWear_gI h k.2 e
    exact ⟨this.1, by omega, by omega⟩
  rename_i c5
  rw [if_neg c5] at cl
  obtain ⟨ll, q2, q3, ⟨q4, q4'⟩, q5, q6⟩ := h
  split at e
  · rename_i c
    have k := kw _ c
    obtain ⟨n, e1, e⟩ := bnd_inl e
    have z := pNum_in e1
    cases e
    refine ⟨⟨ll, q2, q3, ⟨fun v hv => ?_, q4'⟩, q5, q6⟩, by show p + 2 ≤ n.2; omega, z.2.1⟩
    cases hv
    obtain ⟨t, t1, t2, t3⟩ := num_nat (a := 1) (b := 24) (by omega) (by omega) z.2.2.1 z.2.2.2
    exact ⟨t, by omega, t2, t3⟩
  rename_i c6
  rw [if_neg c6] at cl
  split at e
  · rename_i c
    have k := kw _ c
    obtain ⟨n, e1, e⟩ := bnd_inl e
    have z := pNum_in e1
    cases e
    refine ⟨⟨ll, q2, q3, ⟨q4, fun v hv => ?_⟩, q5, q6⟩, by show p + 2 ≤ n.2; omega, z.2.1⟩
    cases hv
    obtain ⟨t, t1, t2, t3⟩ := num_nat (a := 0) (b := 100) (by omega) (by omega) z.2.2.1 z.2.2.2
    exact ⟨t, t2, t3⟩
  · rename_i c7
    rw [if_neg c7] at cl
    have cd : isV T N p wDRAW = true := by
      cases z : isV T N p wDRAW with
      | true => rfl
      | false => rw [z] at cl; exact absurd rfl cl
    have k := kw _ cd
    obtain ⟨n, e1, e⟩ := bnd_inl e
    have z := pNum_in e1
    cases e
    exact ⟨⟨ll, q2, q3, ⟨q4, q4'⟩, q5, q6⟩, by show p + 2 ≤ n.2; omega, z.2.1⟩
theorem pAll_gI : ∀ n g p g', gI g → pAll T N n g p = .inl g' → gI g' := by
  intro n
  induction n with
  | zero => intro g p g' h e; cases e; exact h
  | succ n ih =>
    intro g p g' h e
    unfold pAll at e
    split at e
    · cases e; exact h
    · obtain ⟨r, e1, e⟩ := bnd_inl e
      obtain ⟨q, e2, e⟩ := bnd_inl e
      exact ih _ _ _ (pLine_gI h e1).1 e
end PLine
