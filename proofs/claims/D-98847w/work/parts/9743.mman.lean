/-! THE MODEL: what is read so far; men and deeds -/
/-- the parser's own places -/
def psc (a j : Nat) : Prop := a = 3 ∨ a = 4 ∨ a = 7 ∨ (10 ≤ a ∧ a ≤ 14) ∨ (20 ≤ a ∧ a ≤ 25) ∨ a = 32 ∨ (a = 0 ∧ ((2 ≤ j ∧ j ≤ 8) ∨ j = 17 ∨ j = 19 ∨ j = 20 ∨ j = 22 ∨ j = 23 ∨ (49 ≤ j ∧ j ≤ 55) ∨ (62 ≤ j ∧ j ≤ 65)))
def Ps (V W : am_M) : Prop := ∀ a j, ¬ psc a j → W a j = V a j
/-- what is read, in the rows that are not yet in force -/
def EN (h : am_H) (m : Nat) (V : am_M) (g : rgT) : Prop :=
  (V 0 49 = nI g.1.1.length ∧ V 0 50 = nI g.1.2.1.length ∧ V 0 51 = nI g.1.2.2.length ∧ V 0 52 = nI g.2.1.2) ∧
  (V 0 20 = nI g.2.2.1.2 ∧ V 0 53 = g.2.2.2.1.getD 8 ∧ V 0 54 = g.2.2.2.2.1.getD 0 ∧ V 0 55 = g.2.2.2.2.2.getD 0) ∧
  (V 0 62 = bI g.2.2.1.1.isSome ∧ V 0 63 = bI g.2.2.2.1.isSome ∧ V 0 64 = bI g.2.2.2.2.1.isSome ∧ V 0 65 = bI g.2.2.2.2.2.isSome ∧ V 0 3 = -1) ∧
  (NM h m 0 (g.1.1.map (·.1)) ∧ NM h m 6 (g.1.2.1.map (·.1)) ∧ NM h m 12 (g.1.2.2.map (·.1))) ∧
  (∀ (i : Nat) (v : mnT), g.1.1[i]? = some v → V 10 i = v.2.1 ∧ V 11 i = v.2.2.1 ∧ V 12 i = v.2.2.2) ∧
  (∀ (i : Nat) (v : ddT), g.1.2.1[i]? = some v → V 13 i = v.2) ∧
  (∀ (i : Nat) (v : oaT), g.1.2.2[i]? = some v → V 20 i = nI v.2.1 ∧ V 21 i = nI v.2.2.1 ∧ V 22 i = nI v.2.2.2.1 ∧ V 32 i = bI v.2.2.2.2.1 ∧ V 23 i = v.2.2.2.2.2.1 ∧ V 24 i = v.2.2.2.2.2.2.1 ∧ V 25 i = v.2.2.2.2.2.2.2) ∧
  ((∀ a b, a < g.1.1.length → b < g.1.1.length → V 14 (6 * a + b) = g.2.1.1 (6 * a + b)) ∧ ∀ a b, a < 6 → b < 6 → (g.1.1.length ≤ a ∨ g.1.1.length ≤ b) → g.2.1.1 (6 * a + b) = -100) ∧
  (match g.2.2.1.1 with | none => True | some c => V 0 17 = nI c.length ∧ ∀ (i : Nat) (s : Int32 × Int32), c[i]? = some s → V 3 i = s.1 ∧ V 4 i = s.2)
section MMan
variable {d : Nat} {h h' : am_H} {m : Nat} {V W : am_M} {T : tx} {N p : Nat} {g : rgT} {k : am_H → Prop}
theorem Ps.refl : Ps V V := fun _ _ _ => rfl
theorem Ps.tr {V1 V2 : am_M} (p : Ps V V1) (q : Ps V1 V2) : Ps V V2 := fun a j e => (q a j e).trans (p a j e)
theorem Ps.up {a k : Nat} {v : Int32} (p : Ps V W) (e : psc a k) : Ps V (am_up W a k v) := fun b j r => by
  rw [up_ne (fun z => r (by rw [z.1, z.2]; exact e))]
  exact p b j r
theorem Fk.ps (q : Fk V W) : Ps V W := fun a j e => q a j (fun z => e (by unfold fks tks at z; unfold psc; omega))
theorem Tk.ps (q : Tk V W) : Ps V W := q.fk.ps
/-- places that are read out of what is told -/
def enp (a j : Nat) : Prop := a = 3 ∨ a = 4 ∨ (10 ≤ a ∧ a ≤ 14) ∨ (20 ≤ a ∧ a ≤ 25) ∨ a = 32 ∨ (a = 0 ∧ (j = 3 ∨ j = 17 ∨ j = 20 ∨ (49 ≤ j ∧ j ≤ 55) ∨ (62 ≤ j ∧ j ≤ 65)))
theorem Tk.en (q : Tk V W) : ∀ a j, enp a j → W a j = V a j := fun a j e => q a j (fun z => by unfold tks at z; unfold enp at e; omega)
theorem EN.fr (q : EN h m V g) (e : ∀ a j, enp a j → W a j = V a j) (n : hp_L h' (m + 2) = hp_L h (m + 2)) : EN h' m W g := by
  obtain ⟨⟨n1, n2, n3, n4⟩, ⟨n5, n6, n7, n8⟩, ⟨n9, n10, n11, n12⟩, ⟨l1, l2, l3⟩, eM, eD, eO, ⟨eF, eG⟩, eW⟩ := q
  have e0 : ∀ j, (j = 3 ∨ j = 17 ∨ j = 20 ∨ (49 ≤ j ∧ j ≤ 55) ∨ (62 ≤ j ∧ j ≤ 65)) → W 0 j = V 0 j := fun j z => e 0 j (by unfold enp; omega)
  have er : ∀ a j, (a = 3 ∨ a = 4 ∨ (10 ≤ a ∧ a ≤ 14) ∨ (20 ≤ a ∧ a ≤ 25) ∨ a = 32) → W a j = V a j := fun a j z => e a j (by unfold enp; omega)
  refine ⟨⟨?_, ?_, ?_, ?_⟩, ⟨?_, ?_, ?_, ?_⟩, ⟨?_, ?_, ?_, ?_⟩, ⟨l1.fr fun i _ => by rw [n], l2.fr fun i _ => by rw [n], l3.fr fun i _ => by rw [n]⟩, fun i v hv => ?_, fun i v hv => ?_, fun i v hv => ?_, ⟨fun a b ha hb => ?_, eG⟩, ?_⟩
  · rw [e0 _ (by omega)]; exact n1
  · rw [e0 _ (by omega)]; exact n2
  · rw [e0 _ (by omega)]; exact n3
  · rw [e0 _ (by omega)]; exact n4
  · rw [e0 _ (by omega)]; exact n5
  · rw [e0 _ (by omega)]; exact n6
  · rw [e0 _ (by omega)]; exact n7
  · rw [e0 _ (by omega)]; exact n8
  · rw [e0 _ (by omega)]; exact n9
  · rw [e0 _ (by omega)]; exact n10
  · rw [e0 _ (by omega)]; exact n11
  · exact ⟨by rw [e0 _ (by omega)]; exact n12.1, by rw [e0 _ (by omega)]; exact n12.2⟩
  · rw [er _ _ (by omega), er _ _ (by omega), er _ _ (by omega)]; exact eM i v hv
  · rw [er _ _ (by omega)]; exact eD i v hv
  · rw [er _ _ (by omega), er _ _ (by omega), er _ _ (by omega), er _ _ (by omega), er _ _ (by omega), er _ _ (by omega), er _ _ (by omega)]; exact eO i v hv
  · rw [er _ _ (by omega)]; exact eF a b ha hb
  · revert eW
    cases g.2.2.1.1 with
    | none => exact id
    | some c =>
      intro eW
      refine ⟨by rw [e0 _ (by omega)]; exact eW.1, fun i s hs => ?_⟩
      rw [er _ _ (by omega), er _ _ (by omega)]; exact eW.2 i s hs
theorem NM_add {o n : Nat} {l : List Int64} {w : Int64} (q : NM h m o l) (hn : n = o + l.length) (ln : Ln m n w h h') (nw : ixN l w = none) : NM h' m o (l ++ [w]) := by
  have new : ∀ i, i < l.length → ¬ l.getD i 0 = w := fun i hi z => by
    have := fst1_none.mp nw i hi
    simp only [decide_eq_false_iff_not] at this
    exact this z
  have gl : ∀ i, i < l.length → (l ++ [w]).getD i 0 = l.getD i 0 := fun i hi => by
    rw [List.getD_eq_getElem?_getD, List.getD_eq_getElem?_getD, List.getElem?_append_left hi]
  have gr : (l ++ [w]).getD l.length 0 = w := by
    rw [List.getD_eq_getElem?_getD, List.getElem?_append_right (Nat.le_refl _), Nat.sub_self]; rfl
  refine ⟨fun i hi => ?_, fun i j hi hj e => ?_⟩
  · rw [List.length_append, List.length_singleton] at hi
    rw [ln.2]
    by_cases c : i = l.length
    · rw [if_pos (by omega), c, gr]
    · rw [if_neg (by omega), gl i (by omega)]; exact q.1 i (by omega)
  · rw [List.length_append, List.length_singleton] at hi hj
    by_cases c : i = l.length
    · by_cases c2 : j = l.length
      · omega
      · rw [c, gr, gl j (by omega)] at e
        exact absurd e.symm (new j (by omega))
    · by_cases c2 : j = l.length
      · rw [c2, gr, gl i (by omega)] at e
        exact absurd e (new i (by omega))
      · rw [gl i (by omega), gl j (by omega)] at e
        exact q.2 i j (by omega) (by omega) e
theorem NM_oth {o n : Nat} {l : List Int64} {w : Int64} (q : NM h m o l) (ln : Ln m n w h h') (hn : n < o ∨ o + l.length ≤ n) : NM h' m o l := q.fr (fun i hi => by rw [ln.2, if_neg (by omega)])
/-- a new man's friends -/
def gapV (W : am_M) (n : Nat) : Nat → am_M
  | 0 => W
  | o + 1 => am_up (am_up (gapV W n o) 14 (6 * n + o) (-100)) 14 (6 * o + n) (-100)
theorem gapV_o {n o a j : Nat} (ha : ¬ a = 14) : gapV W n o a j = W a j := by
  induction o with
  | zero => rfl
  | succ o ih =>
    show am_up (am_up (gapV W n o) _ _ _) _ _ _ a j = _
    rw [up_ne (fun z => ha z.1), up_ne (fun z => ha z.1)]; exact ih
theorem gapV_f {n o j : Nat} : gapV W n o 14 j = if (∃ i, i < o ∧ (j = 6 * n + i ∨ j = 6 * i + n)) then -100 else W 14 j := by
  induction o with
  | zero => rw [if_neg (fun ⟨i, hi, _⟩ => by omega)]; rfl
  | succ o ih =>
    show am_up (am_up (gapV W n o) _ _ _) _ _ _ _ j = _
    by_cases c1 : j = 6 * o + n
    · rw [c1, up_same, if_pos ⟨o, by omega, Or.inr rfl⟩]
    · rw [up_ne (fun z => c1 z.2)]
      by_cases c2 : j = 6 * n + o
      · rw [c2, up_same, if_pos ⟨o, by omega, Or.inl rfl⟩]
      · rw [up_ne (fun z => c2 z.2), ih]
        by_cases c3 : ∃ i, i < o ∧ (j = 6 * n + i ∨ j = 6 * i + n)
        · obtain ⟨i, hi, c⟩ := c3
          rw [if_pos ⟨i, hi, c⟩, if_pos ⟨i, by omega, c⟩]
        · rw [if_neg c3, if_neg (fun ⟨i, hi, c⟩ => by
            by_cases e : i = o
            · rw [e] at c; exact c.elim c2 c1
            · exact c3 ⟨i, by omega, c⟩)]
theorem EN_man (q : EN h m V g) {w : Int64} {c ho le : Int32} (hn : g.1.1.length < 6) (ln : Ln m g.1.1.length w h h') (nw : ixN (g.1.1.map (·.1)) w = none) (hA : ∀ a j, enp a j → ¬ ((a = 10 ∨ a = 11 ∨ a = 12) ∧ j = g.1.1.length) → ¬ a = 14 → ¬ (a = 0 ∧ j = 49) → W a j = V a j) (w1 : W 0 49 = nI (g.1.1.length + 1)) (w2 : W 10 g.1.1.length = c) (w3 : W 11 g.1.1.length = ho) (w4 : W 12 g.1.1.length = le) (w5 : ∀ j, W 14 j = if (∃ i, i < 6 ∧ (j = 6 * g.1.1.length + i ∨ j = 6 * i + g.1.1.length)) then -100 else V 14 j) : EN h' m W ((g.1.1 ++ [(w, c, ho, le)], g.1.2), g.2) := by
  obtain ⟨⟨n1, n2, n3, n4⟩, ⟨n5, n6, n7, n8⟩, ⟨n9, n10, n11, n12⟩, ⟨l1, l2, l3⟩, eM, eD, eO, ⟨eF, eG⟩, eW⟩ := q
  have e0 : ∀ j, (j = 3 ∨ j = 17 ∨ j = 20 ∨ (50 ≤ j ∧ j ≤ 55) ∨ (62 ≤ j ∧ j ≤ 65)) → W 0 j = V 0 j := fun j z => hA 0 j (by unfold enp; omega) (by omega) (by omega) (by omega)
  have er : ∀ a j, (a = 3 ∨ a = 4 ∨ a = 13 ∨ (20 ≤ a ∧ a ≤ 25) ∨ a = 32) → W a j = V a j := fun a j z => hA a j (by unfold enp; omega) (by omega) (by omega) (by omega)
  have em : ∀ a j, (10 ≤ a ∧ a ≤ 12) → ¬ j = g.1.1.length → W a j = V a j := fun a j z z2 => hA a j (by unfold enp; omega) (by omega) (by omega) (by omega)
  refine ⟨⟨?_, ?_, ?_, ?_⟩, ⟨?_, ?_, ?_, ?_⟩, ⟨?_, ?_, ?_, ?_⟩, ⟨?_, ?_, ?_⟩, fun i v hv => ?_, fun i v hv => ?_, fun i v hv => ?_, ⟨fun a b ha hb => ?_, fun a b ha hb z => ?_⟩, ?_⟩
  · rw [w1, List.length_append]; rfl
  · rw [e0 _ (by omega)]; exact n2
  · rw [e0 _ (by omega)]; exact n3
  · rw [e0 _ (by omega)]; exact n4
  · rw [e0 _ (by omega)]; exact n5
  · rw [e0 _ (by omega)]; exact n6
  · rw [e0 _ (by omega)]; exact n7
  · rw [e0 _ (by omega)]; exact n8
  · rw [e0 _ (by omega)]; exact n9
  · rw [e0 _ (by omega)]; exact n10
  · rw [e0 _ (by omega)]; exact n11
  · exact ⟨by rw [e0 _ (by omega)]; exact n12.1, by rw [e0 _ (by omega)]; exact n12.2⟩
  · rw [List.map_append]; exact NM_add l1 (by rw [List.length_map, Nat.zero_add]) ln nw
  · exact NM_oth l2 ln (Or.inl hn)
  · exact NM_oth l3 ln (Or.inl (by omega))
  · rcases get_snoc hv with z | ⟨z1, z2⟩
    · have := (List.getElem?_eq_some_iff.mp z).1
      rw [em _ _ (by omega) (by omega), em _ _ (by omega) (by omega), em _ _ (by omega) (by omega)]; exact eM i v z
    · rw [z1, z2]; exact ⟨w2, w3, w4⟩
  · rw [er _ _ (by omega)]; exact eD i v hv
  · rw [er _ _ (by omega), er _ _ (by omega), er _ _ (by omega), er _ _ (by omega), er _ _ (by omega), er _ _ (by omega), er _ _ (by omega)]; exact eO i v hv
  · simp only [List.length_append, List.length_singleton] at ha hb
    rw [w5]
    by_cases z : a = g.1.1.length ∨ b = g.1.1.length
    · rw [if_pos (by
        rcases z with z | z
        · exact ⟨b, by omega, Or.inl (by omega)⟩
        · exact ⟨a, by omega, Or.inr (by omega)⟩)]
      exact (eG a b (by omega) (by omega) (by omega)).symm
    · rw [if_neg (fun ⟨i, hi, c⟩ => by omega)]
      exact eF a b (by omega) (by omega)
  · simp only [List.length_append, List.length_singleton] at z
    exact eG a b ha hb (by omega)
  · show match g.2.2.1.1 with | none => True | some c => _
    revert eW
    cases g.2.2.1.1 with
    | none => exact id
    | some c =>
      intro eW
      refine ⟨by rw [e0 _ (by omega)]; exact eW.1, fun i s hs => ?_⟩
      rw [er _ _ (by omega), er _ _ (by omega)]; exact eW.2 i s hs
theorem EN_deed (q : EN h m V g) {w : Int64} {c : Int32} (hn : g.1.2.1.length < 6) (hm : g.1.1.length ≤ 6) (ln : Ln m (6 + g.1.2.1.length) w h h') (nw : ixN (g.1.2.1.map (·.1)) w = none) (hA : ∀ a j, enp a j → ¬ (a = 13 ∧ j = g.1.2.1.length) → ¬ (a = 0 ∧ j = 50) → W a j = V a j) (w1 : W 0 50 = nI (g.1.2.1.length + 1)) (w2 : W 13 g.1.2.1.length = c) : EN h' m W ((g.1.1, g.1.2.1 ++ [(w, c)], g.1.2.2), g.2) := by
  obtain ⟨⟨n1, n2, n3, n4⟩, ⟨n5, n6, n7, n8⟩, ⟨n9, n10, n11, n12⟩, ⟨l1, l2, l3⟩, eM, eD, eO, ⟨eF, eG⟩, eW⟩ := q
  have e0 : ∀ j, (j = 3 ∨ j = 17 ∨ j = 20 ∨ j = 49 ∨ (51 ≤ j ∧ j ≤ 55) ∨ (62 ≤ j ∧ j ≤ 65)) → W 0 j = V 0 j := fun j z => hA 0 j (by unfold enp; omega) (by omega) (by omega)
  have er : ∀ a j, (a = 3 ∨ a = 4 ∨ (10 ≤ a ∧ a ≤ 12) ∨ a = 14 ∨ (20 ≤ a ∧ a ≤ 25) ∨ a = 32) → W a j = V a j := fun a j z => hA a j (by unfold enp; omega) (by omega) (by omega)
  refine ⟨⟨?_, ?_, ?_, ?_⟩, ⟨?_, ?_, ?_, ?_⟩, ⟨?_, ?_, ?_, ?_⟩, ⟨?_, ?_, ?_⟩, fun i v hv => ?_, fun i v hv => ?_, fun i v hv => ?_, ⟨fun a b ha hb => ?_, eG⟩, ?_⟩
  · rw [e0 _ (by omega)]; exact n1
  · rw [w1, List.length_append]; rfl
  · rw [e0 _ (by omega)]; exact n3
  · rw [e0 _ (by omega)]; exact n4
  · rw [e0 _ (by omega)]; exact n5
  · rw [e0 _ (by omega)]; exact n6
  · rw [e0 _ (by omega)]; exact n7
  · rw [e0 _ (by omega)]; exact n8
  · rw [e0 _ (by omega)]; exact n9
  · rw [e0 _ (by omega)]; exact n10
  · rw [e0 _ (by omega)]; exact n11
  · exact ⟨by rw [e0 _ (by omega)]; exact n12.1, by rw [e0 _ (by omega)]; exact n12.2⟩
  · exact NM_oth l1 ln (Or.inr (by rw [List.length_map]; show 0 + g.1.1.length ≤ _; omega))
  · rw [List.map_append]; exact NM_add l2 (by rw [List.length_map]) ln nw
  · exact NM_oth l3 ln (Or.inl (by omega))
  · rw [er _ _ (by omega), er _ _ (by omega), er _ _ (by omega)]; exact eM i v hv
  · rcases get_snoc hv with z | ⟨z1, z2⟩
    · have := (List.getElem?_eq_some_iff.mp z).1
      rw [hA _ _ (by unfold enp; omega) (by omega) (by omega)]; exact eD i v z
    · rw [z1, z2]; exact w2
  · rw [er _ _ (by omega), er _ _ (by omega), er _ _ (by omega), er _ _ (by omega), er _ _ (by omega), er _ _ (by omega), er _ _ (by omega)]; exact eO i v hv
  · rw [er _ _ (by omega)]; exact eF a b ha hb
  · show match g.2.2.1.1 with | none => True | some c => _
    revert eW
    cases g.2.2.1.1 with
    | none => exact id
    | some c =>
      intro eW
      refine ⟨by rw [e0 _ (by omega)]; exact eW.1, fun i s hs => ?_⟩
      rw [er _ _ (by omega), er _ _ (by omega)]; exact eW.2 i s hs
theorem Ln.tr {j : Nat} {w : Int64} {h2 : am_H} (p : Ln m j w h h') (q : Lw m h' h2) : Ln m j w h h2 := ⟨p.1.tr q.x, fun i => by rw [q.nm]; exact p.2 i⟩
theorem m_readDeed (hW : MW h m) (ok : OK h m V T N p) (kw : tkD T N p = 1) (en : EN h m V g) (hn : g.1.2.1.length < 6) (hm : g.1.1.length ≤ 6) (h1 : ∀ h' W v, pDeed T N g (tkX T N p) = .inl v → Lx m h h' → Ps V W → OK h' m W T N v.2 → EN h' m W v.1 → k (mh h' m W)) (h2 : ∀ h' W e, pDeed T N g (tkX T N p) = .inr e → Lx m h h' → Ps V W → ER W e → k (mh h' m W)) : Rn (d + 4) n_X9_readDeed 0 [am_r m] [] (mh h m V) (kV k) := by
  have en0 := en
  obtain ⟨⟨n1, n2, n3, n4⟩, -, -, ⟨l1, l2, l3⟩, -⟩ := en
  have n2' : V 0 50 = nI (g.1.2.1.map (·.1)).length := by rw [List.length_map]; exact n2
  generalize hl : g.1.2.1.length = n at hn n2
  unfold pDeed at h1 h2
  -- an error told: the end
  have E28 : ∀ h' W y e, MW h' m → ER W e → (∀ X, ER X e → Ps W X → k (mh h' m X)) → Rn (d + 4) n_X9_readDeed 28 [am_r m] [am_i y, am_i (nI n), am_r (m + 13)] (mh h' m W) (kV k) := by
    intro h' W y e hW er hk
    have er2 : ER (am_up W 13 n y) e := er.up (by omega)
    refine rm_iast f_X9_readDeed_28 hW (by exact rfl) rfl (by omega) ?_
    refine rw_aload f_X9_readDeed_29 rfl ?_
    refine rm_getI f_X9_readDeed_30 hW ?_
    refine rw_ifT f_X9_readDeed_33 (decide_eq_true er2.ne) ?_
    refine rw_vret f_X9_readDeed_46 ?_
    exact hk _ er2 (Ps.refl.up (by unfold psc; omega))
  refine rw_aload f_X9_readDeed_0 rfl ?_
  refine rw_const f_X9_readDeed_1 ?_
  refine rw_aload f_X9_readDeed_3 rfl ?_
  refine rm_getI f_X9_readDeed_4 hW ?_
  skip
  rw [n2']
  refine rw_callV f_X9_readDeed_7 rfl hW.1 hW.2.1 rfl rfl rfl rfl (rn_kv (m_newName (o := 6) hW ok kw l2 (by rw [List.length_map]; omega) (fun h3 W3 v e ln tk ok3 nw => ?_) (fun h3 W3 e e1 lw fk er => ?_)))
  · rw [e, bnd_l] at h1 h2
    have hW := ln.1.mw hW
    have m2 : W3 0 50 = nI n := (tk _ _ (by unfold tks; omega)).trans n2
    refine rw_aload f_X9_readDeed_10 rfl ?_
    refine rm_getR f_X9_readDeed_11 hW rfl ?_
    refine rw_aload f_X9_readDeed_14 rfl ?_
    refine rm_getI f_X9_readDeed_15 hW ?_
    rw [m2]
    refine rw_aload f_X9_readDeed_18 rfl ?_
    refine rw_const f_X9_readDeed_19 ?_
    refine rw_const f_X9_readDeed_22 ?_
    refine rw_const f_X9_readDeed_23 ?_
    skip
    refine rw_callV f_X9_readDeed_25 rfl hW.1 hW.2.1 rfl rfl rfl rfl (rn_ki (m_told hW ok3 (i := wHOURS) (by decide +kernel) (fun h4 W4 c e2 lw4 tk4 ok4 => ?_) (fun h4 W4 y e3 e2 lw4 fk4 er4 => ?_)))
    · rw [e2, bnd_l] at h1
      have hW := lw4.mw hW
      have m4 : W4 0 50 = nI n := (tk4 _ _ (by unfold tks; omega)).trans m2
      have ok5 : OK h4 m (am_up W4 13 n c.1) T N c.2 := ok4.up (by unfold fks tks; omega)
      have m5 : am_up W4 13 n c.1 0 50 = nI n := by rw [up_ne (by omega)]; exact m4
      rw [List.length_map, hl] at ln
      refine rm_iast f_X9_readDeed_28 hW (by exact rfl) rfl (by omega) ?_
      refine rw_aload f_X9_readDeed_29 rfl ?_
      refine rm_getI f_X9_readDeed_30 hW ?_
      rw [ok5.f]
      refine rw_ifF f_X9_readDeed_33 (by decide) ?_
      refine rw_aload f_X9_readDeed_36 rfl ?_
      first | refine rw_dupr f_X9_readDeed_37 ?_ | refine rw_dupi f_X9_readDeed_37 ?_
      refine rm_getI f_X9_readDeed_38 hW ?_
      rw [m5]
      refine rw_const f_X9_readDeed_41 ?_
      refine rw_iadd f_X9_readDeed_42 ?_
      rw [nI_1']
      refine rm_putI f_X9_readDeed_43 hW ?_
      refine rw_vret f_X9_readDeed_46 ?_
      refine h1 h4 _ _ rfl (ln.tr lw4).1 ((((tk.tr tk4).ps).up (by unfold psc; omega)).up (by unfold psc; omega)) (ok5.up (by unfold fks tks; omega)) (EN_deed en0 (by omega) hm (by rw [hl]; exact ln.tr lw4) nw (fun a j z z1 z2 => ?_) ?_ ?_)
      · rw [up_ne z2, up_ne (by rw [← hl]; exact z1)]; exact (tk.tr tk4).en a j z
      · rw [hl]; exact up_same
      · rw [hl, up_ne (by omega)]; exact up_same
    · rw [e2, bnd_r] at h2
      exact E28 h4 W4 y e3 (lw4.mw hW) er4 (fun X ex px => h2 h4 X e3 rfl (ln.1.tr lw4.x) ((tk.ps.tr fk4.ps).tr px) ex)
  · rw [e1, bnd_r] at h2
    have hW := lw.mw hW
    have m2 : W3 0 50 = nI n := (fk _ _ (by unfold fks tks; omega)).trans n2
    refine rw_aload f_X9_readDeed_10 rfl ?_
    refine rm_getR f_X9_readDeed_11 hW rfl ?_
    refine rw_aload f_X9_readDeed_14 rfl ?_
    refine rm_getI f_X9_readDeed_15 hW ?_
    rw [m2]
    refine rw_aload f_X9_readDeed_18 rfl ?_
    refine rw_const f_X9_readDeed_19 ?_
    refine rw_const f_X9_readDeed_22 ?_
    refine rw_const f_X9_readDeed_23 ?_
    refine rw_callV f_X9_readDeed_25 rfl hW.1 hW.2.1 rfl rfl rfl rfl (rn_ki (m_toldE hW er ?_))
    exact E28 h3 W3 0 e hW er (fun X ex px => h2 h3 X e rfl lw.x (fk.ps.tr px) ex)
theorem m_readMan (hW : MW h m) (ok : OK h m V T N p) (kw : tkD T N p = 1) (en : EN h m V g) (hn : g.1.1.length < 6) (h1 : ∀ h' W v, pMan T N g (tkX T N p) = .inl v → Lx m h h' → Ps V W → OK h' m W T N v.2 → EN h' m W v.1 → k (mh h' m W)) (h2 : ∀ h' W e, pMan T N g (tkX T N p) = .inr e → Lx m h h' → Ps V W → ER W e → k (mh h' m W)) : Rn (d + 5) n_X9_readMan 0 [am_r m, am_u, am_u] [] (mh h m V) (kV k) := by
  have en0 := en
  obtain ⟨⟨n1, n2, n3, n4⟩, -, -, ⟨l1, l2, l3⟩, -⟩ := en
  have n1' : V 0 49 = nI (g.1.1.map (·.1)).length := by rw [List.length_map]; exact n1
  generalize hl : g.1.1.length = n at hn n1
  unfold pMan at h1 h2
  have loop : ∀ h' W y, MW h' m → Rn (d + 5) n_X9_readMan 139 [am_r m, am_i (nI n), am_i (nI 6)] [] (mh h' m (gapV W n 6)) (kV k) → Rn (d + 5) n_X9_readMan 99 [am_r m, am_i (nI n), y] [] (mh h' m W) (kV k) := by
    intro h' W y hW hx
    have go : Rn (d + 5) n_X9_readMan 101 [am_r m, am_i (nI n), am_i (nI 0)] [] (mh h' m W) (kV k) := by
      refine rn_for (N := 6) (fun o => [am_r m, am_i (nI n), am_i (nI o)]) (fun o => mh h' m (gapV W n o)) (fun b hb ih => ?_) ?_
      · refine rw_iload f_X9_readMan_101 rfl ?_
        refine rw_const f_X9_readMan_102 ?_
        refine rw_icmpF f_X9_readMan_104 (decide_eq_false (nI_ge (b := 6) hb (by decide))) ?_
        refine rw_aload f_X9_readMan_107 rfl ?_
        refine rm_getR f_X9_readMan_108 hW rfl ?_
        refine rw_const f_X9_readMan_111 ?_
        refine rw_iload f_X9_readMan_113 rfl ?_
        refine rw_imul f_X9_readMan_114 ?_
        refine rw_iload f_X9_readMan_115 rfl ?_
        refine rw_iadd f_X9_readMan_116 ?_
        refine rw_const f_X9_readMan_117 ?_
        refine rm_iast (j := 6 * n + b) f_X9_readMan_119 hW (by exact rfl) (by first | rfl | exact nI_addl _ _ | (simp only [nI, Int32.ofNat_add, Int32.ofNat_mul]; rfl) | (simp only [nI_addl, nI_mull, nI_lit, nI_1']; done) | (simp only [nI_1, nI_0, nI_addl, nI_mull, ← nI_succ]; rfl)) (by omega) ?_
        refine rw_aload f_X9_readMan_120 rfl ?_
        refine rm_getR f_X9_readMan_121 hW rfl ?_
        refine rw_const f_X9_readMan_124 ?_
        refine rw_iload f_X9_readMan_126 rfl ?_
        refine rw_imul f_X9_readMan_127 ?_
        refine rw_iload f_X9_readMan_128 rfl ?_
        refine rw_iadd f_X9_readMan_129 ?_
        refine rw_const f_X9_readMan_130 ?_
        refine rm_iast (j := 6 * b + n) f_X9_readMan_132 hW (by exact rfl) (by first | rfl | exact nI_addl _ _ | (simp only [nI, Int32.ofNat_add, Int32.ofNat_mul]; rfl) | (simp only [nI_addl, nI_mull, nI_lit, nI_1']; done) | (simp only [nI_1, nI_0, nI_addl, nI_mull, ← nI_succ]; rfl)) (by omega) ?_
        refine rw_iinc f_X9_readMan_133 rfl rfl ?_
        refine rw_goto f_X9_readMan_136 ?_
        rw [nI_1']
        exact ih
      · refine rw_iload f_X9_readMan_101 rfl ?_
        refine rw_const f_X9_readMan_102 ?_
        refine rw_icmpT f_X9_readMan_104 (by decide) ?_
        exact hx
    refine rw_const f_X9_readMan_99 ?_
    refine rw_istore f_X9_readMan_100 rfl rfl ?_
    exact go
  -- an error told: the end
  have E99 : ∀ h' W y e, MW h' m → ER W e → (∀ X, ER X e → Ps W X → k (mh h' m X)) → Rn (d + 5) n_X9_readMan 99 [am_r m, am_i (nI n), y] [] (mh h' m W) (kV k) := by
    intro h' W y e hW er hk
    have er2 : ER (gapV W n 6) e := by
      unfold ER
      rw [gapV_o (by decide), gapV_o (by decide)]; exact er
    have ps2 : Ps W (gapV W n 6) := fun a j z => gapV_o (fun q => z (by unfold psc; omega))
    refine loop h' W y hW ?_
    refine rw_aload f_X9_readMan_139 rfl ?_
    refine rm_getI f_X9_readMan_140 hW ?_
    refine rw_ifT f_X9_readMan_143 (decide_eq_true er2.ne) ?_
    refine rw_vret f_X9_readMan_156 ?_
    exact hk _ er2 ps2
  have E46 : ∀ h' W y e, MW h' m → ER W e → (∀ X, ER X e → Ps W X → k (mh h' m X)) → Rn (d + 5) n_X9_readMan 46 [am_r m, am_i (nI n), am_u] [am_i y, am_i (nI n), am_r (m + 11)] (mh h' m W) (kV k) := by
    intro h' W y e hW er hk
    have er2 : ER (am_up W 11 n y) e := er.up (by omega)
    have er3 : ER (am_up (am_up W 11 n y) 12 n 0) e := er2.up (by omega)
    refine rm_iast f_X9_readMan_46 hW (by exact rfl) rfl (by omega) ?_
    refine rw_aload f_X9_readMan_47 rfl ?_
    refine rm_getR f_X9_readMan_48 hW rfl ?_
    refine rw_iload f_X9_readMan_51 rfl ?_
    refine rw_aload f_X9_readMan_52 rfl ?_
    refine rm_getI f_X9_readMan_53 hW ?_
    refine rw_ifT f_X9_readMan_56 (decide_eq_true er2.ne) ?_
    refine rw_const f_X9_readMan_73 ?_
    refine rw_callS f_X9_readMan_74 rfl rfl rfl (rn_ki (M_truth ?_))
    refine rm_iast f_X9_readMan_77 hW (by exact rfl) rfl (by omega) ?_
    refine rw_aload f_X9_readMan_78 rfl ?_
    refine rm_getI f_X9_readMan_79 hW ?_
    refine rw_ifT f_X9_readMan_82 (decide_eq_true er3.ne) ?_
    exact E99 h' _ _ e hW er3 (fun X ex px => hk X ex (((Ps.refl.up (by unfold psc; omega)).up (by unfold psc; omega)).tr px))
  have E30 : ∀ h' W y e, MW h' m → ER W e → (∀ X, ER X e → Ps W X → k (mh h' m X)) → Rn (d + 5) n_X9_readMan 30 [am_r m, am_i (nI n), am_u] [am_i y, am_i (nI n), am_r (m + 10)] (mh h' m W) (kV k) := by
    intro h' W y e hW er hk
    have er2 : ER (am_up W 10 n y) e := er.up (by omega)
    refine rm_iast f_X9_readMan_30 hW (by exact rfl) rfl (by omega) ?_
    refine rw_aload f_X9_readMan_31 rfl ?_
    refine rm_getR f_X9_readMan_32 hW rfl ?_
    refine rw_iload f_X9_readMan_35 rfl ?_
    refine rw_aload f_X9_readMan_36 rfl ?_
    refine rw_const f_X9_readMan_37 ?_
    refine rw_const f_X9_readMan_40 ?_
    refine rw_const f_X9_readMan_41 ?_
    refine rw_const f_X9_readMan_42 ?_
    refine rw_callV f_X9_readMan_43 rfl hW.1 hW.2.1 rfl rfl rfl rfl (rn_ki (m_optionE hW er2 ?_))
    exact E46 h' _ _ e hW er2 (fun X ex px => hk X ex ((Ps.refl.up (by unfold psc; omega)).tr px))
  refine rw_aload f_X9_readMan_0 rfl ?_
  refine rw_const f_X9_readMan_1 ?_
  refine rw_aload f_X9_readMan_2 rfl ?_
  refine rm_getI f_X9_readMan_3 hW ?_
  skip
  rw [n1']
  refine rw_callV f_X9_readMan_6 rfl hW.1 hW.2.1 rfl rfl rfl rfl (rn_kv (m_newName (o := 0) hW ok kw l1 (by rw [List.length_map]; omega) (fun h3 W3 v e ln tk ok3 nw => ?_) (fun h3 W3 e e1 lw fk er => ?_)))
  rotate_left
  · rw [e1, bnd_r] at h2
    have hW := lw.mw hW
    have m2 : W3 0 49 = nI n := (fk _ _ (by unfold fks tks; omega)).trans n1
    refine rw_aload f_X9_readMan_9 rfl ?_
    refine rm_getI f_X9_readMan_10 hW ?_
    rw [m2]
    refine rw_istore f_X9_readMan_13 rfl rfl ?_
    refine rw_aload f_X9_readMan_14 rfl ?_
    refine rm_getR f_X9_readMan_15 hW rfl ?_
    refine rw_iload f_X9_readMan_18 rfl ?_
    refine rw_aload f_X9_readMan_19 rfl ?_
    refine rw_const f_X9_readMan_20 ?_
    refine rw_const f_X9_readMan_23 ?_
    refine rw_const f_X9_readMan_24 ?_
    refine rw_const f_X9_readMan_26 ?_
    refine rw_callV f_X9_readMan_27 rfl hW.1 hW.2.1 rfl rfl rfl rfl (rn_ki (m_optionE hW er ?_))
    exact E30 h3 W3 0 e hW er (fun X ex px => h2 h3 X e rfl lw.x (fk.ps.tr px) ex)
  rw [e, bnd_l] at h1 h2
  have hW0 := hW
  have hW := ln.1.mw hW
  have m2 : W3 0 49 = nI n := (tk _ _ (by unfold tks; omega)).trans n1
  rw [List.length_map, hl, Nat.zero_add] at ln
  refine rw_aload f_X9_readMan_9 rfl ?_
  refine rm_getI f_X9_readMan_10 hW ?_
  rw [m2]
  refine rw_istore f_X9_readMan_13 rfl rfl ?_
  refine rw_aload f_X9_readMan_14 rfl ?_
  refine rm_getR f_X9_readMan_15 hW rfl ?_
  refine rw_iload f_X9_readMan_18 rfl ?_
  refine rw_aload f_X9_readMan_19 rfl ?_
  refine rw_const f_X9_readMan_20 ?_
  refine rw_const f_X9_readMan_23 ?_
  refine rw_const f_X9_readMan_24 ?_
  refine rw_const f_X9_readMan_26 ?_
  skip
  refine rw_callV f_X9_readMan_27 rfl hW.1 hW.2.1 rfl rfl rfl rfl (rn_ki (m_option hW ok3 (i := wCOLOUR) (by decide +kernel) (fun h4 W4 c e2 lw4 tk4 ok4 => ?_) (fun h4 W4 y e3 e2 lw4 fk4 er4 => ?_)))
  rotate_left
  · rw [e2, bnd_r] at h2
    exact E30 h4 W4 y e3 (lw4.mw hW) er4 (fun X ex px => h2 h4 X e3 rfl (ln.1.tr lw4.x) ((tk.ps.tr fk4.ps).tr px) ex)
  rw [e2, bnd_l] at h1 h2
  have hW1 := hW
  have hW := lw4.mw hW
  have ok5 : OK h4 m (am_up W4 10 n c.1) T N c.2 := ok4.up (by unfold fks tks; omega)
  have ps5 : Ps V (am_up W4 10 n c.1) := (tk.tr tk4).ps.up (by unfold psc; omega)
  have A5 : ∀ a j, enp a j → ¬ (a = 10 ∧ j = n) → am_up W4 10 n c.1 a j = V a j := fun a j z z2 => by
    rw [up_ne z2]; exact (tk.tr tk4).en a j z
  have B5 : am_up W4 10 n c.1 10 n = c.1 := up_same
  refine rm_iast f_X9_readMan_30 hW (by exact rfl) rfl (by omega) ?_
  skip
  generalize am_up W4 10 n c.1 = W5 at ok5 ps5 A5 B5 ⊢
  refine rw_aload f_X9_readMan_31 rfl ?_
  refine rm_getR f_X9_readMan_32 hW rfl ?_
  refine rw_iload f_X9_readMan_35 rfl ?_
  refine rw_aload f_X9_readMan_36 rfl ?_
  refine rw_const f_X9_readMan_37 ?_
  refine rw_const f_X9_readMan_40 ?_
  refine rw_const f_X9_readMan_41 ?_
  refine rw_const f_X9_readMan_42 ?_
  skip
  refine rw_callV f_X9_readMan_43 rfl hW.1 hW.2.1 rfl rfl rfl rfl (rn_ki (m_option hW ok5 (i := wHOLES) (by decide +kernel) (fun h6 W6 ho e4 lw6 tk6 ok6 => ?_) (fun h6 W6 y e5 e4 lw6 fk6 er6 => ?_)))
  rotate_left
  · rw [e4, bnd_r] at h2
    exact E46 h6 W6 y e5 (lw6.mw hW) er6 (fun X ex px => h2 h6 X e5 rfl ((ln.1.tr lw4.x).tr lw6.x) ((ps5.tr fk6.ps).tr px) ex)
  rw [e4, bnd_l] at h1 h2
  have hW2 := hW
  have hW := lw6.mw hW
  have ln6 : Ln m n v.1 h h6 := (ln.tr lw4).tr lw6
  have ok7 : OK h6 m (am_up W6 11 n ho.1) T N ho.2 := ok6.up (by unfold fks tks; omega)
  have ps7 : Ps V (am_up W6 11 n ho.1) := (ps5.tr tk6.ps).up (by unfold psc; omega)
  have A7 : ∀ a j, enp a j → ¬ ((a = 10 ∨ a = 11) ∧ j = n) → am_up W6 11 n ho.1 a j = V a j := fun a j z z2 => by
    rw [up_ne (by omega), tk6.en a j z]; exact A5 a j z (by omega)
  have B7 : am_up W6 11 n ho.1 10 n = c.1 ∧ am_up W6 11 n ho.1 11 n = ho.1 := ⟨by rw [up_ne (by omega), tk6.en _ _ (by unfold enp; omega)]; exact B5, up_same⟩
  refine rm_iast f_X9_readMan_46 hW (by exact rfl) rfl (by omega) ?_
  skip
  generalize am_up W6 11 n ho.1 = W7 at ok7 ps7 A7 B7 ⊢
  -- the end, if nothing is wrong
  have fin : ∀ h8 W8 y le q, Ln m n v.1 h h8 → Ps V W8 → OK h8 m W8 T N q → (∀ a j, enp a j → ¬ ((a = 10 ∨ a = 11 ∨ a = 12) ∧ j = n) → W8 a j = V a j) → W8 10 n = c.1 → W8 11 n = ho.1 → W8 12 n = le → (∀ W, Ps V W → OK h8 m W T N q → EN h8 m W ((g.1.1 ++ [(v.1, c.1, ho.1, le)], g.1.2), g.2) → k (mh h8 m W)) → Rn (d + 5) n_X9_readMan 99 [am_r m, am_i (nI n), y] [] (mh h8 m W8) (kV k) := by
    intro h8 W8 y le q ln8 ps8 ok8 A8 b1 b2 b3 hk
    have hW := ln8.1.mw hW0
    refine loop h8 W8 y hW ?_
    have g0 : ∀ j, gapV W8 n 6 0 j = W8 0 j := fun j => gapV_o (by decide)
    have ok9 : OK h8 m (gapV W8 n 6) T N q := by
      have step : ∀ o, o ≤ 6 → OK h8 m (gapV W8 n o) T N q := by
        intro o
        induction o with
        | zero => intro _; exact ok8
        | succ o ih => intro ho; exact ((ih (by omega)).up (by unfold fks tks; omega)).up (by unfold fks tks; omega)
      exact step 6 (by omega)
    have nm : gapV W8 n 6 0 49 = nI n := by
      rw [g0, A8 _ _ (by unfold enp; omega) (by omega)]; exact n1
    refine rw_aload f_X9_readMan_139 rfl ?_
    refine rm_getI f_X9_readMan_140 hW ?_
    rw [ok9.f]
    refine rw_ifF f_X9_readMan_143 (by decide) ?_
    refine rw_aload f_X9_readMan_146 rfl ?_
    first | refine rw_dupr f_X9_readMan_147 ?_ | refine rw_dupi f_X9_readMan_147 ?_
    refine rm_getI f_X9_readMan_148 hW ?_
    rw [nm]
    refine rw_const f_X9_readMan_151 ?_
    refine rw_iadd f_X9_readMan_152 ?_
    rw [nI_1']
    refine rm_putI f_X9_readMan_153 hW ?_
    refine rw_vret f_X9_readMan_156 ?_
    refine hk _ ?_ (ok9.up (by unfold fks tks; omega)) (EN_man en0 (by omega) (by rw [hl]; exact ln8) nw (fun a j z z1 z2 z3 => ?_) ?_ ?_ ?_ ?_ (fun j => ?_))
    · exact Ps.up (fun a j z => by rw [gapV_o (fun q => z (by unfold psc; omega))]; exact ps8 a j z) (by unfold psc; omega)
    · rw [hl] at z1
      rw [up_ne z3, gapV_o z2]; exact A8 a j z z1
    · rw [hl]; exact up_same
    · rw [hl, up_ne (by omega), gapV_o (by decide)]; exact b1
    · rw [hl, up_ne (by omega), gapV_o (by decide)]; exact b2
    · rw [hl, up_ne (by omega), gapV_o (by decide)]; exact b3
    · rw [hl, up_ne (by omega), gapV_f, A8 _ _ (by unfold enp; omega) (by omega)]
  have ewl : wc wLEFT = 1818584692 := by decide +kernel
  cases cl : isV T N ho.2 wLEFT with
  | true =>
    rw [cl, if_pos rfl] at h1
    have cl' := cl
    unfold isV at cl'
    rw [ewl] at cl'
    have nb : ¬ tkD T N ho.2 = 4 := fun z => by have := isV_1 cl; rw [z] at this; exact absurd this (by decide)
    have ok8 : OK h6 m (am_up W7 12 n 1) T N ho.2 := ok7.up (by unfold fks tks; omega)
    refine rw_aload f_X9_readMan_47 rfl ?_
    refine rm_getR f_X9_readMan_48 hW rfl ?_
    refine rw_iload f_X9_readMan_51 rfl ?_
    refine rw_aload f_X9_readMan_52 rfl ?_
    refine rm_getI f_X9_readMan_53 hW ?_
    rw [ok7.f]
    refine rw_ifF f_X9_readMan_56 (by decide) ?_
    refine rw_aload f_X9_readMan_59 rfl ?_
    refine rw_const f_X9_readMan_60 ?_
    refine rw_callV f_X9_readMan_63 rfl hW.1 hW.2.1 rfl rfl rfl rfl (rn_ki (m_isWord hW ok7 ?_))
    rw [cl']
    refine rw_ifF f_X9_readMan_66 (by decide) ?_
    refine rw_const f_X9_readMan_69 ?_
    refine rw_goto f_X9_readMan_70 ?_
    refine rw_callS f_X9_readMan_74 rfl rfl rfl (rn_ki (M_truth ?_))
    refine rm_iast f_X9_readMan_77 hW (by exact rfl) rfl (by omega) ?_
    refine rw_aload f_X9_readMan_78 rfl ?_
    refine rm_getI f_X9_readMan_79 hW ?_
    rw [ok8.f]
    refine rw_ifF f_X9_readMan_82 (by decide) ?_
    refine rw_aload f_X9_readMan_85 rfl ?_
    refine rw_const f_X9_readMan_86 ?_
    refine rw_callV f_X9_readMan_89 rfl hW.1 hW.2.1 rfl rfl rfl rfl (rn_ki (m_isWord hW ok8 ?_))
    rw [cl']
    refine rw_ifF f_X9_readMan_92 (by decide) ?_
    refine rw_aload f_X9_readMan_95 rfl ?_
    refine rw_callV f_X9_readMan_96 rfl hW.1 hW.2.1 rfl rfl rfl rfl (rn_kv (m_next hW ok8 nb (fun h9 W9 lw9 tk9 ok9 => ?_)))
    skip
    refine fin h9 W9 _ 1 _ (ln6.tr lw9) ((ps7.up (by unfold psc; omega)).tr tk9.ps) ok9 (fun a j z z2 => ?_) ?_ ?_ ?_ (fun W pw okw enw => h1 h9 W _ rfl (ln6.tr lw9).1 pw okw enw)
    · rw [tk9.en a j z, up_ne (by omega)]; exact A7 a j z (by omega)
    · rw [tk9.en _ _ (by unfold enp; omega), up_ne (by omega)]; exact B7.1
    · rw [tk9.en _ _ (by unfold enp; omega), up_ne (by omega)]; exact B7.2
    · rw [tk9.en _ _ (by unfold enp; omega)]; exact up_same
  | false =>
    rw [cl, if_neg (by decide)] at h1
    have cl' := cl
    unfold isV at cl'
    rw [ewl] at cl'
    have ok8 : OK h6 m (am_up W7 12 n 0) T N ho.2 := ok7.up (by unfold fks tks; omega)
    refine rw_aload f_X9_readMan_47 rfl ?_
    refine rm_getR f_X9_readMan_48 hW rfl ?_
    refine rw_iload f_X9_readMan_51 rfl ?_
    refine rw_aload f_X9_readMan_52 rfl ?_
    refine rm_getI f_X9_readMan_53 hW ?_
    rw [ok7.f]
    refine rw_ifF f_X9_readMan_56 (by decide) ?_
    refine rw_aload f_X9_readMan_59 rfl ?_
    refine rw_const f_X9_readMan_60 ?_
    refine rw_callV f_X9_readMan_63 rfl hW.1 hW.2.1 rfl rfl rfl rfl (rn_ki (m_isWord hW ok7 ?_))
    rw [cl']
    refine rw_ifT f_X9_readMan_66 (by decide) ?_
    refine rw_const f_X9_readMan_73 ?_
    refine rw_callS f_X9_readMan_74 rfl rfl rfl (rn_ki (M_truth ?_))
    refine rm_iast f_X9_readMan_77 hW (by exact rfl) rfl (by omega) ?_
    refine rw_aload f_X9_readMan_78 rfl ?_
    refine rm_getI f_X9_readMan_79 hW ?_
    rw [ok8.f]
    refine rw_ifF f_X9_readMan_82 (by decide) ?_
    refine rw_aload f_X9_readMan_85 rfl ?_
    refine rw_const f_X9_readMan_86 ?_
    refine rw_callV f_X9_readMan_89 rfl hW.1 hW.2.1 rfl rfl rfl rfl (rn_ki (m_isWord hW ok8 ?_))
    rw [cl']
    refine rw_ifT f_X9_readMan_92 (by decide) ?_
    skip
    refine fin h6 (am_up W7 12 n 0) _ 0 _ ln6 (ps7.up (by unfold psc; omega)) ok8 (fun a j z z2 => ?_) ?_ ?_ up_same (fun W pw okw enw => h1 h6 W _ rfl ln6.1 pw okw enw)
    · rw [up_ne (by omega)]; exact A7 a j z (by omega)
    · rw [up_ne (by omega)]; exact B7.1
    · rw [up_ne (by omega)]; exact B7.2
end MMan
