/-! TWOS of men, purely: by rows of numbers -/
section Twos
variable {V : am_M} {nM : Nat}
/-- a man is as he can be -/
def vld1 (V : am_M) (f : Nat → Int32) (m : Nat) : Bool := if f m < 0 then true else if f m = nI m then false else if ¬ f (f m).toNatClampNeg = nI m then false else !decide (V 19 (6 * m + (f m).toNatClampNeg) = -100)
def vld (V : am_M) (nM : Nat) (f : Nat → Int32) : Bool := allB (vld1 V f) nM
/-- what the twos ahead of m are worth -/
def wsum (V : am_M) (f : Nat → Int32) : Nat → Int32
  | 0 => 0
  | m + 1 => wsum V f m + (if f m ≤ nI m then 0 else (if f m < 0 then 0 else V 19 (6 * m + (f m).toNatClampNeg)))
/-- all rows from man m on -/
def en (nM : Nat) : Nat → Nat → (Nat → Int32) → List (Nat → Int32)
  | 0, _, g => [g]
  | n + 1, m, g => (List.range (nM + 1)).flatMap (fun e => en nM n (m + 1) (fup g m (nI e - 1)))
theorem en_pre : ∀ n m g f, f ∈ en nM n m g → ∀ j, j < m → f j = g j := by
  intro n
  induction n with
  | zero => intro m g f hf j hj; rw [en, List.mem_singleton] at hf; rw [hf]
  | succ n ih =>
    intro m g f hf j hj
    rw [en, List.mem_flatMap] at hf
    obtain ⟨e, -, hf⟩ := hf
    rw [ih _ _ _ hf j (by omega), fup_n (by omega)]
theorem en_none {n m : Nat} {g : Nat → Int32} (h : ∀ f ∈ en nM n m g, vld V nM f = false) : (en nM n m g).filter (vld V nM) = [] := by
  rw [List.filter_eq_nil_iff]
  intro f hf
  rw [h f hf]
  decide
theorem m1_neg : (-1 : Int32) < 0 := by decide
theorem nI_m1 {a : Nat} (ha : a < 100) : ¬ nI a = -1 := fun e => nI_pos (n := a) (by omega) (by rw [e]; decide)
/-- twos so far: of those ahead of m each has his own; of the others some are had -/
def TI (V : am_M) (nM m : Nat) (w : Nat → Int32) : Prop := (∀ j, j < m → w j = -1 ∨ ∃ a, a < nM ∧ w j = nI a ∧ ¬ a = j ∧ w a = nI j ∧ ¬ V 19 (6 * j + a) = -100) ∧ (∀ j, m ≤ j → w j = -1 ∨ ∃ a, a < m ∧ w j = nI a ∧ w a = nI j) ∧ ∀ j, nM ≤ j → w j = -1
theorem bad_at {f : Nat → Int32} {j : Nat} (hj : j < nM) (h : vld1 V f j = false) : vld V nM f = false := allB_false h hj
/-- a man who has another that has not him -/
theorem bad_two {f : Nat → Int32} {j a : Nat} (hM : nM ≤ 6) (hj : j < nM) (ha : a < 100) (e : f j = nI a) (h : ¬ f a = nI j) : vld V nM f = false := by
  refine bad_at hj ?_
  unfold vld1
  rw [e, nI_clamp (by omega), if_neg (nI_pos (by omega))]
  by_cases c : nI a = nI j
  · rw [if_pos c]
  · rw [if_neg c, if_pos h]
theorem bad_self {f : Nat → Int32} {j : Nat} (hj : j < nM) (hM : nM ≤ 6) (e : f j = nI j) : vld V nM f = false := by
  refine bad_at hj ?_
  unfold vld1
  rw [if_neg (by rw [e]; exact nI_pos (by omega)), if_pos e]
theorem bad_told {f : Nat → Int32} {j a : Nat} (hj : j < nM) (ha : a < 100) (e : f j = nI a) (h : V 19 (6 * j + a) = -100) : vld V nM f = false := by
  refine bad_at hj ?_
  unfold vld1
  rw [e, nI_clamp (by omega), if_neg (nI_pos (by omega)), h]
  split
  · rfl
  · split
    · rfl
    · simp
theorem range_split (m : Nat) (h : m < nM) {α : Type} (F : Nat → List α) (hF : ∀ e, 0 < e → e ≤ m + 1 → F e = []) : (List.range (nM + 1)).flatMap F = F 0 ++ (List.range (nM - (m + 1))).flatMap (fun i => F (m + 2 + i)) := by
  have e1 : nM + 1 = (m + 2) + (nM - (m + 1)) := by omega
  rw [e1, List.range_add, List.flatMap_append, List.flatMap_map]
  congr 1
  rw [List.range_succ_eq_map, List.flatMap_cons, List.flatMap_map]
  have : (List.range (m + 1)).flatMap (fun a => F (a.succ)) = [] := by
    rw [List.flatMap_eq_nil_iff]
    intro e he
    rw [List.mem_range] at he
    exact hF _ (by omega) (by omega)
  rw [this, List.append_nil]
theorem en_prs (hM : nM ≤ 6) (sym : ∀ a b, a < nM → b < nM → V 19 (6 * a + b) = V 19 (6 * b + a)) : ∀ n m w g wo, m + n = nM → TI V nM m w → (∀ j, g j = if j < m then w j else -1) → (en nM n m g).filter (vld V nM) = (prs V nM n m w wo).map (·.1) := by
  intro n
  induction n with
  | zero =>
    intro m w g wo hm ti hg
    have hw : g = w := funext fun j => by
      rw [hg]
      by_cases e : j < m
      · rw [if_pos e]
      · rw [if_neg e, ti.2.2 j (by omega)]
    subst hw
    have hv : vld V nM g = true := allB_iff.mpr (fun j hj => by
      unfold vld1
      rcases ti.1 j (by omega) with e | ⟨a, h1, h2, h3, h4, h5⟩
      · rw [e, if_pos m1_neg]
      · rw [h2, nI_clamp (by omega), if_neg (nI_pos (by omega)), if_neg (fun z => h3 (nI_inj (by omega) (by omega) z)), if_neg (fun z => z h4), decide_eq_false h5]
        rfl)
    rw [en, prs, List.filter_cons, if_pos hv]
    rfl
  | succ n ih =>
    intro m w g wo hm ti hg
    have hml : m < nM := by omega
    have pre : ∀ e f, f ∈ en nM n (m + 1) (fup g m (nI e - 1)) → (∀ j, j < m → f j = w j) ∧ f m = nI e - 1 := by
      intro e f hf
      constructor
      · intro j hj
        rw [en_pre _ _ _ _ hf j (by omega), fup_n (by omega), hg, if_pos hj]
      · rw [en_pre _ _ _ _ hf m (by omega), fup_s]
    have gext : ∀ (v : Int32) (w' : Nat → Int32), (∀ j, j < m → w' j = w j) → w' m = v → ∀ j, fup g m v j = if j < m + 1 then w' j else -1 := by
      intro v w' h1 h2 j
      by_cases e : j = m
      · subst e; rw [fup_s, if_pos (by omega), h2]
      · rw [fup_n e, hg]
        by_cases e2 : j < m
        · rw [if_pos e2, if_pos (by omega), h1 j e2]
        · rw [if_neg e2, if_neg (by omega)]
    rw [en, prs, List.filter_flatMap]
    rcases ti.2.1 m (Nat.le_refl _) with e0 | ⟨a, ha, ea, eb⟩
    · rw [if_neg (by rw [e0]; decide)]
      rw [range_split m hml _ (fun e h1 h2 => ?_), List.map_append]
      · congr 1
        · rw [show nI 0 - 1 = -1 from by decide]
          refine ih (m + 1) w _ wo (by omega) ⟨fun j hj => ?_, fun j hj => ?_, ti.2.2⟩ (gext _ w (fun _ _ => rfl) e0)
          · by_cases e : j = m
            · rw [e]; exact Or.inl e0
            · exact ti.1 j (by omega)
          · rcases ti.2.1 j (by omega) with z | ⟨a, z1, z2, z3⟩
            · exact Or.inl z
            · exact Or.inr ⟨a, by omega, z2, z3⟩
        · rw [List.map_flatMap]
          have cg : ∀ L : List Nat, (∀ i ∈ L, i < nM - (m + 1)) → L.flatMap (fun i => (en nM n (m + 1) (fup g m (nI (m + 2 + i) - 1))).filter (vld V nM)) = L.flatMap (fun i => (if 0 ≤ w (m + 1 + i) ∨ V 19 (6 * m + (m + 1 + i)) = -100 then [] else prs V nM n (m + 1) (fup (fup w m (nI (m + 1 + i))) (m + 1 + i) (nI m)) (wo + V 19 (6 * m + (m + 1 + i)))).map (·.1)) := by
            intro L
            induction L with
            | nil => intro _; rfl
            | cons i L ihL =>
              intro hL
              rw [List.flatMap_cons, List.flatMap_cons, ihL (fun j hj => hL j (List.mem_cons_of_mem _ hj))]
              congr 1
              have hi := hL i List.mem_cons_self
              have eo : nI (m + 2 + i) - 1 = nI (m + 1 + i) := by rw [show m + 2 + i = (m + 1 + i) + 1 by omega, nI_pred]
              rcases ti.2.1 (m + 1 + i) (by omega) with z | ⟨a, z1, z2, z3⟩
              · by_cases ct : V 19 (6 * m + (m + 1 + i)) = -100
                · rw [if_pos (Or.inr ct)]
                  refine en_none (fun f hf => ?_)
                  have := (pre _ f hf).2
                  rw [eo] at this
                  exact bad_told hml (by omega) this ct
                · rw [if_neg (by rintro (y | y); rw [z] at y; exact absurd y (by decide); exact ct y), eo]
                  have na : ∀ j a, j ≠ m → j ≠ m + 1 + i → w j = nI a → w a = nI j → a < 100 → j < 100 → a ≠ m ∧ a ≠ m + 1 + i := by
                    intro j a h1 h2 h3 h4 h5 h6
                    constructor
                    · rintro rfl; rw [e0] at h4; exact nI_m1 h6 h4.symm
                    · rintro rfl; rw [z] at h4; exact nI_m1 h6 h4.symm
                  have sI : ∀ j, ¬ j = m → ¬ j = m + 1 + i → fup (fup w m (nI (m + 1 + i))) (m + 1 + i) (nI m) j = w j := fun j h1 h2 => by rw [fup_n h2, fup_n h1]
                  have sM : fup (fup w m (nI (m + 1 + i))) (m + 1 + i) (nI m) m = nI (m + 1 + i) := by rw [fup_n (by omega), fup_s]
                  have sO : fup (fup w m (nI (m + 1 + i))) (m + 1 + i) (nI m) (m + 1 + i) = nI m := fup_s
                  refine ih (m + 1) _ _ _ (by omega) ⟨fun j hj => ?_, fun j hj => ?_, fun j hj => ?_⟩ (gext _ _ (fun j hj => sI j (by omega) (by omega)) sM)
                  · by_cases e : j = m
                    · subst e
                      exact Or.inr ⟨j + 1 + i, by omega, sM, by omega, sO, ct⟩
                    · rw [sI j e (by omega)]
                      rcases ti.1 j (by omega) with y | ⟨a, y1, y2, y3, y4, y5⟩
                      · exact Or.inl y
                      · obtain ⟨n1, n2⟩ := na j a e (by omega) y2 y4 (by omega) (by omega)
                        exact Or.inr ⟨a, y1, y2, y3, by rw [sI a n1 n2]; exact y4, y5⟩
                  · by_cases e : j = m + 1 + i
                    · subst e
                      exact Or.inr ⟨m, by omega, sO, sM⟩
                    · rw [sI j (by omega) e]
                      rcases ti.2.1 j (by omega) with y | ⟨a, y1, y2, y3⟩
                      · exact Or.inl y
                      · by_cases hj2 : j < 100
                        · obtain ⟨n1, n2⟩ := na j a (by omega) e y2 y3 (by omega) hj2
                          exact Or.inr ⟨a, by omega, y2, by rw [sI a n1 n2]; exact y3⟩
                        · exact Or.inl (ti.2.2 j (by omega))
                  · rw [sI j (by omega) (by omega)]
                    exact ti.2.2 j hj
              · rw [if_pos (Or.inl (by rw [z2]; exact nI_pos' (by omega)))]
                refine en_none (fun f hf => ?_)
                obtain ⟨p1, p2⟩ := pre _ f hf
                rw [eo] at p2
                by_cases c : f (m + 1 + i) = nI m
                · refine bad_two hM (j := a) (a := m + 1 + i) (by omega) (by omega) (by rw [p1 a z1]; exact z3) (fun q => ?_)
                  rw [c] at q
                  have := nI_inj (by omega) (by omega) q
                  omega
                · exact bad_two hM hml (by omega) p2 c
          exact cg _ (fun i hi => by rw [List.mem_range] at hi; exact hi)
      · refine en_none (fun f hf => ?_)
        obtain ⟨p1, p2⟩ := pre _ f hf
        obtain ⟨o, rfl⟩ : ∃ o, e = o + 1 := ⟨e - 1, by omega⟩
        rw [nI_pred] at p2
        by_cases c : o = m
        · subst c; exact bad_self hml hM p2
        · refine bad_two hM hml (by omega) p2 (fun q => ?_)
          rw [p1 o (by omega)] at q
          rcases ti.1 o (by omega) with y | ⟨a, y1, y2, y3, y4, y5⟩
          · rw [y] at q; exact nI_m1 (by omega) q.symm
          · rw [y2] at q
            have := nI_inj (by omega) (by omega) q
            subst this
            rw [e0] at y4
            exact nI_m1 (by omega) y4.symm
    · rw [if_pos (by rw [ea]; exact nI_pos' (by omega))]
      have hbad : ∀ e, ¬ e = a + 1 → e < 100 → (en nM n (m + 1) (fup g m (nI e - 1))).filter (vld V nM) = [] := by
        intro e he h100
        refine en_none (fun f hf => ?_)
        obtain ⟨p1, p2⟩ := pre _ f hf
        refine bad_two hM (j := a) (a := m) (by omega) (by omega) (by rw [p1 a ha]; exact eb) (fun q => ?_)
        rw [p2] at q
        cases e with
        | zero => exact nI_m1 (show a < 100 by omega) (q.symm.trans (by decide))
        | succ e => rw [nI_pred] at q; have := nI_inj (by omega) (by omega) q; omega
      have one : ∀ L : List Nat, L.Nodup → (∀ e ∈ L, e < 100) → L.flatMap (fun e => (en nM n (m + 1) (fup g m (nI e - 1))).filter (vld V nM)) = if a + 1 ∈ L then (en nM n (m + 1) (fup g m (nI (a + 1) - 1))).filter (vld V nM) else [] := by
        intro L
        induction L with
        | nil => intro _ _; simp
        | cons x L ihL =>
          intro hnd hL
          rw [List.nodup_cons] at hnd
          rw [List.flatMap_cons, ihL hnd.2 (fun e he => hL e (List.mem_cons_of_mem _ he))]
          by_cases c : x = a + 1
          · subst c
            rw [if_neg hnd.1, if_pos List.mem_cons_self, List.append_nil]
          · rw [hbad x c (hL x List.mem_cons_self), List.nil_append]
            by_cases c2 : a + 1 ∈ L
            · rw [if_pos c2, if_pos (List.mem_cons_of_mem _ c2)]
            · rw [if_neg c2, if_neg (by rw [List.mem_cons]; rintro (z | z); exact c z.symm; exact c2 z)]
      rw [one _ List.nodup_range (fun e he => by rw [List.mem_range] at he; omega), if_pos (by rw [List.mem_range]; omega), nI_pred]
      have told : ¬ V 19 (6 * m + a) = -100 := by
        rcases ti.1 a ha with y | ⟨b, y1, y2, y3, y4, y5⟩
        · rw [y] at eb; exact absurd eb.symm (nI_m1 (by omega))
        · rw [y2] at eb
          have := nI_inj (by omega) (by omega) eb
          subst this
          rw [sym _ _ hml (by omega)]
          exact y5
      refine ih (m + 1) w _ wo (by omega) ⟨fun j hj => ?_, fun j hj => ?_, ti.2.2⟩ (gext _ w (fun _ _ => rfl) ea)
      · by_cases e : j = m
        · subst e
          exact Or.inr ⟨a, by omega, ea, by omega, eb, told⟩
        · exact ti.1 j (by omega)
      · rcases ti.2.1 j (by omega) with z | ⟨b, z1, z2, z3⟩
        · exact Or.inl z
        · exact Or.inr ⟨b, by omega, z2, z3⟩
theorem en_prA (hM : nM ≤ 6) (sym : ∀ a b, a < nM → b < nM → V 19 (6 * a + b) = V 19 (6 * b + a)) : (en nM nM 0 (fun _ => -1)).filter (vld V nM) = (prA V nM).map (·.1) :=
  en_prs hM sym nM 0 (fun _ => -1) _ 0 (by omega) ⟨fun j hj => absurd hj (Nat.not_lt_zero j), fun _ _ => Or.inl rfl, fun _ _ => rfl⟩ (fun j => by rw [if_neg (Nat.not_lt_zero j)])
/-- what twos are worth -/
theorem prs_wsum (hM : nM ≤ 6) : ∀ n m w wo, m + n = nM → wo = wsum V w m → (∀ j, m ≤ j → w j = -1 ∨ ∃ a, a < m ∧ w j = nI a) → ∀ p ∈ prs V nM n m w wo, p.2 = wsum V p.1 nM ∧ ∀ j, j < m → p.1 j = w j := by
  have wcg : ∀ m f g, (∀ j, j < m → f j = g j) → wsum V f m = wsum V g m := by
    intro m
    induction m with
    | zero => intro f g _; rfl
    | succ m ih => intro f g h; simp only [wsum]; rw [ih f g (fun j hj => h j (by omega)), h m (by omega)]
  intro n
  induction n with
  | zero =>
    intro m w wo hm hwo _ p hp
    rw [prs, List.mem_singleton] at hp
    subst hp
    rw [Nat.add_zero] at hm
    subst hm
    exact ⟨hwo, fun _ _ => rfl⟩
  | succ n ih =>
    intro m w wo hm hwo hf p hp
    rw [prs] at hp
    have base : p ∈ prs V nM n (m + 1) w wo → (w m = -1 ∨ ∃ a, a < m ∧ w m = nI a) → p.2 = wsum V p.1 nM ∧ ∀ j, j < m → p.1 j = w j := by
      intro hp hw
      obtain ⟨i1, i2⟩ := ih (m + 1) w wo (by omega) (by
        simp only [wsum]
        rw [← hwo]
        rcases hw with e | ⟨a, ha, e⟩
        · rw [e, if_pos (by have := nI_pos' (n := m) (by omega); exact Int32.le_trans (by decide) this)]
          exact (Int32.add_zero _).symm
        · rw [e, if_pos (Int32.not_lt.mp (nI_nlt (show a ≤ m by omega) (by omega)))]
          exact (Int32.add_zero _).symm) (fun j hj => by
        rcases hf j (by omega) with z | ⟨a, z1, z2⟩
        · exact Or.inl z
        · exact Or.inr ⟨a, by omega, z2⟩) p hp
      exact ⟨i1, fun j hj => i2 j (by omega)⟩
    split at hp
    · exact base hp (hf m (Nat.le_refl _))
    · rename_i c
      rw [List.mem_append] at hp
      rcases hp with hp | hp
      · exact base hp (hf m (Nat.le_refl _))
      · rw [List.mem_flatMap] at hp
        obtain ⟨i, hi, hp⟩ := hp
        rw [List.mem_range] at hi
        split at hp
        · cases hp
        · have e1 : ∀ j, j < m → fup (fup w m (nI (m + 1 + i))) (m + 1 + i) (nI m) j = w j := fun j hj => by rw [fup_n (by omega), fup_n (by omega)]
          have e2 : fup (fup w m (nI (m + 1 + i))) (m + 1 + i) (nI m) m = nI (m + 1 + i) := by rw [fup_n (by omega), fup_s]
          obtain ⟨i1, i2⟩ := ih (m + 1) _ _ (by omega) (by
            simp only [wsum]
            rw [e2, wcg m _ w e1, ← hwo, if_neg (Int32.not_le.mpr (nI_lt (by omega) (by omega))), if_neg (nI_pos (by omega)), nI_clamp (by omega)]) (fun j hj => by
            by_cases e : j = m + 1 + i
            · subst e; exact Or.inr ⟨m, by omega, fup_s⟩
            · rw [fup_n e, fup_n (by omega)]
              rcases hf j (by omega) with z | ⟨a, z1, z2⟩
              · exact Or.inl z
              · exact Or.inr ⟨a, by omega, z2⟩) p hp
          exact ⟨i1, fun j hj => by rw [i2 j (by omega), e1 j hj]⟩
/-- a row of a number -/
def dgt (nM n v i : Nat) : Nat := v / (nM + 1) ^ (n - 1 - i) % (nM + 1)
def wOf (nM : Nat) (m n v : Nat) (g : Nat → Int32) : Nat → Int32 := fun j => if m ≤ j ∧ j < m + n then nI (dgt nM n v (j - m)) - 1 else g j
theorem range_mul (b k : Nat) : List.range (b * k) = (List.range b).flatMap (fun d => (List.range k).map (fun r => d * k + r)) := by
  induction b with
  | zero => simp
  | succ b ih => rw [Nat.succ_mul, List.range_add, ih, List.range_succ, List.flatMap_append, List.flatMap_singleton]
theorem en_rows : ∀ n m g, (List.range ((nM + 1) ^ n)).map (fun v => wOf nM m n v g) = en nM n m g := by
  intro n
  induction n with
  | zero =>
    intro m g
    rw [Nat.pow_zero, en]
    show [wOf nM m 0 0 g] = [g]
    congr 1
    funext j
    unfold wOf
    rw [if_neg (by omega)]
  | succ n ih =>
    intro m g
    rw [en, Nat.pow_succ, Nat.mul_comm, range_mul, List.map_flatMap]
    have cg : ∀ L : List Nat, (∀ e ∈ L, e < nM + 1) → L.flatMap (fun d => (List.map (fun r => d * (nM + 1) ^ n + r) (List.range ((nM + 1) ^ n))).map (fun v => wOf nM m (n + 1) v g)) = L.flatMap (fun e => en nM n (m + 1) (fup g m (nI e - 1))) := by
      intro L
      induction L with
      | nil => intro _; rfl
      | cons e L ihL =>
        intro hL
        rw [List.flatMap_cons, List.flatMap_cons, ihL (fun j hj => hL j (List.mem_cons_of_mem _ hj)), ← ih]
        congr 1
        rw [List.map_map]
        apply List.map_congr_left
        intro r hr
        rw [List.mem_range] at hr
        have he := hL e List.mem_cons_self
        funext j
        have hpos : 0 < (nM + 1) ^ n := Nat.pow_pos (by omega)
        show wOf nM m (n + 1) (e * (nM + 1) ^ n + r) g j = wOf nM (m + 1) n r (fup g m (nI e - 1)) j
        unfold wOf
        by_cases c : j = m
        · subst c
          rw [if_pos (by omega), if_neg (by omega), fup_s]
          unfold dgt
          rw [Nat.sub_self, Nat.sub_zero, Nat.add_sub_cancel, Nat.mul_comm, Nat.mul_add_div hpos, Nat.div_eq_of_lt hr, Nat.add_zero, Nat.mod_eq_of_lt he]
        · by_cases c2 : m ≤ j ∧ j < m + (n + 1)
          · rw [if_pos c2, if_pos (by omega)]
            unfold dgt
            have e1 : n + 1 - 1 - (j - m) = n - 1 - (j - (m + 1)) := by omega
            rw [e1]
            have hle : n - 1 - (j - (m + 1)) + 1 ≤ n := by omega
            have e2 : (nM + 1) ^ n = (nM + 1) ^ (n - 1 - (j - (m + 1))) * ((nM + 1) ^ (n - (n - 1 - (j - (m + 1))) - 1) * (nM + 1)) := by
              rw [← Nat.pow_succ, ← Nat.pow_add]
              congr 1
              omega
            have hp2 : 0 < (nM + 1) ^ (n - 1 - (j - (m + 1))) := Nat.pow_pos (by omega)
            rw [e2, ← Nat.mul_assoc, Nat.mul_comm e, Nat.mul_assoc, Nat.mul_add_div hp2, ← Nat.mul_assoc, Nat.mul_comm, Nat.mul_add_mod]
          · rw [if_neg c2, if_neg (by omega), fup_n c]
    exact cg _ (fun e he => by rw [List.mem_range] at he; exact he)
/-- the rows that can be, in their order -/
theorem rows_prA (hM : nM ≤ 6) (sym : ∀ a b, a < nM → b < nM → V 19 (6 * a + b) = V 19 (6 * b + a)) : (((List.range ((nM + 1) ^ nM)).map (fun v => wOf nM 0 nM v (fun _ => -1))).filter (vld V nM)).map (fun f => ((f, wsum V f nM) : pw)) = prA V nM := by
  rw [en_rows, en_prA hM sym, List.map_map]
  have h := prs_wsum (V := V) hM nM 0 (fun _ => -1) 0 (by omega) rfl (fun _ _ => Or.inl rfl)
  unfold prA
  conv => rhs; rw [← List.map_id (prs V nM nM 0 (fun _ => -1) 0)]
  apply List.map_congr_left
  intro p hp
  show (p.1, wsum V p.1 nM) = p
  rw [← (h p hp).1]
end Twos
