/-! FORMULAS by a stack of signs that wait, purely; that this is the descent -/
theorem isV_1 {T : tx} {N p i : Nat} (e : isV T N p i = true) : tkD T N p = 1 := by
  unfold isV isW at e
  rw [Bool.and_eq_true, decide_eq_true_eq] at e
  exact e.1
theorem isV_w {T : tx} {N p i : Nat} (e : isV T N p i = true) : tkW T N p = wc i := by
  unfold isV isW at e
  rw [Bool.and_eq_true, decide_eq_true_eq, decide_eq_true_eq] at e
  exact e.2
theorem wc_inj : ∀ i, i < 22 → ∀ j, j < 22 → wc i = wc j → i = j := by decide +kernel
theorem isV_u {T : tx} {N p i j : Nat} (e : isV T N p i = true) (e2 : isV T N p j = true) (hi : i < 22 := by decide) (hj : j < 22 := by decide) : i = j := wc_inj i hi j hj ((isV_w e).symm.trans (isV_w e2))
theorem pNamed_1 {T : tx} {N p w : Nat} (e : pNamed T N p = some w) : tkD T N p = 1 := by
  unfold pNamed at e
  exact isV_1 (fst1_some e).2.1
def tgt (s : Int32) : Nat := if s = 124 then 1 else if s = 38 then 2 else if s = 21 then 3 else if s = 60 ∨ s = 61 ∨ s = 62 then 4 else if s = 43 ∨ s = 45 then 5 else 6
/-- a sign's step -/
def stp (s : Int32) : Int32 × Int32 := if s = 21 then (2, 0) else (3, s)
def popT (r : Nat) : List Int32 → am_S → List Int32 × am_S
  | [], c => ([], c)
  | s :: k, c => if s = 20 then (s :: k, c) else if r ≤ tgt s then popT r k (c ++ [stp s]) else (s :: k, c)
def hasBr : List Int32 → Bool
  | [] => false
  | s :: k => hasBr k || decide (s = 20)
def hasRel : List Int32 → Bool
  | [] => false
  | s :: k => if s = 20 then false else if 4 < tgt s then hasRel k else decide (tgt s = 4)
def mayN : List Int32 → Bool
  | [] => true
  | s :: _ => decide (s = 20) || decide (tgt s < 4)
def dpt : List Int32 → Nat
  | [] => 0
  | s :: k => (if s = 20 ∨ s = 21 then 1 else 0) + dpt k
section Stack
variable (T : tx) (N : Nat)
def sgn (p : Nat) : Int32 := if isV T N p wAND = true then 38 else if isV T N p wOR = true then 124 else if isSH T N p 60 = true ∨ isSH T N p 62 = true ∨ isSH T N p 61 = true ∨ isSH T N p 43 = true ∨ isSH T N p 45 = true ∨ isSH T N p 42 = true ∨ isSH T N p 47 = true ∨ isSH T N p 37 = true then T p else 0
def leafS (p : Nat) : Int32 × Int32 := match pNamed T N p with
  | some w => (1, nI w)
  | none => (0, tkN T N p)
/-- the machine: true: a unit is awaited; false: a sign -/
def mRun : Nat → Bool → List Int32 → am_S → Nat → Nat → fR
  | 0, _, _, _, _, _ => .inr (0, 0)
  | n + 1, true, k, c, p, u => if isV T N p wNOT = true ∧ mayN k = true then (if 6 < dpt k then .inr (err1 T N p) else mRun n true (21 :: k) c (tkX T N p) u) else if isSH T N p 40 = true then (if u = 30 ∨ 6 < dpt k then .inr (err1 T N p) else mRun n true (20 :: k) c (tkX T N p) (u + 1)) else if (¬ tkD T N p = 2 ∧ pNamed T N p = none) ∨ u = 30 then .inr (err1 T N p) else mRun n false k (c ++ [leafS T N p]) (tkX T N p) (u + 1)
  | n + 1, false, k, c, p, u => if isSH T N p 41 = true ∧ hasBr k = true then mRun n false (popT 0 k c).1.tail (popT 0 k c).2 (tkX T N p) u else if ¬ sgn T N p = 0 ∧ ¬ (tgt (sgn T N p) = 4 ∧ hasRel k = true) then mRun n true (sgn T N p :: (popT (tgt (sgn T N p)) k c).1) (popT (tgt (sgn T N p)) k c).2 (tkX T N p) u else if hasBr k = true then .inr (err1 T N p) else .inl ((popT 0 k c).2, p, u)
end Stack
section StackEq
variable {T : tx} {N : Nat}
/-- nothing on top binds as tightly -/
def Cl (r : Nat) : List Int32 → Prop
  | [] => True
  | s :: _ => s = 20 ∨ tgt s < r
theorem Cl.pop {r : Nat} {k : List Int32} {c : am_S} (q : Cl r k) : popT r k c = (k, c) := by
  cases k with
  | nil => rfl
  | cons s k =>
    unfold popT
    rcases q with e | e
    · rw [if_pos e]
    · by_cases e2 : s = 20
      · rw [if_pos e2]
      · rw [if_neg e2, if_neg (by omega)]
theorem Cl.mono {r r' : Nat} {k : List Int32} (q : Cl r k) (h : r ≤ r') : Cl r' k := by
  cases k with
  | nil => trivial
  | cons s k => rcases q with e | e; exact Or.inl e; exact Or.inr (by omega)
theorem mayN_cl {k : List Int32} (q : mayN k = true) : Cl 4 k := by
  cases k with
  | nil => trivial
  | cons s k =>
    simp only [mayN, Bool.or_eq_true, decide_eq_true_eq] at q
    exact q
theorem cl_mayN {k : List Int32} {r : Nat} (q : Cl r k) (hr : r ≤ 4) : mayN k = true := by
  cases k with
  | nil => rfl
  | cons s k =>
    simp only [mayN, Bool.or_eq_true, decide_eq_true_eq]
    rcases q with e | e
    · exact Or.inl e
    · exact Or.inr (by omega)
theorem cl_rel {k : List Int32} (q : Cl 4 k) : hasRel k = false := by
  cases k with
  | nil => rfl
  | cons s k =>
    unfold hasRel
    rcases q with e | e
    · rw [if_pos e]
    · by_cases e2 : s = 20
      · rw [if_pos e2]
      · rw [if_neg e2, if_neg (by omega), decide_eq_false (by omega)]
/-- no sign at p that goes on, of those that bind as tightly -/
def noOp (T : tx) (N r p : Nat) : Prop := (r ≤ 6 → opT T N p = none) ∧ (r ≤ 5 → opS T N p = none) ∧ (r ≤ 2 → opA T N p = none) ∧ (r ≤ 1 → opO T N p = none)
/-- where a rank ends: the stack k' and the steps c' are those of k, c, if what binds as tightly is done -/
def FinS (T : tx) (N r : Nat) (n : Nat) (k : List Int32) (c : am_S) (p u : Nat) (R : fR) (lo : Bool) : Prop := ∃ n' k' c', R = mRun T N n' false k' c' p u ∧ N + 2 - p ≤ n' ∧ (∀ r', r' ≤ r → popT r' k' c' = popT r' k c) ∧ hasBr k' = hasBr k ∧ noOp T N r p ∧ (lo = true → hasRel k' = hasRel k) ∧ (lo = false → ∀ s, opR T N p = some s → hasRel k' = true) ∧ n' ≤ n
def Sim (T : tx) (N r D : Nat) (lo : Bool) (B : List Int32 → Nat → Prop) (A : fF) : Prop := ∀ n k c p u, B k p → dpt k = D → p ≤ N → u ≤ 30 → N + 2 - p ≤ n → match A p u with
  | .inr e => mRun T N n true k c p u = .inr e
  | .inl v => FinS T N r n k (c ++ v.1) v.2.1 v.2.2 (mRun T N n true k c p u) lo
theorem mRun_t {n : Nat} {k : List Int32} {c : am_S} {p u : Nat} : mRun T N (n + 1) true k c p u = if isV T N p wNOT = true ∧ mayN k = true then (if 6 < dpt k then .inr (err1 T N p) else mRun T N n true (21 :: k) c (tkX T N p) u) else if isSH T N p 40 = true then (if u = 30 ∨ 6 < dpt k then .inr (err1 T N p) else mRun T N n true (20 :: k) c (tkX T N p) (u + 1)) else if (¬ tkD T N p = 2 ∧ pNamed T N p = none) ∨ u = 30 then .inr (err1 T N p) else mRun T N n false k (c ++ [leafS T N p]) (tkX T N p) (u + 1) := rfl
theorem mRun_f {n : Nat} {k : List Int32} {c : am_S} {p u : Nat} : mRun T N (n + 1) false k c p u = if isSH T N p 41 = true ∧ hasBr k = true then mRun T N n false (popT 0 k c).1.tail (popT 0 k c).2 (tkX T N p) u else if ¬ sgn T N p = 0 ∧ ¬ (tgt (sgn T N p) = 4 ∧ hasRel k = true) then mRun T N n true (sgn T N p :: (popT (tgt (sgn T N p)) k c).1) (popT (tgt (sgn T N p)) k c).2 (tkX T N p) u else if hasBr k = true then .inr (err1 T N p) else .inl ((popT 0 k c).2, p, u) := rfl
theorem isSH_3 {p : Nat} {c : Int32} (e : isSH T N p c = true) : tkD T N p = 3 ∧ T p = c := by
  unfold isSH at e
  simpa using e
theorem sgn_w {p : Nat} (e : tkD T N p = 3) : sgn T N p = if T p = 60 ∨ T p = 62 ∨ T p = 61 ∨ T p = 43 ∨ T p = 45 ∨ T p = 42 ∨ T p = 47 ∨ T p = 37 then T p else 0 := by
  have hv : ∀ i, isV T N p i = false := fun i => Bool.eq_false_iff.mpr (fun z => by rw [isV_1 z] at e; exact absurd e (by decide))
  unfold sgn isSH
  rw [hv, hv]
  simp [e]
/-- a sign at p, its rank -/
theorem op_sgn {p : Nat} {s : Int32} {r : Nat} (h : (r = 6 ∧ opT T N p = some s) ∨ (r = 5 ∧ opS T N p = some s) ∨ (r = 4 ∧ opR T N p = some s) ∨ (r = 2 ∧ opA T N p = some s) ∨ (r = 1 ∧ opO T N p = some s)) : sgn T N p = s ∧ tgt s = r ∧ ¬ s = 0 ∧ ¬ s = 20 ∧ ¬ s = 21 ∧ isSH T N p 41 = false ∧ p < N := by
  have fin : ∀ {c : Int32}, tkD T N p = 3 → T p = c → (c = 60 ∨ c = 62 ∨ c = 61 ∨ c = 43 ∨ c = 45 ∨ c = 42 ∨ c = 47 ∨ c = 37) → sgn T N p = c ∧ isSH T N p 41 = false ∧ p < N := by
    intro c e e2 e3
    refine ⟨by rw [sgn_w e, e2, if_pos e3], ?_, tkD_lt (by rw [e]; decide)⟩
    unfold isSH
    rw [e2]
    rcases e3 with z | z | z | z | z | z | z | z <;> (rw [z]; simp)
  rcases h with ⟨rfl, h⟩ | ⟨rfl, h⟩ | ⟨rfl, h⟩ | ⟨rfl, h⟩ | ⟨rfl, h⟩
  · unfold opT at h
    split at h
    · rename_i q
      cases h
      rcases q with q | q | q
      all_goals
        obtain ⟨q1, q2⟩ := isSH_3 q
        obtain ⟨f1, f2, f3⟩ := fin q1 q2 (by decide)
        rw [q2]
        exact ⟨f1, by decide, by decide, by decide, by decide, f2, f3⟩
    · cases h
  · unfold opS at h
    split at h
    · rename_i q
      cases h
      rcases q with q | q
      all_goals
        obtain ⟨q1, q2⟩ := isSH_3 q
        obtain ⟨f1, f2, f3⟩ := fin q1 q2 (by decide)
        rw [q2]
        exact ⟨f1, by decide, by decide, by decide, by decide, f2, f3⟩
    · cases h
  · unfold opR at h
    split at h
    · rename_i q
      cases h
      rcases q with q | q | q
      all_goals
        obtain ⟨q1, q2⟩ := isSH_3 q
        obtain ⟨f1, f2, f3⟩ := fin q1 q2 (by decide)
        rw [q2]
        exact ⟨f1, by decide, by decide, by decide, by decide, f2, f3⟩
    · cases h
  · unfold opA at h
    split at h
    · rename_i q
      cases h
      refine ⟨?_, by decide, by decide, by decide, by decide, ?_, tkD_lt (by rw [isV_1 q]; decide)⟩
      · unfold sgn; rw [if_pos q]
      · unfold isSH; rw [isV_1 q]; simp
    · cases h
  · unfold opO at h
    split at h
    · rename_i q
      cases h
      refine ⟨?_, by decide, by decide, by decide, by decide, ?_, tkD_lt (by rw [isV_1 q]; decide)⟩
      · unfold sgn; rw [if_neg (fun z => absurd (isV_u z q) (by decide)), if_pos q]
      · unfold isSH; rw [isV_1 q]; simp
    · cases h
/-- no sign at all -/
theorem sgn_no {p : Nat} (h : noOp T N 1 p) : sgn T N p = 0 ∨ ∃ s, opR T N p = some s ∧ sgn T N p = s ∧ tgt s = 4 := by
  obtain ⟨h1, h2, h3, h4⟩ := h
  have h1 := h1 (by omega); have h2 := h2 (by omega); have h3 := h3 (by omega); have h4 := h4 (by omega)
  cases hR : opR T N p with
  | some s => obtain ⟨a, b, -⟩ := op_sgn (T := T) (N := N) (p := p) (s := s) (r := 4) (Or.inr (Or.inr (Or.inl ⟨rfl, hR⟩))); exact Or.inr ⟨s, rfl, a, b⟩
  | none =>
    left
    unfold opT at h1
    unfold opS at h2
    unfold opA at h3
    unfold opO at h4
    unfold opR at hR
    split at h1
    · cases h1
    rename_i q1
    split at h2
    · cases h2
    rename_i q2
    split at h3
    · cases h3
    rename_i q3
    split at h4
    · cases h4
    rename_i q4
    split at hR
    · cases hR
    rename_i q5
    unfold sgn
    rw [if_neg q3, if_neg q4, if_neg]
    rintro (z | z | z | z | z | z | z | z)
    · exact q5 (Or.inl z)
    · exact q5 (Or.inr (Or.inl z))
    · exact q5 (Or.inr (Or.inr z))
    · exact q2 (Or.inl z)
    · exact q2 (Or.inr z)
    · exact q1 (Or.inl z)
    · exact q1 (Or.inr (Or.inl z))
    · exact q1 (Or.inr (Or.inr z))
/-- a sign of the rank r: what waits is done, the sign waits -/
theorem mRun_op {p : Nat} {s : Int32} {r n u : Nat} {k k' : List Int32} {c c' : am_S} (h : (r = 6 ∧ opT T N p = some s) ∨ (r = 5 ∧ opS T N p = some s) ∨ (r = 4 ∧ opR T N p = some s) ∨ (r = 2 ∧ opA T N p = some s) ∨ (r = 1 ∧ opO T N p = some s)) (hn : N + 2 - p ≤ n) (hr : r = 4 → hasRel k' = false) (e : popT r k' c' = popT r k c) (cl : Cl r k) : ∃ n', n = n' + 1 ∧ mRun T N n false k' c' p u = mRun T N n' true (s :: k) c (tkX T N p) u ∧ N + 2 - tkX T N p ≤ n' := by
  obtain ⟨h1, h2, h3, h4, h5, h6, h7⟩ := op_sgn h
  obtain ⟨n', rfl⟩ : ∃ n', n = n' + 1 := ⟨n - 1, by omega⟩
  have := tkX_bd (T := T) h7
  refine ⟨n', rfl, ?_, by omega⟩
  rw [mRun_f, if_neg (fun z => by rw [h6] at z; cases z.1), h1, if_pos ⟨h3, fun z => by rw [h2] at z; rw [hr z.1] at z; cases z.2⟩, h2, e, cl.pop]
/-- the rank of a loop -/
def opOf (T : tx) (N r : Nat) : Nat → Option Int32 := if r = 6 then opT T N else if r = 5 then opS T N else if r = 2 then opA T N else opO T N
theorem Sim_loop {r D : Nat} {lo : Bool} {w : Nat} {A : fF} {op : Nat → Option Int32} {BA : List Int32 → Nat → Prop} (hr : (r = 6 ∧ op = opT T N) ∨ (r = 5 ∧ op = opS T N) ∨ (r = 2 ∧ op = opA T N) ∨ (r = 1 ∧ op = opO T N)) (hlo : lo = true ↔ 4 < r) (rA : Nat) (hrA : r < rA) (hrA2 : ∀ p, noOp T N rA p → op p = none → noOp T N r p) (sim : Sim T N rA D lo BA A) (hBA : ∀ s k p, tgt s = r → ¬ s = 20 → ¬ s = 21 → dpt k = D → BA (s :: k) p) (hA : fok T N w A) {k : List Int32} (cl : Cl r k) (hD : dpt k = D) {n0 : Nat} :
    ∀ n c1 p u c n1 k' c', 31 ≤ n + u → u ≤ 30 → p ≤ N → N + 2 - p ≤ n1 → n1 ≤ n0 → (∀ r', r' ≤ r → popT r' k' c' = popT r' k (c ++ c1)) → hasBr k' = hasBr k → noOp T N rA p → (lo = true → hasRel k' = hasRel k) → (lo = false → ∀ s, opR T N p = some s → hasRel k' = true) → match fLoop T N op A n c1 p u with
      | .inr e => mRun T N n1 false k' c' p u = .inr e
      | .inl v => FinS T N r n0 k (c ++ v.1) v.2.1 v.2.2 (mRun T N n1 false k' c' p u) lo := by
  intro n
  induction n with
  | zero => intro c1 p u c n1 k' c' h1 h2; omega
  | succ n ih =>
    intro c1 p u c n1 k' c' hn hu hp hf hn0 hpop hbr hno hl1 hl2
    unfold fLoop
    cases ho : op p with
    | none => exact ⟨n1, k', c', rfl, hf, hpop, hbr, hrA2 p hno ho, hl1, hl2, hn0⟩
    | some s =>
      have hop : (r = 6 ∧ opT T N p = some s) ∨ (r = 5 ∧ opS T N p = some s) ∨ (r = 4 ∧ opR T N p = some s) ∨ (r = 2 ∧ opA T N p = some s) ∨ (r = 1 ∧ opO T N p = some s) := by
        rcases hr with ⟨e, e2⟩ | ⟨e, e2⟩ | ⟨e, e2⟩ | ⟨e, e2⟩ <;> rw [e2] at ho
        · exact Or.inl ⟨e, ho⟩
        · exact Or.inr (Or.inl ⟨e, ho⟩)
        · exact Or.inr (Or.inr (Or.inr (Or.inl ⟨e, ho⟩)))
        · exact Or.inr (Or.inr (Or.inr (Or.inr ⟨e, ho⟩)))
      obtain ⟨o1, o2, o3, o4, o5, o6, o7⟩ := op_sgn hop
      obtain ⟨n2, en, eq, hf2⟩ := mRun_op (u := u) hop hf (by omega) (hpop r (Nat.le_refl _)) cl
      have hx := tkX_bd (T := T) o7
      have hs := sim n2 (s :: k) (c ++ c1) (tkX T N p) u (hBA s k _ o2 o4 o5 hD) (by simp only [dpt]; rw [if_neg (by intro z; rcases z with z | z; exact o4 z; exact o5 z), Nat.zero_add]; exact hD) hx.2 hu hf2
      rw [eq]
      cases hAr : A (tkX T N p) u with
      | inr e => rw [hAr] at hs; dsimp only at hs ⊢; rw [hs]; rfl
      | inl v =>
        rw [hAr] at hs
        obtain ⟨f1, f2, f3⟩ := hA _ _ _ hx.2 hu hAr
        obtain ⟨n3, k3, c3, e3, hf3, hpop3, hbr3, hno3, hl13, hl23, hn3⟩ := hs
        dsimp only [bnd]
        rw [e3]
        refine ih (c1 ++ v.1 ++ [(3, s)]) v.2.1 v.2.2 c n3 k3 c3 (by omega) f2.2 f1.2 hf3 (by omega) (fun r' hr' => ?_) ?_ hno3 (fun z => ?_) hl23
        · rw [hpop3 r' (by omega)]
          show (if s = 20 then (s :: k, _) else if r' ≤ tgt s then popT r' k (c ++ c1 ++ v.1 ++ [stp s]) else (s :: k, _)) = _
          rw [if_neg o4, if_pos (by omega)]
          simp only [stp, if_neg o5, List.append_assoc]
        · rw [hbr3]; simp only [hasBr, decide_eq_false o4, Bool.or_false]
        · rw [hl13 z]
          show (if s = 20 then false else if 4 < tgt s then hasRel k else decide (tgt s = 4)) = _
          rw [if_neg o4, if_pos (by have := hlo.mp z; omega)]
theorem Sim_bin {r D : Nat} {lo : Bool} {w : Nat} {A : fF} {op : Nat → Option Int32} {B BA : List Int32 → Nat → Prop} (hr : (r = 6 ∧ op = opT T N) ∨ (r = 5 ∧ op = opS T N) ∨ (r = 2 ∧ op = opA T N) ∨ (r = 1 ∧ op = opO T N)) (hlo : lo = true ↔ 4 < r) (rA : Nat) (hrA : r < rA) (hrA2 : ∀ p, noOp T N rA p → op p = none → noOp T N r p) (sim : Sim T N rA D lo BA A) (hB : ∀ k p, B k p → BA k p ∧ Cl r k) (hBA : ∀ s k p, tgt s = r → ¬ s = 20 → ¬ s = 21 → dpt k = D → BA (s :: k) p) (hA : fok T N w A) : Sim T N r D lo B (fBin T N op A) := by
  intro n k c p u hb hD hp hu hn
  have hs := sim n k c p u (hB k p hb).1 hD hp hu hn
  unfold fBin
  cases hAr : A p u with
  | inr e => rw [hAr] at hs; exact hs
  | inl v =>
    rw [hAr] at hs
    obtain ⟨f1, f2, f3⟩ := hA _ _ _ hp hu hAr
    obtain ⟨n3, k3, c3, e3, hf3, hpop3, hbr3, hno3, hl13, hl23, hn3⟩ := hs
    dsimp only [bnd]
    rw [e3]
    exact Sim_loop hr hlo rA hrA hrA2 sim hBA hA (hB k p hb).2 hD 31 v.1 v.2.1 v.2.2 c n3 k3 c3 (by omega) f2.2 f1.2 hf3 hn3 (fun r' h' => hpop3 r' (by omega)) hbr3 hno3 hl13 hl23
abbrev BL (T : tx) (N r : Nat) : List Int32 → Nat → Prop := fun k p => Cl r k ∧ (isV T N p wNOT = true → mayN k = false)
abbrev BH (r : Nat) : List Int32 → Nat → Prop := fun k _ => Cl r k
theorem Sim_unit {D : Nat} {E : Option fF} {w : Nat} (hD7 : D ≤ 7) (h7 : D = 7 → E = none) (hE : D < 7 → ∃ e, E = some e ∧ fok T N w e ∧ Sim T N 1 (D + 1) false (BH 1) e) : Sim T N 7 D true (BL T N 7) (fUnit T N E) := by
  intro n k c p u hb hD hp hu hn
  obtain ⟨n', rfl⟩ : ∃ n', n = n' + 1 := ⟨n - 1, by omega⟩
  have no7 : ∀ q, noOp T N 7 q := fun q => ⟨fun z => by omega, fun z => by omega, fun z => by omega, fun z => by omega⟩
  rw [mRun_t, if_neg (fun z => by have := hb.2 z.1; rw [z.2] at this; cases this)]
  unfold fUnit
  by_cases c1 : isSH T N p 40 = true
  · have lt : p < N := tkD_lt (by rw [(isSH_3 c1).1]; decide)
    have hx := tkX_bd (T := T) lt
    rw [if_pos c1, if_pos c1]
    by_cases c2 : u = 30
    · rw [if_pos (Or.inr c2), if_pos (Or.inl c2)]
    · rw [if_neg (by rintro (z | z); rw [c1] at z; cases z.1; exact c2 z)]
      by_cases c3 : D = 7
      · rw [h7 c3, if_pos (Or.inr (by omega))]
      · obtain ⟨e, rfl, fe, se⟩ := hE (by omega)
        rw [if_neg (by rintro (z | z); exact c2 z; omega)]
        have hs := se n' (20 :: k) c (tkX T N p) (u + 1) (Or.inl rfl) (by simp only [dpt]; rw [if_pos (Or.inl trivial)]; omega) hx.2 (by omega) (by omega)
        dsimp only
        cases hAr : e (tkX T N p) (u + 1) with
        | inr e => rw [hAr] at hs; exact hs
        | inl v =>
          rw [hAr] at hs
          obtain ⟨f1, f2, f3⟩ := fe _ _ _ hx.2 (by omega) hAr
          obtain ⟨n3, k3, c3, e3, hf3, hpop3, hbr3, hno3, hl13, hl23, hn3⟩ := hs
          obtain ⟨n4, rfl⟩ : ∃ n', n3 = n' + 1 := ⟨n3 - 1, by omega⟩
          dsimp only [bnd]
          rw [e3, mRun_f]
          have hbr : hasBr k3 = true := by rw [hbr3]; simp [hasBr]
          unfold pMust
          by_cases c4 : isSH T N v.2.1 41 = true
          · have lt2 : v.2.1 < N := tkD_lt (by rw [(isSH_3 c4).1]; decide)
            have hx2 := tkX_bd (T := T) lt2
            rw [if_pos c4, if_pos ⟨c4, hbr⟩, hpop3 0 (by omega)]
            exact ⟨n4, k, c ++ v.1, rfl, by dsimp only; omega, fun _ _ => rfl, rfl, no7 _, fun _ => rfl, fun z => by (cases z), by omega⟩
          · rw [if_neg c4, if_neg (fun z => c4 z.1), if_pos hbr, if_neg]
            rintro ⟨z1, z2⟩
            rcases sgn_no hno3 with z | ⟨s, z3, z4, z5⟩
            · exact z1 z
            · exact z2 ⟨by rw [z4]; exact z5, hl23 rfl s z3⟩
  · rw [if_neg c1, if_neg c1]
    by_cases c2 : (¬ tkD T N p = 2 ∧ pNamed T N p = none) ∨ u = 30
    · rw [if_pos c2, if_pos (by rcases c2 with z | z; exact Or.inl ⟨by simpa using c1, z.2, z.1⟩; exact Or.inr z)]
    · rw [if_neg c2, if_neg (fun z => c2 (by rcases z with z | z; exact Or.inl ⟨z.2.2, z.2.1⟩; exact Or.inr z))]
      have lt : p < N := tkD_lt (fun z => c2 (Or.inl ⟨by rw [z]; decide, by
        cases hq : pNamed T N p with
        | none => rfl
        | some w => rw [pNamed_1 hq] at z; exact absurd z (by decide)⟩))
      have hx := tkX_bd (T := T) lt
      unfold leafS
      cases hq : pNamed T N p with
      | none => exact ⟨n', k, _, rfl, by dsimp only; omega, fun _ _ => rfl, rfl, no7 _, fun _ => rfl, fun z => by (cases z), by omega⟩
      | some w => exact ⟨n', k, _, rfl, by dsimp only; omega, fun _ _ => rfl, rfl, no7 _, fun _ => rfl, fun z => by (cases z), by omega⟩
theorem tgt_mayN {s : Int32} {k : List Int32} (h : 4 ≤ tgt s) (h2 : ¬ s = 20) : mayN (s :: k) = false := by
  simp only [mayN, decide_eq_false h2, Bool.false_or]
  exact decide_eq_false (by omega)
theorem Sim_sum {D : Nat} {E : Option fF} {w : Nat} (hw : w ≤ 10) (hfE : ∀ e, E = some e → fok T N w e) (hD7 : D ≤ 7) (h7 : D = 7 → E = none) (hE : D < 7 → ∃ e, E = some e ∧ fok T N w e ∧ Sim T N 1 (D + 1) false (BH 1) e) : Sim T N 5 D true (BL T N 5) (fSum T N E) := by
  have fu := fok_unit (T := T) (N := N) hw hfE
  have st : Sim T N 6 D true (BL T N 6) (fBin T N (opT T N) (fUnit T N E)) := Sim_bin (Or.inl ⟨rfl, rfl⟩) (by decide) 7 (by omega) (fun p _ e => ⟨fun _ => e, fun z => by omega, fun z => by omega, fun z => by omega⟩) (Sim_unit hD7 h7 hE) (fun k p q => ⟨⟨q.1.mono (by omega), q.2⟩, q.1⟩) (fun s k p h1 h2 h3 _ => ⟨Or.inr (by omega), fun _ => tgt_mayN (by omega) h2⟩) fu
  exact Sim_bin (Or.inr (Or.inl ⟨rfl, rfl⟩)) (by decide) 6 (by omega) (fun p q e => ⟨fun _ => q.1 (by omega), fun _ => e, fun z => by omega, fun z => by omega⟩) st (fun k p q => ⟨⟨q.1.mono (by omega), q.2⟩, q.1⟩) (fun s k p h1 h2 h3 _ => ⟨Or.inr (by omega), fun _ => tgt_mayN (by omega) h2⟩) (fok_bin (by omega) opT_lt fu)
theorem Sim_one {D : Nat} {O : Option fF} {S : fF} (hD7 : D ≤ 7) (h7 : D = 7 → O = none) (hO : D < 7 → ∃ o, O = some o ∧ Sim T N 3 (D + 1) false (BH 4) o) (sS : Sim T N 5 D true (BL T N 5) S) (hS : fok T N 0 S) : Sim T N 3 D false (BH 4) (fOne T N O S) := by
  intro n k c p u hb hD hp hu hn
  have hm : mayN k = true := cl_mayN hb (Nat.le_refl _)
  unfold fOne
  by_cases c1 : isV T N p wNOT = true
  · obtain ⟨n', rfl⟩ : ∃ n', n = n' + 1 := ⟨n - 1, by omega⟩
    have lt : p < N := tkD_lt (by rw [isV_1 c1]; decide)
    have hx := tkX_bd (T := T) lt
    rw [mRun_t, if_pos c1, if_pos ⟨c1, hm⟩]
    by_cases c3 : D = 7
    · rw [h7 c3, if_pos (by omega)]
    · obtain ⟨o, rfl, so⟩ := hO (by omega)
      rw [if_neg (by omega)]
      have hs := so n' (21 :: k) c (tkX T N p) u (Or.inr (by decide)) (by simp only [dpt]; rw [if_pos (Or.inr trivial)]; omega) hx.2 hu (by omega)
      dsimp only
      cases hAr : o (tkX T N p) u with
      | inr e => rw [hAr] at hs; exact hs
      | inl v =>
        rw [hAr] at hs
        obtain ⟨n3, k3, c3, e3, hf3, hpop3, hbr3, hno3, hl13, hl23, hn3⟩ := hs
        dsimp only [bnd]
        refine ⟨n3, k3, c3, e3, hf3, fun r' hr' => ?_, ?_, hno3, fun z => by (cases z), hl23, by omega⟩
        · rw [hpop3 r' hr']
          show (if (21 : Int32) = 20 then (21 :: k, _) else if r' ≤ tgt 21 then popT r' k (c ++ v.1 ++ [stp 21]) else (21 :: k, _)) = _
          rw [if_neg (by decide), if_pos (by have : tgt 21 = 3 := by decide
                                             omega)]
          simp only [stp, if_pos trivial, List.append_assoc]
        · rw [hbr3]; simp [hasBr]
  · rw [if_neg c1]
    have hs := sS n k c p u ⟨hb.mono (by omega), fun z => absurd z c1⟩ hD hp hu hn
    cases hAr : S p u with
    | inr e => rw [hAr] at hs; exact hs
    | inl v =>
      rw [hAr] at hs
      obtain ⟨f1, f2, f3⟩ := hS _ _ _ hp hu hAr
      obtain ⟨n3, k3, c3, e3, hf3, hpop3, hbr3, hno3, hl13, hl23, hn3⟩ := hs
      dsimp only [bnd]
      have no3 : ∀ q, noOp T N 5 q → noOp T N 3 q := fun q z => ⟨fun _ => z.1 (by omega), fun _ => z.2.1 (by omega), fun w => by omega, fun w => by omega⟩
      cases hR : opR T N v.2.1 with
      | none => exact ⟨n3, k3, c3, e3, hf3, fun r' hr' => hpop3 r' (by omega), hbr3, no3 _ hno3, fun z => by (cases z), fun _ s z => by (rw [hR] at z; cases z), hn3⟩
      | some s =>
        have hop : ((4 : Nat) = 6 ∧ opT T N v.2.1 = some s) ∨ ((4 : Nat) = 5 ∧ opS T N v.2.1 = some s) ∨ ((4 : Nat) = 4 ∧ opR T N v.2.1 = some s) ∨ ((4 : Nat) = 2 ∧ opA T N v.2.1 = some s) ∨ ((4 : Nat) = 1 ∧ opO T N v.2.1 = some s) := Or.inr (Or.inr (Or.inl ⟨rfl, hR⟩))
        obtain ⟨o1, o2, o3, o4, o5, o6, o7⟩ := op_sgn hop
        obtain ⟨n2, en, eq, hf2⟩ := mRun_op (u := v.2.2) hop hf3 (fun _ => by rw [hl13 rfl]; exact cl_rel hb) (hpop3 4 (by omega)) hb
        have hx := tkX_bd (T := T) o7
        have hs2 := sS n2 (s :: k) (c ++ v.1) (tkX T N v.2.1) v.2.2 ⟨Or.inr (by omega), fun _ => tgt_mayN (by omega) o4⟩ (by simp only [dpt]; rw [if_neg (by intro z; rcases z with z | z; exact o4 z; exact o5 z), Nat.zero_add]; exact hD) hx.2 f2.2 hf2
        rw [e3, eq]
        dsimp only
        cases hAr2 : S (tkX T N v.2.1) v.2.2 with
        | inr e => rw [hAr2] at hs2; exact hs2
        | inl v2 =>
          rw [hAr2] at hs2
          obtain ⟨n5, k5, c5, e5, hf5, hpop5, hbr5, hno5, hl15, hl25, hn5⟩ := hs2
          dsimp only [bnd]
          refine ⟨n5, k5, c5, e5, hf5, fun r' hr' => ?_, ?_, no3 _ hno5, fun z => by (cases z), fun _ s' _ => ?_, by omega⟩
          · rw [hpop5 r' (by omega)]
            show (if s = 20 then (s :: k, _) else if r' ≤ tgt s then popT r' k (c ++ v.1 ++ v2.1 ++ [stp s]) else (s :: k, _)) = _
            rw [if_neg o4, if_pos (by omega)]
            simp only [stp, if_neg o5, List.append_assoc]
          · rw [hbr5]; simp only [hasBr, decide_eq_false o4, Bool.or_false]
          · rw [hl15 rfl]
            show (if s = 20 then false else if 4 < tgt s then hasRel k else decide (tgt s = 4)) = _
            rw [if_neg o4, if_neg (by omega), decide_eq_true o2]
theorem Sim_either {D w : Nat} {O : fF} (hw : w ≤ 8) (fO : fok T N w O) (sO : Sim T N 3 D false (BH 4) O) : Sim T N 1 D false (BH 1) (fBin T N (opO T N) (fBin T N (opA T N) O)) := by
  have sb : Sim T N 2 D false (BH 2) (fBin T N (opA T N) O) := Sim_bin (Or.inr (Or.inr (Or.inl ⟨rfl, rfl⟩))) (by decide) 3 (by omega) (fun p q e => ⟨fun _ => q.1 (by omega), fun _ => q.2.1 (by omega), fun _ => e, fun z => by omega⟩) sO (fun k p q => ⟨q.mono (by omega), q⟩) (fun s k p h1 h2 h3 _ => Or.inr (by omega)) fO
  exact Sim_bin (Or.inr (Or.inr (Or.inr ⟨rfl, rfl⟩))) (by decide) 2 (by omega) (fun p q e => ⟨fun _ => q.1 (by omega), fun _ => q.2.1 (by omega), fun _ => q.2.2.1 (by omega), fun _ => e⟩) sb (fun k p q => ⟨q.mono (by omega), q⟩) (fun s k p h1 h2 h3 _ => Or.inr (by omega)) (fok_bin hw opA_lt fO)
theorem Sim_lv : ∀ f, f ≤ 7 → Sim T N 1 (7 - f) false (BH 1) (lv T N f).1 ∧ Sim T N 3 (7 - f) false (BH 4) (lv T N f).2 := by
  intro f
  induction f with
  | zero =>
    intro _
    have ss : Sim T N 5 7 true (BL T N 5) (fSum T N none) := Sim_sum (w := 0) (by omega) (fun e z => by (cases z)) (by omega) (fun _ => rfl) (fun z => by omega)
    have so : Sim T N 3 7 false (BH 4) (fOne T N none (fSum T N none)) := Sim_one (by omega) (fun _ => rfl) (fun z => by omega) ss (fok_sum (w := 0) (by omega) (fun e z => by (cases z)))
    exact ⟨Sim_either (w := 1) (by omega) (fok_lv (T := T) (N := N) 0 (by omega)).2 so, so⟩
  | succ f ih =>
    intro hf
    obtain ⟨i1, i2⟩ := ih (by omega)
    obtain ⟨g1, g2⟩ := fok_lv (T := T) (N := N) f (by omega)
    have eD : 7 - f = 7 - (f + 1) + 1 := by omega
    rw [eD] at i1 i2
    have ss : Sim T N 5 (7 - (f + 1)) true (BL T N 5) (fSum T N (some (lv T N f).1)) := Sim_sum (w := f + 1) (by omega) (fun e z => by (cases z; exact g1)) (by omega) (fun z => by omega) (fun _ => ⟨_, rfl, g1, i1⟩)
    have so : Sim T N 3 (7 - (f + 1)) false (BH 4) (fOne T N (some (lv T N f).2) (fSum T N (some (lv T N f).1))) := Sim_one (by omega) (fun z => by omega) (fun _ => ⟨_, rfl, i2⟩) ss (fok_sum (w := f + 1) (by omega) (fun e z => by (cases z; exact g1)))
    exact ⟨Sim_either (w := f + 2) (by omega) (fok_lv (T := T) (N := N) (f + 1) hf).2 so, so⟩
/-- the stack's way and the descent answer alike -/
theorem mRun_lv {p : Nat} (hp : p ≤ N) : mRun T N (N + 2) true [] [] p 0 = (lv T N 7).1 p 0 := by
  have hs := (Sim_lv (T := T) (N := N) 7 (by omega)).1 (N + 2) [] [] p 0 trivial rfl hp (by omega) (by omega)
  cases hAr : (lv T N 7).1 p 0 with
  | inr e => rw [hAr] at hs; exact hs
  | inl v =>
    rw [hAr] at hs
    obtain ⟨g1, g2, g3⟩ := (fok_lv (T := T) (N := N) 7 (by omega)).1 p 0 v hp (by omega) hAr
    obtain ⟨n3, k3, c3, e3, hf3, hpop3, hbr3, hno3, hl13, hl23, hn3⟩ := hs
    obtain ⟨n4, rfl⟩ : ∃ n', n3 = n' + 1 := ⟨n3 - 1, by omega⟩
    rw [e3, mRun_f]
    have hbr : hasBr k3 = false := by rw [hbr3]; rfl
    rw [if_neg (fun z => by rw [hbr] at z; cases z.2), if_neg (fun z => ?_), if_neg (by rw [hbr]; decide), hpop3 0 (by omega)]
    · rfl
    · rcases sgn_no hno3 with y | ⟨s, z3, z4, z5⟩
      · exact z.1 y
      · exact z.2 ⟨by rw [z4]; exact z5, hl23 rfl s z3⟩
end StackEq
