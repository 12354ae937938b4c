/-! ORDERS, purely: the next one, from one to the next -/
section NextO
variable {V : am_M} {nB nD : Nat} {man bd : Int32}
/-- what is left of an order's children from the deed d on -/
def kF (V : am_M) (nB nD : Nat) (man bd : Int32) (o : ord) (d : Nat) : List ord := (List.range' d (nD - d)).flatMap (fun e => match child V nB man bd o e with
  | none => []
  | some p => dl V nB nD man bd (nD - p.1.length) p)
theorem kF_end {o : ord} {d : Nat} (h : nD ≤ d) : kF V nB nD man bd o d = [] := by
  unfold kF
  rw [show nD - d = 0 by omega]
  rfl
theorem kF_none {o : ord} {d : Nat} (h : d < nD) (e : child V nB man bd o d = none) : kF V nB nD man bd o d = kF V nB nD man bd o (d + 1) := by
  unfold kF
  rw [show nD - d = (nD - (d + 1)) + 1 by omega, List.range'_succ, List.flatMap_cons, e]
  rfl
theorem kF_some {o p : ord} {d : Nat} (h : d < nD) (e : child V nB man bd o d = some p) : kF V nB nD man bd o d = dl V nB nD man bd (nD - p.1.length) p ++ kF V nB nD man bd o (d + 1) := by
  unfold kF
  rw [show nD - d = (nD - (d + 1)) + 1 by omega, List.range'_succ, List.flatMap_cons, e]
/-- an order as it can be -/
def oOK (nD : Nat) (o : ord) : Prop := o.1.length + fc nD o.1 = nD ∧ ∀ e ∈ o.1, e < nD
theorem oOK_child {o p : ord} {d : Nat} (q : oOK nD o) (hd : d < nD) (e : child V nB man bd o d = some p) : oOK nD p ∧ p.1.length = o.1.length + 1 ∧ o.1.length < nD := by
  obtain ⟨h1, h2, h3⟩ := child_some e
  have h4 := fc_add hd h1
  have h5 := q.1
  refine ⟨⟨?_, ?_⟩, ?_, ?_⟩
  · rw [h2, List.length_append, List.length_singleton]; omega
  · intro e he
    rw [h2, List.mem_append] at he
    rcases he with he | he
    · exact q.2 e he
    · rw [List.mem_singleton] at he; omega
  · rw [h2, List.length_append, List.length_singleton]
  · omega
theorem dl_kF {o : ord} (q : oOK nD o) : dl V nB nD man bd (nD - o.1.length) o = o :: kF V nB nD man bd o 0 := by
  cases hn : nD - o.1.length with
  | zero =>
    have nn : ∀ d, d < nD → child V nB man bd o d = none := by
      intro d hd
      cases hc : child V nB man bd o d with
      | none => rfl
      | some p => have := (oOK_child q hd hc).2.2; omega
    have : ∀ r d, d + r = nD → kF V nB nD man bd o d = [] := by
      intro r
      induction r with
      | zero => intro d hd; exact kF_end (by omega)
      | succ r ih => intro d hd; rw [kF_none (by omega) (nn d (by omega))]; exact ih (d + 1) (by omega)
    rw [this nD 0 (by omega)]
    rfl
  | succ n =>
    show o :: _ = o :: _
    congr 1
    unfold kF
    rw [Nat.sub_zero, List.range_eq_range']
    have : ∀ L : List Nat, (∀ d ∈ L, d < nD) → L.flatMap (fun d => match child V nB man bd o d with
      | none => []
      | some p => dl V nB nD man bd n p) = L.flatMap (fun e => match child V nB man bd o e with
      | none => []
      | some p => dl V nB nD man bd (nD - p.1.length) p) := by
      intro L
      induction L with
      | nil => intro _; rfl
      | cons d L ih =>
        intro hL
        rw [List.flatMap_cons, List.flatMap_cons, ih (fun e he => hL e (List.mem_cons_of_mem _ he))]
        congr 1
        cases hc : child V nB man bd o d with
        | none => rfl
        | some p =>
          have := (oOK_child q (hL d List.mem_cons_self) hc).2.1
          dsimp only
          rw [show nD - p.1.length = n by omega]
    refine this _ (fun d hd => ?_)
    rw [List.mem_range'_1] at hd
    omega
/-- the last deed of an order -/
def lst (o : ord) : Nat := o.1.getLastD 0
/-- what comes behind an order's own: of those below it -/
def sib (V : am_M) (nB nD : Nat) (man bd : Int32) : List ord → ord → List ord
  | [], _ => []
  | q :: P, o => kF V nB nD man bd q (lst o + 1) ++ sib V nB nD man bd P q
/-- orders, each a child of the next -/
def Pth (V : am_M) (nB nD : Nat) (man bd : Int32) : List ord → Prop
  | [] => False
  | [o] => o = ([], 0, 0)
  | o :: q :: P => (∃ d, d < nD ∧ child V nB man bd q d = some o) ∧ Pth V nB nD man bd (q :: P)
/-- what is left from the deed d of the first on -/
def srch (V : am_M) (nB nD : Nat) (man bd : Int32) (P : List ord) (d : Nat) : List ord := match P with
  | [] => []
  | o :: P => kF V nB nD man bd o d ++ sib V nB nD man bd P o
theorem Pth_ok : ∀ {P : List ord} {o : ord}, Pth V nB nD man bd (o :: P) → oOK nD o ∧ o.1.length = P.length := by
  intro P
  induction P with
  | nil =>
    intro o h
    have : o = ([], 0, 0) := h
    subst this
    exact ⟨⟨by rw [fc_nil]; simp, fun e he => by cases he⟩, rfl⟩
  | cons q P ih =>
    intro o h
    obtain ⟨⟨d, hd, hc⟩, h2⟩ := h
    obtain ⟨i1, i2⟩ := ih h2
    obtain ⟨j1, j2, j3⟩ := oOK_child i1 hd hc
    exact ⟨j1, by rw [j2, i2]; rfl⟩
theorem lst_child {o p : ord} {d : Nat} (e : child V nB man bd o d = some p) : lst p = d := by
  unfold lst
  rw [(child_some e).2.1]
  simp
/-- a child is found: it is the next -/
theorem srch_some {o c : ord} {P : List ord} {d : Nat} (h : Pth V nB nD man bd (o :: P)) (hd : d < nD) (e : child V nB man bd o d = some c) : srch V nB nD man bd (o :: P) d = c :: srch V nB nD man bd (c :: o :: P) 0 ∧ Pth V nB nD man bd (c :: o :: P) := by
  refine ⟨?_, ⟨d, hd, e⟩, h⟩
  unfold srch
  dsimp only [sib]
  rw [kF_some hd e, dl_kF (oOK_child (Pth_ok h).1 hd e).1, lst_child e, List.cons_append, List.cons_append, List.append_assoc]
theorem srch_none {o : ord} {P : List ord} {d : Nat} (hd : d < nD) (e : child V nB man bd o d = none) : srch V nB nD man bd (o :: P) d = srch V nB nD man bd (o :: P) (d + 1) := by
  unfold srch
  dsimp only
  rw [kF_none hd e]
theorem srch_pop {o q : ord} {P : List ord} {d : Nat} (hd : nD ≤ d) : srch V nB nD man bd (o :: q :: P) d = srch V nB nD man bd (q :: P) (lst o + 1) := by
  unfold srch
  dsimp only [sib]
  rw [kF_end hd, List.nil_append]
theorem srch_end {o : ord} {d : Nat} (hd : nD ≤ d) : srch V nB nD man bd [o] d = [] := by
  unfold srch
  dsimp only [sib]
  rw [kF_end hd, List.nil_append]
theorem oL_srch : oL V nB nD man bd = ([], 0, 0) :: srch V nB nD man bd [([], 0, 0)] 0 := by
  unfold oL srch
  have := dl_kF (V := V) (nB := nB) (man := man) (bd := bd) (Pth_ok (V := V) (nB := nB) (nD := nD) (man := man) (bd := bd) (P := []) (o := ([], 0, 0)) rfl).1
  rw [show nD - (([], 0, 0) : ord).1.length = nD from rfl] at this
  rw [this]
  dsimp only [sib]
  rw [List.append_nil]
/-- one order is ahead of another, deed by deed -/
def ahd : List Nat → List Nat → Prop
  | [], [] => False
  | [], _ :: _ => True
  | _ :: _, [] => False
  | a :: l, b :: l' => a < b ∨ (a = b ∧ ahd l l')
theorem ahd_pre {l x : List Nat} (hx : x ≠ []) : ahd l (l ++ x) := by
  induction l with
  | nil => cases x with
    | nil => exact absurd rfl hx
    | cons a x => trivial
  | cons a l ih => exact Or.inr ⟨rfl, ih⟩
theorem ahd_lt {l x y : List Nat} {a b : Nat} (h : a < b) : ahd (l ++ a :: x) (l ++ b :: y) := by
  induction l with
  | nil => exact Or.inl h
  | cons c l ih => exact Or.inr ⟨rfl, ih⟩
theorem dl_pre : ∀ n o p, p ∈ dl V nB nD man bd n o → ∃ x, p.1 = o.1 ++ x := by
  intro n
  induction n with
  | zero => intro o p hp; rw [dl, List.mem_singleton] at hp; exact ⟨[], by rw [hp, List.append_nil]⟩
  | succ n ih =>
    intro o p hp
    rw [dl, List.mem_cons] at hp
    rcases hp with hp | hp
    · exact ⟨[], by rw [hp, List.append_nil]⟩
    · rw [List.mem_flatMap] at hp
      obtain ⟨d, -, hp⟩ := hp
      cases hc : child V nB man bd o d with
      | none => rw [hc] at hp; cases hp
      | some c =>
        rw [hc] at hp
        obtain ⟨x, hx⟩ := ih c p hp
        exact ⟨[d] ++ x, by rw [hx, (child_some hc).2.1, List.append_assoc]⟩
theorem dl_sorted : ∀ n o, (dl V nB nD man bd n o).Pairwise (fun a b => ahd a.1 b.1) := by
  intro n
  induction n with
  | zero => intro o; rw [dl]; exact List.pairwise_singleton _ _
  | succ n ih =>
    intro o
    rw [dl, List.pairwise_cons]
    constructor
    · intro p hp
      rw [List.mem_flatMap] at hp
      obtain ⟨d, -, hp⟩ := hp
      cases hc : child V nB man bd o d with
      | none => rw [hc] at hp; cases hp
      | some c =>
        rw [hc] at hp
        obtain ⟨x, hx⟩ := dl_pre n c p hp
        rw [hx, (child_some hc).2.1, List.append_assoc]
        exact ahd_pre (by simp)
    · rw [List.pairwise_flatMap]
      constructor
      · intro d _
        cases hc : child V nB man bd o d with
        | none => exact List.Pairwise.nil
        | some c => exact ih c
      · refine List.Pairwise.imp ?_ (List.pairwise_lt_range (n := nD))
        intro a b hab p hp q hq
        cases hc : child V nB man bd o a with
        | none => rw [hc] at hp; cases hp
        | some c =>
          cases hc2 : child V nB man bd o b with
          | none => rw [hc2] at hq; cases hq
          | some c2 =>
            rw [hc] at hp
            rw [hc2] at hq
            obtain ⟨x, hx⟩ := dl_pre n c p hp
            obtain ⟨y, hy⟩ := dl_pre n c2 q hq
            rw [hx, hy, (child_some hc).2.1, (child_some hc2).2.1, List.append_assoc, List.append_assoc]
            exact ahd_lt hab
/-- where two orders part: as far as they go together -/
def com : List Nat → List Nat → Nat
  | a :: l, b :: l' => if a = b then com l l' + 1 else 0
  | _, _ => 0
theorem com_le : ∀ l l', com l l' ≤ l.length ∧ com l l' ≤ l'.length
  | [], _ => ⟨Nat.le_refl _, Nat.zero_le _⟩
  | _ :: _, [] => ⟨Nat.zero_le _, Nat.le_refl _⟩
  | a :: l, b :: l' => by
    have := com_le l l'
    simp only [com, List.length_cons]
    split <;> omega
theorem com_eq : ∀ l l' i, i < com l l' → l.getD i 0 = l'.getD i 0
  | [], _, i, h => by simp [com] at h
  | _ :: _, [], i, h => by simp [com] at h
  | a :: l, b :: l', i, h => by
    simp only [com] at h
    split at h
    · rename_i e
      cases i with
      | zero => exact e
      | succ i => simpa using com_eq l l' i (by omega)
    · omega
/-- one that comes later is not ahead -/
theorem ahd_com : ∀ l l', ahd l' l → com l l' = l'.length ∨ (com l l' < l.length ∧ com l l' < l'.length ∧ l'.getD (com l l') 0 < l.getD (com l l') 0)
  | [], [], h => absurd h id
  | [], _ :: _, h => absurd h id
  | _ :: _, [], _ => Or.inl rfl
  | a :: l, b :: l', h => by
    simp only [com]
    rcases h with h | ⟨h1, h2⟩
    · rw [if_neg (by omega)]
      exact Or.inr ⟨by simp, by simp, by simpa using h⟩
    · rw [if_pos h1.symm]
      rcases ahd_com l l' h2 with z | ⟨z1, z2, z3⟩
      · exact Or.inl (by rw [z]; rfl)
      · exact Or.inr ⟨by simpa using z1, by simpa using z2, by simpa using z3⟩
/-- the best of those ahead is ahead of the next one -/
theorem best_ahd {L1 L2 : List ord} {o b : ord} (h : oL V nB nD man bd = ([], 0, 0) :: (L1 ++ o :: L2)) (hb : L1.foldl updB (some ([], 0, 0)) = some b) : ahd b.1 o.1 := by
  have hs := dl_sorted (V := V) (nB := nB) (nD := nD) (man := man) (bd := bd) nD ([], 0, 0)
  unfold oL at h
  rw [h] at hs
  have h2 : (([], 0, 0) : ord) :: (L1 ++ o :: L2) = (([], 0, 0) :: L1) ++ (o :: L2) := rfl
  rw [h2, List.pairwise_append] at hs
  refine hs.2.2 b ?_ o List.mem_cons_self
  rcases fold_mem L1 ([], 0, 0) b hb with e | e
  · rw [e]; exact List.mem_cons_self
  · exact List.mem_cons_of_mem _ e
end NextO
