/-! RUNS of the small machine, and a row an instruction -/
def am_hnd (i pc : Nat) : Option Nat := if i = n_X0_regiment ∧ 20 ≤ pc ∧ pc < 43 then some 46 else none
def am_ex (args : List am_V) : List am_V := match args with
  | [] => []
  | .inr (.inl x) :: t => am_l x :: am_u :: am_ex t
  | v :: t => v :: am_ex t
def am_pad (n : Nat) (l : List am_V) : List am_V := match n, l with
  | 0, _ => []
  | n + 1, [] => am_u :: am_pad n []
  | n + 1, v :: l => v :: am_pad n l
def am_ent (i : Nat) (args : List am_V) : List am_V := am_pad (am_maxL i) (am_ex args)
def am_run : Nat → Nat → Nat → Nat → List am_V → List am_V → am_H → Option (am_R × am_H)
  | 0, _, _, _, _, _, _ => none
  | n + 1, d, i, pc, ls, st, h => match am_fetch i pc with
    | none => none
    | some f => match f ls st h with
      | none => none
      | some (.inl (pc', ls', st', h')) => am_run n d i pc' ls' st' h'
      | some (.inr (.inl (j, args, st', nx, fl))) => match Nat.ble (am_sum args) (am_maxL j) with
        | false => none
        | true => match d with
          | 0 => none
          | d + 1 => match am_run n d j 0 (am_ent j args) [] h with
            | none => none
            | some (.inl none, h') => am_run n (d + 1) i nx ls st' h'
            | some (.inl (some v), h') => am_run n (d + 1) i nx ls (v :: st') h'
            | some (.inr q, h') => match fl with
              | false => none
              | true => match am_hnd i pc with
                | none => some (.inr q, h')
                | some hp => am_run n (d + 1) i hp ls [am_r q] h'
      | some (.inr (.inr (.inl r))) => some (.inl r, h)
      | some (.inr (.inr (.inr q))) => match am_hnd i pc with
        | none => some (.inr q, h)
        | some hp => am_run n d i hp ls [am_r q] h
theorem am_mono : ∀ (n d i pc : Nat) (ls st : List am_V) (h : am_H) (r : am_R × am_H), am_run n d i pc ls st h = some r → am_run (n + 1) d i pc ls st h = some r := by
  intro n
  induction n with
  | zero => intro d i pc ls st h r e; exact absurd e (by simp [am_run])
  | succ n ih =>
    intro d i pc ls st h r e
    rw [am_run] at e ⊢
    cases hf : am_fetch i pc with
    | none => rw [hf] at e; exact absurd e (by simp)
    | some f =>
      rw [hf] at e
      dsimp only at e ⊢
      cases ho : f ls st h with
      | none => rw [ho] at e; exact absurd e (by simp)
      | some o =>
        rw [ho] at e
        rcases o with ⟨pc', ls', st', h'⟩ | ⟨j, args, st', nx, fl⟩ | r0 | q
        · dsimp only at e ⊢
          exact ih _ _ _ _ _ _ _ e
        · dsimp only at e ⊢
          cases hb : Nat.ble (am_sum args) (am_maxL j) with
          | false => rw [hb] at e; cases e
          | true =>
          rw [hb] at e
          dsimp only at e ⊢
          cases d with
          | zero => exact absurd e (by simp)
          | succ d =>
            dsimp only at e ⊢
            cases hc : am_run n d j 0 (am_ent j args) [] h with
            | none => rw [hc] at e; exact absurd e (by simp)
            | some x =>
              rw [ih _ _ _ _ _ _ _ hc]
              rw [hc] at e
              obtain ⟨x1, x2⟩ := x
              rcases x1 with (_ | v) | q
              · exact ih _ _ _ _ _ _ _ e
              · exact ih _ _ _ _ _ _ _ e
              · cases fl with
                | false => cases e
                | true =>
                  dsimp only at e ⊢
                  cases hh : am_hnd i pc with
                  | none => rw [hh] at e; exact e
                  | some hp => rw [hh] at e; exact ih _ _ _ _ _ _ _ e
        · exact e
        · dsimp only at e ⊢
          cases hh : am_hnd i pc with
          | none => rw [hh] at e; exact e
          | some hp => rw [hh] at e; exact ih _ _ _ _ _ _ _ e
theorem am_more {n m d i pc : Nat} {ls st : List am_V} {h : am_H} {r : am_R × am_H} (e : am_run n d i pc ls st h = some r) (hm : n ≤ m) : am_run m d i pc ls st h = some r := by
  induction hm with
  | refl => exact e
  | step _ ih => exact am_mono _ _ _ _ _ _ _ _ ih
/-- the machine comes from here to an end with K -/
def Rn (d i pc : Nat) (ls st : List am_V) (h : am_H) (K : am_R → am_H → Prop) : Prop := ∃ (n : Nat) (r : am_R) (h' : am_H), am_run n d i pc ls st h = some (r, h') ∧ K r h'
section Rows
variable {d i pc : Nat} {ls st : List am_V} {h : am_H} {K : am_R → am_H → Prop}
theorem rn_go {f : am_F} {pc' : Nat} {ls' st' : List am_V} {h' : am_H} (hf : am_fetch i pc = some f) (ho : f ls st h = some (.inl (pc', ls', st', h'))) (k : Rn d i pc' ls' st' h' K) : Rn d i pc ls st h K := by
  obtain ⟨n, r, h2, e, hk⟩ := k
  exact ⟨n + 1, r, h2, by rw [am_run, hf]; dsimp only; rw [ho]; exact e, hk⟩
theorem rn_ret {f : am_F} {r : Option am_V} (hf : am_fetch i pc = some f) (ho : f ls st h = some (.inr (.inr (.inl r)))) (k : K (.inl r) h) : Rn d i pc ls st h K :=
  ⟨1, .inl r, h, by rw [am_run, hf]; dsimp only; rw [ho], k⟩
theorem rn_thr {f : am_F} {q : Nat} (hf : am_fetch i pc = some f) (hh : am_hnd i pc = none) (ho : f ls st h = some (.inr (.inr (.inr q)))) (k : K (.inr q) h) : Rn d i pc ls st h K :=
  ⟨1, .inr q, h, by rw [am_run, hf]; dsimp only; rw [ho]; dsimp only; rw [hh], k⟩
/-- what is done with a callee's end -/
def rn_K (fl : Bool) (d i pc : Nat) (ls st : List am_V) (nx : Nat) (K : am_R → am_H → Prop) : am_R → am_H → Prop := fun r h => match r with
  | .inl none => Rn d i nx ls st h K
  | .inl (some v) => Rn d i nx ls (v :: st) h K
  | .inr q => fl = true ∧ match am_hnd i pc with
    | none => K (.inr q) h
    | some hp => Rn d i hp ls [am_r q] h K
theorem rn_call {f : am_F} {j nx : Nat} {args st' : List am_V} {fl : Bool} (hf : am_fetch i pc = some f) (ho : f ls st h = some (.inr (.inl (j, args, st', nx, fl)))) (hb : Nat.ble (am_sum args) (am_maxL j) = true) (k : Rn d j 0 (am_ent j args) [] h (rn_K fl (d + 1) i pc ls st' nx K)) : Rn (d + 1) i pc ls st h K := by
  obtain ⟨n, r, h2, e, hk⟩ := k
  rcases r with (_ | v) | q
  · obtain ⟨m, r3, h3, e3, k3⟩ := hk
    refine ⟨max n m + 1, r3, h3, ?_, k3⟩
    rw [am_run, hf]; dsimp only; rw [ho]; dsimp only; rw [hb]; dsimp only
    rw [am_more e (Nat.le_max_left n m)]
    exact am_more e3 (Nat.le_max_right n m)
  · obtain ⟨m, r3, h3, e3, k3⟩ := hk
    refine ⟨max n m + 1, r3, h3, ?_, k3⟩
    rw [am_run, hf]; dsimp only; rw [ho]; dsimp only; rw [hb]; dsimp only
    rw [am_more e (Nat.le_max_left n m)]
    exact am_more e3 (Nat.le_max_right n m)
  · dsimp only [rn_K] at hk
    obtain ⟨hfl, hk⟩ := hk
    subst hfl
    cases hh : am_hnd i pc with
    | none =>
      rw [hh] at hk
      refine ⟨n + 1, .inr q, h2, ?_, hk⟩
      rw [am_run, hf]; dsimp only; rw [ho]; dsimp only; rw [hb]; dsimp only
      rw [e]; dsimp only; rw [hh]
    | some hp =>
      rw [hh] at hk
      obtain ⟨m, r3, h3, e3, k3⟩ := hk
      refine ⟨max n m + 1, r3, h3, ?_, k3⟩
      rw [am_run, hf]; dsimp only; rw [ho]; dsimp only; rw [hb]; dsimp only
      rw [am_more e (Nat.le_max_left n m)]; dsimp only; rw [hh]
      exact am_more e3 (Nat.le_max_right n m)
theorem rn_mono {K' : am_R → am_H → Prop} (k : Rn d i pc ls st h K) (hk : ∀ r h', K r h' → K' r h') : Rn d i pc ls st h K' := by
  obtain ⟨n, r, h2, e, k2⟩ := k
  exact ⟨n, r, h2, e, hk _ _ k2⟩
-- ends of contracts: an int, a long, a reference, nothing; or thrown
def kI (k : Int32 → am_H → Prop) : am_R → am_H → Prop := fun r h => ∃ x, r = .inl (some (am_i x)) ∧ k x h
def kL (k : Int64 → am_H → Prop) : am_R → am_H → Prop := fun r h => ∃ x, r = .inl (some (am_l x)) ∧ k x h
def kR (k : Nat → am_H → Prop) : am_R → am_H → Prop := fun r h => ∃ x, r = .inl (some (am_r x)) ∧ k x h
def kV (k : am_H → Prop) : am_R → am_H → Prop := fun r h => r = .inl none ∧ k h
/-- or thrown: the exception x -/
def kX (k : am_R → am_H → Prop) (x : Nat → am_H → Prop) : am_R → am_H → Prop := fun r h => k r h ∨ ∃ q, r = .inr q ∧ x q h
-- rows
theorem rw_const {v : am_V} {nx : Nat} (f : am_fetch i pc = some (in_const v nx)) (k : Rn d i nx ls (v :: st) h K) : Rn d i pc ls st h K := rn_go f rfl k
theorem rw_glob {g nx : Nat} (f : am_fetch i pc = some (in_glob g nx)) (k : Rn d i nx ls (am_r (hp_R h 0 g) :: st) h K) : Rn d i pc ls st h K := rn_go f rfl k
theorem rw_iload {g nx : Nat} {x : Int32} (f : am_fetch i pc = some (in_iload g nx)) (e : ls[g]? = some (am_i x)) (k : Rn d i nx ls (am_i x :: st) h K) : Rn d i pc ls st h K := rn_go f (by unfold in_iload; rw [e]) k
theorem rw_lload {g nx : Nat} {x : Int64} (f : am_fetch i pc = some (in_lload g nx)) (e : ls[g]? = some (am_l x)) (k : Rn d i nx ls (am_l x :: st) h K) : Rn d i pc ls st h K := rn_go f (by unfold in_lload; rw [e]) k
theorem rw_aload {g nx : Nat} {x : Nat} (f : am_fetch i pc = some (in_aload g nx)) (e : ls[g]? = some (am_r x)) (k : Rn d i nx ls (am_r x :: st) h K) : Rn d i pc ls st h K := rn_go f (by unfold in_aload; rw [e]) k
theorem rw_istore {g nx : Nat} {x : Int32} {ls' : List am_V} (f : am_fetch i pc = some (in_istore g nx)) (hl : Nat.blt g ls.length = true) (e : am_put ls g (am_i x) = ls') (k : Rn d i nx ls' st h K) : Rn d i pc ls (am_i x :: st) h K := by
  subst e
  exact rn_go f (by unfold in_istore; dsimp only; rw [if_pos (by rw [← Nat.blt_eq]; exact hl)]) k
theorem rw_lstore {g nx : Nat} {x : Int64} {ls' : List am_V} (f : am_fetch i pc = some (in_lstore g nx)) (hl : Nat.blt (g + 1) ls.length = true) (e : am_putL ls g (am_l x) = ls') (k : Rn d i nx ls' st h K) : Rn d i pc ls (am_l x :: st) h K := by
  subst e
  exact rn_go f (by unfold in_lstore; dsimp only; rw [if_pos (by rw [← Nat.blt_eq]; exact hl)]) k
theorem rw_astore {g nx : Nat} {x : Nat} {ls' : List am_V} (f : am_fetch i pc = some (in_astore g nx)) (hl : Nat.blt g ls.length = true) (e : am_put ls g (am_r x) = ls') (k : Rn d i nx ls' st h K) : Rn d i pc ls (am_r x :: st) h K := by
  subst e
  exact rn_go f (by unfold in_astore; dsimp only; rw [if_pos (by rw [← Nat.blt_eq]; exact hl)]) k
theorem rw_iinc {g nx : Nat} {v x : Int32} {ls' : List am_V} (f : am_fetch i pc = some (in_iinc g v nx)) (e0 : ls[g]? = some (am_i x)) (e : am_put ls g (am_i (x + v)) = ls') (k : Rn d i nx ls' st h K) : Rn d i pc ls st h K := by
  subst e
  exact rn_go f (by unfold in_iinc; rw [e0]) k
theorem rw_bin {g : Int32 → Int32 → Int32} {nx : Nat} {x y : Int32} (f : am_fetch i pc = some (in_bin g nx)) (k : Rn d i nx ls (am_i (g x y) :: st) h K) : Rn d i pc ls (am_i y :: am_i x :: st) h K := rn_go f rfl k
theorem rw_bin0 {g : Int32 → Int32 → Int32} {nx : Nat} {x y : Int32} (f : am_fetch i pc = some (in_bin0 g nx)) (hy : ¬ y = 0) (k : Rn d i nx ls (am_i (g x y) :: st) h K) : Rn d i pc ls (am_i y :: am_i x :: st) h K := rn_go f (by unfold in_bin0; dsimp only; rw [if_neg hy]) k
theorem rw_un {g : Int32 → Int32} {nx : Nat} {x : Int32} (f : am_fetch i pc = some (in_un g nx)) (k : Rn d i nx ls (am_i (g x) :: st) h K) : Rn d i pc ls (am_i x :: st) h K := rn_go f rfl k
theorem rw_lbin {g : Int64 → Int64 → Int64} {nx : Nat} {x y : Int64} (f : am_fetch i pc = some (in_lbin g nx)) (k : Rn d i nx ls (am_l (g x y) :: st) h K) : Rn d i pc ls (am_l y :: am_l x :: st) h K := rn_go f rfl k
theorem rw_lbin0 {g : Int64 → Int64 → Int64} {nx : Nat} {x y : Int64} (f : am_fetch i pc = some (in_lbin0 g nx)) (hy : ¬ y = 0) (k : Rn d i nx ls (am_l (g x y) :: st) h K) : Rn d i pc ls (am_l y :: am_l x :: st) h K := rn_go f (by unfold in_lbin0; dsimp only; rw [if_neg hy]) k
theorem rw_lsh {nx : Nat} {x : Int64} {y : Int32} (f : am_fetch i pc = some (in_lsh nx)) (k : Rn d i nx ls (am_l (x <<< (y.toInt64 &&& 63)) :: st) h K) : Rn d i pc ls (am_i y :: am_l x :: st) h K := rn_go f rfl k
theorem rw_lcmp {nx : Nat} {x y : Int64} (f : am_fetch i pc = some (in_lcmp nx)) (k : Rn d i nx ls (am_i (lg_cmp x y) :: st) h K) : Rn d i pc ls (am_l y :: am_l x :: st) h K := rn_go f rfl k
theorem rw_i2l {nx : Nat} {x : Int32} (f : am_fetch i pc = some (in_i2l nx)) (k : Rn d i nx ls (am_l x.toInt64 :: st) h K) : Rn d i pc ls (am_i x :: st) h K := rn_go f rfl k
theorem rw_popi {nx : Nat} {x : Int32} (f : am_fetch i pc = some (in_pop nx)) (k : Rn d i nx ls st h K) : Rn d i pc ls (am_i x :: st) h K := rn_go f rfl k
theorem rw_popr {nx x : Nat} (f : am_fetch i pc = some (in_pop nx)) (k : Rn d i nx ls st h K) : Rn d i pc ls (am_r x :: st) h K := rn_go f rfl k
theorem rw_dupi {nx : Nat} {x : Int32} (f : am_fetch i pc = some (in_dup nx)) (k : Rn d i nx ls (am_i x :: am_i x :: st) h K) : Rn d i pc ls (am_i x :: st) h K := rn_go f rfl k
theorem rw_dupr {nx x : Nat} (f : am_fetch i pc = some (in_dup nx)) (k : Rn d i nx ls (am_r x :: am_r x :: st) h K) : Rn d i pc ls (am_r x :: st) h K := rn_go f rfl k
theorem rw_dupx1i {nx y : Nat} {x : Int32} (f : am_fetch i pc = some (in_dupx1 nx)) (k : Rn d i nx ls (am_i x :: am_r y :: am_i x :: st) h K) : Rn d i pc ls (am_i x :: am_r y :: st) h K := rn_go f rfl k
theorem rw_dupx1r {nx y x : Nat} (f : am_fetch i pc = some (in_dupx1 nx)) (k : Rn d i nx ls (am_r x :: am_r y :: am_r x :: st) h K) : Rn d i pc ls (am_r x :: am_r y :: st) h K := rn_go f rfl k
theorem rw_dup2 {nx y : Nat} {x : Int32} (f : am_fetch i pc = some (in_dup2 nx)) (k : Rn d i nx ls (am_i x :: am_r y :: am_i x :: am_r y :: st) h K) : Rn d i pc ls (am_i x :: am_r y :: st) h K := rn_go f rfl k
theorem rw_if {c : Int32 → Bool} {tgt nx : Nat} {x : Int32} (f : am_fetch i pc = some (in_if c tgt nx)) (kt : c x = true → Rn d i tgt ls st h K) (kf : c x = false → Rn d i nx ls st h K) : Rn d i pc ls (am_i x :: st) h K := by
  cases hc : c x with
  | true => exact rn_go f (by unfold in_if; dsimp only; rw [hc]; rfl) (kt hc)
  | false => exact rn_go f (by unfold in_if; dsimp only; rw [hc]; rfl) (kf hc)
theorem rw_icmp {c : Int32 → Int32 → Bool} {tgt nx : Nat} {x y : Int32} (f : am_fetch i pc = some (in_icmp c tgt nx)) (kt : c x y = true → Rn d i tgt ls st h K) (kf : c x y = false → Rn d i nx ls st h K) : Rn d i pc ls (am_i y :: am_i x :: st) h K := by
  cases hc : c x y with
  | true => exact rn_go f (by unfold in_icmp; dsimp only; rw [hc]; rfl) (kt hc)
  | false => exact rn_go f (by unfold in_icmp; dsimp only; rw [hc]; rfl) (kf hc)
/-- the branch is known: taken, not taken -/
theorem rw_ifT {c : Int32 → Bool} {tgt nx : Nat} {x : Int32} (f : am_fetch i pc = some (in_if c tgt nx)) (hc : c x = true) (k : Rn d i tgt ls st h K) : Rn d i pc ls (am_i x :: st) h K := rw_if f (fun _ => k) (fun e => by rw [hc] at e; cases e)
theorem rw_ifF {c : Int32 → Bool} {tgt nx : Nat} {x : Int32} (f : am_fetch i pc = some (in_if c tgt nx)) (hc : c x = false) (k : Rn d i nx ls st h K) : Rn d i pc ls (am_i x :: st) h K := rw_if f (fun e => by rw [hc] at e; cases e) (fun _ => k)
theorem rw_icmpT {c : Int32 → Int32 → Bool} {tgt nx : Nat} {x y : Int32} (f : am_fetch i pc = some (in_icmp c tgt nx)) (hc : c x y = true) (k : Rn d i tgt ls st h K) : Rn d i pc ls (am_i y :: am_i x :: st) h K := rw_icmp f (fun _ => k) (fun e => by rw [hc] at e; cases e)
theorem rw_icmpF {c : Int32 → Int32 → Bool} {tgt nx : Nat} {x y : Int32} (f : am_fetch i pc = some (in_icmp c tgt nx)) (hc : c x y = false) (k : Rn d i nx ls st h K) : Rn d i pc ls (am_i y :: am_i x :: st) h K := rw_icmp f (fun e => by rw [hc] at e; cases e) (fun _ => k)
-- the six comparisons, with two and with nought: their branches as props
theorem rw_eq {tgt nx : Nat} {x y : Int32} (f : am_fetch i pc = some (in_icmp c_eq tgt nx)) (kt : x = y → Rn d i tgt ls st h K) (kf : ¬ x = y → Rn d i nx ls st h K) : Rn d i pc ls (am_i y :: am_i x :: st) h K := rw_icmp f (fun e => kt (of_decide_eq_true e)) (fun e => kf (of_decide_eq_false e))
theorem rw_ne {tgt nx : Nat} {x y : Int32} (f : am_fetch i pc = some (in_icmp c_ne tgt nx)) (kt : ¬ x = y → Rn d i tgt ls st h K) (kf : x = y → Rn d i nx ls st h K) : Rn d i pc ls (am_i y :: am_i x :: st) h K := rw_icmp f (fun e => kt (of_decide_eq_true e)) (fun e => kf (Decidable.of_not_not (of_decide_eq_false e)))
theorem rw_lt {tgt nx : Nat} {x y : Int32} (f : am_fetch i pc = some (in_icmp c_lt tgt nx)) (kt : x < y → Rn d i tgt ls st h K) (kf : ¬ x < y → Rn d i nx ls st h K) : Rn d i pc ls (am_i y :: am_i x :: st) h K := rw_icmp f (fun e => kt (of_decide_eq_true e)) (fun e => kf (of_decide_eq_false e))
theorem rw_ge {tgt nx : Nat} {x y : Int32} (f : am_fetch i pc = some (in_icmp c_ge tgt nx)) (kt : y ≤ x → Rn d i tgt ls st h K) (kf : ¬ y ≤ x → Rn d i nx ls st h K) : Rn d i pc ls (am_i y :: am_i x :: st) h K := rw_icmp f (fun e => kt (of_decide_eq_true e)) (fun e => kf (of_decide_eq_false e))
theorem rw_gt {tgt nx : Nat} {x y : Int32} (f : am_fetch i pc = some (in_icmp c_gt tgt nx)) (kt : y < x → Rn d i tgt ls st h K) (kf : ¬ y < x → Rn d i nx ls st h K) : Rn d i pc ls (am_i y :: am_i x :: st) h K := rw_icmp f (fun e => kt (of_decide_eq_true e)) (fun e => kf (of_decide_eq_false e))
theorem rw_le {tgt nx : Nat} {x y : Int32} (f : am_fetch i pc = some (in_icmp c_le tgt nx)) (kt : x ≤ y → Rn d i tgt ls st h K) (kf : ¬ x ≤ y → Rn d i nx ls st h K) : Rn d i pc ls (am_i y :: am_i x :: st) h K := rw_icmp f (fun e => kt (of_decide_eq_true e)) (fun e => kf (of_decide_eq_false e))
theorem rw_eq0 {tgt nx : Nat} {x : Int32} (f : am_fetch i pc = some (in_if c_eq0 tgt nx)) (kt : x = 0 → Rn d i tgt ls st h K) (kf : ¬ x = 0 → Rn d i nx ls st h K) : Rn d i pc ls (am_i x :: st) h K := rw_if f (fun e => kt (of_decide_eq_true e)) (fun e => kf (of_decide_eq_false e))
theorem rw_ne0 {tgt nx : Nat} {x : Int32} (f : am_fetch i pc = some (in_if c_ne0 tgt nx)) (kt : ¬ x = 0 → Rn d i tgt ls st h K) (kf : x = 0 → Rn d i nx ls st h K) : Rn d i pc ls (am_i x :: st) h K := rw_if f (fun e => kt (of_decide_eq_true e)) (fun e => kf (Decidable.of_not_not (of_decide_eq_false e)))
theorem rw_lt0 {tgt nx : Nat} {x : Int32} (f : am_fetch i pc = some (in_if c_lt0 tgt nx)) (kt : x < 0 → Rn d i tgt ls st h K) (kf : ¬ x < 0 → Rn d i nx ls st h K) : Rn d i pc ls (am_i x :: st) h K := rw_if f (fun e => kt (of_decide_eq_true e)) (fun e => kf (of_decide_eq_false e))
theorem rw_ge0 {tgt nx : Nat} {x : Int32} (f : am_fetch i pc = some (in_if c_ge0 tgt nx)) (kt : 0 ≤ x → Rn d i tgt ls st h K) (kf : ¬ 0 ≤ x → Rn d i nx ls st h K) : Rn d i pc ls (am_i x :: st) h K := rw_if f (fun e => kt (of_decide_eq_true e)) (fun e => kf (of_decide_eq_false e))
theorem rw_gt0 {tgt nx : Nat} {x : Int32} (f : am_fetch i pc = some (in_if c_gt0 tgt nx)) (kt : 0 < x → Rn d i tgt ls st h K) (kf : ¬ 0 < x → Rn d i nx ls st h K) : Rn d i pc ls (am_i x :: st) h K := rw_if f (fun e => kt (of_decide_eq_true e)) (fun e => kf (of_decide_eq_false e))
theorem rw_le0 {tgt nx : Nat} {x : Int32} (f : am_fetch i pc = some (in_if c_le0 tgt nx)) (kt : x ≤ 0 → Rn d i tgt ls st h K) (kf : ¬ x ≤ 0 → Rn d i nx ls st h K) : Rn d i pc ls (am_i x :: st) h K := rw_if f (fun e => kt (of_decide_eq_true e)) (fun e => kf (of_decide_eq_false e))
theorem rw_null {tgt nx x : Nat} (f : am_fetch i pc = some (in_ifnull tgt nx)) (kt : x = 0 → Rn d i tgt ls st h K) (kf : ¬ x = 0 → Rn d i nx ls st h K) : Rn d i pc ls (am_r x :: st) h K := by
  cases hc : Nat.beq x 0 with
  | true => exact rn_go f (by unfold in_ifnull; dsimp only; rw [hc]; rfl) (kt (Nat.eq_of_beq_eq_true hc))
  | false => exact rn_go f (by unfold in_ifnull; dsimp only; rw [hc]; rfl) (kf (Nat.ne_of_beq_eq_false hc))
theorem rw_acmpne {tgt nx x y : Nat} (f : am_fetch i pc = some (in_acmpne tgt nx)) (kt : ¬ x = y → Rn d i tgt ls st h K) (kf : x = y → Rn d i nx ls st h K) : Rn d i pc ls (am_r y :: am_r x :: st) h K := by
  cases hc : Nat.beq x y with
  | true => exact rn_go f (by unfold in_acmpne; dsimp only; rw [hc]; rfl) (kf (Nat.eq_of_beq_eq_true hc))
  | false => exact rn_go f (by unfold in_acmpne; dsimp only; rw [hc]; rfl) (kt (Nat.ne_of_beq_eq_false hc))
theorem rw_goto {tgt : Nat} (f : am_fetch i pc = some (in_goto tgt)) (k : Rn d i tgt ls st h K) : Rn d i pc ls st h K := rn_go f rfl k
theorem rw_switch {tb : List (Int32 × Nat)} {df : Nat} {x : Int32} (f : am_fetch i pc = some (in_switch tb df)) (k : Rn d i (am_sw tb df x) ls st h K) : Rn d i pc ls (am_i x :: st) h K := rn_go f rfl k
theorem rw_getI {ts : List Nat} {g nx a t u : Nat} (f : am_fetch i pc = some (in_getI ts g nx)) (hk : hp_K h a = (t, u)) (k : Rn d i nx ls (am_i (hp_I h a g) :: st) h K) (ht : ts.contains t = true := by rfl) : Rn d i pc ls (am_r a :: st) h K := rn_go f (by unfold in_getI; dsimp only; rw [hk, ht]; rfl) k
theorem rw_getL {ts : List Nat} {g nx a t u : Nat} (f : am_fetch i pc = some (in_getL ts g nx)) (hk : hp_K h a = (t, u)) (k : Rn d i nx ls (am_l (hp_L h a g) :: st) h K) (ht : ts.contains t = true := by rfl) : Rn d i pc ls (am_r a :: st) h K := rn_go f (by unfold in_getL; dsimp only; rw [hk, ht]; rfl) k
/-- a reference's field: what it holds is told at once -/
theorem rw_getR {ts : List Nat} {g nx a t u x : Nat} (f : am_fetch i pc = some (in_getR ts g nx)) (hk : hp_K h a = (t, u)) (hx : hp_R h a g = x) (k : Rn d i nx ls (am_r x :: st) h K) (ht : ts.contains t = true := by rfl) : Rn d i pc ls (am_r a :: st) h K := by
  subst hx
  exact rn_go f (by unfold in_getR; dsimp only; rw [hk, ht]; rfl) k
theorem rw_putI {ts : List Nat} {g nx a t u : Nat} {x : Int32} (f : am_fetch i pc = some (in_putI ts g nx)) (hk : hp_K h a = (t, u)) (k : Rn d i nx ls st (hp_sI h a g x) K) (ht : ts.contains t = true := by rfl) : Rn d i pc ls (am_i x :: am_r a :: st) h K := rn_go f (by unfold in_putI; dsimp only; rw [hk, ht]; rfl) k
theorem rw_putZ {ts : List Nat} {g nx a t u : Nat} {x : Int32} (f : am_fetch i pc = some (in_putZ ts g nx)) (hk : hp_K h a = (t, u)) (hx : x = 0 ∨ x = 1) (k : Rn d i nx ls st (hp_sI h a g x) K) (ht : ts.contains t = true := by rfl) : Rn d i pc ls (am_i x :: am_r a :: st) h K := rn_go f (by unfold in_putZ; dsimp only; rw [hk, ht, if_pos hx]; rfl) k
theorem rw_putL {ts : List Nat} {g nx a t u : Nat} {x : Int64} (f : am_fetch i pc = some (in_putL ts g nx)) (hk : hp_K h a = (t, u)) (k : Rn d i nx ls st (hp_sL h a g x) K) (ht : ts.contains t = true := by rfl) : Rn d i pc ls (am_l x :: am_r a :: st) h K := rn_go f (by unfold in_putL; dsimp only; rw [hk, ht]; rfl) k
theorem rw_putR {ts : List Nat} {g nx a t u x : Nat} (f : am_fetch i pc = some (in_putR ts g nx)) (hk : hp_K h a = (t, u)) (k : Rn d i nx ls st (hp_sR h a g x) K) (ht : ts.contains t = true := by rfl) : Rn d i pc ls (am_r x :: am_r a :: st) h K := rn_go f (by unfold in_putR; dsimp only; rw [hk, ht]; rfl) k
theorem rw_xald {ts : List Nat} {nx a t u : Nat} {x : Int32} (f : am_fetch i pc = some (in_xald ts nx)) (hk : hp_K h a = (t, u)) (hx : vp_in x u) (k : Rn d i nx ls (am_i (hp_I h a x.toNatClampNeg) :: st) h K) (ht : ts.contains t = true := by rfl) : Rn d i pc ls (am_i x :: am_r a :: st) h K := rn_go f (by unfold in_xald; dsimp only; rw [hk, ht]; dsimp only; rw [if_neg hx]; rfl) k
theorem rw_lald {nx a u : Nat} {x : Int32} (f : am_fetch i pc = some (in_lald nx)) (hk : hp_K h a = (4, u)) (hx : vp_in x u) (k : Rn d i nx ls (am_l (hp_L h a x.toNatClampNeg) :: st) h K) : Rn d i pc ls (am_i x :: am_r a :: st) h K := rn_go f (by unfold in_lald; dsimp only; rw [hk]; dsimp only; rw [if_neg hx]; rfl) k
theorem rw_aald {ts : List Nat} {nx a t u y : Nat} {x : Int32} (f : am_fetch i pc = some (in_aald ts nx)) (hk : hp_K h a = (t, u)) (hx : vp_in x u) (hy : hp_R h a x.toNatClampNeg = y) (k : Rn d i nx ls (am_r y :: st) h K) (ht : ts.contains t = true := by rfl) : Rn d i pc ls (am_i x :: am_r a :: st) h K := by
  subst hy
  exact rn_go f (by unfold in_aald; dsimp only; rw [hk, ht]; dsimp only; rw [if_neg hx]; rfl) k
theorem rw_iast {nx a u : Nat} {x v : Int32} (f : am_fetch i pc = some (in_iast nx)) (hk : hp_K h a = (1, u)) (hx : vp_in x u) (k : Rn d i nx ls st (hp_sI h a x.toNatClampNeg v) K) : Rn d i pc ls (am_i v :: am_i x :: am_r a :: st) h K := rn_go f (by unfold in_iast; dsimp only; rw [hk]; dsimp only; rw [if_neg hx]; rfl) k
theorem rw_bast {nx a u : Nat} {x v : Int32} (f : am_fetch i pc = some (in_bast nx)) (hk : hp_K h a = (2, u)) (hx : vp_in x u) (k : Rn d i nx ls st (hp_sI h a x.toNatClampNeg (vp_nar .byte v)) K) : Rn d i pc ls (am_i v :: am_i x :: am_r a :: st) h K := rn_go f (by unfold in_bast; dsimp only; rw [hk]; dsimp only; rw [if_neg hx, if_pos rfl]) k
theorem rw_zast {nx a u : Nat} {x v : Int32} (f : am_fetch i pc = some (in_bast nx)) (hk : hp_K h a = (3, u)) (hx : vp_in x u) (k : Rn d i nx ls st (hp_sI h a x.toNatClampNeg (vp_nar .boolean v)) K) : Rn d i pc ls (am_i v :: am_i x :: am_r a :: st) h K := rn_go f (by unfold in_bast; dsimp only; rw [hk]; dsimp only; rw [if_neg hx, if_neg (by decide), if_pos rfl]) k
theorem rw_last {nx a u : Nat} {x : Int32} {v : Int64} (f : am_fetch i pc = some (in_last nx)) (hk : hp_K h a = (4, u)) (hx : vp_in x u) (k : Rn d i nx ls st (hp_sL h a x.toNatClampNeg v) K) : Rn d i pc ls (am_l v :: am_i x :: am_r a :: st) h K := rn_go f (by unfold in_last; dsimp only; rw [hk]; dsimp only; rw [if_neg hx]; rfl) k
theorem rw_aast {nx a u y : Nat} {x : Int32} (f : am_fetch i pc = some (in_aast nx)) (hk : hp_K h a = (5, u)) (hx : vp_in x u) (hy : y = 0 ∨ (100 ≤ (hp_K h y).1 ∧ (hp_K h y).1 < 200)) (k : Rn d i nx ls st (hp_sR h a x.toNatClampNeg y) K) : Rn d i pc ls (am_r y :: am_i x :: am_r a :: st) h K := rn_go f (by unfold in_aast; dsimp only; rw [hk]; dsimp only; rw [if_neg hx, if_pos (Or.inl ⟨rfl, hy⟩)]) k
theorem rw_kast {nx a u y : Nat} {x : Int32} (f : am_fetch i pc = some (in_aast nx)) (hk : hp_K h a = (6, u)) (hx : vp_in x u) (hy : (hp_K h y).1 = 108) (k : Rn d i nx ls st (hp_sR h a x.toNatClampNeg y) K) : Rn d i pc ls (am_r y :: am_i x :: am_r a :: st) h K := rn_go f (by unfold in_aast; dsimp only; rw [hk]; dsimp only; rw [if_neg hx, if_pos (Or.inr ⟨rfl, hy⟩)]) k
theorem rw_alen {nx a t u : Nat} (f : am_fetch i pc = some (in_alen nx)) (hk : hp_K h a = (t, u)) (k : Rn d i nx ls (am_i (Int32.ofNat u) :: st) h K) (ht : ([1, 2, 3, 4, 5, 6, 11, 12, 15, 17] : List Nat).contains t = true := by rfl) : Rn d i pc ls (am_r a :: st) h K := rn_go f (by unfold in_alen; dsimp only; rw [hk]; dsimp only; rw [ht]; rfl) k
theorem rw_new {t m nx : Nat} (f : am_fetch i pc = some (in_new t m nx)) (k : Rn d i nx ls (am_r (hp_n h) :: st) (hp_new h t 0 m) K) : Rn d i pc ls st h K := rn_go f rfl k
theorem rw_newex {m nx : Nat} (f : am_fetch i pc = some (in_newex m nx)) (hs : Nat.ble (am_sum st) 8 = true) (k : Rn d i nx ls (am_r (hp_n h) :: st) (hp_new h 103 0 m) K) : Rn d i pc ls st h K := rn_go f (by unfold in_newex; rw [if_pos (Nat.le_of_ble_eq_true hs)]) k
theorem rw_newa {t n nx : Nat} {x : Int32} (f : am_fetch i pc = some (in_newa t nx)) (hn : x.toNatClampNeg = n) (hx : ¬ (x < 0 ∨ 10000 < n)) (k : Rn d i nx ls (am_r (hp_n h) :: st) (hp_new h t n n) K) : Rn d i pc ls (am_i x :: st) h K := by
  subst hn
  exact rn_go f (by unfold in_newa; dsimp only; rw [if_neg hx]) k
theorem rw_cast {ts : List Nat} {nx a t u : Nat} (f : am_fetch i pc = some (in_cast ts nx)) (hk : hp_K h a = (t, u)) (k : Rn d i nx ls (am_r a :: st) h K) (ht : ts.contains t = true := by rfl) : Rn d i pc ls (am_r a :: st) h K := rn_go f (by unfold in_cast; dsimp only; rw [hk]; dsimp only; rw [ht, Bool.or_true]; rfl) k
theorem rw_cast0 {ts : List Nat} {nx : Nat} (f : am_fetch i pc = some (in_cast ts nx)) (k : Rn d i nx ls (am_r 0 :: st) h K) : Rn d i pc ls (am_r 0 :: st) h K := rn_go f (by unfold in_cast; rfl) k
theorem rw_obj {nx a : Nat} (f : am_fetch i pc = some (in_obj nx)) (ha : ¬ a = 0) (hs : Nat.ble (am_sum st) 8 = true) (k : Rn d i nx ls st h K) : Rn d i pc ls (am_r a :: st) h K := rn_go f (by unfold in_obj; dsimp only; rw [if_pos ⟨ha, Nat.le_of_ble_eq_true hs⟩]) k
theorem rw_getO {ts : List Nat} {nx a t u x : Nat} (f : am_fetch i pc = some (in_getO ts nx)) (hk : hp_K h a = (t, u)) (hx : hp_R h a 1 = x) (h0 : ¬ x = 0) (k : Rn d i nx ls (am_r x :: st) h K) (ht : ts.contains t = true := by rfl) : Rn d i pc ls (am_r a :: st) h K := by
  subst hx
  exact rn_go f (by unfold in_getO; dsimp only; rw [hk, ht, if_neg h0]; rfl) k
theorem rw_putO {ts : List Nat} {nx a t u x : Nat} (f : am_fetch i pc = some (in_putO ts nx)) (hk : hp_K h a = (t, u)) (h0 : hp_R h a (am_oth t) = x) (k : Rn d i nx ls st (hp_sR h a 1 x) K) (ht : ts.contains t = true := by rfl) : Rn d i pc ls (am_r x :: am_r a :: st) h K := rn_go f (by unfold in_putO; dsimp only; rw [hk, ht]; dsimp only; rw [if_pos h0]; rfl) k
theorem rw_putOO {ts : List Nat} {g nx a t u x : Nat} (f : am_fetch i pc = some (in_putOO ts g nx)) (hk : hp_K h a = (t, u)) (h0 : hp_R h a 1 = 0) (k : Rn d i nx ls st (hp_sR h a g x) K) (ht : ts.contains t = true := by rfl) : Rn d i pc ls (am_r x :: am_r a :: st) h K := rn_go f (by unfold in_putOO; dsimp only; rw [hk, ht, if_pos h0]; rfl) k
theorem rw_acpyI {nx a b ua ub : Nat} {n p q : Int32} (f : am_fetch i pc = some (in_acpy nx)) (ha : hp_K h a = (1, ua)) (hb : hp_K h b = (1, ub)) (hr : ¬ (n < 0 ∨ p < 0 ∨ q < 0 ∨ ua < p.toNatClampNeg + n.toNatClampNeg ∨ ub < q.toNatClampNeg + n.toNatClampNeg)) (k : Rn d i nx ls [] (am_cpy h.1 a p.toNatClampNeg b q.toNatClampNeg n.toNatClampNeg, h.2) K) : Rn d i pc ls [am_i n, am_i q, am_r b, am_i p, am_r a] h K := rn_go f (by unfold in_acpy; dsimp only; rw [ha, hb]; dsimp only; rw [if_neg hr, if_pos ⟨rfl, rfl⟩]) k
theorem rw_acpyL {nx a b ua ub : Nat} {n p q : Int32} (f : am_fetch i pc = some (in_acpy nx)) (ha : hp_K h a = (4, ua)) (hb : hp_K h b = (4, ub)) (hr : ¬ (n < 0 ∨ p < 0 ∨ q < 0 ∨ ua < p.toNatClampNeg + n.toNatClampNeg ∨ ub < q.toNatClampNeg + n.toNatClampNeg)) (k : Rn d i nx ls [] (h.1, am_cpy h.2.1 a p.toNatClampNeg b q.toNatClampNeg n.toNatClampNeg, h.2.2) K) : Rn d i pc ls [am_i n, am_i q, am_r b, am_i p, am_r a] h K := rn_go f (by unfold in_acpy; dsimp only; rw [ha, hb]; dsimp only; rw [if_neg hr, if_neg (by decide), if_pos ⟨rfl, rfl⟩]) k
theorem rw_acpyR {nx a b ua ub : Nat} {n p q : Int32} (f : am_fetch i pc = some (in_acpy nx)) (ha : hp_K h a = (5, ua)) (hb : hp_K h b = (5, ub)) (hr : ¬ (n < 0 ∨ p < 0 ∨ q < 0 ∨ ua < p.toNatClampNeg + n.toNatClampNeg ∨ ub < q.toNatClampNeg + n.toNatClampNeg)) (ho : am_objs h a p.toNatClampNeg n.toNatClampNeg) (k : Rn d i nx ls [] (h.1, h.2.1, am_cpy h.2.2.1 a p.toNatClampNeg b q.toNatClampNeg n.toNatClampNeg, h.2.2.2) K) : Rn d i pc ls [am_i n, am_i q, am_r b, am_i p, am_r a] h K := rn_go f (by unfold in_acpy; dsimp only; rw [ha, hb]; dsimp only; rw [if_neg hr, if_neg (by decide), if_neg (by decide), if_pos ⟨rfl, rfl, am_objs_iff.mpr ho⟩]) k
theorem rw_getCls {nx a u : Nat} (f : am_fetch i pc = some (in_getCls nx)) (ha : hp_K h a = (5, u)) (hs : Nat.ble (am_sum st) 8 = true) (k : Rn d i nx ls (am_r (hp_R h 0 5) :: st) h K) : Rn d i pc ls (am_r a :: st) h K := rn_go f (by unfold in_getCls; dsimp only; rw [ha, if_pos ⟨rfl, Nat.le_of_ble_eq_true hs⟩]) k
theorem rw_binR {nx : Nat} {g : Int32 → Int32 → Int32} {x y : Int32} (f : am_fetch i pc = some (in_binR g nx)) (hs : Nat.ble (am_sum st) 8 = true) (k : Rn d i nx ls (am_i (g x y) :: st) h K) : Rn d i pc ls (am_i y :: am_i x :: st) h K := rn_go f (by unfold in_binR; dsimp only; rw [if_pos (Nat.le_of_ble_eq_true hs)]) k
theorem rw_strV {nx a v : Nat} (f : am_fetch i pc = some (in_strV nx)) (hv : hp_R h 0 (1000 + a) = v) (h0 : ¬ v = 0) (k : Rn d i nx ls (am_r v :: st) h K) : Rn d i pc ls (am_r a :: st) h K := by
  subst hv
  exact rn_go f (by unfold in_strV; dsimp only; rw [if_neg h0]) k
theorem rw_strC {nx a v : Nat} (f : am_fetch i pc = some (in_strC nx)) (hv : hp_R h 0 (1000 + a) = v) (h0 : ¬ v = 0) (k : Rn d i nx ls (am_i 0 :: st) h K) : Rn d i pc ls (am_r a :: st) h K := by
  subst hv
  exact rn_go f (by unfold in_strC; dsimp only; rw [if_neg h0]) k
-- ends
theorem rw_iret {k' : Int32 → am_H → Prop} {x : Int32} (f : am_fetch i pc = some in_iret) (k : k' x h) : Rn d i pc ls [am_i x] h (kI k') := rn_ret f rfl ⟨x, rfl, k⟩
theorem rw_zret {k' : Int32 → am_H → Prop} {x : Int32} (f : am_fetch i pc = some in_zret) (hx : x = 0 ∨ x = 1) (k : k' x h) : Rn d i pc ls [am_i x] h (kI k') := rn_ret f (by unfold in_zret; dsimp only; rw [if_pos hx]) ⟨x, rfl, k⟩
theorem rw_nret {ty : FieldType} {k' : Int32 → am_H → Prop} {x : Int32} (f : am_fetch i pc = some (in_nret ty)) (hx : vp_nar ty x = x) (k : k' x h) : Rn d i pc ls [am_i x] h (kI k') := rn_ret f (by unfold in_nret; dsimp only; rw [if_pos hx]) ⟨x, rfl, k⟩
theorem rw_lret {k' : Int64 → am_H → Prop} {x : Int64} (f : am_fetch i pc = some in_lret) (k : k' x h) : Rn d i pc ls [am_l x] h (kL k') := rn_ret f rfl ⟨x, rfl, k⟩
theorem rw_aret {k' : Nat → am_H → Prop} {x : Nat} (f : am_fetch i pc = some in_aret) (k : k' x h) : Rn d i pc ls [am_r x] h (kR k') := rn_ret f rfl ⟨x, rfl, k⟩
theorem rw_vret {k' : am_H → Prop} (f : am_fetch i pc = some in_vret) (k : k' h) : Rn d i pc ls [] h (kV k') := rn_ret f rfl ⟨rfl, k⟩
-- the same within contracts that may throw
theorem rx_iret {k' : Int32 → am_H → Prop} {x' : Nat → am_H → Prop} {x : Int32} (f : am_fetch i pc = some in_iret) (k : k' x h) : Rn d i pc ls [am_i x] h (kX (kI k') x') := rn_ret f rfl (Or.inl ⟨x, rfl, k⟩)
theorem rx_lret {k' : Int64 → am_H → Prop} {x' : Nat → am_H → Prop} {x : Int64} (f : am_fetch i pc = some in_lret) (k : k' x h) : Rn d i pc ls [am_l x] h (kX (kL k') x') := rn_ret f rfl (Or.inl ⟨x, rfl, k⟩)
theorem rx_aret {k' : Nat → am_H → Prop} {x' : Nat → am_H → Prop} {x : Nat} (f : am_fetch i pc = some in_aret) (k : k' x h) : Rn d i pc ls [am_r x] h (kX (kR k') x') := rn_ret f rfl (Or.inl ⟨x, rfl, k⟩)
theorem rx_vret {k' : am_H → Prop} {x' : Nat → am_H → Prop} (f : am_fetch i pc = some in_vret) (k : k' h) : Rn d i pc ls [] h (kX (kV k') x') := rn_ret f rfl (Or.inl ⟨rfl, k⟩)
theorem rx_throw {k' : am_R → am_H → Prop} {x' : Nat → am_H → Prop} {q u : Nat} (f : am_fetch i pc = some in_throw) (hh : am_hnd i pc = none) (hk : hp_K h q = (103, u)) (k : x' q h) : Rn d i pc ls (am_r q :: st) h (kX k' x') := rn_thr f hh (by unfold in_throw; dsimp only; rw [hk, if_pos rfl]) (Or.inr ⟨q, rfl, k⟩)
-- calls: the goal behind is the callee's, whose end goes on here
theorem rn_ki {j : Nat} {st' : List am_V} {nx : Nat} {l0 : List am_V} {fl : Bool} (k : Rn d j 0 l0 [] h (kI (fun x h' => Rn (d + 1) i nx ls (am_i x :: st') h' K))) : Rn d j 0 l0 [] h (rn_K fl (d + 1) i pc ls st' nx K) := rn_mono k (fun r h' ⟨x, e, q⟩ => by subst e; exact q)
theorem rn_kl {j : Nat} {st' : List am_V} {nx : Nat} {l0 : List am_V} {fl : Bool} (k : Rn d j 0 l0 [] h (kL (fun x h' => Rn (d + 1) i nx ls (am_l x :: st') h' K))) : Rn d j 0 l0 [] h (rn_K fl (d + 1) i pc ls st' nx K) := rn_mono k (fun r h' ⟨x, e, q⟩ => by subst e; exact q)
theorem rn_kr {j : Nat} {st' : List am_V} {nx : Nat} {l0 : List am_V} {fl : Bool} (k : Rn d j 0 l0 [] h (kR (fun x h' => Rn (d + 1) i nx ls (am_r x :: st') h' K))) : Rn d j 0 l0 [] h (rn_K fl (d + 1) i pc ls st' nx K) := rn_mono k (fun r h' ⟨x, e, q⟩ => by subst e; exact q)
theorem rn_kv {j : Nat} {st' : List am_V} {nx : Nat} {l0 : List am_V} {fl : Bool} (k : Rn d j 0 l0 [] h (kV (fun h' => Rn (d + 1) i nx ls st' h' K))) : Rn d j 0 l0 [] h (rn_K fl (d + 1) i pc ls st' nx K) := rn_mono k (fun r h' ⟨e, q⟩ => by subst e; exact q)
/-- a call whose callee may throw, in a method without a handler there whose own contract may throw -/
theorem rn_kx {j : Nat} {st' : List am_V} {nx : Nat} {l0 : List am_V} {K1 : am_R → am_H → Prop} {x' : Nat → am_H → Prop} {k' : am_R → am_H → Prop} (hh : am_hnd i pc = none) (hK : ∀ r h', K1 r h' → rn_K true (d + 1) i pc ls st' nx (kX k' x') r h') (k : Rn d j 0 l0 [] h (kX K1 x')) : Rn d j 0 l0 [] h (rn_K true (d + 1) i pc ls st' nx (kX k' x')) := rn_mono k (fun r h' q => by
  rcases q with q | ⟨q, e, q2⟩
  · exact hK r h' q
  · subst e
    dsimp only [rn_K]
    rw [hh]
    exact ⟨rfl, Or.inr ⟨q, rfl, q2⟩⟩)
theorem rn_hi {st' : List am_V} {nx : Nat} {fl : Bool} : ∀ r h', (kI (fun x h' => Rn d i nx ls (am_i x :: st') h' K)) r h' → rn_K fl d i pc ls st' nx K r h' := fun r h' ⟨x, e, q⟩ => by subst e; exact q
theorem rn_hl {st' : List am_V} {nx : Nat} {fl : Bool} : ∀ r h', (kL (fun x h' => Rn d i nx ls (am_l x :: st') h' K)) r h' → rn_K fl d i pc ls st' nx K r h' := fun r h' ⟨x, e, q⟩ => by subst e; exact q
theorem rn_hr {st' : List am_V} {nx : Nat} {fl : Bool} : ∀ r h', (kR (fun x h' => Rn d i nx ls (am_r x :: st') h' K)) r h' → rn_K fl d i pc ls st' nx K r h' := fun r h' ⟨x, e, q⟩ => by subst e; exact q
theorem rn_hv {st' : List am_V} {nx : Nat} {fl : Bool} : ∀ r h', (kV (fun h' => Rn d i nx ls st' h' K)) r h' → rn_K fl d i pc ls st' nx K r h' := fun r h' ⟨e, q⟩ => by subst e; exact q
theorem rw_callS {j n nx : Nat} {l0 : List am_V} (f : am_fetch i pc = some (in_callS j n nx)) (hn : (Nat.ble n st.length && Nat.ble (am_sum (st.drop n)) 8) = true) (e : am_ent j (st.take n).reverse = l0) (hb : Nat.ble (am_sum (st.take n).reverse) (am_maxL j) = true) (k : Rn d j 0 l0 [] h (rn_K false (d + 1) i pc ls (st.drop n) nx K)) : Rn (d + 1) i pc ls st h K := by
  subst e
  rw [Bool.and_eq_true] at hn
  exact rn_call f (by unfold in_callS; rw [if_pos ⟨Nat.le_of_ble_eq_true hn.1, Nat.le_of_ble_eq_true hn.2⟩]) hb k
theorem rw_callI {j n nx a : Nat} {l0 : List am_V} (f : am_fetch i pc = some (in_callI j n nx)) (ha : am_recv st n = a) (h0 : ¬ a = 0) (hn : Nat.ble (am_sum (st.drop (n + 1))) 8 = true) (e : am_ent j (st.take (n + 1)).reverse = l0) (hb : Nat.ble (am_sum (st.take (n + 1)).reverse) (am_maxL j) = true) (k : Rn d j 0 l0 [] h (rn_K false (d + 1) i pc ls (st.drop (n + 1)) nx K)) : Rn (d + 1) i pc ls st h K := by
  subst e; subst ha
  exact rn_call f (by unfold in_callI; rw [if_pos ⟨h0, Nat.le_of_ble_eq_true hn⟩]) hb k
theorem rw_callV {fl : Bool} {tb : List (Nat × Nat)} {j n nx a t u : Nat} {l0 : List am_V} (f : am_fetch i pc = some (in_callD fl tb n nx)) (ha : am_recv st n = a) (hk : hp_K h a = (t, u)) (h0 : ¬ a = 0) (hj : am_disp tb t = some j) (hn : Nat.ble (am_sum (st.drop (n + 1))) 8 = true) (e : am_ent j (st.take (n + 1)).reverse = l0) (hb : Nat.ble (am_sum (st.take (n + 1)).reverse) (am_maxL j) = true) (k : Rn d j 0 l0 [] h (rn_K fl (d + 1) i pc ls (st.drop (n + 1)) nx K)) : Rn (d + 1) i pc ls st h K := by
  subst e; subst ha
  exact rn_call f (by unfold in_callD; rw [hk]; dsimp only; rw [hj]; dsimp only; rw [if_pos ⟨h0, Nat.le_of_ble_eq_true hn⟩]) hb k
theorem rw_callT {j n nx a v : Nat} {l0 : List am_V} (f : am_fetch i pc = some (in_callT j n nx)) (ha : am_recv st n = a) (hv : hp_R h 0 (1000 + a) = v) (hv0 : ¬ v = 0) (h0 : ¬ a = 0) (hn : Nat.ble (am_sum (st.drop (n + 1))) 8 = true) (e : am_ent j (st.take (n + 1)).reverse = l0) (hb : Nat.ble (am_sum (st.take (n + 1)).reverse) (am_maxL j) = true) (k : Rn d j 0 l0 [] h (rn_K true (d + 1) i pc ls (st.drop (n + 1)) nx K)) : Rn (d + 1) i pc ls st h K := by
  subst e; subst ha; subst hv
  exact rn_call f (by unfold in_callT; rw [if_pos ⟨hv0, h0, Nat.le_of_ble_eq_true hn⟩]) hb k
end Rows
