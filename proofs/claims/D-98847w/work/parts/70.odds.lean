/-! ODDS, purely: longs -/
abbrev gN (n : Nat) : Int64 := Int64.ofNat n
theorem gN_add (a b : Nat) : gN (a + b) = gN a + gN b := Int64.ofNat_add a b
theorem gN_mul (a b : Nat) : gN (a * b) = gN a * gN b := Int64.ofNat_mul a b
theorem gN_toInt {n : Nat} (h : n < 2 ^ 63) : (gN n).toInt = n := Int64.toInt_ofNat_of_lt h
theorem gN_inj {a b : Nat} (ha : a < 2 ^ 63) (hb : b < 2 ^ 63) (h : gN a = gN b) : a = b := by
  have h1 := gN_toInt ha
  rw [h, gN_toInt hb] at h1
  omega
theorem gN_div {a b : Nat} (ha : a < 2 ^ 62) (hb : b < 2 ^ 62) (h0 : 0 < b) : gN a / gN b = gN (a / b) := by
  apply Int64.toInt_inj.mp
  rw [Int64.toInt_div_of_ne_right _ _ (fun e => ?_), gN_toInt (by omega), gN_toInt (by omega), gN_toInt (by have := Nat.div_le_self a b; omega)]
  · rfl
  · have := congrArg Int64.toInt e
    rw [gN_toInt (by omega)] at this
    rw [show (-1 : Int64).toInt = -1 from rfl] at this
    omega
theorem gN_sub {a b : Nat} (h : b ≤ a) : gN a - gN b = gN (a - b) := by
  have : gN (a - b) + gN b = gN a := by rw [← gN_add, Nat.sub_add_cancel h]
  rw [← this, Int64.add_sub_cancel]
theorem gN_mod {a b : Nat} (ha : a < 2 ^ 62) (hb : b < 2 ^ 62) (h0 : 0 < b) : gN a - gN a / gN b * gN b = gN (a % b) := by
  rw [gN_div ha hb h0, ← gN_mul, gN_sub (Nat.div_mul_le_self a b)]
  congr 1
  have := Nat.div_add_mod a b
  rw [Nat.mul_comm] at this
  omega
theorem gN_0 {b : Nat} (hb : b < 2 ^ 63) : gN b = 0 ↔ b = 0 := by
  constructor
  · intro h; exact gN_inj hb (by decide) h
  · intro h; rw [h]; rfl
theorem half_mod {a b : Nat} (hb : 0 < b) (hr : 0 < a % b) : 2 * (b % (a % b)) < b := by
  have h1 : a % b < b := Nat.mod_lt _ hb
  have h2 : b % (a % b) < a % b := Nat.mod_lt _ hr
  have h3 : b % (a % b) ≤ b - a % b := by
    rw [Nat.mod_eq_sub_mod (by omega)]
    exact Nat.mod_le _ _
  omega
theorem lg_cmp_0 (x y : Int64) : lg_cmp x y = 0 ↔ x = y := by
  unfold lg_cmp
  by_cases e : x = y
  · subst e
    rw [if_neg (fun q => Int64.lt_irrefl q), if_pos rfl]
    simp
  · by_cases e2 : x > y
    · rw [if_pos e2]
      exact ⟨fun q => absurd q (by decide), fun q => absurd q e⟩
    · rw [if_neg e2, if_neg e]
      exact ⟨fun q => absurd q (by decide), fun q => absurd q e⟩
section Common
variable {d : Nat} {h : am_H}
theorem C_com0 {a : Int64} {k : Int64 → am_H → Prop} (hk : k a h) : Rn d n_X0_common 0 [am_l a, am_u, am_l 0, am_u] [] h (kL k) := by
  refine rw_lload f_X0_common_0 rfl ?_
  refine rw_const f_X0_common_1 ?_
  refine rw_lcmp f_X0_common_2 ?_
  refine rw_ifF f_X0_common_3 (by decide) ?_
  refine rw_lload f_X0_common_6 rfl ?_
  refine rw_goto f_X0_common_7 ?_
  refine rw_lret f_X0_common_17 ?_
  exact hk
theorem C_com1 {a b : Nat} (hb0 : 0 < b) (ha : a < 2 ^ 62) (hb : b < 2 ^ 62) {k : Int64 → am_H → Prop} (hk : Rn d n_X0_common 0 [am_l (gN b), am_u, am_l (gN (a % b)), am_u] [] h (kL k)) : Rn (d + 1) n_X0_common 0 [am_l (gN a), am_u, am_l (gN b), am_u] [] h (kL k) := by
  have nz : ¬ gN b = 0 := fun e => by have := (gN_0 (by omega)).mp e; omega
  have cz : ¬ lg_cmp (gN b) 0 = 0 := fun q => nz ((lg_cmp_0 _ _).mp q)
  refine rw_lload f_X0_common_0 rfl ?_
  refine rw_const f_X0_common_1 ?_
  refine rw_lcmp f_X0_common_2 ?_
  refine rw_ifT f_X0_common_3 (decide_eq_true cz) ?_
  refine rw_lload f_X0_common_10 rfl ?_
  refine rw_lload f_X0_common_11 rfl ?_
  refine rw_lload f_X0_common_12 rfl ?_
  refine rw_lrem f_X0_common_13 (by first | assumption | decide) ?_
  skip
  rw [gN_mod ha hb hb0]
  refine rw_callS f_X0_common_14 rfl rfl rfl (rn_kl (rn_mono hk ?_))
  rintro r h' ⟨x, e, q⟩
  refine ⟨x, e, ?_⟩
  exact rw_lret f_X0_common_17 q
theorem C_common : ∀ m a b, b < 2 ^ m → m ≤ 60 → a < 2 ^ 62 → b < 2 ^ 62 → ∀ {k : Int64 → am_H → Prop}, k (gN (Nat.gcd a b)) h → Rn (d + 2 * m) n_X0_common 0 [am_l (gN a), am_u, am_l (gN b), am_u] [] h (kL k) := by
  intro m
  induction m with
  | zero =>
    intro a b hb _ _ _ k hk
    obtain rfl : b = 0 := by simpa using hb
    rw [Nat.gcd_zero_right] at hk
    exact C_com0 hk
  | succ m ih =>
    intro a b hb hm ha hb2 k hk
    by_cases e : b = 0
    · subst e
      rw [Nat.gcd_zero_right] at hk
      exact C_com0 hk
    · rw [show d + 2 * (m + 1) = d + 2 * m + 1 + 1 by omega]
      refine C_com1 (by omega) ha hb2 ?_
      have h1 : a % b < b := Nat.mod_lt _ (by omega)
      rw [Nat.gcd_comm, Nat.gcd_rec] at hk
      by_cases e2 : a % b = 0
      · rw [e2] at hk ⊢
        rw [Nat.gcd_zero_left] at hk
        exact C_com0 hk
      · refine C_com1 (by omega) hb2 (by omega) ?_
        have h2 := half_mod (a := a) (b := b) (by omega) (by omega)
        refine ih (a % b) (b % (a % b)) ?_ (by omega) (by omega) (by omega) ?_
        · rw [Nat.pow_succ] at hb; omega
        · rw [Nat.gcd_rec, Nat.gcd_comm] at hk; exact hk
end Common
/-- a thread of k, a day later -/
def dN (V : am_M) (b : Nat) (st dy : Int32) (k : Nat) : Nat := (nI k - wrV V (nI k) (hoV V b) st dy).toNatClampNeg
theorem dN_eq {V : am_M} {b : Nat} {st dy : Int32} {k : Nat} (hk : k ≤ 99) : nI k - wrV V (nI k) (hoV V b) st dy = nI (dN V b st dy k) ∧ dN V b st dy k ≤ 99 := by
  have p : (0 : Int32) ≤ nI k := nI_pos' (by omega)
  have w := wrV_in (V := V) (ho := hoV V b) (st := st) (dy := dy) p
  obtain ⟨t, h1, h2⟩ := small_of rfl hk w.1 w.2
  unfold dN
  rw [h2, nI_clamp (by omega)]
  exact ⟨rfl, h1⟩
/-- of a hundred each day, so many ways that a thread holds -/
def valN (V : am_M) (b s t : Nat) : Nat → Nat → Nat → Nat
  | 0, _, k => if k = 0 then 0 else 1
  | m + 1, i, k => if k = 0 then 0 else s * valN V b s t m (i + 1) (dN V b 1 (V 34 20 + nI i) k) + t * valN V b s t m (i + 1) (dN V b 0 (V 34 20 + nI i) k)
theorem valN_le {V : am_M} {b s t : Nat} (hst : s + t = 100) : ∀ m i k, valN V b s t m i k ≤ 100 ^ m
  | 0, i, k => by unfold valN; split <;> simp
  | m + 1, i, k => by
    unfold valN
    split
    · exact Nat.zero_le _
    · have h1 := valN_le (V := V) (b := b) hst m (i + 1) (dN V b 1 (V 34 20 + nI i) k)
      have h2 := valN_le (V := V) (b := b) hst m (i + 1) (dN V b 0 (V 34 20 + nI i) k)
      have e1 := Nat.mul_le_mul_left s h1
      have e2 := Nat.mul_le_mul_left t h2
      have : s * 100 ^ m + t * 100 ^ m = 100 ^ (m + 1) := by rw [← Nat.add_mul, hst, Nat.pow_succ, Nat.mul_comm]
      omega
theorem valN_0 {V : am_M} {b s t m i : Nat} : valN V b s t m i 0 = 0 := by cases m <;> simp [valN]
/-- sums of longs -/
def sumL (g : Nat → Int64) : Nat → Int64
  | 0 => 0
  | n + 1 => sumL g n + g n
theorem sumL_congr {g g' : Nat → Int64} {n : Nat} (h : ∀ j, j < n → g j = g' j) : sumL g n = sumL g' n := by
  induction n with
  | zero => rfl
  | succ n ih => simp only [sumL]; rw [ih (fun j hj => h j (by omega)), h n (by omega)]
/-- one summand grows -/
theorem sumL_up {f v : Nat → Int64} {j0 n : Nat} {a : Int64} (h : j0 < n) : sumL (fun j => (if j = j0 then f j + a else f j) * v j) n = sumL (fun j => f j * v j) n + a * v j0 := by
  induction n with
  | zero => omega
  | succ n ih =>
    simp only [sumL]
    by_cases e : n = j0
    · subst e
      rw [if_pos rfl, sumL_congr (g := fun j => (if j = n then f j + a else f j) * v j) (g' := fun j => f j * v j) (fun j hj => by rw [if_neg (by omega)])]
      grind
    · rw [if_neg e, ih (by omega)]
      grind
theorem sumL_zero {n : Nat} : sumL (fun _ => 0) n = 0 := by
  induction n with
  | zero => rfl
  | succ n ih => simp only [sumL]; rw [ih]; rfl
theorem sumL_one {v : Nat → Int64} {j0 n : Nat} (h : j0 < n) : sumL (fun j => (if j = j0 then 1 else 0) * v j) n = v j0 := by
  induction n with
  | zero => omega
  | succ n ih =>
    simp only [sumL]
    by_cases e : n = j0
    · subst e
      have z : sumL (fun j => (if j = n then (1 : Int64) else 0) * v j) n = sumL (fun _ => 0) n := sumL_congr (fun j hj => by rw [if_neg (by omega)]; exact Int64.zero_mul)
      rw [z, sumL_zero, if_pos rfl, Int64.zero_add, Int64.one_mul]
    · rw [if_neg e, ih (by omega), Int64.zero_mul, Int64.add_zero]
