/-! ODDS, purely: over all rows of storms -/
def sumN (f : Nat → Nat) : Nat → Nat
  | 0 => 0
  | n + 1 => sumN f n + f n
theorem sumN_congr {f g : Nat → Nat} {n : Nat} (h : ∀ j, j < n → f j = g j) : sumN f n = sumN g n := by
  induction n with
  | zero => rfl
  | succ n ih => simp only [sumN]; rw [ih (fun j hj => h j (by omega)), h n (by omega)]
theorem sumN_two {f : Nat → Nat} : ∀ n, sumN f (2 * n) = sumN (fun j => f (2 * j) + f (2 * j + 1)) n
  | 0 => rfl
  | n + 1 => by
    rw [show 2 * (n + 1) = 2 * n + 1 + 1 by omega]
    simp only [sumN]
    rw [sumN_two n]
    omega
theorem sumN_lin {f g : Nat → Nat} {s t : Nat} : ∀ n, sumN (fun j => s * f j + t * g j) n = s * sumN f n + t * sumN g n
  | 0 => by simp [sumN]
  | n + 1 => by
    simp only [sumN]
    rw [sumN_lin n, Nat.mul_add, Nat.mul_add]
    omega
theorem sumN_0 : ∀ n, sumN (fun _ => 0) n = 0
  | 0 => rfl
  | n + 1 => by simp only [sumN]; rw [sumN_0 n]
theorem sumN_le {f : Nat → Nat} {c : Nat} (h : ∀ j, f j ≤ c) : ∀ n, sumN f n ≤ n * c
  | 0 => by simp [sumN]
  | n + 1 => by
    simp only [sumN]
    have := sumN_le h n
    have := h n
    rw [Nat.succ_mul]
    omega
/-- a thread on its way through m days from day i on, with storms by the bits of x -/
def pthN (V : am_M) (b : Nat) : Nat → Nat → Nat → Nat → Nat
  | _, 0, _, k => k
  | x, m + 1, i, k => if k = 0 then 0 else pthN V b (x / 2) m (i + 1) (dN V b (nI (x % 2)) (V 34 20 + nI i) k)
def prdN (s t : Nat) : Nat → Nat → Nat
  | _, 0 => 1
  | x, m + 1 => (if x % 2 = 1 then s else t) * prdN s t (x / 2) m
theorem pthN_0 {V : am_M} {b x i : Nat} : ∀ m, pthN V b x m i 0 = 0
  | 0 => rfl
  | m + 1 => by simp [pthN]
theorem val_sum {V : am_M} {b s t : Nat} : ∀ m i k, sumN (fun x => if pthN V b x m i k = 0 then 0 else prdN s t x m) (2 ^ m) = valN V b s t m i k := by
  intro m
  induction m with
  | zero =>
    intro i k
    show 0 + (if k = 0 then 0 else 1) = _
    rw [Nat.zero_add]
    rfl
  | succ m ih =>
    intro i k
    by_cases hk : k = 0
    · subst hk
      rw [valN_0]
      rw [sumN_congr (g := fun _ => 0) (fun j _ => by rw [pthN_0, if_pos rfl]), sumN_0]
    · rw [Nat.pow_succ, Nat.mul_comm, sumN_two]
      have e0 : ∀ j, 2 * j % 2 = 0 := fun j => by omega
      have e1 : ∀ j, (2 * j + 1) % 2 = 1 := fun j => by omega
      have d0 : ∀ j, 2 * j / 2 = j := fun j => by omega
      have d1 : ∀ j, (2 * j + 1) / 2 = j := fun j => by omega
      have : ∀ j, ((if pthN V b (2 * j) (m + 1) i k = 0 then 0 else prdN s t (2 * j) (m + 1)) + (if pthN V b (2 * j + 1) (m + 1) i k = 0 then 0 else prdN s t (2 * j + 1) (m + 1))) = s * (if pthN V b j m (i + 1) (dN V b 1 (V 34 20 + nI i) k) = 0 then 0 else prdN s t j m) + t * (if pthN V b j m (i + 1) (dN V b 0 (V 34 20 + nI i) k) = 0 then 0 else prdN s t j m) := by
        intro j
        simp only [pthN, prdN, if_neg hk, e0, e1, d0, d1]
        rw [if_neg (show ¬ (0 : Nat) = 1 by decide), if_pos trivial, show nI 0 = 0 from rfl, show nI 1 = 1 from rfl]
        rw [Nat.add_comm]
        congr 1
        · split
          · rw [Nat.mul_zero]
          · rfl
        · split
          · rw [Nat.mul_zero]
          · rfl
      rw [sumN_congr (fun j _ => this j), sumN_lin, ih, ih]
      show _ = valN V b s t (m + 1) i k
      rw [valN, if_neg hk]
theorem prdN_le {s t : Nat} (h : s + t = 100) : ∀ m x, prdN s t x m ≤ 100 ^ m
  | 0, _ => by simp [prdN]
  | m + 1, x => by
    simp only [prdN]
    rw [Nat.pow_succ, Nat.mul_comm]
    refine Nat.mul_le_mul (prdN_le h m _) ?_
    split <;> omega
theorem sumN_mono {f : Nat → Nat} {n m : Nat} (h : n ≤ m) : sumN f n ≤ sumN f m := by
  induction h with
  | refl => exact Nat.le_refl _
  | step _ ih => simp only [sumN]; omega
