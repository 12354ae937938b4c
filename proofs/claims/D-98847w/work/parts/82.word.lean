/-! WORDS as numbers -/
theorem w_step {a c : Nat} (ha : a < 2 ^ 55) (hc : c < 256) : (gN a <<< ((8 : Int32).toInt64 &&& 63)) ||| (nI c).toInt64 = gN (256 * a + c) := by
  have e8 : ((8 : Int32).toInt64 &&& 63) = 8 := by decide
  rw [e8, nI_l (by omega)]
  apply Int64.toBitVec_inj.mp
  rw [Int64.toBitVec_or, Int64.toBitVec_shiftLeft]
  apply BitVec.eq_of_toNat_eq
  have e1 : (gN a).toBitVec.toNat = a := by
    show (Int64.ofNat a).toBitVec.toNat = a
    rw [Int64.toBitVec_ofNat', BitVec.toNat_ofNat, Nat.mod_eq_of_lt (by omega)]
  have e2 : (lN c).toBitVec.toNat = c := by
    show (Int64.ofNat c).toBitVec.toNat = c
    rw [Int64.toBitVec_ofNat', BitVec.toNat_ofNat, Nat.mod_eq_of_lt (by omega)]
  have e3 : (gN (256 * a + c)).toBitVec.toNat = 256 * a + c := by
    show (Int64.ofNat _).toBitVec.toNat = _
    rw [Int64.toBitVec_ofNat', BitVec.toNat_ofNat, Nat.mod_eq_of_lt (by omega)]
  have e4 : (8 : Int64).toBitVec.smod 64 = 8#64 := by decide
  rw [BitVec.toNat_or, e2, e3, e4, BitVec.shiftLeft_eq', BitVec.toNat_shiftLeft, e1]
  rw [show (8#64 : BitVec 64).toNat = 8 from rfl, Nat.shiftLeft_eq, Nat.mod_eq_of_lt (by omega), show a * 2 ^ 8 = a <<< 8 from (Nat.shiftLeft_eq a 8).symm]
  rw [← Nat.shiftLeft_add_eq_or_of_lt (by omega), Nat.shiftLeft_eq]
  omega
/-- a word's number -/
def wn (f : Nat → Nat) : Nat → Nat
  | 0 => 0
  | n + 1 => 256 * wn f n + f n
theorem wn_lt {f : Nat → Nat} : ∀ n, (∀ j, j < n → f j < 256) → wn f n < 256 ^ n
  | 0, _ => by simp [wn]
  | n + 1, h => by
    have ih := wn_lt n (fun j hj => h j (by omega))
    have := h n (by omega)
    simp only [wn]
    rw [Nat.pow_succ]
    omega
theorem wn_pos {f : Nat → Nat} {n : Nat} (hn : 0 < n) (h : ∀ j, j < n → 0 < f j) : 0 < wn f n := by
  cases n with
  | zero => omega
  | succ n => simp only [wn]; have := h n (by omega); omega
theorem wn_inj {f g : Nat → Nat} : ∀ n m, (∀ j, j < n → 0 < f j ∧ f j < 256) → (∀ j, j < m → 0 < g j ∧ g j < 256) → wn f n = wn g m → n = m ∧ ∀ j, j < n → f j = g j
  | 0, 0, _, _, _ => ⟨rfl, fun j hj => absurd hj (Nat.not_lt_zero j)⟩
  | 0, m + 1, _, h2, e => by
    have := wn_pos (f := g) (n := m + 1) (by omega) (fun j hj => (h2 j hj).1)
    rw [← e] at this; exact absurd this (Nat.lt_irrefl 0)
  | n + 1, 0, h1, _, e => by
    have := wn_pos (f := f) (n := n + 1) (by omega) (fun j hj => (h1 j hj).1)
    rw [e] at this; exact absurd this (Nat.lt_irrefl 0)
  | n + 1, m + 1, h1, h2, e => by
    simp only [wn] at e
    have a := h1 n (by omega)
    have b := h2 m (by omega)
    have e1 : f n = g m := by omega
    obtain ⟨q1, q2⟩ := wn_inj n m (fun j hj => h1 j (by omega)) (fun j hj => h2 j (by omega)) (by omega)
    subst q1
    refine ⟨rfl, fun j hj => ?_⟩
    by_cases z : j = n
    · rw [z]; exact e1
    · exact q2 j (by omega)
theorem wF_wn {T : tx} {f : Nat → Nat} {p : Nat} : ∀ n, n ≤ 8 → (∀ j, j < n → T (p + j) = nI (f j) ∧ f j < 128) → wF T p n = gN (wn f n) ∧ wn f n < 2 ^ (8 * n)
  | 0, _, _ => ⟨rfl, by simp [wn]⟩
  | n + 1, hn, h => by
    obtain ⟨q1, q2⟩ := wF_wn n (by omega) (fun j hj => h j (by omega))
    have c := h n (by omega)
    simp only [wF, wn]
    rw [if_pos (by omega), q1, c.1]
    have p2 : 2 ^ (8 * n) ≤ 2 ^ 56 := Nat.pow_le_pow_right (by decide) (by omega)
    refine ⟨?_, ?_⟩
    · by_cases z : n = 7
      · subst z
        -- the last of eight
        have : wn f 7 < 2 ^ 55 := by
          have hf := h 0 (by omega)
          have w6 : ∀ m, m ≤ 7 → 0 < m → wn f m < 2 ^ (8 * m - 1) := by
            intro m
            induction m with
            | zero => intro _ h0; omega
            | succ m ih =>
              intro hm _
              have cm := h m (by omega)
              simp only [wn]
              by_cases z : m = 0
              · subst z; simp only [wn]; have := h 0 (by omega); omega
              · have := ih (by omega) (by omega)
                have e : 2 ^ (8 * (m + 1) - 1) = 256 * 2 ^ (8 * m - 1) := by
                  rw [show 8 * (m + 1) - 1 = (8 * m - 1) + 8 by omega, Nat.pow_add]; omega
                omega
          exact w6 7 (by omega) (by omega)
        exact w_step this (by omega)
      · have : 2 ^ (8 * n) ≤ 2 ^ 48 := Nat.pow_le_pow_right (by decide) (by omega)
        exact w_step (by omega) (by omega)
    · rw [show 8 * (n + 1) = 8 * n + 8 by omega, Nat.pow_add]
      omega
theorem wn_7 {f : Nat → Nat} : ∀ m, 0 < m → (∀ j, j < m → f j < 128) → wn f m < 2 ^ (8 * m - 1) := by
  intro m
  induction m with
  | zero => intro h0; omega
  | succ m ih =>
    intro _ h
    have cm := h m (by omega)
    simp only [wn]
    by_cases z : m = 0
    · subst z; simp only [wn]; omega
    · have := ih (by omega) (fun j hj => h j (by omega))
      have e : 2 ^ (8 * (m + 1) - 1) = 256 * 2 ^ (8 * m - 1) := by
        rw [show 8 * (m + 1) - 1 = (8 * m - 1) + 8 by omega, Nat.pow_add]; omega
      omega
theorem wn_8 {f : Nat → Nat} {m : Nat} (hm : m ≤ 8) (h : ∀ j, j < m → f j < 128) : wn f m < 2 ^ 63 := by
  by_cases z : m = 0
  · subst z; exact Nat.pow_pos (by decide)
  · exact Nat.lt_of_lt_of_le (wn_7 m (by omega) h) (Nat.pow_le_pow_right (by decide) (by omega))
/-- the constants -/
def wb (i j : Nat) : Int32 := (st_byt.getD i []).getD j 0
def wl (i : Nat) : Nat := st_len.getD i 0
def wc (i : Nat) : Int64 := wF (fun j => wb i j) 0 (wl i)
theorem wb_ok : ∀ i, i < 22 → 0 < wl i ∧ wl i ≤ 6 ∧ ∀ j, j < wl i → wb i j = nI (wb i j).toNatClampNeg ∧ 97 ≤ (wb i j).toNatClampNeg ∧ (wb i j).toNatClampNeg ≤ 122 := by decide +kernel
theorem isLt_nat {c : Int32} (h : isLt c = true) : ∃ n, c = nI n ∧ 97 ≤ n ∧ n ≤ 122 := by
  unfold isLt at h
  by_cases a : c < 97
  · rw [if_pos a] at h; cases h
  · rw [if_neg a] at h
    by_cases b : 122 < c
    · rw [if_pos b] at h; cases h
    · rw [Int32.not_lt, Int32.le_iff_toInt_le] at a b
      rw [show (97 : Int32).toInt = 97 from rfl] at a
      rw [show (122 : Int32).toInt = 122 from rfl] at b
      refine ⟨c.toInt.toNat, ?_, by omega, by omega⟩
      apply Int32.toInt_inj.mp
      rw [nI_toInt (by omega)]; omega
theorem rEnd_all {P : Int32 → Bool} {T : tx} {N : Nat} : ∀ n q, N - q = n → ∀ j, q ≤ j → j < rEnd P T N q → j < N ∧ P (T j) = true := by
  intro n
  induction n with
  | zero => intro q hq j h1 h2; rw [rEnd_f (by omega)] at h2; omega
  | succ n ih =>
    intro q hq j h1 h2
    by_cases h : q < N ∧ P (T q) = true
    · by_cases e : j = q
      · rw [e]; exact h
      · rw [rEnd_t h.1 h.2] at h2
        exact ih (q + 1) (by omega) j (by omega) h2
    · rw [rEnd_f h] at h2; omega
/-- of a word: its signs are letters, eight at most -/
theorem tk_word {T : tx} {N p : Nat} (h : tkD T N p = 1) : p < N ∧ tkE T N p = rEnd isLt T N p ∧ tkE T N p - p ≤ 8 ∧ 0 < tkE T N p - p ∧ ∀ j, j < tkE T N p - p → isLt (T (p + j)) = true := by
  unfold tkD at h
  by_cases a : N ≤ p
  · rw [if_pos a] at h; exact absurd h (by decide)
  · rw [if_neg a] at h
    by_cases b : isLt (T p) = true
    · rw [if_pos b] at h
      by_cases c : 8 < rEnd isLt T N p - p
      · rw [if_pos c] at h; exact absurd h (by decide)
      · have e : tkE T N p = rEnd isLt T N p := by unfold tkE; rw [if_neg a, if_pos b]
        rw [e]
        refine ⟨by omega, rfl, by omega, ?_, fun j hj => (rEnd_all (N := N) (N - p) p rfl (p + j) (by omega) (by omega)).2⟩
        rw [rEnd_t (by omega) b]
        have := rEnd_le (P := isLt) (T := T) (N := N) (q := p + 1)
        omega
    · rw [if_neg b] at h
      exfalso
      revert h
      repeat' split
      all_goals decide
def isW (T : tx) (N p : Nat) (c : Int64) : Bool := decide (tkD T N p = 1) && decide (tkW T N p = c)
def isWi (T : tx) (N p i : Nat) : Bool := decide (tkD T N p = 1) && decide (tkE T N p - p = wl i) && allB (fun j => decide (T (p + j) = wb i j)) (wl i)
theorem gN_inj63 {a b : Nat} (ha : a < 2 ^ 63) (hb : b < 2 ^ 63) : gN a = gN b ↔ a = b := ⟨gN_inj ha hb, fun e => by rw [e]⟩
theorem word_inj {T T' : tx} {p p' n m : Nat} (g1 : ∀ j, j < n → T (p + j) = nI (T (p + j)).toNatClampNeg ∧ 0 < (T (p + j)).toNatClampNeg ∧ (T (p + j)).toNatClampNeg < 128) (g2 : ∀ j, j < m → T' (p' + j) = nI (T' (p' + j)).toNatClampNeg ∧ 0 < (T' (p' + j)).toNatClampNeg ∧ (T' (p' + j)).toNatClampNeg < 128) (e : wn (fun j => (T (p + j)).toNatClampNeg) n = wn (fun j => (T' (p' + j)).toNatClampNeg) m) : n = m ∧ ∀ j, j < n → T (p + j) = T' (p' + j) := by
  obtain ⟨q1, q2⟩ := wn_inj n m (fun j hj => ⟨(g1 j hj).2.1, Nat.lt_trans (g1 j hj).2.2 (by decide)⟩) (fun j hj => ⟨(g2 j hj).2.1, Nat.lt_trans (g2 j hj).2.2 (by decide)⟩) e
  refine ⟨q1, fun j hj => ?_⟩
  have e3 := q2 j hj
  exact (g1 j hj).1.trans ((congrArg nI e3).trans (g2 j (by omega)).1.symm)
theorem word_eq {T T' : tx} {p p' n m : Nat} (hn : n ≤ 8) (hm : m ≤ 8) (h1 : ∀ j, j < n → ∃ c, T (p + j) = nI c ∧ 97 ≤ c ∧ c ≤ 122) (h2 : ∀ j, j < m → ∃ c, T' (p' + j) = nI c ∧ 97 ≤ c ∧ c ≤ 122) : wF T p n = wF T' p' m ↔ (n = m ∧ ∀ j, j < n → T (p + j) = T' (p' + j)) := by
  have g1 : ∀ j, j < n → T (p + j) = nI (T (p + j)).toNatClampNeg ∧ 0 < (T (p + j)).toNatClampNeg ∧ (T (p + j)).toNatClampNeg < 128 := fun j hj => by
    obtain ⟨c, e, c1, c2⟩ := h1 j hj
    rw [e, nI_clamp (by omega)]; exact ⟨rfl, by omega, by omega⟩
  have g2 : ∀ j, j < m → T' (p' + j) = nI (T' (p' + j)).toNatClampNeg ∧ 0 < (T' (p' + j)).toNatClampNeg ∧ (T' (p' + j)).toNatClampNeg < 128 := fun j hj => by
    obtain ⟨c, e, c1, c2⟩ := h2 j hj
    rw [e, nI_clamp (by omega)]; exact ⟨rfl, by omega, by omega⟩
  have a1 := (wF_wn (T := T) (f := fun j => (T (p + j)).toNatClampNeg) (p := p) n hn (fun j hj => ⟨(g1 j hj).1, (g1 j hj).2.2⟩)).1
  have b1 := (wF_wn (T := T') (f := fun j => (T' (p' + j)).toNatClampNeg) (p := p') m hm (fun j hj => ⟨(g2 j hj).1, (g2 j hj).2.2⟩)).1
  have l1 := wn_8 (f := fun j => (T (p + j)).toNatClampNeg) hn (fun j hj => (g1 j hj).2.2)
  have l2 := wn_8 (f := fun j => (T' (p' + j)).toNatClampNeg) hm (fun j hj => (g2 j hj).2.2)
  constructor
  · intro e0
    have e := gN_inj l1 l2 (a1.symm.trans (e0.trans b1))
    exact word_inj g1 g2 e
  · rintro ⟨rfl, e⟩
    have key : ∀ q, q ≤ n → wF T p q = wF T' p' q := by
      intro q
      induction q with
      | zero => intro _; rfl
      | succ q ih => intro hq; simp only [wF]; rw [ih (by omega), e q (by omega)]
    exact key n (Nat.le_refl _)
theorem tkW_iff {T : tx} {N p i : Nat} (hi : i < 22) (h : tkD T N p = 1) : tkW T N p = wc i ↔ (tkE T N p - p = wl i ∧ ∀ j, j < tkE T N p - p → T (p + j) = wb i (0 + j)) := by
  obtain ⟨t1, t2, t3, t4, t5⟩ := tk_word h
  obtain ⟨w1, w2, w3⟩ := wb_ok i hi
  exact word_eq (T := T) (T' := fun j => wb i j) (p := p) (p' := 0) t3 (by omega) (fun j hj => isLt_nat (t5 j hj)) (fun j hj => ⟨(wb i (0 + j)).toNatClampNeg, by rw [Nat.zero_add]; exact w3 j hj⟩)
theorem isWi_eq {T : tx} {N p i : Nat} (hi : i < 22) : isWi T N p i = isW T N p (wc i) := by
  unfold isWi isW
  by_cases h : tkD T N p = 1
  · rw [decide_eq_true h, Bool.true_and, Bool.true_and]
    apply Bool.eq_iff_iff.mpr
    rw [Bool.and_eq_true, decide_eq_true_eq, decide_eq_true_eq, allB_iff]
    refine Iff.trans ?_ (tkW_iff hi h).symm
    constructor
    · rintro ⟨e1, e2⟩
      exact ⟨e1, fun j hj => by rw [Nat.zero_add]; exact of_decide_eq_true (e2 j (by omega))⟩
    · rintro ⟨e1, e2⟩
      exact ⟨e1, fun j hj => decide_eq_true (by have := e2 j (by omega); rw [Nat.zero_add] at this; exact this)⟩
  · rw [decide_eq_false h, Bool.false_and, Bool.false_and, Bool.false_and]
