/-! Sets as ints: their bits -/
def tb (s : Int32) (a : Nat) : Bool := s.toBitVec.getLsbD a
theorem tb_ext {s t : Int32} (h : ∀ a, a < 32 → tb s a = tb t a) : s = t := by
  apply Int32.toBitVec_inj.mp
  exact BitVec.eq_of_getLsbD_eq (fun i hi => h i hi)
theorem tb_hi {s : Int32} {a : Nat} (h : 32 ≤ a) : tb s a = false := BitVec.getLsbD_of_ge _ _ h
theorem tb_or (s t : Int32) (a : Nat) : tb (s ||| t) a = (tb s a || tb t a) := by
  unfold tb; rw [Int32.toBitVec_or, BitVec.getLsbD_or]
theorem tb_and (s t : Int32) (a : Nat) : tb (s &&& t) a = (tb s a && tb t a) := by
  unfold tb; rw [Int32.toBitVec_and, BitVec.getLsbD_and]
theorem tb_xor (s t : Int32) (a : Nat) : tb (s ^^^ t) a = ((tb s a) ^^ (tb t a)) := by
  unfold tb; rw [Int32.toBitVec_xor, BitVec.getLsbD_xor]
theorem tb_0 (a : Nat) : tb 0 a = false := by
  unfold tb; rw [Int32.toBitVec_zero, BitVec.getLsbD_zero]
theorem tb_m1 {a : Nat} (h : a < 32) : tb (-1) a = true := by
  have : ∀ a, a < 32 → tb (-1) a = true := by decide +kernel
  exact this a h
theorem tb_1 (a : Nat) : tb 1 a = decide (a = 0) := by
  by_cases h : a < 32
  · have : ∀ a, a < 32 → tb 1 a = decide (a = 0) := by decide +kernel
    exact this a h
  · rw [tb_hi (by omega), decide_eq_false (by omega)]
theorem tb_sh1 {j a : Nat} (hj : j < 32) : tb ((1 : Int32) <<< (nI j &&& 31)) a = decide (a = j) := by
  by_cases h : a < 32
  · have : ∀ j, j < 32 → ∀ a, a < 32 → tb ((1 : Int32) <<< (nI j &&& 31)) a = decide (a = j) := by decide +kernel
    exact this j hj a h
  · rw [tb_hi (by omega), decide_eq_false (by omega)]
theorem sh_and {j : Nat} (hj : j < 32) : nI j &&& 31 = nI j := by
  have : ∀ j, j < 32 → nI j &&& 31 = nI j := by decide +kernel
  exact this j hj
theorem and1_iff (y : Int32) : (y &&& 1 = 1) ↔ tb y 0 = true := by
  constructor
  · intro h
    have := congrArg (fun z => tb z 0) h
    simp only [tb_and, tb_1, decide_true, Bool.and_true] at this
    exact this
  · intro h
    apply tb_ext
    intro a ha
    rw [tb_and, tb_1]
    by_cases e : a = 0
    · subst e; rw [h]; rfl
    · rw [decide_eq_false e, Bool.and_false]
theorem tb_shr {s : Int32} {a : Nat} (ha : a < 32) : tb (s >>> (nI a &&& 31)) 0 = tb s a := by
  unfold tb
  rw [sh_and ha, Int32.toBitVec_shiftRight]
  have e : (nI a).toBitVec.smod 32 = BitVec.ofNat 32 a := by
    have : ∀ a, a < 32 → (nI a).toBitVec.smod 32 = BitVec.ofNat 32 a := by decide +kernel
    exact this a ha
  rw [e, BitVec.sshiftRight_eq', BitVec.getLsbD_sshiftRight]
  rw [BitVec.toNat_ofNat, Nat.mod_eq_of_lt (by omega)]
  simp
  intro h
  omega
theorem has_tb {s : Int32} {a : Nat} (ha : a < 32) : hasB s (nI a) = tb s a := by
  unfold hasB
  rw [← tb_shr ha]
  cases e : tb (s >>> (nI a &&& 31)) 0 with
  | true => exact decide_eq_true ((and1_iff _).mpr e)
  | false => exact decide_eq_false (fun q => by rw [(and1_iff _).mp q] at e; cases e)
theorem tb_bs {p : Nat → Bool} {n a : Nat} (hn : n ≤ 32) : tb (bs p n) a = (decide (a < n) && p a) := by
  induction n with
  | zero => rw [bs, tb_0, decide_eq_false (by omega), Bool.false_and]
  | succ n ih =>
    cases hp : p n with
    | false =>
      rw [bs_no hp, ih (by omega)]
      by_cases e : a = n
      · subst e; rw [hp, Bool.and_false, Bool.and_false]
      · rw [show decide (a < n + 1) = decide (a < n) from decide_eq_decide.mpr (by omega)]
    | true =>
      rw [bs_yes hp, tb_or, ih (by omega), tb_sh1 (by omega)]
      by_cases e : a = n
      · subst e; rw [hp, decide_eq_true rfl, Bool.or_true, decide_eq_true (by omega)]; rfl
      · rw [decide_eq_false e, Bool.or_false, show decide (a < n + 1) = decide (a < n) from decide_eq_decide.mpr (by omega)]
theorem bs0_iff {p : Nat → Bool} {n : Nat} (hn : n ≤ 32) : bs p n = 0 ↔ ∀ b, b < n → p b = false := by
  constructor
  · intro h b hb
    have := congrArg (fun z => tb z b) h
    simp only [tb_bs hn, tb_0, decide_eq_true hb, Bool.true_and] at this
    exact this
  · intro h
    apply tb_ext
    intro a _
    rw [tb_bs hn, tb_0]
    by_cases e : a < n
    · rw [h a e, Bool.and_false]
    · rw [decide_eq_false e, Bool.false_and]
theorem bs_full : ∀ n, n < 11 → ((1 : Int32) <<< (nI n &&& 31)) - 1 = bs (fun _ => true) n := by decide +kernel
def anyB (p : Nat → Bool) : Nat → Bool
  | 0 => false
  | n + 1 => anyB p n || p n
theorem anyB_iff {p : Nat → Bool} {n : Nat} : anyB p n = true ↔ ∃ b, b < n ∧ p b = true := by
  induction n with
  | zero => simp [anyB]
  | succ n ih =>
    simp only [anyB, Bool.or_eq_true, ih]
    constructor
    · rintro (⟨b, h1, h2⟩ | h)
      · exact ⟨b, by omega, h2⟩
      · exact ⟨n, by omega, h⟩
    · rintro ⟨b, h1, h2⟩
      by_cases e : b = n
      · exact Or.inr (e ▸ h2)
      · exact Or.inl ⟨b, by omega, h2⟩
theorem allB_iff {p : Nat → Bool} {n : Nat} : allB p n = true ↔ ∀ b, b < n → p b = true := by
  induction n with
  | zero => simp [allB]
  | succ n ih =>
    simp only [allB, Bool.and_eq_true, ih]
    constructor
    · rintro ⟨h1, h2⟩ b hb
      by_cases e : b = n
      · exact e ▸ h2
      · exact h1 b (by omega)
    · intro h
      exact ⟨fun b hb => h b (by omega), h n (by omega)⟩
theorem tb_orS {p : Nat → Bool} {f : Nat → Int32} {g : Nat → Nat} {n a : Nat} (hg : ∀ b, b < n → f b = nI (g b) ∧ g b < 32) : tb (orS p f n) a = anyB (fun b => p b && decide (a = g b)) n := by
  induction n with
  | zero => rw [orS, tb_0]; rfl
  | succ n ih =>
    simp only [orS, anyB]
    cases hp : p n with
    | false => rw [if_neg (by decide), ih (fun b hb => hg b (by omega)), Bool.false_and, Bool.or_false]
    | true => rw [if_pos rfl, tb_or, ih (fun b hb => hg b (by omega)), (hg n (by omega)).1, tb_sh1 (hg n (by omega)).2, Bool.true_and]
