/-! WHAT CAN BE KEPT, purely: all within what is kept -/
theorem tb_nI {j a : Nat} (ha : a < 32) : tb (nI j) a = j.testBit a := by
  unfold tb nI
  rw [Int32.toBitVec_ofNat', BitVec.getLsbD_ofNat, decide_eq_true ha, Bool.true_and]
/-- a set less one -/
def clrI (s b : Nat) : Int32 := nI s &&& (((1 : Int32) <<< (nI b &&& 31)) ^^^ (-1))
theorem tb_clr {s b a : Nat} (hb : b < 32) (ha : a < 32) : tb (clrI s b) a = (tb (nI s) a && !decide (a = b)) := by
  unfold clrI
  rw [tb_and, tb_xor, tb_sh1 hb, tb_m1 ha, Bool.xor_true]
/-- one within another -/
theorem sub_iff {s t : Int32} : (s &&& (t ^^^ (-1)) = 0) ↔ ∀ a, a < 32 → tb s a = true → tb t a = true := by
  constructor
  · intro h a ha hs
    have := congrArg (fun z => tb z a) h
    simp only [tb_and, tb_xor, tb_m1 ha, tb_0, Bool.xor_true, hs, Bool.true_and] at this
    simpa using this
  · intro h
    apply tb_ext
    intro a ha
    rw [tb_and, tb_xor, tb_m1 ha, tb_0, Bool.xor_true]
    cases hs : tb s a with
    | false => rfl
    | true => rw [h a ha hs]; rfl
theorem canK_iff {L : List ord} {s : Int32} : canK L s = true ↔ ∃ o ∈ L, ∀ a, a < 32 → tb s a = true → tb o.2.2 a = true := by
  unfold canK
  rw [List.any_eq_true]
  constructor
  · rintro ⟨o, ho, h⟩
    exact ⟨o, ho, sub_iff.mp (of_decide_eq_true h)⟩
  · rintro ⟨o, ho, h⟩
    exact ⟨o, ho, decide_eq_true (sub_iff.mpr h)⟩
/-- s is gone through: those less one of it -/
def cls (c : Nat → Bool) (s : Nat) (j : Nat) : Bool := c j || (c s && anyB (fun b => decide (nI j = clrI s b)) 10)
/-- from 1023 down to n more than s -/
def clD (c : Nat → Bool) : Nat → Nat → Bool
  | 0 => c
  | n + 1 => cls (clD c n) (1023 - n)
theorem clD_mono {c : Nat → Bool} {n m j : Nat} (h : n ≤ m) (e : clD c n j = true) : clD c m j = true := by
  induction h with
  | refl => exact e
  | step _ ih => unfold clD cls; rw [ih]; rfl
theorem clD_sound {L : List ord} {c : Nat → Bool} (h0 : ∀ j, j < 1024 → c j = true → canK L (nI j) = true) : ∀ n, n ≤ 1023 → ∀ j, j < 1024 → clD c n j = true → canK L (nI j) = true := by
  intro n
  induction n with
  | zero => intro _ j hj e; exact h0 j hj e
  | succ n ih =>
    intro hn j hj e
    unfold clD cls at e
    rw [Bool.or_eq_true, Bool.and_eq_true, anyB_iff] at e
    rcases e with e | ⟨e, b, hb, eb⟩
    · exact ih (by omega) j hj e
    · have := ih (by omega) (1023 - n) (by omega) e
      rw [canK_iff] at this ⊢
      obtain ⟨o, ho, h⟩ := this
      refine ⟨o, ho, fun a ha hs => h a ha ?_⟩
      rw [of_decide_eq_true eb, tb_clr (by omega) ha, Bool.and_eq_true] at hs
      exact hs.1
theorem clD_compl {L : List ord} {c : Nat → Bool} (hs : ∀ o ∈ L, s10 o.2.2) (h0 : ∀ o ∈ L, ∀ j, j < 1024 → o.2.2 = nI j → c j = true) : ∀ n j, j + n = 1023 → canK L (nI j) = true → clD c n j = true := by
  intro n
  induction n using Nat.strongRecOn with
  | ind n ih =>
    intro j hj hc
    obtain ⟨o, ho, h⟩ := canK_iff.mp hc
    by_cases e : o.2.2 = nI j
    · exact clD_mono (Nat.zero_le n) (h0 o ho j (by omega) e)
    · have ex : ∃ b, b < 10 ∧ tb o.2.2 b = true ∧ tb (nI j) b = false := by
        apply Classical.byContradiction
        intro no
        apply e
        apply tb_ext
        intro a ha
        cases ht : tb (nI j) a with
        | true => exact h a ha ht
        | false =>
          by_cases h10 : a < 10
          · cases hq : tb o.2.2 a with
            | false => rfl
            | true => exact absurd ⟨a, h10, hq, ht⟩ no
          · exact hs o ho a (by omega)
      obtain ⟨b, hb, b1, b2⟩ := ex
      rw [tb_nI (by omega)] at b2
      have bits : ∀ a, (j ||| 2 ^ b).testBit a = (j.testBit a || decide (b = a)) := fun a => by rw [Nat.testBit_or, Nat.testBit_two_pow]
      have lt : j < j ||| 2 ^ b := Nat.lt_of_le_of_ne Nat.left_le_or (fun e => by have z := bits b; rw [← e, b2, decide_eq_true rfl] at z; cases z)
      have lt2 : j ||| 2 ^ b < 2 ^ 10 := Nat.or_lt_two_pow (by omega) (Nat.pow_lt_pow_right (by omega) hb)
      have lt3 : j ||| 2 ^ b < 1024 := lt2
      have sub : canK L (nI (j ||| 2 ^ b)) = true := by
        rw [canK_iff]
        refine ⟨o, ho, fun a ha hq => ?_⟩
        rw [tb_nI ha, bits, Bool.or_eq_true] at hq
        rcases hq with hq | hq
        · exact h a ha (by rw [tb_nI ha]; exact hq)
        · rw [← of_decide_eq_true hq]; exact b1
      have step := ih (1023 - (j ||| 2 ^ b)) (by omega) (j ||| 2 ^ b) (by omega) sub
      refine clD_mono (n := 1023 - (j ||| 2 ^ b) + 1) (by omega) ?_
      unfold clD cls
      rw [show 1023 - (1023 - (j ||| 2 ^ b)) = j ||| 2 ^ b by omega, step, Bool.true_and, Bool.or_eq_true]
      right
      rw [anyB_iff]
      refine ⟨b, hb, decide_eq_true ?_⟩
      apply tb_ext
      intro a ha
      rw [tb_clr (by omega) ha, tb_nI ha, tb_nI ha, bits]
      by_cases q : a = b
      · subst q; rw [b2, decide_eq_true rfl]; rfl
      · rw [decide_eq_false (show ¬ b = a from fun z => q z.symm), decide_eq_false q, Bool.or_false]
        cases j.testBit a <;> rfl
/-- all that can be kept -/
theorem clD_canK {L : List ord} {c : Nat → Bool} (hs : ∀ o ∈ L, s10 o.2.2) (hc : ∀ j, j < 1024 → c j = L.any (fun o => decide (o.2.2 = nI j))) {j : Nat} (hj : j < 1024) (h1 : 0 < j) : clD c 1023 j = canK L (nI j) := by
  have h0 : ∀ o ∈ L, ∀ j, j < 1024 → o.2.2 = nI j → c j = true := fun o ho j hj e => by
    rw [hc j hj, List.any_eq_true]
    exact ⟨o, ho, decide_eq_true e⟩
  cases h : canK L (nI j) with
  | true => exact clD_mono (by omega) (clD_compl hs h0 (1023 - j) j (by omega) h)
  | false =>
    apply Bool.eq_false_iff.mpr
    intro e
    have := clD_sound (L := L) (c := c) (fun j hj e => ?_) 1023 (Nat.le_refl _) j hj e
    · rw [h] at this; cases this
    · rw [hc j hj, List.any_eq_true] at e
      obtain ⟨o, ho, e⟩ := e
      rw [canK_iff]
      exact ⟨o, ho, fun a _ q => by rw [of_decide_eq_true e]; exact q⟩
