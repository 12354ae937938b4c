/-! TOKENS, purely: a text T of N signs -/
abbrev tx : Type := Nat → Int32
def isLt (c : Int32) : Bool := if c < 97 then false else if 122 < c then false else true
def isDg (c : Int32) : Bool := if c < 48 then false else if 57 < c then false else true
def isSp (c : Int32) : Bool := decide (c = 32) || decide (c = 10)
def isSg (c : Int32) : Bool := decide (c = 59) || decide (c = 40) || decide (c = 41) || decide (c = 60) || decide (c = 62) || decide (c = 61) || decide (c = 43) || decide (c = 45) || decide (c = 42) || decide (c = 47) || decide (c = 37)
/-- the end of a run of signs that are so -/
def rEnd (P : Int32 → Bool) (T : tx) (N : Nat) (q : Nat) : Nat := if _h : q < N ∧ P (T q) = true then rEnd P T N (q + 1) else q
  termination_by N - q
  decreasing_by omega
theorem rEnd_t {P : Int32 → Bool} {T : tx} {N q : Nat} (h : q < N) (h2 : P (T q) = true) : rEnd P T N q = rEnd P T N (q + 1) := by
  rw [rEnd, dif_pos ⟨h, h2⟩]
theorem rEnd_f {P : Int32 → Bool} {T : tx} {N q : Nat} (h : ¬ (q < N ∧ P (T q) = true)) : rEnd P T N q = q := by
  rw [rEnd, dif_neg h]
theorem rEnd_ge {P : Int32 → Bool} {T : tx} {N : Nat} : ∀ n q, N - q = n → q ≤ rEnd P T N q ∧ (q ≤ N → rEnd P T N q ≤ N) := by
  intro n
  induction n with
  | zero => intro q hq; rw [rEnd_f (by omega)]; exact ⟨Nat.le_refl _, id⟩
  | succ n ih =>
    intro q hq
    by_cases h : q < N ∧ P (T q) = true
    · rw [rEnd_t h.1 h.2]
      have := ih (q + 1) (by omega)
      exact ⟨by omega, fun _ => this.2 (by omega)⟩
    · rw [rEnd_f h]; exact ⟨Nat.le_refl _, id⟩
theorem rEnd_le {P : Int32 → Bool} {T : tx} {N q : Nat} : q ≤ rEnd P T N q := (rEnd_ge _ q rfl).1
theorem rEnd_N {P : Int32 → Bool} {T : tx} {N q : Nat} (h : q ≤ N) : rEnd P T N q ≤ N := (rEnd_ge _ q rfl).2 h
/-- the number of a word's signs, eight at most -/
def wF (T : tx) (p : Nat) : Nat → Int64
  | 0 => 0
  | n + 1 => if n < 8 then (wF T p n <<< ((8 : Int32).toInt64 &&& 63)) ||| (T (p + n)).toInt64 else wF T p n
def nF (T : tx) (p : Nat) : Nat → Int32
  | 0 => 0
  | n + 1 => if n < 4 then 10 * nF T p n + T (p + n) - 48 else nF T p n
/-- the sort of the token at p: 0 end, 1 word, 2 number, 3 sign, 4 bad -/
def tkD (T : tx) (N p : Nat) : Int32 := if N ≤ p then 0 else if isLt (T p) = true then (if 8 < rEnd isLt T N p - p then 4 else 1) else if isDg (T p) = true then (if 4 < rEnd isDg T N p - p then 4 else if rEnd isDg T N p < N ∧ isLt (T (rEnd isDg T N p)) = true then 4 else 2) else if isSg (T p) = true then 3 else 4
def tkE (T : tx) (N p : Nat) : Nat := if N ≤ p then p else if isLt (T p) = true then rEnd isLt T N p else if isDg (T p) = true then rEnd isDg T N p else p + 1
def tkW (T : tx) (N p : Nat) : Int64 := wF T p (tkE T N p - p)
def tkN (T : tx) (N p : Nat) : Int32 := nF T p (tkE T N p - p)
def tkX (T : tx) (N p : Nat) : Nat := rEnd isSp T N (tkE T N p)
theorem tkE_ge {T : tx} {N p : Nat} (h : p ≤ N) : p ≤ tkE T N p ∧ tkE T N p ≤ N := by
  unfold tkE
  by_cases a : N ≤ p
  · rw [if_pos a]; omega
  · rw [if_neg a]
    by_cases b : isLt (T p) = true
    · rw [if_pos b]; exact ⟨rEnd_le, rEnd_N h⟩
    · rw [if_neg b]
      by_cases c : isDg (T p) = true
      · rw [if_pos c]; exact ⟨rEnd_le, rEnd_N h⟩
      · rw [if_neg c]; omega
theorem tkX_N {T : tx} {N p : Nat} (h : p ≤ N) : p ≤ tkX T N p ∧ tkX T N p ≤ N := by
  have := tkE_ge (T := T) h
  exact ⟨Nat.le_trans this.1 rEnd_le, rEnd_N this.2⟩
/-- a text behind its end -/
abbrev sg0 (T : tx) (N q : Nat) : Int32 := if q < N then T q else 0
theorem isLt_0 : isLt 0 = false := by decide
theorem isDg_0 : isDg 0 = false := by decide
theorem lt_sg0 {T : tx} {N q : Nat} : isLt (sg0 T N q) = true ↔ (q < N ∧ isLt (T q) = true) := by
  unfold sg0
  by_cases h : q < N
  · rw [if_pos h]; simp [h]
  · rw [if_neg h]; simp [h]; exact isLt_0
theorem dg_sg0 {T : tx} {N q : Nat} : isDg (sg0 T N q) = true ↔ (q < N ∧ isDg (T q) = true) := by
  unfold sg0
  by_cases h : q < N
  · rw [if_pos h]; simp [h]
  · rw [if_neg h]; simp [h]; exact isDg_0
section CTok
variable {d : Nat} {h : am_H} {R tp N : Nat} {T : tx} {k : Int32 → am_H → Prop}
/-- a reader over a text -/
def RW (h : am_H) (R tp N : Nat) (T : tx) : Prop := hp_K h R = (110, 0) ∧ ¬ R = 0 ∧ hp_R h R 0 = tp ∧ hp_K h tp = (2, 1600) ∧ hp_I h R 1 = nI N ∧ N ≤ 1600 ∧ ∀ j, j < N → hp_I h tp j &&& 255 = T j
/-- its token is the one at p -/
def RT (h : am_H) (R N : Nat) (T : tx) (p : Nat) : Prop := p ≤ N ∧ hp_I h R 4 = nI p ∧ hp_I h R 5 = nI (tkE T N p) ∧ hp_I h R 6 = tkD T N p ∧ (tkD T N p = 2 → hp_I h R 7 = tkN T N p) ∧ (tkD T N p = 1 → hp_L h R 8 = tkW T N p)
theorem C_isLt {c : Int32} (hk : k (bI (isLt c)) h) : Rn d n_X10_isLetter 0 [am_i c] [] h (kI k) := by
  unfold isLt at hk
  refine rw_iload f_X10_isLetter_0 rfl ?_
  refine rw_const f_X10_isLetter_1 ?_
  refine rw_lt f_X10_isLetter_3 (fun c1 => ?_) (fun c1 => ?_)
  · refine rw_const f_X10_isLetter_16 ?_
    refine rw_zret f_X10_isLetter_17 (by first | exact Or.inl rfl | exact Or.inr rfl | exact bI_01 _ | assumption) ?_
    simpa [c1, bI] using hk
  · refine rw_iload f_X10_isLetter_6 rfl ?_
    refine rw_const f_X10_isLetter_7 ?_
    refine rw_gt f_X10_isLetter_9 (fun c2 => ?_) (fun c2 => ?_)
    · refine rw_const f_X10_isLetter_16 ?_
      refine rw_zret f_X10_isLetter_17 (by first | exact Or.inl rfl | exact Or.inr rfl | exact bI_01 _ | assumption) ?_
      simpa [c1, c2, bI] using hk
    · refine rw_const f_X10_isLetter_12 ?_
      refine rw_goto f_X10_isLetter_13 ?_
      refine rw_zret f_X10_isLetter_17 (by first | exact Or.inl rfl | exact Or.inr rfl | exact bI_01 _ | assumption) ?_
      simpa [c1, c2, bI] using hk
theorem C_isDg {c : Int32} (hk : k (bI (isDg c)) h) : Rn d n_X10_isDigit 0 [am_i c] [] h (kI k) := by
  unfold isDg at hk
  refine rw_iload f_X10_isDigit_0 rfl ?_
  refine rw_const f_X10_isDigit_1 ?_
  refine rw_lt f_X10_isDigit_3 (fun c1 => ?_) (fun c1 => ?_)
  · refine rw_const f_X10_isDigit_16 ?_
    refine rw_zret f_X10_isDigit_17 (by first | exact Or.inl rfl | exact Or.inr rfl | exact bI_01 _ | assumption) ?_
    simpa [c1, bI] using hk
  · refine rw_iload f_X10_isDigit_6 rfl ?_
    refine rw_const f_X10_isDigit_7 ?_
    refine rw_gt f_X10_isDigit_9 (fun c2 => ?_) (fun c2 => ?_)
    · refine rw_const f_X10_isDigit_16 ?_
      refine rw_zret f_X10_isDigit_17 (by first | exact Or.inl rfl | exact Or.inr rfl | exact bI_01 _ | assumption) ?_
      simpa [c1, c2, bI] using hk
    · refine rw_const f_X10_isDigit_12 ?_
      refine rw_goto f_X10_isDigit_13 ?_
      refine rw_zret f_X10_isDigit_17 (by first | exact Or.inl rfl | exact Or.inr rfl | exact bI_01 _ | assumption) ?_
      simpa [c1, c2, bI] using hk
theorem C_isSg {c : Int32} (hk : k (bI (isSg c)) h) : Rn d n_X10_isSign 0 [am_i c] [] h (kI k) := by
  unfold isSg at hk
  refine rw_iload f_X10_isSign_0 rfl ?_
  refine rw_const f_X10_isSign_1 ?_
  refine rw_eq f_X10_isSign_3 (fun c1 => ?_) (fun c1 => ?_)
  · refine rw_const f_X10_isSign_66 ?_
    refine rw_goto f_X10_isSign_67 ?_
    refine rw_zret f_X10_isSign_71 (by first | exact Or.inl rfl | exact Or.inr rfl | exact bI_01 _ | assumption) ?_
    simpa [c1, bI] using hk
  · refine rw_iload f_X10_isSign_6 rfl ?_
    refine rw_const f_X10_isSign_7 ?_
    refine rw_eq f_X10_isSign_9 (fun c2 => ?_) (fun c2 => ?_)
    · refine rw_const f_X10_isSign_66 ?_
      refine rw_goto f_X10_isSign_67 ?_
      refine rw_zret f_X10_isSign_71 (by first | exact Or.inl rfl | exact Or.inr rfl | exact bI_01 _ | assumption) ?_
      simpa [c1, c2, bI] using hk
    · refine rw_iload f_X10_isSign_12 rfl ?_
      refine rw_const f_X10_isSign_13 ?_
      refine rw_eq f_X10_isSign_15 (fun c3 => ?_) (fun c3 => ?_)
      · refine rw_const f_X10_isSign_66 ?_
        refine rw_goto f_X10_isSign_67 ?_
        refine rw_zret f_X10_isSign_71 (by first | exact Or.inl rfl | exact Or.inr rfl | exact bI_01 _ | assumption) ?_
        simpa [c1, c2, c3, bI] using hk
      · refine rw_iload f_X10_isSign_18 rfl ?_
        refine rw_const f_X10_isSign_19 ?_
        refine rw_eq f_X10_isSign_21 (fun c4 => ?_) (fun c4 => ?_)
        · refine rw_const f_X10_isSign_66 ?_
          refine rw_goto f_X10_isSign_67 ?_
          refine rw_zret f_X10_isSign_71 (by first | exact Or.inl rfl | exact Or.inr rfl | exact bI_01 _ | assumption) ?_
          simpa [c1, c2, c3, c4, bI] using hk
        · refine rw_iload f_X10_isSign_24 rfl ?_
          refine rw_const f_X10_isSign_25 ?_
          refine rw_eq f_X10_isSign_27 (fun c5 => ?_) (fun c5 => ?_)
          · refine rw_const f_X10_isSign_66 ?_
            refine rw_goto f_X10_isSign_67 ?_
            refine rw_zret f_X10_isSign_71 (by first | exact Or.inl rfl | exact Or.inr rfl | exact bI_01 _ | assumption) ?_
            simpa [c1, c2, c3, c4, c5, bI] using hk
          · refine rw_iload f_X10_isSign_30 rfl ?_
            refine rw_const f_X10_isSign_31 ?_
            refine rw_eq f_X10_isSign_33 (fun c6 => ?_) (fun c6 => ?_)
            · refine rw_const f_X10_isSign_66 ?_
              refine rw_goto f_X10_isSign_67 ?_
              refine rw_zret f_X10_isSign_71 (by first | exact Or.inl rfl | exact Or.inr rfl | exact bI_01 _ | assumption) ?_
              simpa [c1, c2, c3, c4, c5, c6, bI] using hk
            · refine rw_iload f_X10_isSign_36 rfl ?_
              refine rw_const f_X10_isSign_37 ?_
              refine rw_eq f_X10_isSign_39 (fun c7 => ?_) (fun c7 => ?_)
              · refine rw_const f_X10_isSign_66 ?_
                refine rw_goto f_X10_isSign_67 ?_
                refine rw_zret f_X10_isSign_71 (by first | exact Or.inl rfl | exact Or.inr rfl | exact bI_01 _ | assumption) ?_
                simpa [c1, c2, c3, c4, c5, c6, c7, bI] using hk
              · refine rw_iload f_X10_isSign_42 rfl ?_
                refine rw_const f_X10_isSign_43 ?_
                refine rw_eq f_X10_isSign_45 (fun c8 => ?_) (fun c8 => ?_)
                · refine rw_const f_X10_isSign_66 ?_
                  refine rw_goto f_X10_isSign_67 ?_
                  refine rw_zret f_X10_isSign_71 (by first | exact Or.inl rfl | exact Or.inr rfl | exact bI_01 _ | assumption) ?_
                  simpa [c1, c2, c3, c4, c5, c6, c7, c8, bI] using hk
                · refine rw_iload f_X10_isSign_48 rfl ?_
                  refine rw_const f_X10_isSign_49 ?_
                  refine rw_eq f_X10_isSign_51 (fun c9 => ?_) (fun c9 => ?_)
                  · refine rw_const f_X10_isSign_66 ?_
                    refine rw_goto f_X10_isSign_67 ?_
                    refine rw_zret f_X10_isSign_71 (by first | exact Or.inl rfl | exact Or.inr rfl | exact bI_01 _ | assumption) ?_
                    simpa [c1, c2, c3, c4, c5, c6, c7, c8, c9, bI] using hk
                  · refine rw_iload f_X10_isSign_54 rfl ?_
                    refine rw_const f_X10_isSign_55 ?_
                    refine rw_eq f_X10_isSign_57 (fun c10 => ?_) (fun c10 => ?_)
                    · refine rw_const f_X10_isSign_66 ?_
                      refine rw_goto f_X10_isSign_67 ?_
                      refine rw_zret f_X10_isSign_71 (by first | exact Or.inl rfl | exact Or.inr rfl | exact bI_01 _ | assumption) ?_
                      simpa [c1, c2, c3, c4, c5, c6, c7, c8, c9, c10, bI] using hk
                    · refine rw_iload f_X10_isSign_60 rfl ?_
                      refine rw_const f_X10_isSign_61 ?_
                      refine rw_ne f_X10_isSign_63 (fun c11 => ?_) (fun c11 => ?_)
                      · refine rw_const f_X10_isSign_70 ?_
                        refine rw_zret f_X10_isSign_71 (by first | exact Or.inl rfl | exact Or.inr rfl | exact bI_01 _ | assumption) ?_
                        simpa [c1, c2, c3, c4, c5, c6, c7, c8, c9, c10, c11, bI] using hk
                      · refine rw_const f_X10_isSign_66 ?_
                        refine rw_goto f_X10_isSign_67 ?_
                        refine rw_zret f_X10_isSign_71 (by first | exact Or.inl rfl | exact Or.inr rfl | exact bI_01 _ | assumption) ?_
                        simpa [c1, c2, c3, c4, c5, c6, c7, c8, c9, c10, c11, bI] using hk
theorem C_sign (hR : RW h R tp N T) {q : Nat} (hq : q < 2000) (hk : k (sg0 T N q) h) : Rn d n_X10_sign 0 [am_r R, am_i (nI q)] [] h (kI k) := by
  obtain ⟨rK, rz, r0, tK, rN, hN, hT⟩ := hR
  unfold sg0 at hk
  by_cases e : q < N
  · rw [if_pos e, ← hT q e] at hk
    refine rw_iload f_X10_sign_0 rfl ?_
    refine rw_aload f_X10_sign_1 rfl ?_
    refine rw_getI f_X10_sign_2 (by assumption) ?_
    rw [rN]
    refine rw_icmpF f_X10_sign_5 (decide_eq_false (nI_ge e (by omega))) ?_
    refine rw_aload f_X10_sign_8 rfl ?_
    refine rw_getR f_X10_sign_9 (by assumption) (by first | assumption | rfl) ?_
    refine rw_iload f_X10_sign_12 rfl ?_
    refine rw_xaldE (j := q) f_X10_sign_13 (by assumption) (by first | rfl | exact nI_addl _ _ | (simp only [nI, Int32.ofNat_add, Int32.ofNat_mul]; rfl) | (simp only [nI_addl, nI_mull, nI_lit, nI_1']; done) | (simp only [nI_1, nI_0, nI_addl, nI_mull, ← nI_succ]; rfl)) (by omega) (by omega) ?_
    refine rw_const f_X10_sign_14 ?_
    refine rw_iand f_X10_sign_17 ?_
    refine rw_goto f_X10_sign_18 ?_
    refine rw_iret f_X10_sign_22 ?_
    exact hk
  · rw [if_neg e] at hk
    refine rw_iload f_X10_sign_0 rfl ?_
    refine rw_aload f_X10_sign_1 rfl ?_
    refine rw_getI f_X10_sign_2 (by assumption) ?_
    rw [rN]
    refine rw_icmpT f_X10_sign_5 (decide_eq_true (nI_le (by omega) (by omega))) ?_
    refine rw_const f_X10_sign_21 ?_
    refine rw_iret f_X10_sign_22 ?_
    exact hk
theorem RW.on {S : Nat → Prop} {h' : am_H} (hR : RW h R tp N T) (on : OnL S h h') (hS : ∀ b, S b → b = R) (e1 : hp_I h' R 1 = hp_I h R 1) : RW h' R tp N T := by
  obtain ⟨rK, rz, r0, tK, rN, hN, hT⟩ := hR
  have nt : ¬ S tp := fun w => by have := hS _ w; rw [this, rK] at tK; cases tK
  refine ⟨by rw [on.K]; exact rK, rz, by rw [on.R]; exact r0, by rw [on.K]; exact tK, by rw [e1]; exact rN, hN, fun j hj => ?_⟩
  rw [(on.2 tp nt).1]; exact hT j hj
end CTok
