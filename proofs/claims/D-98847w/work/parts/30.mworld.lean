/-! THE MODEL's world: its object at m, its arrays behind it -/
def mw_tbl (k : Nat) : Option (Nat × Nat × Nat) := cond (Nat.ble 41 k) (cond (Nat.ble 76 k) (cond (Nat.ble 88 k) (cond (Nat.ble 91 k) (cond (Nat.ble 95 k) (cond (Nat.ble 96 k) (cond (Nat.beq k 96) (some (51, 1, 72)) none) (cond (Nat.beq k 95) (some (50, 3, 3)) none)) (cond (Nat.ble 92 k) (cond (Nat.beq k 92) (some (49, 3, 30)) none) (cond (Nat.beq k 91) (some (48, 1, 30)) none))) (cond (Nat.ble 89 k) (cond (Nat.ble 90 k) (cond (Nat.beq k 90) (some (47, 1, 30)) none) (cond (Nat.beq k 89) (some (46, 1, 30)) none)) (cond (Nat.beq k 88) (some (45, 1, 30)) none))) (cond (Nat.ble 84 k) (cond (Nat.ble 86 k) (cond (Nat.ble 87 k) (cond (Nat.beq k 87) (some (44, 1, 6)) none) (cond (Nat.beq k 86) (some (43, 3, 1024)) none)) (cond (Nat.beq k 84) (some (42, 1, 10)) none)) (cond (Nat.ble 77 k) (cond (Nat.ble 78 k) (cond (Nat.beq k 78) (some (41, 1, 7)) none) (cond (Nat.beq k 77) (some (40, 1, 7)) none)) (cond (Nat.beq k 76) (some (39, 1, 7)) none)))) (cond (Nat.ble 47 k) (cond (Nat.ble 68 k) (cond (Nat.ble 72 k) (cond (Nat.ble 75 k) (cond (Nat.beq k 75) (some (38, 1, 7)) none) (cond (Nat.beq k 72) (some (37, 1, 10)) none)) (cond (Nat.ble 71 k) (cond (Nat.beq k 71) (some (36, 1, 10)) none) (cond (Nat.beq k 68) (some (35, 1, 960)) none))) (cond (Nat.ble 48 k) (cond (Nat.ble 67 k) (cond (Nat.beq k 67) (some (34, 1, 24)) none) (cond (Nat.beq k 48) (some (33, 3, 10)) none)) (cond (Nat.beq k 47) (some (32, 3, 10)) none))) (cond (Nat.ble 44 k) (cond (Nat.ble 45 k) (cond (Nat.ble 46 k) (cond (Nat.beq k 46) (some (31, 1, 10)) none) (cond (Nat.beq k 45) (some (30, 1, 10)) none)) (cond (Nat.beq k 44) (some (29, 1, 10)) none)) (cond (Nat.ble 42 k) (cond (Nat.ble 43 k) (cond (Nat.beq k 43) (some (28, 1, 10)) none) (cond (Nat.beq k 42) (some (27, 1, 10)) none)) (cond (Nat.beq k 41) (some (26, 1, 10)) none))))) (cond (Nat.ble 28 k) (cond (Nat.ble 34 k) (cond (Nat.ble 37 k) (cond (Nat.ble 39 k) (cond (Nat.ble 40 k) (cond (Nat.beq k 40) (some (25, 1, 10)) none) (cond (Nat.beq k 39) (some (24, 1, 10)) none)) (cond (Nat.ble 38 k) (cond (Nat.beq k 38) (some (23, 1, 10)) none) (cond (Nat.beq k 37) (some (22, 1, 10)) none))) (cond (Nat.ble 35 k) (cond (Nat.ble 36 k) (cond (Nat.beq k 36) (some (21, 1, 10)) none) (cond (Nat.beq k 35) (some (20, 1, 10)) none)) (cond (Nat.beq k 34) (some (19, 1, 36)) none))) (cond (Nat.ble 31 k) (cond (Nat.ble 32 k) (cond (Nat.ble 33 k) (cond (Nat.beq k 33) (some (18, 1, 6)) none) (cond (Nat.beq k 32) (some (17, 1, 6)) none)) (cond (Nat.beq k 31) (some (16, 1, 6)) none)) (cond (Nat.ble 29 k) (cond (Nat.ble 30 k) (cond (Nat.beq k 30) (some (15, 1, 6)) none) (cond (Nat.beq k 29) (some (14, 1, 36)) none)) (cond (Nat.beq k 28) (some (13, 1, 6)) none)))) (cond (Nat.ble 15 k) (cond (Nat.ble 25 k) (cond (Nat.ble 26 k) (cond (Nat.ble 27 k) (cond (Nat.beq k 27) (some (12, 1, 6)) none) (cond (Nat.beq k 26) (some (11, 1, 6)) none)) (cond (Nat.beq k 25) (some (10, 1, 6)) none)) (cond (Nat.ble 16 k) (cond (Nat.ble 24 k) (cond (Nat.beq k 24) (some (9, 1, 4)) none) (cond (Nat.beq k 16) (some (8, 1, 64)) none)) (cond (Nat.beq k 15) (some (7, 1, 160)) none))) (cond (Nat.ble 12 k) (cond (Nat.ble 13 k) (cond (Nat.ble 14 k) (cond (Nat.beq k 14) (some (6, 1, 320)) none) (cond (Nat.beq k 13) (some (5, 1, 320)) none)) (cond (Nat.beq k 12) (some (4, 1, 320)) none)) (cond (Nat.ble 10 k) (cond (Nat.ble 11 k) (cond (Nat.beq k 11) (some (3, 1, 320)) none) (cond (Nat.beq k 10) (some (2, 4, 22)) none)) (cond (Nat.beq k 0) (some (1, 1, 1600)) none)))))
/-- kinds and links of the model's cells (ints and longs are free) -/
def MW (h : am_H) (m : Nat) : Prop := hp_K h m = (109, 0) ∧ ¬ m = 0 ∧ ∀ (k a t u : Nat), mw_tbl k = some (a, t, u) → hp_R h m k = m + a ∧ hp_K h (m + a) = (t, u)
section Leaves
variable {d : Nat} {h : am_H} {m : Nat}
theorem M_isIn {v a b : Int32} {k : Int32 → am_H → Prop} (hk : k (bI (isIn v a b)) h) : Rn d n_X9_isIn 0 [am_i v, am_i a, am_i b] [] h (kI k) := by
  unfold isIn bI at hk
  refine rw_iload f_X9_isIn_0 rfl ?_
  refine rw_iload f_X9_isIn_1 rfl ?_
  refine rw_lt f_X9_isIn_2 (fun c1 => ?_) (fun c1 => ?_)
  · refine rw_const f_X9_isIn_14 ?_
    rw [decide_eq_false (Int32.not_le.mpr c1)] at hk
    exact rw_zret f_X9_isIn_15 (Or.inl rfl) hk
  · rw [decide_eq_true (Int32.not_lt.mp c1)] at hk
    refine rw_iload f_X9_isIn_5 rfl ?_
    refine rw_iload f_X9_isIn_6 rfl ?_
    refine rw_gt f_X9_isIn_7 (fun c2 => ?_) (fun c2 => ?_)
    · refine rw_const f_X9_isIn_14 ?_
      rw [decide_eq_false (Int32.not_le.mpr c2)] at hk
      exact rw_zret f_X9_isIn_15 (Or.inl rfl) hk
    · rw [decide_eq_true (Int32.not_lt.mp c2)] at hk
      refine rw_const f_X9_isIn_10 ?_
      refine rw_goto f_X9_isIn_11 ?_
      exact rw_zret f_X9_isIn_15 (Or.inr rfl) hk
theorem M_truth {b : Bool} {k : Int32 → am_H → Prop} (hk : k (bI b) h) : Rn d n_X9_truth 0 [am_i (bI b)] [] h (kI k) := by
  refine rw_iload f_X9_truth_0 rfl ?_
  cases b with
  | false =>
    refine rw_ifT f_X9_truth_1 (by decide) ?_
    refine rw_const f_X9_truth_8 ?_
    exact rw_iret f_X9_truth_9 hk
  | true =>
    refine rw_ifF f_X9_truth_1 (by decide) ?_
    refine rw_const f_X9_truth_4 ?_
    refine rw_goto f_X9_truth_5 ?_
    exact rw_iret f_X9_truth_9 hk
theorem M_isMan (hW : MW h m) {v : Int32} {k : Int32 → am_H → Prop} (hk : k (bI (isIn v 0 (hp_I h m 56 - 1))) h) : Rn (d + 1) n_X9_isMan 0 [am_r m, am_i v] [] h (kI k) := by
  refine rw_iload f_X9_isMan_0 rfl ?_
  refine rw_const f_X9_isMan_1 ?_
  refine rw_aload f_X9_isMan_2 rfl ?_
  refine rw_getI f_X9_isMan_3 hW.1 ?_
  refine rw_const f_X9_isMan_6 ?_
  refine rw_isub f_X9_isMan_7 ?_
  refine rw_callS f_X9_isMan_8 rfl rfl rfl (rn_ki (M_isIn ?_))
  exact rw_zret f_X9_isMan_11 (bI_01 _) hk
theorem M_truth1 {k : Int32 → am_H → Prop} (hk : k 1 h) : Rn d n_X9_truth 0 [am_i 1] [] h (kI k) := M_truth (b := true) hk
theorem M_truth0 {k : Int32 → am_H → Prop} (hk : k 0 h) : Rn d n_X9_truth 0 [am_i 0] [] h (kI k) := M_truth (b := false) hk
theorem M_truthX {x : Int32} (hx : x = 0 ∨ x = 1) {k : Int32 → am_H → Prop} (hk : k x h) : Rn d n_X9_truth 0 [am_i x] [] h (kI k) := by
  rcases hx with e | e
  · subst e; exact M_truth0 hk
  · subst e; exact M_truth1 hk
end Leaves
