/-! THE MODEL: queries. V: its memory from its object on -/
abbrev vw (h : am_H) (m : Nat) : Nat → Nat → Int32 := fun a j => hp_I h (m + a) j
section MQ
variable {d : Nat} {h : am_H} {m : Nat} {k : Int32 → am_H → Prop}
theorem M_isDeed (hW : MW h m) {v : Int32} (hk : k (bI (isIn v 0 (hp_I h m 57 - 1))) h) : Rn (d + 1) n_X9_isDeed 0 [am_r m, am_i v] [] h (kI k) := by
  refine rw_iload f_X9_isDeed_0 rfl ?_
  refine rw_const f_X9_isDeed_1 ?_
  refine rw_aload f_X9_isDeed_2 rfl ?_
  refine rw_getI f_X9_isDeed_3 hW.1 ?_
  refine rw_const f_X9_isDeed_6 ?_
  refine rw_isub f_X9_isDeed_7 ?_
  refine rw_callS f_X9_isDeed_8 rfl rfl rfl (rn_ki (M_isIn ?_))
  refine rw_zret f_X9_isDeed_11 (by first | exact Or.inl rfl | exact Or.inr rfl | exact bI_01 _ | assumption) ?_
  exact hk
theorem M_isButton (hW : MW h m) {v : Int32} (hk : k (bI (isIn v 0 (hp_I h m 58 - 1))) h) : Rn (d + 1) n_X9_isButton 0 [am_r m, am_i v] [] h (kI k) := by
  refine rw_iload f_X9_isButton_0 rfl ?_
  refine rw_const f_X9_isButton_1 ?_
  refine rw_aload f_X9_isButton_2 rfl ?_
  refine rw_getI f_X9_isButton_3 hW.1 ?_
  refine rw_const f_X9_isButton_6 ?_
  refine rw_isub f_X9_isButton_7 ?_
  refine rw_callS f_X9_isButton_8 rfl rfl rfl (rn_ki (M_isIn ?_))
  refine rw_zret f_X9_isButton_11 (by first | exact Or.inl rfl | exact Or.inr rfl | exact bI_01 _ | assumption) ?_
  exact hk
theorem M_isOn (hW : MW h m) {b : Nat} (hb : b < 24) (hk : k (bI (decide (hp_I h (m + 34) b = 0))) h) : Rn d n_X9_isOn 0 [am_r m, am_i (nI b)] [] h (kI k) := by
  refine rw_aload f_X9_isOn_0 rfl ?_
  refine rw_getR f_X9_isOn_1 hW.1 (hW.2.2 67 _ _ _ rfl).1 ?_
  refine rw_iload f_X9_isOn_4 rfl ?_
  refine rw_xaldE f_X9_isOn_5 (hW.2.2 67 _ _ _ rfl).2 rfl (by omega) (by omega) ?_
  first | refine rw_ne0B f_X9_isOn_6 (fun c1 => ?_) (fun c1 => ?_) | refine rw_ne0 f_X9_isOn_6 (fun c1 => ?_) (fun c1 => ?_)
  · refine rw_const f_X9_isOn_13 ?_
    refine rw_zret f_X9_isOn_14 (by first | exact Or.inl rfl | exact Or.inr rfl | exact bI_01 _ | assumption) ?_
    simpa [bI, c1] using hk
  · refine rw_const f_X9_isOn_9 ?_
    refine rw_goto f_X9_isOn_10 ?_
    refine rw_zret f_X9_isOn_14 (by first | exact Or.inl rfl | exact Or.inr rfl | exact bI_01 _ | assumption) ?_
    simpa [bI, c1] using hk
theorem M_isBox {v : Int32} (hk : k (bI (isIn v 0 2)) h) : Rn d n_X9_isBox 0 [am_i v] [] h (kI k) := by
  have e2 : ∀ x : Int32, ¬ (3 ≤ x) ↔ x ≤ 2 := by
    intro x
    rw [Int32.not_le, Int32.lt_iff_toInt_lt, Int32.le_iff_toInt_le, show (3 : Int32).toInt = 3 from rfl, show (2 : Int32).toInt = 2 from rfl]; omega
  have e3 : ∀ x : Int32, (3 ≤ x) ↔ ¬ x ≤ 2 := by
    intro x
    rw [Int32.not_le, Int32.lt_iff_toInt_lt, Int32.le_iff_toInt_le, show (3 : Int32).toInt = 3 from rfl, show (2 : Int32).toInt = 2 from rfl]; omega
  refine rw_iload f_X9_isBox_0 rfl ?_
  refine rw_lt0 f_X9_isBox_1 (fun c1 => ?_) (fun c1 => ?_)
  · refine rw_const f_X9_isBox_13 ?_
    refine rw_zret f_X9_isBox_14 (by first | exact Or.inl rfl | exact Or.inr rfl | exact bI_01 _ | assumption) ?_
    first | (rw [Int32.not_lt] at c1; rw [e3] at c2; simpa [bI, isIn, c1, c2] using hk) | (simpa [bI, isIn, c1, c2] using hk) | (simpa [bI, isIn, Int32.not_le.mpr c1] using hk)
  · refine rw_iload f_X9_isBox_4 rfl ?_
    refine rw_const f_X9_isBox_5 ?_
    refine rw_ge f_X9_isBox_6 (fun c2 => ?_) (fun c2 => ?_)
    · refine rw_const f_X9_isBox_13 ?_
      refine rw_zret f_X9_isBox_14 (by first | exact Or.inl rfl | exact Or.inr rfl | exact bI_01 _ | assumption) ?_
      first | (rw [Int32.not_lt] at c1; rw [e3] at c2; simpa [bI, isIn, c1, c2] using hk) | (simpa [bI, isIn, c1, c2] using hk) | (simpa [bI, isIn, Int32.not_le.mpr c1] using hk)
    · rw [e2] at c2
      rw [Int32.not_lt] at c1
      refine rw_const f_X9_isBox_9 ?_
      refine rw_goto f_X9_isBox_10 ?_
      refine rw_zret f_X9_isBox_14 (by first | exact Or.inl rfl | exact Or.inr rfl | exact bI_01 _ | assumption) ?_
      first | (rw [Int32.not_lt] at c1; rw [e3] at c2; simpa [bI, isIn, c1, c2] using hk) | (simpa [bI, isIn, c1, c2] using hk) | (simpa [bI, isIn, Int32.not_le.mpr c1] using hk)
/-- an end is told -/
def sp_end (n taped : Int32) : Bool := decide (0 ≤ n) && decide (n ≤ taped)
theorem M_end (hW : MW h m) {n : Int32} (hk : k (if sp_end n (hp_I h m 1) = true then n else -1) (if sp_end n (hp_I h m 1) = true then hp_sI h m 1 n else h)) : Rn d n_X9_end 0 [am_r m, am_i n] [] h (kI k) := by
  refine rw_iload f_X9_end_0 rfl ?_
  refine rw_lt0 f_X9_end_1 (fun c1 => ?_) (fun c1 => ?_)
  · refine rw_const f_X9_end_12 ?_
    refine rw_iret f_X9_end_13 ?_
    first | (simpa [sp_end, Int32.not_le.mpr c1] using hk) | (simpa [sp_end, Int32.not_lt.mp c1, c2] using hk)
  · refine rw_iload f_X9_end_4 rfl ?_
    refine rw_aload f_X9_end_5 rfl ?_
    refine rw_getI f_X9_end_6 hW.1 ?_
    refine rw_le f_X9_end_9 (fun c2 => ?_) (fun c2 => ?_)
    · refine rw_aload f_X9_end_14 rfl ?_
      refine rw_iload f_X9_end_15 rfl ?_
      refine rw_putI f_X9_end_16 hW.1 ?_
      refine rw_iload f_X9_end_19 rfl ?_
      refine rw_iret f_X9_end_20 ?_
      first | (simpa [sp_end, Int32.not_le.mpr c1] using hk) | (simpa [sp_end, Int32.not_lt.mp c1, c2] using hk)
    · refine rw_const f_X9_end_12 ?_
      refine rw_iret f_X9_end_13 ?_
      first | (simpa [sp_end, Int32.not_le.mpr c1] using hk) | (simpa [sp_end, Int32.not_lt.mp c1, c2] using hk)
def sp_fault (a b what : Int32) : Int32 := if what = 0 then a else if what = 1 then b else -1
theorem M_fault (hW : MW h m) {w : Int32} (hk : k (sp_fault (hp_I h m 2) (hp_I h m 3) w) h) : Rn d n_X9_fault 0 [am_r m, am_i w] [] h (kI k) := by
  refine rw_iload f_X9_fault_0 rfl ?_
  first | refine rw_ne0B f_X9_fault_1 (fun c1 => ?_) (fun c1 => ?_) | refine rw_ne0 f_X9_fault_1 (fun c1 => ?_) (fun c1 => ?_)
  · refine rw_iload f_X9_fault_11 rfl ?_
    refine rw_const f_X9_fault_12 ?_
    refine rw_ne f_X9_fault_13 (fun c2 => ?_) (fun c2 => ?_)
    · refine rw_const f_X9_fault_23 ?_
      refine rw_iret f_X9_fault_24 ?_
      simpa [sp_fault, c1, c2] using hk
    · refine rw_aload f_X9_fault_16 rfl ?_
      refine rw_getI f_X9_fault_17 hW.1 ?_
      refine rw_goto f_X9_fault_20 ?_
      refine rw_iret f_X9_fault_24 ?_
      simpa [sp_fault, c1, c2] using hk
  · refine rw_aload f_X9_fault_4 rfl ?_
    refine rw_getI f_X9_fault_5 hW.1 ?_
    refine rw_goto f_X9_fault_8 ?_
    refine rw_iret f_X9_fault_24 ?_
    simpa [sp_fault, c1] using hk
def sp_later (t b : Int32) : Bool := if b < 0 then false else if 1000 < b then false else if 100000 < t + b then false else true
theorem M_later (hW : MW h m) {b : Int32} (hk : k (if sp_later (hp_I h m 94) b = true then hp_I h m 94 + b else -1) (if sp_later (hp_I h m 94) b = true then hp_sI h m 94 (hp_I h m 94 + b) else h)) : Rn d n_X9_later 0 [am_r m, am_i b] [] h (kI k) := by
  refine rw_iload f_X9_later_0 rfl ?_
  refine rw_lt0 f_X9_later_1 (fun c1 => ?_) (fun c1 => ?_)
  · refine rw_const f_X9_later_23 ?_
    refine rw_iret f_X9_later_24 ?_
    first | (simpa [sp_later, c1] using hk) | (rw [sI_same]; simpa [sp_later, c1] using hk)
  · refine rw_iload f_X9_later_4 rfl ?_
    refine rw_const f_X9_later_5 ?_
    refine rw_gt f_X9_later_8 (fun c2 => ?_) (fun c2 => ?_)
    · refine rw_const f_X9_later_23 ?_
      refine rw_iret f_X9_later_24 ?_
      first | (simpa [sp_later, c1, c2] using hk) | (rw [sI_same]; simpa [sp_later, c1, c2] using hk)
    · refine rw_aload f_X9_later_11 rfl ?_
      refine rw_getI f_X9_later_12 hW.1 ?_
      refine rw_iload f_X9_later_15 rfl ?_
      refine rw_iadd f_X9_later_16 ?_
      refine rw_const f_X9_later_17 ?_
      refine rw_le f_X9_later_20 (fun c3 => ?_) (fun c3 => ?_)
      · refine rw_aload f_X9_later_25 rfl ?_
        first | refine rw_dupr f_X9_later_26 ?_ | refine rw_dupi f_X9_later_26 ?_
        refine rw_getI f_X9_later_27 hW.1 ?_
        refine rw_iload f_X9_later_30 rfl ?_
        refine rw_iadd f_X9_later_31 ?_
        refine rw_putI f_X9_later_32 hW.1 ?_
        refine rw_aload f_X9_later_35 rfl ?_
        refine rw_getI f_X9_later_36 hW.1 ?_
        refine rw_iret f_X9_later_39 ?_
        first | (simpa [sp_later, c1, c2, c3] using hk) | (rw [sI_same]; simpa [sp_later, c1, c2, c3] using hk)
      · refine rw_const f_X9_later_23 ?_
        refine rw_iret f_X9_later_24 ?_
        first | (simpa [sp_later, c1, c2, c3] using hk) | (rw [sI_same]; simpa [sp_later, c1, c2, c3] using hk)
def sp_lies (n : Int32) (row : Nat → Int32) (i : Int32) : Int32 := if isIn i 0 (n - 1) = true then row i.toNatClampNeg else -2
theorem M_lies (hW : MW h m) {n : Nat} (hn : hp_I h m 85 = nI n) (hn10 : n ≤ 10) {i : Int32} (hk : k (sp_lies (hp_I h m 85) (hp_I h (m + 42)) i) h) : Rn (d + 1) n_X9_lies 0 [am_r m, am_i i] [] h (kI k) := by
  unfold sp_lies at hk
  refine rw_iload f_X9_lies_0 rfl ?_
  refine rw_const f_X9_lies_1 ?_
  refine rw_aload f_X9_lies_2 rfl ?_
  refine rw_getI f_X9_lies_3 hW.1 ?_
  refine rw_const f_X9_lies_6 ?_
  refine rw_isub f_X9_lies_7 ?_
  refine rw_callS f_X9_lies_8 rfl rfl rfl (rn_ki (M_isIn ?_))
  first | refine rw_eq0B f_X9_lies_11 (fun c1 => ?_) (fun c1 => ?_) | refine rw_eq0 f_X9_lies_11 (fun c1 => ?_) (fun c1 => ?_)
  · refine rw_const f_X9_lies_23 ?_
    refine rw_iret f_X9_lies_25 ?_
    first | (simpa [c1] using hk) | (rw [nI_clamp (by omega)] at hk; simpa [c1] using hk)
  · obtain ⟨j, rfl, hj⟩ := isIn_nat (n := n) (by omega) (by rw [← hn]; exact c1)
    refine rw_aload f_X9_lies_14 rfl ?_
    refine rw_getR f_X9_lies_15 hW.1 (hW.2.2 84 _ _ _ rfl).1 ?_
    refine rw_iload f_X9_lies_18 rfl ?_
    refine rw_xaldE f_X9_lies_19 (hW.2.2 84 _ _ _ rfl).2 rfl (by omega) (by omega) ?_
    refine rw_goto f_X9_lies_20 ?_
    refine rw_iret f_X9_lies_25 ?_
    first | (simpa [c1] using hk) | (rw [nI_clamp (by omega)] at hk; simpa [c1] using hk)
end MQ
