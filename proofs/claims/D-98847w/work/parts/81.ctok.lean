/-! THE CLASS: its reader's tokens -/
section CTok2
variable {d : Nat} {h : am_H} {R tp N : Nat} {T : tx}
/-- only the token's own fields change -/
def RF (h h' : am_H) (R : Nat) : Prop := ∀ j, ¬ (4 ≤ j ∧ j ≤ 7) → hp_I h' R j = hp_I h R j
theorem RF.s {hh : am_H} {k : Nat} {v : Int32} (q : RF h hh R) (hk : 4 ≤ k ∧ k ≤ 7) : RF h (hp_sI hh R k v) R := fun j hj => by rw [sI_ne (by omega)]; exact q j hj
theorem OnL_sI {S : Nat → Prop} {a k : Nat} {v : Int32} (ha : S a) : OnL S h (hp_sI h a k v) := (On_sI ha).l
/-- a word is read -/
theorem C_readWord (hR0 : RW h R tp N T) {p : Nat} (hp : p < N) (hl : isLt (T p) = true) (h4 : hp_I h R 4 = nI p) {k : am_H → Prop} (hk : ∀ h', OnL (at_ R) h h' → RF h h' R → RT h' R N T p → k h') : Rn (d + 1) n_X10_readWord 0 [am_r R] [] h (kV k) := by
  have hN := hR0.2.2.2.2.2.1
  have rK := hR0.1
  have A : at_ R R := rfl
  have ed : tkE T N p = rEnd isLt T N p := by unfold tkE; rw [if_neg (by omega), if_pos hl]
  refine rw_aload f_X10_readWord_0 rfl ?_
  refine rw_const f_X10_readWord_1 ?_
  refine rw_putI f_X10_readWord_2 (by assumption) ?_
  refine rw_aload f_X10_readWord_5 rfl ?_
  refine rw_const f_X10_readWord_6 ?_
  refine rw_putL f_X10_readWord_7 (by assumption) ?_
  refine rw_aload f_X10_readWord_10 rfl ?_
  refine rw_aload f_X10_readWord_11 rfl ?_
  refine rw_getI f_X10_readWord_12 (by assumption) ?_
  rw [show hp_I (hp_sL (hp_sI h R 6 1) R 8 0) R 4 = nI p from (sI_ne (h := h) (by simp)).trans h4]
  refine rw_putI f_X10_readWord_15 (by assumption) ?_
  skip
  have le : rEnd isLt T N p ≤ N := rEnd_N (by omega)
  have loop : ∀ n q, N - q = n → p ≤ q → q ≤ N → rEnd isLt T N p = rEnd isLt T N q → ∀ hh, OnL (at_ R) h hh → RF h hh R → hp_I hh R 4 = nI p → hp_I hh R 5 = nI q → hp_I hh R 6 = 1 → hp_L hh R 8 = wF T p (q - p) → Rn (d + 1) n_X10_readWord 18 [am_r R] [] hh (kV k) := by
    intro n
    induction n with
    | zero =>
      intro q hq hpq hqN er hh on e1 e4 e5 e6 e8
      have hR := hR0.on on (fun b w => w) (e1 1 (by omega))
      have rz := hR.2.1
      have rK := hR.1
      have er' := er
      rw [rEnd_f (q := q) (by omega)] at er'
      have nl : isLt (sg0 T N q) = false := by
        cases z : isLt (sg0 T N q) with
        | false => rfl
        | true => have := lt_sg0.mp z; omega
      have fin : ∀ hh', OnL (at_ R) h hh' → RF h hh' R → hp_I hh' R 4 = nI p → hp_I hh' R 5 = nI q → hp_L hh' R 8 = wF T p (q - p) → hp_I hh' R 6 = tkD T N p → (tkD T N p = 1 ∨ tkD T N p = 4) → k hh' := by
        intro hh' on' a1 a4 a5 a8 a6 a7
        refine hk hh' on' a1 ⟨by omega, a4, by rw [ed, er']; exact a5, a6, fun z => by rcases a7 with y | y <;> (rw [z] at y; exact absurd y (by decide)), fun _ => by rw [a8]; unfold tkW; rw [ed, er']⟩
      have esub : nI q - nI p = nI (q - p) := by
        have : nI (q - p) + nI p = nI q := by rw [nI_addl, Nat.sub_add_cancel hpq]
        rw [← this, Int32.add_sub_cancel]
      by_cases c8 : 8 < q - p
      · have dd : tkD T N p = 4 := by unfold tkD; rw [if_neg (by omega), if_pos hl, er', if_pos c8]
        refine rw_aload f_X10_readWord_18 rfl ?_
        refine rw_aload f_X10_readWord_19 rfl ?_
        refine rw_getI f_X10_readWord_20 (by assumption) ?_
        rw [e5]
        refine rw_callV f_X10_readWord_23 rfl (by assumption) (by first | assumption | omega) rfl rfl rfl rfl (rn_ki (C_sign hR (by omega) ?_))
        refine rw_callS f_X10_readWord_26 rfl rfl rfl (rn_ki (C_isLt ?_))
        rw [nl]
        refine rw_ifT f_X10_readWord_29 (by decide) ?_
        refine rw_aload f_X10_readWord_87 rfl ?_
        refine rw_getI f_X10_readWord_88 (by assumption) ?_
        rw [e5]
        refine rw_aload f_X10_readWord_91 rfl ?_
        refine rw_getI f_X10_readWord_92 (by assumption) ?_
        rw [e4]
        refine rw_isub f_X10_readWord_95 ?_
        rw [esub]
        refine rw_const f_X10_readWord_96 ?_
        refine rw_icmpF f_X10_readWord_98 (decide_eq_false (by rw [show (8 : Int32) = nI 8 from rfl]; exact nI_ge c8 (by omega))) ?_
        refine rw_aload f_X10_readWord_101 rfl ?_
        refine rw_const f_X10_readWord_102 ?_
        refine rw_putI f_X10_readWord_103 (by assumption) ?_
        refine rw_vret f_X10_readWord_106 ?_
        exact fin _ (on.tr (OnL_sI A)) (RF.s e1 (by omega)) (by rw [sI_ne (by simp)]; exact e4) (by rw [sI_ne (by simp)]; exact e5) e8 (by rw [sI_same, dd]) (Or.inr dd)
      · have dd : tkD T N p = 1 := by unfold tkD; rw [if_neg (by omega), if_pos hl, er', if_neg c8]
        refine rw_aload f_X10_readWord_18 rfl ?_
        refine rw_aload f_X10_readWord_19 rfl ?_
        refine rw_getI f_X10_readWord_20 (by assumption) ?_
        rw [e5]
        refine rw_callV f_X10_readWord_23 rfl (by assumption) (by first | assumption | omega) rfl rfl rfl rfl (rn_ki (C_sign hR (by omega) ?_))
        refine rw_callS f_X10_readWord_26 rfl rfl rfl (rn_ki (C_isLt ?_))
        rw [nl]
        refine rw_ifT f_X10_readWord_29 (by decide) ?_
        refine rw_aload f_X10_readWord_87 rfl ?_
        refine rw_getI f_X10_readWord_88 (by assumption) ?_
        rw [e5]
        refine rw_aload f_X10_readWord_91 rfl ?_
        refine rw_getI f_X10_readWord_92 (by assumption) ?_
        rw [e4]
        refine rw_isub f_X10_readWord_95 ?_
        rw [esub]
        refine rw_const f_X10_readWord_96 ?_
        refine rw_icmpT f_X10_readWord_98 (decide_eq_true (by rw [show (8 : Int32) = nI 8 from rfl]; exact nI_le (by omega) (by omega))) ?_
        refine rw_vret f_X10_readWord_106 ?_
        exact fin _ on e1 e4 e5 e8 (by rw [e6, dd]) (Or.inl dd)
    | succ n ih =>
      intro q hq hpq hqN er hh on e1 e4 e5 e6 e8
      have hR := hR0.on on (fun b w => w) (e1 1 (by omega))
      have rz := hR.2.1
      have rK := hR.1
      have esub : nI q - nI p = nI (q - p) := by
        have : nI (q - p) + nI p = nI q := by rw [nI_addl, Nat.sub_add_cancel hpq]
        rw [← this, Int32.add_sub_cancel]
      by_cases z : isLt (sg0 T N q) = true
      · have zz := lt_sg0.mp z
        have sq : sg0 T N q = T q := if_pos zz.1
        have er2 := er
        rw [rEnd_t zz.1 zz.2] at er2
        have step : ∀ v : Int64, v = wF T p (q - p + 1) → Rn (d + 1) n_X10_readWord 74 [am_r R] [] (hp_sL hh R 8 v) (kV k) := by
          intro v hv
          have e5' : hp_I (hp_sL hh R 8 v) R 5 = nI q := e5
          have rK' : hp_K (hp_sL hh R 8 v) R = (110, 0) := rK
          refine rw_aload f_X10_readWord_74 rfl ?_
          first | refine rw_dupr f_X10_readWord_75 ?_ | refine rw_dupi f_X10_readWord_75 ?_
          refine rw_getI f_X10_readWord_76 (by assumption) ?_
          rw [e5']
          refine rw_const f_X10_readWord_79 ?_
          refine rw_iadd f_X10_readWord_80 ?_
          rw [nI_1']
          refine rw_putI f_X10_readWord_81 (by assumption) ?_
          refine rw_goto f_X10_readWord_84 ?_
          refine ih (q + 1) (by omega) (by omega) (by omega) er2 _ ((on.tr (OnL_sL A)).tr (OnL_sI A)) (RF.s (hh := hp_sL hh R 8 v) e1 (by omega)) (by rw [sI_ne (by simp)]; exact e4) sI_same (by rw [sI_ne (by simp)]; exact e6) ?_
          show hp_L (hp_sL hh R 8 v) R 8 = _
          rw [sL_same, hv, show q + 1 - p = q - p + 1 by omega]
        by_cases c8 : q - p < 8
        · refine rw_aload f_X10_readWord_18 rfl ?_
          refine rw_aload f_X10_readWord_19 rfl ?_
          refine rw_getI f_X10_readWord_20 (by assumption) ?_
          rw [e5]
          refine rw_callV f_X10_readWord_23 rfl (by assumption) (by first | assumption | omega) rfl rfl rfl rfl (rn_ki (C_sign hR (by omega) ?_))
          refine rw_callS f_X10_readWord_26 rfl rfl rfl (rn_ki (C_isLt ?_))
          rw [z]
          refine rw_ifF f_X10_readWord_29 (by decide) ?_
          refine rw_aload f_X10_readWord_32 rfl ?_
          refine rw_aload f_X10_readWord_33 rfl ?_
          refine rw_getI f_X10_readWord_34 (by assumption) ?_
          rw [e5]
          refine rw_aload f_X10_readWord_37 rfl ?_
          refine rw_getI f_X10_readWord_38 (by assumption) ?_
          rw [e4]
          refine rw_isub f_X10_readWord_41 ?_
          rw [esub]
          refine rw_const f_X10_readWord_42 ?_
          refine rw_icmpF f_X10_readWord_44 (decide_eq_false (by rw [show (8 : Int32) = nI 8 from rfl]; exact nI_ge c8 (by omega))) ?_
          refine rw_aload f_X10_readWord_47 rfl ?_
          refine rw_getL f_X10_readWord_48 (by assumption) ?_
          rw [e8]
          refine rw_const f_X10_readWord_51 ?_
          refine rw_lsh f_X10_readWord_53 ?_
          refine rw_aload f_X10_readWord_54 rfl ?_
          refine rw_aload f_X10_readWord_55 rfl ?_
          refine rw_getI f_X10_readWord_56 (by assumption) ?_
          rw [e5]
          refine rw_callV f_X10_readWord_59 rfl (by assumption) (by first | assumption | omega) rfl rfl rfl rfl (rn_ki (C_sign hR (by omega) ?_))
          refine rw_i2l f_X10_readWord_62 ?_
          refine rw_lor f_X10_readWord_63 ?_
          refine rw_goto f_X10_readWord_64 ?_
          refine rw_putL f_X10_readWord_71 (by assumption) ?_
          refine step _ ?_
          simp only [wF]
          rw [if_pos c8, show p + (q - p) = q by omega, sq]
        · refine rw_aload f_X10_readWord_18 rfl ?_
          refine rw_aload f_X10_readWord_19 rfl ?_
          refine rw_getI f_X10_readWord_20 (by assumption) ?_
          rw [e5]
          refine rw_callV f_X10_readWord_23 rfl (by assumption) (by first | assumption | omega) rfl rfl rfl rfl (rn_ki (C_sign hR (by omega) ?_))
          refine rw_callS f_X10_readWord_26 rfl rfl rfl (rn_ki (C_isLt ?_))
          rw [z]
          refine rw_ifF f_X10_readWord_29 (by decide) ?_
          refine rw_aload f_X10_readWord_32 rfl ?_
          refine rw_aload f_X10_readWord_33 rfl ?_
          refine rw_getI f_X10_readWord_34 (by assumption) ?_
          rw [e5]
          refine rw_aload f_X10_readWord_37 rfl ?_
          refine rw_getI f_X10_readWord_38 (by assumption) ?_
          rw [e4]
          refine rw_isub f_X10_readWord_41 ?_
          rw [esub]
          refine rw_const f_X10_readWord_42 ?_
          refine rw_icmpT f_X10_readWord_44 (decide_eq_true (by rw [show (8 : Int32) = nI 8 from rfl]; exact nI_le (by omega) (by omega))) ?_
          refine rw_aload f_X10_readWord_67 rfl ?_
          refine rw_getL f_X10_readWord_68 (by assumption) ?_
          rw [e8]
          refine rw_putL f_X10_readWord_71 (by assumption) ?_
          refine step _ ?_
          simp only [wF]
          rw [if_neg c8]
      · have z' : isLt (sg0 T N q) = false := by simpa using z
        have er' := er
        rw [rEnd_f (fun w => z (lt_sg0.mpr w))] at er'
        have fin : ∀ hh', OnL (at_ R) h hh' → RF h hh' R → hp_I hh' R 4 = nI p → hp_I hh' R 5 = nI q → hp_L hh' R 8 = wF T p (q - p) → hp_I hh' R 6 = tkD T N p → (tkD T N p = 1 ∨ tkD T N p = 4) → k hh' := by
          intro hh' on' a1 a4 a5 a8 a6 a7
          refine hk hh' on' a1 ⟨by omega, a4, by rw [ed, er']; exact a5, a6, fun z => by rcases a7 with y | y <;> (rw [z] at y; exact absurd y (by decide)), fun _ => by rw [a8]; unfold tkW; rw [ed, er']⟩
        by_cases c8 : 8 < q - p
        · have dd : tkD T N p = 4 := by unfold tkD; rw [if_neg (by omega), if_pos hl, er', if_pos c8]
          refine rw_aload f_X10_readWord_18 rfl ?_
          refine rw_aload f_X10_readWord_19 rfl ?_
          refine rw_getI f_X10_readWord_20 (by assumption) ?_
          rw [e5]
          refine rw_callV f_X10_readWord_23 rfl (by assumption) (by first | assumption | omega) rfl rfl rfl rfl (rn_ki (C_sign hR (by omega) ?_))
          refine rw_callS f_X10_readWord_26 rfl rfl rfl (rn_ki (C_isLt ?_))
          rw [z']
          refine rw_ifT f_X10_readWord_29 (by decide) ?_
          refine rw_aload f_X10_readWord_87 rfl ?_
          refine rw_getI f_X10_readWord_88 (by assumption) ?_
          rw [e5]
          refine rw_aload f_X10_readWord_91 rfl ?_
          refine rw_getI f_X10_readWord_92 (by assumption) ?_
          rw [e4]
          refine rw_isub f_X10_readWord_95 ?_
          rw [esub]
          refine rw_const f_X10_readWord_96 ?_
          refine rw_icmpF f_X10_readWord_98 (decide_eq_false (by rw [show (8 : Int32) = nI 8 from rfl]; exact nI_ge c8 (by omega))) ?_
          refine rw_aload f_X10_readWord_101 rfl ?_
          refine rw_const f_X10_readWord_102 ?_
          refine rw_putI f_X10_readWord_103 (by assumption) ?_
          refine rw_vret f_X10_readWord_106 ?_
          exact fin _ (on.tr (OnL_sI A)) (RF.s e1 (by omega)) (by rw [sI_ne (by simp)]; exact e4) (by rw [sI_ne (by simp)]; exact e5) e8 (by rw [sI_same, dd]) (Or.inr dd)
        · have dd : tkD T N p = 1 := by unfold tkD; rw [if_neg (by omega), if_pos hl, er', if_neg c8]
          refine rw_aload f_X10_readWord_18 rfl ?_
          refine rw_aload f_X10_readWord_19 rfl ?_
          refine rw_getI f_X10_readWord_20 (by assumption) ?_
          rw [e5]
          refine rw_callV f_X10_readWord_23 rfl (by assumption) (by first | assumption | omega) rfl rfl rfl rfl (rn_ki (C_sign hR (by omega) ?_))
          refine rw_callS f_X10_readWord_26 rfl rfl rfl (rn_ki (C_isLt ?_))
          rw [z']
          refine rw_ifT f_X10_readWord_29 (by decide) ?_
          refine rw_aload f_X10_readWord_87 rfl ?_
          refine rw_getI f_X10_readWord_88 (by assumption) ?_
          rw [e5]
          refine rw_aload f_X10_readWord_91 rfl ?_
          refine rw_getI f_X10_readWord_92 (by assumption) ?_
          rw [e4]
          refine rw_isub f_X10_readWord_95 ?_
          rw [esub]
          refine rw_const f_X10_readWord_96 ?_
          refine rw_icmpT f_X10_readWord_98 (decide_eq_true (by rw [show (8 : Int32) = nI 8 from rfl]; exact nI_le (by omega) (by omega))) ?_
          refine rw_vret f_X10_readWord_106 ?_
          exact fin _ on e1 e4 e5 e8 (by rw [e6, dd]) (Or.inl dd)
  refine loop (N - p) p rfl (Nat.le_refl _) (by omega) rfl _ (((OnL_sI A).tr (OnL_sL A)).tr (OnL_sI A)) ?_ ?_ sI_same ?_ ?_
  · exact RF.s (hh := hp_sL (hp_sI h R 6 1) R 8 0) (RF.s (fun _ _ => rfl) (by omega)) (by omega)
  · exact (sI_ne (by simp)).trans ((sI_ne (h := h) (by simp)).trans h4)
  · exact (sI_ne (by simp)).trans (sI_same (h := h))
  · show hp_L (hp_sL (hp_sI h R 6 1) R 8 0) R 8 = _
    rw [sL_same, Nat.sub_self]; rfl
/-- a number is read -/
theorem C_readNumber (hR0 : RW h R tp N T) {p : Nat} (hp : p < N) (hnl : isLt (T p) = false) (hl : isDg (T p) = true) (h4 : hp_I h R 4 = nI p) {k : am_H → Prop} (hk : ∀ h', OnL (at_ R) h h' → RF h h' R → RT h' R N T p → k h') : Rn (d + 1) n_X10_readNumber 0 [am_r R] [] h (kV k) := by
  have hN := hR0.2.2.2.2.2.1
  have rK := hR0.1
  have A : at_ R R := rfl
  have hnl' : ¬ isLt (T p) = true := by rw [hnl]; decide
  have ed : tkE T N p = rEnd isDg T N p := by unfold tkE; rw [if_neg (by omega), if_neg hnl', if_pos hl]
  refine rw_aload f_X10_readNumber_0 rfl ?_
  refine rw_const f_X10_readNumber_1 ?_
  refine rw_putI f_X10_readNumber_2 (by assumption) ?_
  refine rw_aload f_X10_readNumber_5 rfl ?_
  refine rw_const f_X10_readNumber_6 ?_
  refine rw_putI f_X10_readNumber_7 (by assumption) ?_
  refine rw_aload f_X10_readNumber_10 rfl ?_
  refine rw_aload f_X10_readNumber_11 rfl ?_
  refine rw_getI f_X10_readNumber_12 (by assumption) ?_
  rw [show hp_I (hp_sI (hp_sI h R 6 2) R 7 0) R 4 = nI p from (sI_ne (by simp)).trans ((sI_ne (by simp)).trans h4)]
  refine rw_putI f_X10_readNumber_15 (by assumption) ?_
  skip
  have le : rEnd isDg T N p ≤ N := rEnd_N (by omega)
  -- behind the run
  have tail : ∀ q, p ≤ q → q ≤ N → rEnd isDg T N p = q → isDg (sg0 T N q) = false → ∀ hh, OnL (at_ R) h hh → RF h hh R → hp_I hh R 4 = nI p → hp_I hh R 5 = nI q → hp_I hh R 6 = 2 → hp_I hh R 7 = nF T p (q - p) → Rn (d + 1) n_X10_readNumber 18 [am_r R] [] hh (kV k) := by
    intro q hpq hqN er' nl hh on e1 e4 e5 e6 e7
    have hR := hR0.on on (fun b w => w) (e1 1 (by omega))
    have rz := hR.2.1
    have rK := hR.1
    have fin : ∀ hh', OnL (at_ R) h hh' → RF h hh' R → hp_I hh' R 4 = nI p → hp_I hh' R 5 = nI q → hp_I hh' R 7 = nF T p (q - p) → hp_I hh' R 6 = tkD T N p → (tkD T N p = 2 ∨ tkD T N p = 4) → k hh' := by
      intro hh' on' a1 a4 a5 a7 a6 a8
      refine hk hh' on' a1 ⟨by omega, a4, by rw [ed, er']; exact a5, a6, fun _ => by rw [a7]; unfold tkN; rw [ed, er'], fun z => by rcases a8 with y | y <;> (rw [z] at y; exact absurd y (by decide))⟩
    have esub : nI q - nI p = nI (q - p) := by
      have : nI (q - p) + nI p = nI q := by rw [nI_addl, Nat.sub_add_cancel hpq]
      rw [← this, Int32.add_sub_cancel]
    by_cases c4 : 4 < q - p
    · have dd : tkD T N p = 4 := by unfold tkD; rw [if_neg (by omega), if_neg hnl', if_pos hl, er', if_pos c4]
      refine rw_aload f_X10_readNumber_18 rfl ?_
      refine rw_aload f_X10_readNumber_19 rfl ?_
      refine rw_getI f_X10_readNumber_20 (by assumption) ?_
      rw [e5]
      refine rw_callV f_X10_readNumber_23 rfl (by assumption) (by first | assumption | omega) rfl rfl rfl rfl (rn_ki (C_sign hR (by omega) ?_))
      refine rw_callS f_X10_readNumber_26 rfl rfl rfl (rn_ki (C_isDg ?_))
      rw [nl]
      refine rw_ifT f_X10_readNumber_29 (by decide) ?_
      refine rw_aload f_X10_readNumber_88 rfl ?_
      refine rw_getI f_X10_readNumber_89 (by assumption) ?_
      rw [e5]
      refine rw_aload f_X10_readNumber_92 rfl ?_
      refine rw_getI f_X10_readNumber_93 (by assumption) ?_
      rw [e4]
      refine rw_isub f_X10_readNumber_96 ?_
      rw [esub]
      refine rw_const f_X10_readNumber_97 ?_
      refine rw_icmpT f_X10_readNumber_98 (decide_eq_true (by rw [show (4 : Int32) = nI 4 from rfl]; exact nI_lt c4 (by omega))) ?_
      refine rw_aload f_X10_readNumber_115 rfl ?_
      refine rw_const f_X10_readNumber_116 ?_
      refine rw_putI f_X10_readNumber_117 (by assumption) ?_
      refine rw_vret f_X10_readNumber_120 ?_
      exact fin _ (on.tr (OnL_sI A)) (RF.s e1 (by omega)) (by rw [sI_ne (by simp)]; exact e4) (by rw [sI_ne (by simp)]; exact e5) (by rw [sI_ne (by simp)]; exact e7) (by rw [sI_same, dd]) (Or.inr dd)
    · have n4 : ¬ (4 : Int32) < nI (q - p) := by rw [show (4 : Int32) = nI 4 from rfl]; exact Int32.not_lt.mpr (nI_le (by omega) (by omega))
      by_cases cl : isLt (sg0 T N q) = true
      · have dd : tkD T N p = 4 := by unfold tkD; rw [if_neg (by omega), if_neg hnl', if_pos hl, er', if_neg c4, if_pos (lt_sg0.mp cl)]
        refine rw_aload f_X10_readNumber_18 rfl ?_
        refine rw_aload f_X10_readNumber_19 rfl ?_
        refine rw_getI f_X10_readNumber_20 (by assumption) ?_
        rw [e5]
        refine rw_callV f_X10_readNumber_23 rfl (by assumption) (by first | assumption | omega) rfl rfl rfl rfl (rn_ki (C_sign hR (by omega) ?_))
        refine rw_callS f_X10_readNumber_26 rfl rfl rfl (rn_ki (C_isDg ?_))
        rw [nl]
        refine rw_ifT f_X10_readNumber_29 (by decide) ?_
        refine rw_aload f_X10_readNumber_88 rfl ?_
        refine rw_getI f_X10_readNumber_89 (by assumption) ?_
        rw [e5]
        refine rw_aload f_X10_readNumber_92 rfl ?_
        refine rw_getI f_X10_readNumber_93 (by assumption) ?_
        rw [e4]
        refine rw_isub f_X10_readNumber_96 ?_
        rw [esub]
        refine rw_const f_X10_readNumber_97 ?_
        refine rw_icmpF f_X10_readNumber_98 (decide_eq_false n4) ?_
        refine rw_aload f_X10_readNumber_101 rfl ?_
        refine rw_aload f_X10_readNumber_102 rfl ?_
        refine rw_getI f_X10_readNumber_103 (by assumption) ?_
        rw [e5]
        refine rw_callV f_X10_readNumber_106 rfl (by assumption) (by first | assumption | omega) rfl rfl rfl rfl (rn_ki (C_sign hR (by omega) ?_))
        refine rw_callS f_X10_readNumber_109 rfl rfl rfl (rn_ki (C_isLt ?_))
        rw [cl]
        refine rw_ifF f_X10_readNumber_112 (by decide) ?_
        refine rw_aload f_X10_readNumber_115 rfl ?_
        refine rw_const f_X10_readNumber_116 ?_
        refine rw_putI f_X10_readNumber_117 (by assumption) ?_
        refine rw_vret f_X10_readNumber_120 ?_
        exact fin _ (on.tr (OnL_sI A)) (RF.s e1 (by omega)) (by rw [sI_ne (by simp)]; exact e4) (by rw [sI_ne (by simp)]; exact e5) (by rw [sI_ne (by simp)]; exact e7) (by rw [sI_same, dd]) (Or.inr dd)
      · have cl' : isLt (sg0 T N q) = false := by simpa using cl
        have dd : tkD T N p = 2 := by unfold tkD; rw [if_neg (by omega), if_neg hnl', if_pos hl, er', if_neg c4, if_neg (fun w => cl (lt_sg0.mpr w))]
        refine rw_aload f_X10_readNumber_18 rfl ?_
        refine rw_aload f_X10_readNumber_19 rfl ?_
        refine rw_getI f_X10_readNumber_20 (by assumption) ?_
        rw [e5]
        refine rw_callV f_X10_readNumber_23 rfl (by assumption) (by first | assumption | omega) rfl rfl rfl rfl (rn_ki (C_sign hR (by omega) ?_))
        refine rw_callS f_X10_readNumber_26 rfl rfl rfl (rn_ki (C_isDg ?_))
        rw [nl]
        refine rw_ifT f_X10_readNumber_29 (by decide) ?_
        refine rw_aload f_X10_readNumber_88 rfl ?_
        refine rw_getI f_X10_readNumber_89 (by assumption) ?_
        rw [e5]
        refine rw_aload f_X10_readNumber_92 rfl ?_
        refine rw_getI f_X10_readNumber_93 (by assumption) ?_
        rw [e4]
        refine rw_isub f_X10_readNumber_96 ?_
        rw [esub]
        refine rw_const f_X10_readNumber_97 ?_
        refine rw_icmpF f_X10_readNumber_98 (decide_eq_false n4) ?_
        refine rw_aload f_X10_readNumber_101 rfl ?_
        refine rw_aload f_X10_readNumber_102 rfl ?_
        refine rw_getI f_X10_readNumber_103 (by assumption) ?_
        rw [e5]
        refine rw_callV f_X10_readNumber_106 rfl (by assumption) (by first | assumption | omega) rfl rfl rfl rfl (rn_ki (C_sign hR (by omega) ?_))
        refine rw_callS f_X10_readNumber_109 rfl rfl rfl (rn_ki (C_isLt ?_))
        rw [cl']
        refine rw_ifT f_X10_readNumber_112 (by decide) ?_
        refine rw_vret f_X10_readNumber_120 ?_
        exact fin _ on e1 e4 e5 e7 (by rw [e6, dd]) (Or.inl dd)
  have loop : ∀ n q, N - q = n → p ≤ q → q ≤ N → rEnd isDg T N p = rEnd isDg T N q → ∀ hh, OnL (at_ R) h hh → RF h hh R → hp_I hh R 4 = nI p → hp_I hh R 5 = nI q → hp_I hh R 6 = 2 → hp_I hh R 7 = nF T p (q - p) → Rn (d + 1) n_X10_readNumber 18 [am_r R] [] hh (kV k) := by
    intro n
    induction n with
    | zero =>
      intro q hq hpq hqN er hh on e1 e4 e5 e6 e7
      refine tail q hpq hqN (by rw [er, rEnd_f (by omega)]) ?_ hh on e1 e4 e5 e6 e7
      cases z : isDg (sg0 T N q) with
      | false => rfl
      | true => have := dg_sg0.mp z; omega
    | succ n ih =>
      intro q hq hpq hqN er hh on e1 e4 e5 e6 e7
      have hR := hR0.on on (fun b w => w) (e1 1 (by omega))
      have rz := hR.2.1
      have rK := hR.1
      have esub : nI q - nI p = nI (q - p) := by
        have : nI (q - p) + nI p = nI q := by rw [nI_addl, Nat.sub_add_cancel hpq]
        rw [← this, Int32.add_sub_cancel]
      by_cases z : isDg (sg0 T N q) = true
      · have zz := dg_sg0.mp z
        have sq : sg0 T N q = T q := if_pos zz.1
        have er2 := er
        rw [rEnd_t zz.1 zz.2] at er2
        have step : ∀ v : Int32, v = nF T p (q - p + 1) → Rn (d + 1) n_X10_readNumber 75 [am_r R] [] (hp_sI hh R 7 v) (kV k) := by
          intro v hv
          have e5' : hp_I (hp_sI hh R 7 v) R 5 = nI q := by rw [sI_ne (by simp)]; exact e5
          have rK' : hp_K (hp_sI hh R 7 v) R = (110, 0) := rK
          refine rw_aload f_X10_readNumber_75 rfl ?_
          first | refine rw_dupr f_X10_readNumber_76 ?_ | refine rw_dupi f_X10_readNumber_76 ?_
          refine rw_getI f_X10_readNumber_77 (by assumption) ?_
          rw [e5']
          refine rw_const f_X10_readNumber_80 ?_
          refine rw_iadd f_X10_readNumber_81 ?_
          rw [nI_1']
          refine rw_putI f_X10_readNumber_82 (by assumption) ?_
          refine rw_goto f_X10_readNumber_85 ?_
          refine ih (q + 1) (by omega) (by omega) (by omega) er2 _ ((on.tr (OnL_sI A)).tr (OnL_sI A)) (RF.s (RF.s e1 (by omega)) (by omega)) (by rw [sI_ne (by simp), sI_ne (by simp)]; exact e4) sI_same (by rw [sI_ne (by simp), sI_ne (by simp)]; exact e6) ?_
          rw [sI_ne (by simp), sI_same, hv, show q + 1 - p = q - p + 1 by omega]
        by_cases c4 : q - p < 4
        · refine rw_aload f_X10_readNumber_18 rfl ?_
          refine rw_aload f_X10_readNumber_19 rfl ?_
          refine rw_getI f_X10_readNumber_20 (by assumption) ?_
          rw [e5]
          refine rw_callV f_X10_readNumber_23 rfl (by assumption) (by first | assumption | omega) rfl rfl rfl rfl (rn_ki (C_sign hR (by omega) ?_))
          refine rw_callS f_X10_readNumber_26 rfl rfl rfl (rn_ki (C_isDg ?_))
          rw [z]
          refine rw_ifF f_X10_readNumber_29 (by decide) ?_
          refine rw_aload f_X10_readNumber_32 rfl ?_
          refine rw_aload f_X10_readNumber_33 rfl ?_
          refine rw_getI f_X10_readNumber_34 (by assumption) ?_
          rw [e5]
          refine rw_aload f_X10_readNumber_37 rfl ?_
          refine rw_getI f_X10_readNumber_38 (by assumption) ?_
          rw [e4]
          refine rw_isub f_X10_readNumber_41 ?_
          rw [esub]
          refine rw_const f_X10_readNumber_42 ?_
          refine rw_icmpF f_X10_readNumber_43 (decide_eq_false (by rw [show (4 : Int32) = nI 4 from rfl]; exact nI_ge c4 (by omega))) ?_
          refine rw_const f_X10_readNumber_46 ?_
          refine rw_aload f_X10_readNumber_48 rfl ?_
          refine rw_getI f_X10_readNumber_49 (by assumption) ?_
          rw [e7]
          refine rw_imul f_X10_readNumber_52 ?_
          refine rw_aload f_X10_readNumber_53 rfl ?_
          refine rw_aload f_X10_readNumber_54 rfl ?_
          refine rw_getI f_X10_readNumber_55 (by assumption) ?_
          rw [e5]
          refine rw_callV f_X10_readNumber_58 rfl (by assumption) (by first | assumption | omega) rfl rfl rfl rfl (rn_ki (C_sign hR (by omega) ?_))
          refine rw_iadd f_X10_readNumber_61 ?_
          refine rw_const f_X10_readNumber_62 ?_
          refine rw_isub f_X10_readNumber_64 ?_
          refine rw_goto f_X10_readNumber_65 ?_
          refine rw_putI f_X10_readNumber_72 (by assumption) ?_
          refine step _ ?_
          simp only [nF]
          rw [if_pos c4, show p + (q - p) = q by omega, sq]
        · refine rw_aload f_X10_readNumber_18 rfl ?_
          refine rw_aload f_X10_readNumber_19 rfl ?_
          refine rw_getI f_X10_readNumber_20 (by assumption) ?_
          rw [e5]
          refine rw_callV f_X10_readNumber_23 rfl (by assumption) (by first | assumption | omega) rfl rfl rfl rfl (rn_ki (C_sign hR (by omega) ?_))
          refine rw_callS f_X10_readNumber_26 rfl rfl rfl (rn_ki (C_isDg ?_))
          rw [z]
          refine rw_ifF f_X10_readNumber_29 (by decide) ?_
          refine rw_aload f_X10_readNumber_32 rfl ?_
          refine rw_aload f_X10_readNumber_33 rfl ?_
          refine rw_getI f_X10_readNumber_34 (by assumption) ?_
          rw [e5]
          refine rw_aload f_X10_readNumber_37 rfl ?_
          refine rw_getI f_X10_readNumber_38 (by assumption) ?_
          rw [e4]
          refine rw_isub f_X10_readNumber_41 ?_
          rw [esub]
          refine rw_const f_X10_readNumber_42 ?_
          refine rw_icmpT f_X10_readNumber_43 (decide_eq_true (by rw [show (4 : Int32) = nI 4 from rfl]; exact nI_le (by omega) (by omega))) ?_
          refine rw_aload f_X10_readNumber_68 rfl ?_
          refine rw_getI f_X10_readNumber_69 (by assumption) ?_
          rw [e7]
          refine rw_putI f_X10_readNumber_72 (by assumption) ?_
          refine step _ ?_
          simp only [nF]
          rw [if_neg c4]
      · refine tail q hpq hqN (by rw [er, rEnd_f (fun w => z (dg_sg0.mpr w))]) (by simpa using z) hh on e1 e4 e5 e6 e7
  refine loop (N - p) p rfl (Nat.le_refl _) (by omega) rfl _ (((OnL_sI A).tr (OnL_sI A)).tr (OnL_sI A)) ?_ ?_ sI_same ?_ ?_
  · exact RF.s (RF.s (RF.s (fun _ _ => rfl) (by omega)) (by omega)) (by omega)
  · exact (sI_ne (by simp)).trans ((sI_ne (by simp)).trans ((sI_ne (by simp)).trans h4))
  · exact (sI_ne (by simp)).trans ((sI_ne (by simp)).trans sI_same)
  · rw [sI_ne (by simp), sI_same, Nat.sub_self]; rfl
/-- on to the next token -/
theorem C_next (hR0 : RW h R tp N T) {e : Nat} (he : e ≤ N) (h5 : hp_I h R 5 = nI e) {k : am_H → Prop} (hk : ∀ h', OnL (at_ R) h h' → RF h h' R → RT h' R N T (rEnd isSp T N e) → k h') : Rn (d + 2) n_X10_next 0 [am_r R, am_u] [] h (kV k) := by
  have hN := hR0.2.2.2.2.2.1
  have rK := hR0.1
  have rz := hR0.2.1
  have A : at_ R R := rfl
  -- the token at p
  have at_p : ∀ p, p ≤ N → rEnd isSp T N e = p → ∀ hh, OnL (at_ R) h hh → RF h hh R → hp_I hh R 4 = nI p → Rn (d + 2) n_X10_next 58 [am_r R, am_u] [] hh (kV k) := by
    intro p hp er hh on rf e4
    rw [er] at hk
    have hR := hR0.on on (fun b w => w) (rf 1 (by omega))
    have rz := hR.2.1
    have rK := hR.1
    have rN := hR.2.2.2.2.1
    by_cases c : p < N
    · have sp : sg0 T N p = T p := if_pos c
      have eN : ¬ nI N ≤ nI p := nI_ge c (by omega)
      have e4' : hp_I (hp_sI hh R 5 (nI (p + 1))) R 4 = nI p := by rw [sI_ne (by simp)]; exact e4
      have rN' : hp_I (hp_sI hh R 5 (nI (p + 1))) R 1 = nI N := by rw [sI_ne (by simp)]; exact rN
      have on5 : OnL (at_ R) h (hp_sI hh R 5 (nI (p + 1))) := on.tr (OnL_sI A)
      have rf5 : RF h (hp_sI hh R 5 (nI (p + 1))) R := rf.s (by omega)
      have hR5 := hR0.on on5 (fun b w => w) (rf5 1 (by omega))
      have e55 : hp_I (hp_sI hh R 5 (nI (p + 1))) R 5 = nI (p + 1) := sI_same
      have rK5 : hp_K (hp_sI hh R 5 (nI (p + 1))) R = (110, 0) := rK
      have go : Rn (d + 2) n_X10_next 95 [am_r R, am_i (T p)] [] (hp_sI hh R 5 (nI (p + 1))) (kV k) := by
        generalize hp_sI hh R 5 (nI (p + 1)) = g at *
        by_cases l : isLt (T p) = true
        · refine rw_aload f_X10_next_95 rfl ?_
          refine rw_getI f_X10_next_96 (by assumption) ?_
          rw [e4']
          refine rw_aload f_X10_next_99 rfl ?_
          refine rw_getI f_X10_next_100 (by assumption) ?_
          rw [rN']
          refine rw_icmpT f_X10_next_103 (decide_eq_true (nI_lt c (by omega))) ?_
          refine rw_iload f_X10_next_114 rfl ?_
          refine rw_callS f_X10_next_115 rfl rfl rfl (rn_ki (C_isLt ?_))
          rw [l]
          refine rw_ifF f_X10_next_118 (by decide) ?_
          refine rw_aload f_X10_next_121 rfl ?_
          refine rw_callV f_X10_next_122 rfl (by assumption) (by first | assumption | omega) rfl rfl rfl rfl (rn_kv (C_readWord hR5 c l e4' (fun h2 on2 rf2 rt2 => ?_)))
          refine rw_goto f_X10_next_125 ?_
          refine rw_vret f_X10_next_158 ?_
          exact hk h2 (on5.tr on2) (fun j hj => (rf2 j hj).trans (rf5 j hj)) rt2
        · have l' : isLt (T p) = false := by simpa using l
          by_cases g1 : isDg (T p) = true
          · refine rw_aload f_X10_next_95 rfl ?_
            refine rw_getI f_X10_next_96 (by assumption) ?_
            rw [e4']
            refine rw_aload f_X10_next_99 rfl ?_
            refine rw_getI f_X10_next_100 (by assumption) ?_
            rw [rN']
            refine rw_icmpT f_X10_next_103 (decide_eq_true (nI_lt c (by omega))) ?_
            refine rw_iload f_X10_next_114 rfl ?_
            refine rw_callS f_X10_next_115 rfl rfl rfl (rn_ki (C_isLt ?_))
            rw [l']
            refine rw_ifT f_X10_next_118 (by decide) ?_
            refine rw_iload f_X10_next_128 rfl ?_
            refine rw_callS f_X10_next_129 rfl rfl rfl (rn_ki (C_isDg ?_))
            rw [g1]
            refine rw_ifF f_X10_next_132 (by decide) ?_
            refine rw_aload f_X10_next_135 rfl ?_
            refine rw_callV f_X10_next_136 rfl (by assumption) (by first | assumption | omega) rfl rfl rfl rfl (rn_kv (C_readNumber hR5 c l' g1 e4' (fun h2 on2 rf2 rt2 => ?_)))
            refine rw_goto f_X10_next_139 ?_
            refine rw_vret f_X10_next_158 ?_
            exact hk h2 (on5.tr on2) (fun j hj => (rf2 j hj).trans (rf5 j hj)) rt2
          · have g1' : isDg (T p) = false := by simpa using g1
            have ed : tkE T N p = p + 1 := by unfold tkE; rw [if_neg (by omega), if_neg l, if_neg g1]
            have dd : tkD T N p = if isSg (T p) = true then 3 else 4 := by unfold tkD; rw [if_neg (by omega), if_neg l, if_neg g1]
            have fin : ∀ v : Int32, v = tkD T N p → (v = 3 ∨ v = 4) → k (hp_sI g R 6 v) := by
              intro v hv hv2
              refine hk _ (on5.tr (OnL_sI A)) (rf5.s (by omega)) ⟨hp, by rw [sI_ne (by simp)]; exact e4', by rw [sI_ne (by simp), ed]; exact e55, by rw [sI_same, hv], fun z => ?_, fun z => ?_⟩
              · rw [← hv] at z; rcases hv2 with y | y <;> (rw [z] at y; exact absurd y (by decide))
              · rw [← hv] at z; rcases hv2 with y | y <;> (rw [z] at y; exact absurd y (by decide))
            refine rw_aload f_X10_next_95 rfl ?_
            refine rw_getI f_X10_next_96 (by assumption) ?_
            rw [e4']
            refine rw_aload f_X10_next_99 rfl ?_
            refine rw_getI f_X10_next_100 (by assumption) ?_
            rw [rN']
            refine rw_icmpT f_X10_next_103 (decide_eq_true (nI_lt c (by omega))) ?_
            refine rw_iload f_X10_next_114 rfl ?_
            refine rw_callS f_X10_next_115 rfl rfl rfl (rn_ki (C_isLt ?_))
            rw [l']
            refine rw_ifT f_X10_next_118 (by decide) ?_
            refine rw_iload f_X10_next_128 rfl ?_
            refine rw_callS f_X10_next_129 rfl rfl rfl (rn_ki (C_isDg ?_))
            rw [g1']
            refine rw_ifT f_X10_next_132 (by decide) ?_
            refine rw_aload f_X10_next_142 rfl ?_
            refine rw_iload f_X10_next_143 rfl ?_
            refine rw_callS f_X10_next_144 rfl rfl rfl (rn_ki (C_isSg ?_))
            first | refine rw_eq0B f_X10_next_147 (fun c1 => ?_) (fun c1 => ?_) | refine rw_eq0 f_X10_next_147 (fun c1 => ?_) (fun c1 => ?_)
            · refine rw_const f_X10_next_154 ?_
              refine rw_putI f_X10_next_155 (by assumption) ?_
              refine rw_vret f_X10_next_158 ?_
              first | exact fin 3 (by rw [dd]; simp [c1]) (Or.inl rfl) | exact fin 4 (by rw [dd]; simp [c1]) (Or.inr rfl)
            · refine rw_const f_X10_next_150 ?_
              refine rw_goto f_X10_next_151 ?_
              refine rw_putI f_X10_next_155 (by assumption) ?_
              refine rw_vret f_X10_next_158 ?_
              first | exact fin 3 (by rw [dd]; simp [c1]) (Or.inl rfl) | exact fin 4 (by rw [dd]; simp [c1]) (Or.inr rfl)
      refine rw_aload f_X10_next_58 rfl ?_
      refine rw_aload f_X10_next_59 rfl ?_
      refine rw_getI f_X10_next_60 (by assumption) ?_
      rw [e4]
      refine rw_callV f_X10_next_63 rfl (by assumption) (by first | assumption | omega) rfl rfl rfl rfl (rn_ki (C_sign hR (by omega) ?_))
      rw [sp]
      refine rw_istore f_X10_next_66 rfl rfl ?_
      refine rw_aload f_X10_next_67 rfl ?_
      refine rw_aload f_X10_next_68 rfl ?_
      refine rw_getI f_X10_next_69 (by assumption) ?_
      rw [e4]
      refine rw_aload f_X10_next_72 rfl ?_
      refine rw_getI f_X10_next_73 (by assumption) ?_
      rw [rN]
      refine rw_icmpF f_X10_next_76 (decide_eq_false eN) ?_
      refine rw_aload f_X10_next_79 rfl ?_
      refine rw_getI f_X10_next_80 (by assumption) ?_
      rw [e4]
      refine rw_const f_X10_next_83 ?_
      refine rw_iadd f_X10_next_84 ?_
      rw [nI_1']
      refine rw_goto f_X10_next_85 ?_
      refine rw_putI f_X10_next_92 (by assumption) ?_
      exact go
    · obtain rfl : p = N := by omega
      have sp : sg0 T p p = 0 := if_neg (by omega)
      have e4' : hp_I (hp_sI hh R 5 (nI p)) R 4 = nI p := by rw [sI_ne (by simp)]; exact e4
      have rN' : hp_I (hp_sI hh R 5 (nI p)) R 1 = nI p := by rw [sI_ne (by simp)]; exact rN
      have ed : tkE T p p = p := by unfold tkE; rw [if_pos (Nat.le_refl _)]
      have dd : tkD T p p = 0 := by unfold tkD; rw [if_pos (Nat.le_refl _)]
      refine rw_aload f_X10_next_58 rfl ?_
      refine rw_aload f_X10_next_59 rfl ?_
      refine rw_getI f_X10_next_60 (by assumption) ?_
      rw [e4]
      refine rw_callV f_X10_next_63 rfl (by assumption) (by first | assumption | omega) rfl rfl rfl rfl (rn_ki (C_sign hR (by omega) ?_))
      rw [sp]
      refine rw_istore f_X10_next_66 rfl rfl ?_
      refine rw_aload f_X10_next_67 rfl ?_
      refine rw_aload f_X10_next_68 rfl ?_
      refine rw_getI f_X10_next_69 (by assumption) ?_
      rw [e4]
      refine rw_aload f_X10_next_72 rfl ?_
      refine rw_getI f_X10_next_73 (by assumption) ?_
      rw [rN]
      refine rw_icmpT f_X10_next_76 (decide_eq_true (Int32.le_refl _)) ?_
      refine rw_aload f_X10_next_88 rfl ?_
      refine rw_getI f_X10_next_89 (by assumption) ?_
      rw [e4]
      refine rw_putI f_X10_next_92 (by assumption) ?_
      refine rw_aload f_X10_next_95 rfl ?_
      refine rw_getI f_X10_next_96 (by assumption) ?_
      rw [e4']
      refine rw_aload f_X10_next_99 rfl ?_
      refine rw_getI f_X10_next_100 (by assumption) ?_
      rw [rN']
      refine rw_icmpF f_X10_next_103 (decide_eq_false (fun z => Int32.lt_irrefl z)) ?_
      refine rw_aload f_X10_next_106 rfl ?_
      refine rw_const f_X10_next_107 ?_
      refine rw_putI f_X10_next_108 (by assumption) ?_
      refine rw_goto f_X10_next_111 ?_
      refine rw_vret f_X10_next_158 ?_
      refine hk _ ((on.tr (OnL_sI A)).tr (OnL_sI A)) ((rf.s (by omega)).s (by omega)) ⟨hp, by rw [sI_ne (by simp)]; exact e4', by rw [sI_ne (by simp), sI_same, ed], by rw [sI_same, dd], fun z => by rw [dd] at z; exact absurd z (by decide), fun z => by rw [dd] at z; exact absurd z (by decide)⟩
  have loop : ∀ n q, N - q = n → q ≤ N → rEnd isSp T N e = rEnd isSp T N q → ∀ hh, OnL (at_ R) h hh → RF h hh R → hp_I hh R 4 = nI q → Rn (d + 2) n_X10_next 8 [am_r R, am_u] [] hh (kV k) := by
    intro n
    induction n with
    | zero =>
      intro q hq hqN er hh on rf e4
      have hR := hR0.on on (fun b w => w) (rf 1 (by omega))
      have rK := hR.1
      have rN := hR.2.2.2.2.1
      obtain rfl : q = N := by omega
      refine rw_aload f_X10_next_8 rfl ?_
      refine rw_getI f_X10_next_9 (by assumption) ?_
      rw [e4]
      refine rw_aload f_X10_next_12 rfl ?_
      refine rw_getI f_X10_next_13 (by assumption) ?_
      rw [rN]
      refine rw_icmpT f_X10_next_16 (decide_eq_true (Int32.le_refl _)) ?_
      exact at_p q (Nat.le_refl _) (by rw [er, rEnd_f (by omega)]) hh on rf e4
    | succ n ih =>
      intro q hq hqN er hh on rf e4
      have hR := hR0.on on (fun b w => w) (rf 1 (by omega))
      have rz := hR.2.1
      have rK := hR.1
      have rN := hR.2.2.2.2.1
      have sp : sg0 T N q = T q := if_pos (by omega)
      have adv : isSp (T q) = true → Rn (d + 2) n_X10_next 45 [am_r R, am_u] [] hh (kV k) := by
        intro z
        have er2 := er
        rw [rEnd_t (q := q) (by omega) z] at er2
        refine rw_aload f_X10_next_45 rfl ?_
        first | refine rw_dupr f_X10_next_46 ?_ | refine rw_dupi f_X10_next_46 ?_
        refine rw_getI f_X10_next_47 (by assumption) ?_
        rw [e4]
        refine rw_const f_X10_next_50 ?_
        refine rw_iadd f_X10_next_51 ?_
        rw [nI_1']
        refine rw_putI f_X10_next_52 (by assumption) ?_
        refine rw_goto f_X10_next_55 ?_
        exact ih (q + 1) (by omega) (by omega) er2 _ (on.tr (OnL_sI A)) (rf.s (by omega)) sI_same
      refine rw_aload f_X10_next_8 rfl ?_
      refine rw_getI f_X10_next_9 (by assumption) ?_
      rw [e4]
      refine rw_aload f_X10_next_12 rfl ?_
      refine rw_getI f_X10_next_13 (by assumption) ?_
      rw [rN]
      refine rw_icmpF f_X10_next_16 (decide_eq_false (nI_ge (by omega) (by omega))) ?_
      refine rw_aload f_X10_next_19 rfl ?_
      refine rw_aload f_X10_next_20 rfl ?_
      refine rw_getI f_X10_next_21 (by assumption) ?_
      rw [e4]
      refine rw_callV f_X10_next_24 rfl (by assumption) (by first | assumption | omega) rfl rfl rfl rfl (rn_ki (C_sign hR (by omega) ?_))
      rw [sp]
      refine rw_const f_X10_next_27 ?_
      refine rw_eq f_X10_next_29 (fun c1 => ?_) (fun c1 => ?_)
      · exact adv (by unfold isSp; simp [c1])
      · refine rw_aload f_X10_next_32 rfl ?_
        refine rw_aload f_X10_next_33 rfl ?_
        refine rw_getI f_X10_next_34 (by assumption) ?_
        rw [e4]
        refine rw_callV f_X10_next_37 rfl (by assumption) (by first | assumption | omega) rfl rfl rfl rfl (rn_ki (C_sign hR (by omega) ?_))
        rw [sp]
        refine rw_const f_X10_next_40 ?_
        refine rw_ne f_X10_next_42 (fun c2 => ?_) (fun c2 => ?_)
        · exact at_p q hqN (by rw [er, rEnd_f (fun w => by have := w.2; unfold isSp at this; simp [c1, c2] at this)]) hh on rf e4
        · exact adv (by unfold isSp; simp [c1, c2])
  refine rw_aload f_X10_next_0 rfl ?_
  refine rw_aload f_X10_next_1 rfl ?_
  refine rw_getI f_X10_next_2 (by assumption) ?_
  rw [h5]
  refine rw_putI f_X10_next_5 (by assumption) ?_
  exact loop (N - e) e rfl he rfl _ (OnL_sI A) (RF.s (fun _ _ => rfl) (by omega)) sI_same
end CTok2
