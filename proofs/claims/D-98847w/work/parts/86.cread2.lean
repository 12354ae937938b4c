/-! THE CLASS: names that are told -/
section CRead2
variable {d : Nat} {h : am_H} {R F r tp N : Nat} {T : tx}
/-- a list of what has names -/
def NL (h : am_H) (l : Nat) (ns : List Int64) : Prop := LST h l ns.length ∧ ns.length ≤ 61 ∧ ∀ i, i < ns.length → (∃ t, hp_K h (el h l i) = (t, 0) ∧ ([112, 113, 115, 116] : List Nat).contains t = true) ∧ hp_L h (el h l i) 0 = ns.getD i 0
theorem lgc0 {x y : Int64} (e : x = y) : lg_cmp x y = 0 := (lg_cmp_0 x y).mpr e
theorem C_here (hP : PW h R F r tp N T) {p : Nat} (hT : RT h R N T p) (hD : tkD T N p = 1) {l : Nat} {ns : List Int64} (hL : NL h l ns) {k : Int32 → am_H → Prop} (hk : k (oI (ixN ns (tkW T N p))) h) : Rn (d + 3) n_X10_here 0 [am_r R, am_r l, am_u] [] h (kI k) := by
  have rK := hP.1.1
  have rz := hP.1.2.1
  have e8 := hT.2.2.2.2.2 hD
  have lK := hL.1.1.1
  have l0 := hL.1.2
  have l61 := hL.2.1
  have step : ∀ b, b < ns.length → ¬ ns.getD b 0 = tkW T N p → Rn (d + 3) n_X10_here 2 [am_r R, am_r l, am_i (nI (b + 1))] [] h (kI k) → Rn (d + 3) n_X10_here 2 [am_r R, am_r l, am_i (nI b)] [] h (kI k) := by
    intro b hb e ih
    obtain ⟨⟨t, a1, a2⟩, a3⟩ := hL.2.2 b hb
    refine rw_iload f_X10_here_2 rfl ?_
    refine rw_aload f_X10_here_3 rfl ?_
    refine rw_callV f_X10_here_4 rfl (by assumption) (by first | assumption | omega) rfl rfl rfl rfl (rn_ki (J_sizeL hL.1 ?_))
    refine rw_icmpF f_X10_here_7 (decide_eq_false (nI_ge hb (by omega))) ?_
    refine rw_aload f_X10_here_10 rfl ?_
    refine rw_iload f_X10_here_11 rfl ?_
    refine rw_callV f_X10_here_12 rfl (by assumption) (by first | assumption | omega) rfl rfl rfl rfl (rn_kr (J_getL hL.1 (by omega) ?_))
    refine rw_cast f_X10_here_15 (ht := a2) a1 ?_
    refine rw_getL f_X10_here_18 (ht := a2) a1 ?_
    refine rw_aload f_X10_here_21 rfl ?_
    refine rw_getL f_X10_here_22 (by assumption) ?_
    rw [a3, e8]
    refine rw_lcmp f_X10_here_25 ?_
    refine rw_ifT f_X10_here_26 (decide_eq_true (fun z => e ((lg_cmp_0 _ _).mp z))) ?_
    refine rw_iinc f_X10_here_31 rfl rfl ?_
    refine rw_goto f_X10_here_34 ?_
    rw [nI_1']
    exact ih
  refine rw_const f_X10_here_0 ?_
  refine rw_istore f_X10_here_1 rfl rfl ?_
  skip
  unfold ixN at hk
  cases e : fst1 (fun i => decide (ns.getD i 0 = tkW T N p)) ns.length with
  | none =>
    have q := fst1_none.mp e
    rw [e] at hk
    refine rn_for (N := ns.length) (fun b => [am_r R, am_r l, am_i (nI b)]) (fun _ => h) (fun b hb ih => step b hb (of_decide_eq_false (q b hb)) ih) ?_
    refine rw_iload f_X10_here_2 rfl ?_
    refine rw_aload f_X10_here_3 rfl ?_
    refine rw_callV f_X10_here_4 rfl (by assumption) (by first | assumption | omega) rfl rfl rfl rfl (rn_ki (J_sizeL hL.1 ?_))
    refine rw_icmpT f_X10_here_7 (decide_eq_true (Int32.le_refl _)) ?_
    refine rw_const f_X10_here_37 ?_
    refine rw_iret f_X10_here_38 ?_
    exact hk
  | some i =>
    obtain ⟨q1, q2, q3⟩ := fst1_some e
    rw [e] at hk
    obtain ⟨⟨t, a1, a2⟩, a3⟩ := hL.2.2 i q1
    refine rn_for (N := i) (fun b => [am_r R, am_r l, am_i (nI b)]) (fun _ => h) (fun b hb ih => step b (by omega) (of_decide_eq_false (q3 b hb)) ih) ?_
    refine rw_iload f_X10_here_2 rfl ?_
    refine rw_aload f_X10_here_3 rfl ?_
    refine rw_callV f_X10_here_4 rfl (by assumption) (by first | assumption | omega) rfl rfl rfl rfl (rn_ki (J_sizeL hL.1 ?_))
    refine rw_icmpF f_X10_here_7 (decide_eq_false (nI_ge q1 (by omega))) ?_
    refine rw_aload f_X10_here_10 rfl ?_
    refine rw_iload f_X10_here_11 rfl ?_
    refine rw_callV f_X10_here_12 rfl (by assumption) (by first | assumption | omega) rfl rfl rfl rfl (rn_kr (J_getL hL.1 (by omega) ?_))
    refine rw_cast f_X10_here_15 (ht := a2) a1 ?_
    refine rw_getL f_X10_here_18 (ht := a2) a1 ?_
    refine rw_aload f_X10_here_21 rfl ?_
    refine rw_getL f_X10_here_22 (by assumption) ?_
    rw [a3, e8]
    refine rw_lcmp f_X10_here_25 ?_
    refine rw_ifF f_X10_here_26 (decide_eq_false (fun z => z (lgc0 (of_decide_eq_true q2)))) ?_
    refine rw_iload f_X10_here_29 rfl ?_
    refine rw_iret f_X10_here_30 ?_
    exact hk
theorem isNm_1 {p : Nat} (e : isNm T N p = true) : tkD T N p = 1 := by
  unfold isNm at e
  rw [Bool.and_eq_true] at e
  exact of_decide_eq_true e.1
theorem ixN_lt {ns : List Int64} {w : Int64} {i : Nat} (e : ixN ns w = some i) : i < ns.length := (fst1_some e).1
theorem C_fresh (hP : PW h R F r tp N T) {p : Nat} (hT : RT h R N T p) {l : Nat} {ns : List Int64} (hL : NL h l ns) {k : Int64 → am_H → Prop} {xk : Nat → am_H → Prop} (hok : ∀ v h', pFresh T N ns p = .inl v → RSt R F h h' → RT h' R N T v.2 → k v.1 h') (herr : ∀ e h', pFresh T N ns p = .inr e → RSt R F h h' → Flt h' F e → xk F h') : Rn (d + 7) n_X10_fresh 0 [am_r R, am_r l, am_u, am_u] [] h (kX (kL k) xk) := by
  have rK := hP.1.1
  have rz := hP.1.2.1
  have r2 := hP.2.1
  have fK := hP.2.2.1
  have fz := hP.2.2.2.1
  have e4 := hT.2.1
  have l61 := hL.2.1
  unfold pFresh at hok herr
  cases hN : isNm T N p with
  | false =>
    rw [if_pos hN] at hok herr
    refine rw_aload f_X10_fresh_0 rfl ?_
    refine rw_callV f_X10_fresh_1 rfl (by assumption) (by first | assumption | omega) rfl rfl rfl rfl (rn_ki (C_isName hP hT ?_))
    rw [hN]
    refine rw_ifF f_X10_fresh_4 (by decide) ?_
    refine rw_aload f_X10_fresh_7 rfl ?_
    refine rw_callV f_X10_fresh_8 rfl (by assumption) (by first | assumption | omega) rfl rfl rfl rfl (rn_kr (C_wrong hP hT (fun h1 st1 fK1 fl1 => ?_)))
    refine rx_throw f_X10_fresh_11 rfl (by assumption) ?_
    exact herr _ h1 rfl st1 fl1
  | true =>
    rw [if_neg (by rw [hN]; simp)] at hok herr
    have hD := isNm_1 hN
    have e8 := hT.2.2.2.2.2 hD
    cases hI : ixN ns (tkW T N p) with
    | none =>
      rw [hI, if_neg (by simp)] at hok
      refine rw_aload f_X10_fresh_0 rfl ?_
      refine rw_callV f_X10_fresh_1 rfl (by assumption) (by first | assumption | omega) rfl rfl rfl rfl (rn_ki (C_isName hP hT ?_))
      rw [hN]
      refine rw_ifT f_X10_fresh_4 (by decide) ?_
      refine rw_aload f_X10_fresh_12 rfl ?_
      refine rw_aload f_X10_fresh_13 rfl ?_
      refine rw_callV f_X10_fresh_14 rfl (by assumption) (by first | assumption | omega) rfl rfl rfl rfl (rn_ki (C_here hP hT hD hL ?_))
      rw [hI]
      refine rw_ifT f_X10_fresh_17 (by decide) ?_
      refine rw_aload f_X10_fresh_33 rfl ?_
      refine rw_getL f_X10_fresh_34 (by assumption) ?_
      rw [e8]
      refine rw_lstore f_X10_fresh_37 rfl rfl ?_
      refine rw_aload f_X10_fresh_38 rfl ?_
      refine rw_callV f_X10_fresh_39 rfl (by assumption) (by first | assumption | omega) rfl rfl rfl rfl (rn_kv (C_next hP.1 (tkE_ge hT.1).2 hT.2.2.1 (fun h1 on1 rf1 rt1 => ?_)))
      refine rw_lload f_X10_fresh_42 rfl ?_
      refine rx_lret f_X10_fresh_43 ?_
      exact hok (_, _) h1 rfl (.R1 on1 rf1) rt1
    | some i =>
      rw [hI, if_pos (by simp)] at herr
      have lt := ixN_lt hI
      have ge : ¬ nI i < 0 := Int32.not_lt.mpr (by have := nI_le (a := 0) (b := i) (by omega) (by omega); rw [nI_0] at this; exact this)
      refine rw_aload f_X10_fresh_0 rfl ?_
      refine rw_callV f_X10_fresh_1 rfl (by assumption) (by first | assumption | omega) rfl rfl rfl rfl (rn_ki (C_isName hP hT ?_))
      rw [hN]
      refine rw_ifT f_X10_fresh_4 (by decide) ?_
      refine rw_aload f_X10_fresh_12 rfl ?_
      refine rw_aload f_X10_fresh_13 rfl ?_
      refine rw_callV f_X10_fresh_14 rfl (by assumption) (by first | assumption | omega) rfl rfl rfl rfl (rn_ki (C_here hP hT hD hL ?_))
      rw [hI]
      refine rw_ifF f_X10_fresh_17 (decide_eq_false ge) ?_
      refine rw_aload f_X10_fresh_20 rfl ?_
      refine rw_getR f_X10_fresh_21 (by assumption) (by first | assumption | rfl) ?_
      refine rw_const f_X10_fresh_24 ?_
      refine rw_aload f_X10_fresh_25 rfl ?_
      refine rw_getI f_X10_fresh_26 (by assumption) ?_
      rw [e4]
      refine rw_callV f_X10_fresh_29 rfl (by assumption) (by first | assumption | omega) rfl rfl rfl rfl (rn_kr (C_by fK ?_))
      have fK1 : hp_K (hp_sI (hp_sI h F 0 3) F 1 (nI p)) F = (103, 0) := fK
      refine rx_throw f_X10_fresh_32 rfl (by assumption) ?_
      exact herr (3, p) _ rfl (st_by hP) (Flt_by F (3, p))
theorem C_known (hP : PW h R F r tp N T) {p : Nat} (hT : RT h R N T p) {l : Nat} {ns : List Int64} (hL : NL h l ns) {k : Int32 → am_H → Prop} {xk : Nat → am_H → Prop} (hok : ∀ v h', pKnown T N ns p = .inl v → v.1 < ns.length → RSt R F h h' → RT h' R N T v.2 → k (nI v.1) h') (herr : ∀ e h', pKnown T N ns p = .inr e → RSt R F h h' → Flt h' F e → xk F h') : Rn (d + 7) n_X10_known 0 [am_r R, am_r l, am_u] [] h (kX (kI k) xk) := by
  have rK := hP.1.1
  have rz := hP.1.2.1
  have r2 := hP.2.1
  have fK := hP.2.2.1
  have fz := hP.2.2.2.1
  have e4 := hT.2.1
  have l61 := hL.2.1
  unfold pKnown at hok herr
  cases hN : isNm T N p with
  | false =>
    rw [if_pos hN] at hok herr
    refine rw_aload f_X10_known_0 rfl ?_
    refine rw_callV f_X10_known_1 rfl (by assumption) (by first | assumption | omega) rfl rfl rfl rfl (rn_ki (C_isName hP hT ?_))
    rw [hN]
    refine rw_ifF f_X10_known_4 (by decide) ?_
    refine rw_aload f_X10_known_7 rfl ?_
    refine rw_callV f_X10_known_8 rfl (by assumption) (by first | assumption | omega) rfl rfl rfl rfl (rn_kr (C_wrong hP hT (fun h1 st1 fK1 fl1 => ?_)))
    refine rx_throw f_X10_known_11 rfl (by assumption) ?_
    exact herr _ h1 rfl st1 fl1
  | true =>
    rw [if_neg (by rw [hN]; simp)] at hok herr
    have hD := isNm_1 hN
    cases hI : ixN ns (tkW T N p) with
    | none =>
      rw [hI] at herr
      refine rw_aload f_X10_known_0 rfl ?_
      refine rw_callV f_X10_known_1 rfl (by assumption) (by first | assumption | omega) rfl rfl rfl rfl (rn_ki (C_isName hP hT ?_))
      rw [hN]
      refine rw_ifT f_X10_known_4 (by decide) ?_
      refine rw_aload f_X10_known_12 rfl ?_
      refine rw_aload f_X10_known_13 rfl ?_
      refine rw_callV f_X10_known_14 rfl (by assumption) (by first | assumption | omega) rfl rfl rfl rfl (rn_ki (C_here hP hT hD hL ?_))
      rw [hI]
      refine rw_istore f_X10_known_17 rfl rfl ?_
      refine rw_iload f_X10_known_18 rfl ?_
      refine rw_ifF f_X10_known_19 (by decide) ?_
      refine rw_aload f_X10_known_22 rfl ?_
      refine rw_getR f_X10_known_23 (by assumption) (by first | assumption | rfl) ?_
      refine rw_const f_X10_known_26 ?_
      refine rw_aload f_X10_known_27 rfl ?_
      refine rw_getI f_X10_known_28 (by assumption) ?_
      rw [e4]
      refine rw_callV f_X10_known_31 rfl (by assumption) (by first | assumption | omega) rfl rfl rfl rfl (rn_kr (C_by fK ?_))
      have fK1 : hp_K (hp_sI (hp_sI h F 0 5) F 1 (nI p)) F = (103, 0) := fK
      refine rx_throw f_X10_known_34 rfl (by assumption) ?_
      exact herr (5, p) _ rfl (st_by hP) (Flt_by F (5, p))
    | some i =>
      rw [hI] at hok
      have lt := ixN_lt hI
      have ge : (0 : Int32) ≤ nI i := by have := nI_le (a := 0) (b := i) (by omega) (by omega); rw [nI_0] at this; exact this
      refine rw_aload f_X10_known_0 rfl ?_
      refine rw_callV f_X10_known_1 rfl (by assumption) (by first | assumption | omega) rfl rfl rfl rfl (rn_ki (C_isName hP hT ?_))
      rw [hN]
      refine rw_ifT f_X10_known_4 (by decide) ?_
      refine rw_aload f_X10_known_12 rfl ?_
      refine rw_aload f_X10_known_13 rfl ?_
      refine rw_callV f_X10_known_14 rfl (by assumption) (by first | assumption | omega) rfl rfl rfl rfl (rn_ki (C_here hP hT hD hL ?_))
      rw [hI]
      refine rw_istore f_X10_known_17 rfl rfl ?_
      refine rw_iload f_X10_known_18 rfl ?_
      refine rw_ifT f_X10_known_19 (decide_eq_true ge) ?_
      refine rw_aload f_X10_known_35 rfl ?_
      refine rw_callV f_X10_known_36 rfl (by assumption) (by first | assumption | omega) rfl rfl rfl rfl (rn_kv (C_next hP.1 (tkE_ge hT.1).2 hT.2.2.1 (fun h1 on1 rf1 rt1 => ?_)))
      refine rw_iload f_X10_known_39 rfl ?_
      refine rx_iret f_X10_known_40 ?_
      exact hok (i, _) h1 rfl lt (.R1 on1 rf1) rt1
theorem C_signed (hP : PW h R F r tp N T) {p : Nat} (hT : RT h R N T p) {k : Int32 → am_H → Prop} {xk : Nat → am_H → Prop} (hok : ∀ v h', pSigned T N p = .inl v → RSt R F h h' → RT h' R N T v.2 → k v.1 h') (herr : ∀ e h', pSigned T N p = .inr e → RSt R F h h' → Flt h' F e → xk F h') : Rn (d + 3) n_X10_signed 0 [am_r R, am_i 9, am_u, am_u, am_u] [] h (kX (kI k) xk) := by
  have rK := hP.1.1
  have rz := hP.1.2.1
  have e4 := hT.2.1
  -- behind the sign
  have tail : ∀ (m : Bool) (q : Nat) (h0 : am_H), RSt R F h h0 → RT h0 R N T q → (∀ v, (if ¬ tkD T N q = 2 then .inr (err1 T N q) else if 9 < tkN T N q then .inr (4, p) else .inl (if m = true then -tkN T N q else tkN T N q, tkX T N q)) = v → pSigned T N p = v) → Rn (d + 3) n_X10_signed 20 [am_r R, am_i 9, am_i (nI p), am_i (bI m), am_u] [] h0 (kX (kI k) xk) := by
    intro m q h0 s0 hT' hv
    have hP' := s0.pw hP
    have rK' := hP'.1.1
    have r2' := hP'.2.1
    have fK' := hP'.2.2.1
    have fz' := hP'.2.2.2.1
    have e6 := hT'.2.2.2.1
    by_cases hD : tkD T N q = 2
    · have e7 := hT'.2.2.2.2.1 hD
      rw [if_neg (fun z => z hD)] at hv
      by_cases h9 : 9 < tkN T N q
      · rw [if_pos h9] at hv
        refine rw_aload f_X10_signed_20 rfl ?_
        refine rw_getI f_X10_signed_21 (by assumption) ?_
        rw [e6, hD]
        refine rw_const f_X10_signed_24 ?_
        refine rw_icmpT f_X10_signed_25 (by decide) ?_
        refine rw_aload f_X10_signed_33 rfl ?_
        refine rw_getI f_X10_signed_34 (by assumption) ?_
        rw [e7]
        refine rw_iload f_X10_signed_37 rfl ?_
        refine rw_icmpF f_X10_signed_38 (decide_eq_false (Int32.not_le.mpr h9)) ?_
        refine rw_aload f_X10_signed_41 rfl ?_
        refine rw_getR f_X10_signed_42 (by assumption) (by first | assumption | rfl) ?_
        refine rw_const f_X10_signed_45 ?_
        refine rw_iload f_X10_signed_46 rfl ?_
        refine rw_callV f_X10_signed_47 rfl (by assumption) (by first | assumption | omega) rfl rfl rfl rfl (rn_kr (C_by fK' ?_))
        have fK1 : hp_K (hp_sI (hp_sI h0 F 0 4) F 1 (nI p)) F = (103, 0) := fK'
        refine rx_throw f_X10_signed_50 rfl (by assumption) ?_
        exact herr (4, p) _ (hv _ rfl) (s0.tr (st_by hP')) (Flt_by F (4, p))
      · rw [if_neg h9] at hv
        cases m with
        | true =>
          refine rw_aload f_X10_signed_20 rfl ?_
          refine rw_getI f_X10_signed_21 (by assumption) ?_
          rw [e6, hD]
          refine rw_const f_X10_signed_24 ?_
          refine rw_icmpT f_X10_signed_25 (by decide) ?_
          refine rw_aload f_X10_signed_33 rfl ?_
          refine rw_getI f_X10_signed_34 (by assumption) ?_
          rw [e7]
          refine rw_iload f_X10_signed_37 rfl ?_
          refine rw_icmpT f_X10_signed_38 (decide_eq_true (Int32.not_lt.mp h9)) ?_
          refine rw_iload f_X10_signed_51 rfl ?_
          refine rw_ifF f_X10_signed_52 (by decide) ?_
          refine rw_aload f_X10_signed_55 rfl ?_
          refine rw_getI f_X10_signed_56 (by assumption) ?_
          rw [e7]
          refine rw_un f_X10_signed_59 ?_
          refine rw_goto f_X10_signed_60 ?_
          refine rw_istore f_X10_signed_67 rfl rfl ?_
          refine rw_aload f_X10_signed_69 rfl ?_
          refine rw_callV f_X10_signed_70 rfl (by assumption) (by first | assumption | omega) rfl rfl rfl rfl (rn_kv (C_next hP'.1 (tkE_ge hT'.1).2 hT'.2.2.1 (fun h1 on1 rf1 rt1 => ?_)))
          refine rw_iload f_X10_signed_73 rfl ?_
          refine rx_iret f_X10_signed_75 ?_
          exact hok (_, _) h1 (hv _ rfl) (s0.tr (.R1 on1 rf1)) rt1
        | false =>
          refine rw_aload f_X10_signed_20 rfl ?_
          refine rw_getI f_X10_signed_21 (by assumption) ?_
          rw [e6, hD]
          refine rw_const f_X10_signed_24 ?_
          refine rw_icmpT f_X10_signed_25 (by decide) ?_
          refine rw_aload f_X10_signed_33 rfl ?_
          refine rw_getI f_X10_signed_34 (by assumption) ?_
          rw [e7]
          refine rw_iload f_X10_signed_37 rfl ?_
          refine rw_icmpT f_X10_signed_38 (decide_eq_true (Int32.not_lt.mp h9)) ?_
          refine rw_iload f_X10_signed_51 rfl ?_
          refine rw_ifT f_X10_signed_52 (by decide) ?_
          refine rw_aload f_X10_signed_63 rfl ?_
          refine rw_getI f_X10_signed_64 (by assumption) ?_
          rw [e7]
          refine rw_istore f_X10_signed_67 rfl rfl ?_
          refine rw_aload f_X10_signed_69 rfl ?_
          refine rw_callV f_X10_signed_70 rfl (by assumption) (by first | assumption | omega) rfl rfl rfl rfl (rn_kv (C_next hP'.1 (tkE_ge hT'.1).2 hT'.2.2.1 (fun h1 on1 rf1 rt1 => ?_)))
          refine rw_iload f_X10_signed_73 rfl ?_
          refine rx_iret f_X10_signed_75 ?_
          exact hok (_, _) h1 (hv _ rfl) (s0.tr (.R1 on1 rf1)) rt1
    · rw [if_pos hD] at hv
      refine rw_aload f_X10_signed_20 rfl ?_
      refine rw_getI f_X10_signed_21 (by assumption) ?_
      rw [e6]
      refine rw_const f_X10_signed_24 ?_
      refine rw_icmpF f_X10_signed_25 (decide_eq_false hD) ?_
      refine rw_aload f_X10_signed_28 rfl ?_
      refine rw_callV f_X10_signed_29 rfl (by assumption) (by first | assumption | omega) rfl rfl rfl rfl (rn_kr (C_wrong hP' hT' (fun h1 st1 fK1 fl1 => ?_)))
      refine rx_throw f_X10_signed_32 rfl (by assumption) ?_
      exact herr _ h1 (hv _ rfl) (s0.tr st1) fl1
  unfold pSigned at tail
  cases hS : isSH T N p 45 with
  | true =>
    refine rw_aload f_X10_signed_0 rfl ?_
    refine rw_getI f_X10_signed_1 (by assumption) ?_
    rw [e4]
    refine rw_istore f_X10_signed_4 rfl rfl ?_
    refine rw_aload f_X10_signed_5 rfl ?_
    refine rw_const f_X10_signed_6 ?_
    refine rw_callV f_X10_signed_8 rfl (by assumption) (by first | assumption | omega) rfl rfl rfl rfl (rn_ki (C_isSH hP hT ?_))
    rw [hS]
    refine rw_istore f_X10_signed_11 rfl rfl ?_
    refine rw_iload f_X10_signed_12 rfl ?_
    refine rw_ifF f_X10_signed_13 (by decide) ?_
    refine rw_aload f_X10_signed_16 rfl ?_
    refine rw_callV f_X10_signed_17 rfl (by assumption) (by first | assumption | omega) rfl rfl rfl rfl (rn_kv (C_next hP.1 (tkE_ge hT.1).2 hT.2.2.1 (fun h1 on1 rf1 rt1 => ?_)))
    refine tail true (tkX T N p) h1 (.R1 on1 rf1) rt1 (fun v e => ?_)
    rw [if_pos hS, ← e]
    rfl
  | false =>
    refine rw_aload f_X10_signed_0 rfl ?_
    refine rw_getI f_X10_signed_1 (by assumption) ?_
    rw [e4]
    refine rw_istore f_X10_signed_4 rfl rfl ?_
    refine rw_aload f_X10_signed_5 rfl ?_
    refine rw_const f_X10_signed_6 ?_
    refine rw_callV f_X10_signed_8 rfl (by assumption) (by first | assumption | omega) rfl rfl rfl rfl (rn_ki (C_isSH hP hT ?_))
    rw [hS]
    refine rw_istore f_X10_signed_11 rfl rfl ?_
    refine rw_iload f_X10_signed_12 rfl ?_
    refine rw_ifT f_X10_signed_13 (by decide) ?_
    refine tail false p h .refl hT (fun v e => ?_)
    rw [if_neg (by rw [hS]; simp), ← e]
    rfl
end CRead2
