/-! THE CLASS: clash -/
/-- whether some order keeps all of a set -/
def canK (L : List ord) (s : Int32) : Bool := L.any (fun o => decide (s &&& (o.2.2 ^^^ (-1)) = 0))
/-- the least set that no order keeps, among those below n -/
def clF (L : List ord) (all : Int32) : Nat → Int32
  | 0 => -1
  | n + 1 => if n = 0 then -1 else if ¬ nI n &&& (all ^^^ (-1)) = 0 then clF L all n else if ¬ clF L all n < 0 ∧ pc (clF L all n) ≤ pc (nI n) then clF L all n else if canK L (nI n) = true then clF L all n else nI n
theorem s10_n {j : Nat} (hj : j < 1024) : s10 (nI j) := by
  intro a ha
  have : ∀ j, j < 1024 → ∀ a, 10 ≤ a → a < 32 → tb (nI j) a = false := by
    intro j hj a h1 h2
    unfold tb nI
    rw [Int32.toBitVec_ofNat', BitVec.getLsbD_ofNat]
    rw [Nat.testBit_lt_two_pow (Nat.lt_of_lt_of_le hj (by rw [show (1024 : Nat) = 2 ^ 10 from rfl]; exact Nat.pow_le_pow_right (by omega) h1))]
    simp
  by_cases h : a < 32
  · exact this j hj a ha h
  · exact tb_hi (by omega)
theorem clF_or {L : List ord} {all : Int32} : ∀ n, n ≤ 1024 → clF L all n = -1 ∨ ∃ j, j < n ∧ clF L all n = nI j
  | 0, _ => Or.inl rfl
  | n + 1, hn => by
    have ih := clF_or (L := L) (all := all) n (by omega)
    have w : clF L all n = -1 ∨ ∃ j, j < n + 1 ∧ clF L all n = nI j := by
      rcases ih with q | ⟨j, h1, h2⟩
      · exact Or.inl q
      · exact Or.inr ⟨j, by omega, h2⟩
    simp only [clF]
    repeat' split
    · exact Or.inl rfl
    · exact w
    · exact w
    · exact w
    · exact Or.inr ⟨n, by omega, rfl⟩
def sp_clash (V : am_M) (nB nD : Nat) (man what : Int32) : Int32 := if isIn man 0 (V 0 56 - 1) = false then -1 else if isIn what 0 1 = false then -1 else if clF (oL V nB nD man (V 34 20)) (bs (pr_prom V man) nB) (2 ^ nB) < 0 then -1 else if what = 0 then pc (clF (oL V nB nD man (V 34 20)) (bs (pr_prom V man) nB) (2 ^ nB)) else clF (oL V nB nD man (V 34 20)) (bs (pr_prom V man) nB) (2 ^ nB)
section CClash
variable {d : Nat} {h : am_H} {V : am_M} {x r nM nD nB nA nU nT nL : Nat} {k : Int32 → am_H → Prop}
theorem C_canKeep (hW : CW h x) {L : List ord} (hL : ∀ o ∈ L, s10 o.2.2) (hk1 : OK1 h x L) {s : Int32} (hk : k (bI (canK L s)) h) : Rn d n_X4_canKeep 0 [am_r (x + 18), am_i s, am_u] [] h (kI k) := by
  have key : ∀ q j, j + q = 1024 → (∀ i, i < j → (L.any (fun o => decide (o.2.2 = nI i)) && decide (s &&& (nI i ^^^ (-1)) = 0)) = false) → Rn d n_X4_canKeep 2 [am_r (x + 18), am_i s, am_i (nI j)] [] h (kI k) := by
    intro q
    induction q with
    | zero =>
      intro j hj hq
      have : canK L s = false := by
        cases z : canK L s with
        | false => rfl
        | true =>
          obtain ⟨o, ho, z2⟩ := List.any_eq_true.mp z
          obtain ⟨i, hi, e⟩ := s10_nat (hL o ho)
          have := hq i (by omega)
          rw [List.any_eq_true.mpr ⟨o, ho, decide_eq_true e⟩, Bool.true_and, ← e] at this
          rw [this] at z2; cases z2
      rw [this] at hk
      obtain rfl : j = 1024 := by omega
      refine rw_iload f_X4_canKeep_2 rfl ?_
      refine rw_aload f_X4_canKeep_3 rfl ?_
      refine rw_getR f_X4_canKeep_4 (by first | assumption | exact hW.k rfl | exact hW.k0) (by first | assumption | exact hW.r0 rfl | exact hW.r rfl | rfl) ?_
      refine rw_alen f_X4_canKeep_7 (by first | assumption | exact hW.k rfl | exact hW.k0) ?_
      rw [show Int32.ofNat 1024 = nI 1024 from rfl]
      refine rw_icmpT f_X4_canKeep_8 (decide_eq_true (Int32.le_refl _)) ?_
      refine rw_const f_X4_canKeep_36 ?_
      refine rw_zret f_X4_canKeep_37 (by first | exact Or.inl rfl | exact Or.inr rfl | exact bI_01 _ | assumption) ?_
      exact hk
    | succ q ih =>
      intro j hj hq
      by_cases z : (L.any (fun o => decide (o.2.2 = nI j)) && decide (s &&& (nI j ^^^ (-1)) = 0)) = true
      · have : canK L s = true := by
          rw [Bool.and_eq_true] at z
          obtain ⟨o, ho, z2⟩ := List.any_eq_true.mp z.1
          exact List.any_eq_true.mpr ⟨o, ho, by rw [of_decide_eq_true z2]; exact z.2⟩
        rw [this] at hk
        rw [Bool.and_eq_true] at z
        refine rw_iload f_X4_canKeep_2 rfl ?_
        refine rw_aload f_X4_canKeep_3 rfl ?_
        refine rw_getR f_X4_canKeep_4 (by first | assumption | exact hW.k rfl | exact hW.k0) (by first | assumption | exact hW.r0 rfl | exact hW.r rfl | rfl) ?_
        refine rw_alen f_X4_canKeep_7 (by first | assumption | exact hW.k rfl | exact hW.k0) ?_
        rw [show Int32.ofNat 1024 = nI 1024 from rfl]
        refine rw_icmpF f_X4_canKeep_8 (decide_eq_false (nI_ge (by omega) (by omega))) ?_
        refine rw_aload f_X4_canKeep_11 rfl ?_
        refine rw_getR f_X4_canKeep_12 (by first | assumption | exact hW.k rfl | exact hW.k0) (by first | assumption | exact hW.r0 rfl | exact hW.r rfl | rfl) ?_
        refine rw_iload f_X4_canKeep_15 rfl ?_
        refine rw_xaldE f_X4_canKeep_16 (by first | assumption | exact hW.k rfl | exact hW.k0) rfl (by omega) (by omega) ?_
        rw [hk1 j (by omega), z.1]
        refine rw_ifF f_X4_canKeep_17 (by decide) ?_
        refine rw_iload f_X4_canKeep_20 rfl ?_
        refine rw_iload f_X4_canKeep_21 rfl ?_
        refine rw_const f_X4_canKeep_22 ?_
        refine rw_ixor f_X4_canKeep_23 ?_
        refine rw_iand f_X4_canKeep_24 ?_
        refine rw_ifF f_X4_canKeep_25 (decide_eq_false (fun c => c (of_decide_eq_true z.2))) ?_
        refine rw_const f_X4_canKeep_28 ?_
        refine rw_zret f_X4_canKeep_29 (by first | exact Or.inl rfl | exact Or.inr rfl | exact bI_01 _ | assumption) ?_
        exact hk
      · have z' : (L.any (fun o => decide (o.2.2 = nI j)) && decide (s &&& (nI j ^^^ (-1)) = 0)) = false := by simpa using z
        have ih2 := ih (j + 1) (by omega) (fun b' hb' => by by_cases e : b' = j; exact e ▸ z'; exact hq b' (by omega))
        refine rw_iload f_X4_canKeep_2 rfl ?_
        refine rw_aload f_X4_canKeep_3 rfl ?_
        refine rw_getR f_X4_canKeep_4 (by first | assumption | exact hW.k rfl | exact hW.k0) (by first | assumption | exact hW.r0 rfl | exact hW.r rfl | rfl) ?_
        refine rw_alen f_X4_canKeep_7 (by first | assumption | exact hW.k rfl | exact hW.k0) ?_
        rw [show Int32.ofNat 1024 = nI 1024 from rfl]
        refine rw_icmpF f_X4_canKeep_8 (decide_eq_false (nI_ge (by omega) (by omega))) ?_
        refine rw_aload f_X4_canKeep_11 rfl ?_
        refine rw_getR f_X4_canKeep_12 (by first | assumption | exact hW.k rfl | exact hW.k0) (by first | assumption | exact hW.r0 rfl | exact hW.r rfl | rfl) ?_
        refine rw_iload f_X4_canKeep_15 rfl ?_
        refine rw_xaldE f_X4_canKeep_16 (by first | assumption | exact hW.k rfl | exact hW.k0) rfl (by omega) (by omega) ?_
        rw [hk1 j (by omega)]
        first | refine rw_eq0B f_X4_canKeep_17 (fun c1 => ?_) (fun c1 => ?_) | refine rw_eq0 f_X4_canKeep_17 (fun c1 => ?_) (fun c1 => ?_)
        · refine rw_iinc f_X4_canKeep_30 rfl rfl ?_
          refine rw_goto f_X4_canKeep_33 ?_
          rw [nI_1']
          exact ih2
        · refine rw_iload f_X4_canKeep_20 rfl ?_
          refine rw_iload f_X4_canKeep_21 rfl ?_
          refine rw_const f_X4_canKeep_22 ?_
          refine rw_ixor f_X4_canKeep_23 ?_
          refine rw_iand f_X4_canKeep_24 ?_
          first | refine rw_ne0B f_X4_canKeep_25 (fun c2 => ?_) (fun c2 => ?_) | refine rw_ne0 f_X4_canKeep_25 (fun c2 => ?_) (fun c2 => ?_)
          · refine rw_iinc f_X4_canKeep_30 rfl rfl ?_
            refine rw_goto f_X4_canKeep_33 ?_
            rw [nI_1']
            exact ih2
          · refine rw_const f_X4_canKeep_28 ?_
            refine rw_zret f_X4_canKeep_29 (by first | exact Or.inl rfl | exact Or.inr rfl | exact bI_01 _ | assumption) ?_
            exfalso
            rw [c1, decide_eq_true c2] at z'
            cases z'
  refine rw_const f_X4_canKeep_0 ?_
  refine rw_istore f_X4_canKeep_1 rfl rfl ?_
  exact key 1024 0 (by omega) (fun b' hb' => absurd hb' (Nat.not_lt_zero b'))
theorem C_clash (hC : CR h V x r nM nD nB nA nU nT nL) {man what : Int32} (hk : ∀ h', CR h' V x r nM nD nB nA nU nT nL → CFr x 0 0 h h' → k (sp_clash V nB nD man what) h') : Rn (d + 13) n_X0_clash 0 [am_r x, am_i man, am_i what, am_u, am_u, am_u] [] h (kI k) := by
  have C0 := hC
  have oF : ∀ {h'}, On (oS x) h h' → CFr x 0 0 h h' := fun on => CFr_xS on (fun b w => by left; have w' : x + 18 ≤ b ∧ b ≤ x + 21 := w; omega)
  unfold sp_clash at hk
  have hB10 := hC.wb.1.2.2.2.2.2
  have p2 : 2 ^ nB ≤ 1024 := by
    have := Nat.pow_le_pow_right (show 0 < 2 by decide) hB10
    exact this
  have e2 : (1 : Int32) <<< (nI nB &&& 31) = nI (2 ^ nB) := by
    have : ∀ n, n < 11 → (1 : Int32) <<< (nI n &&& 31) = nI (2 ^ n) := by decide +kernel
    exact this nB (by omega)
  have tail : isIn man 0 (V 0 56 - 1) = true → isIn what 0 1 = true → Rn (d + 13) n_X0_clash 19 [am_r x, am_i man, am_i what, am_u, am_u, am_u] [] h (kI k) := by
    intro ok1 ok2
    have hW := hC.1
    refine rw_aload f_X0_clash_19 rfl ?_
    refine rw_getR f_X0_clash_20 (by first | assumption | exact hW.k rfl | exact hW.k0) (by first | assumption | exact hW.r0 rfl | exact hW.r rfl | rfl) ?_
    refine rw_iload f_X0_clash_23 rfl ?_
    refine rw_const f_X0_clash_24 ?_
    refine rw_callV f_X0_clash_25 rfl (by first | assumption | exact hW.k rfl | exact hW.k0) (by first | assumption | exact hW.1 | omega | exact Nat.succ_ne_zero _) rfl rfl rfl rfl (rn_kv (C_lay (bd := V 34 20) C0 (Int32.add_zero _) (fun h1 on1 b1 k1 => ?_)))
    skip
    have C1 := CR_oS C0 on1
    have hk2 := hk h1 C1 (oF on1)
    rw [if_neg (by rw [ok1]; decide), if_neg (by rw [ok2]; decide)] at hk2
    have hL := fun o ho => (oL_ok (V := V) (nD := nD) (man := man) (bd := V 34 20) hB10 o ho).1
    generalize oL V nB nD man (V 34 20) = L at *
    have hC := C1
    have hW := C1.1
    refine rw_aload f_X0_clash_28 rfl ?_
    refine rw_iload f_X0_clash_29 rfl ?_
    refine rw_callV f_X0_clash_30 rfl (by first | assumption | exact hW.k rfl | exact hW.k0) (by first | assumption | exact hW.1 | omega | exact Nat.succ_ne_zero _) rfl rfl rfl rfl (rn_ki (C_promisesOf (d := d + 8) hC ?_))
    refine rw_istore f_X0_clash_33 rfl rfl ?_
    refine rw_const f_X0_clash_34 ?_
    refine rw_istore f_X0_clash_35 rfl rfl ?_
    refine rw_const f_X0_clash_37 ?_
    refine rw_istore f_X0_clash_38 rfl rfl ?_
    skip
    generalize bs (pr_prom V man) nB = all at *
    have key : ∀ q n, 0 < n → n + q = 2 ^ nB → Rn (d + 13) n_X0_clash 40 [am_r x, am_i man, am_i what, am_i all, am_i (clF L all n), am_i (nI n)] [] h1 (kI k) := by
      intro q
      induction q with
      | zero =>
        intro n h0 hn
        obtain rfl : n = 2 ^ nB := by omega
        rcases clF_or (L := L) (all := all) (2 ^ nB) p2 with z | ⟨j, z1, z2⟩
        · rw [z] at hk2 ⊢
          rw [if_pos (by decide)] at hk2
          refine rw_iload f_X0_clash_40 rfl ?_
          refine rw_const f_X0_clash_42 ?_
          refine rw_aload f_X0_clash_43 rfl ?_
          refine rw_callV f_X0_clash_44 rfl (by first | assumption | exact hW.k rfl | exact hW.k0) (by first | assumption | exact hW.1 | omega | exact Nat.succ_ne_zero _) rfl rfl rfl rfl (rn_ki (C_buttons hC ?_))
          refine rw_ishl f_X0_clash_47 ?_
          rw [e2]
          refine rw_icmpT f_X0_clash_48 (decide_eq_true (Int32.le_refl _)) ?_
          refine rw_iload f_X0_clash_103 rfl ?_
          refine rw_ifF f_X0_clash_105 (by decide) ?_
          refine rw_const f_X0_clash_108 ?_
          refine rw_goto f_X0_clash_109 ?_
          refine rw_iret f_X0_clash_126 ?_
          exact hk2
        · rw [z2] at hk2 ⊢
          rw [if_neg (nI_pos (by omega))] at hk2
          refine rw_iload f_X0_clash_40 rfl ?_
          refine rw_const f_X0_clash_42 ?_
          refine rw_aload f_X0_clash_43 rfl ?_
          refine rw_callV f_X0_clash_44 rfl (by first | assumption | exact hW.k rfl | exact hW.k0) (by first | assumption | exact hW.1 | omega | exact Nat.succ_ne_zero _) rfl rfl rfl rfl (rn_ki (C_buttons hC ?_))
          refine rw_ishl f_X0_clash_47 ?_
          rw [e2]
          refine rw_icmpT f_X0_clash_48 (decide_eq_true (Int32.le_refl _)) ?_
          refine rw_iload f_X0_clash_103 rfl ?_
          refine rw_ifT f_X0_clash_105 (decide_eq_true (nI_pos' (by omega))) ?_
          refine rw_iload f_X0_clash_112 rfl ?_
          first | refine rw_ne0B f_X0_clash_113 (fun c1 => ?_) (fun c1 => ?_) | refine rw_ne0 f_X0_clash_113 (fun c1 => ?_) (fun c1 => ?_)
          · refine rw_iload f_X0_clash_124 rfl ?_
            refine rw_iret f_X0_clash_126 ?_
            simpa [c1] using hk2
          · refine rw_iload f_X0_clash_116 rfl ?_
            refine rw_callS f_X0_clash_118 rfl rfl rfl (rn_ki (J_bitCount (s10_n (by omega)) ?_))
            refine rw_goto f_X0_clash_121 ?_
            refine rw_iret f_X0_clash_126 ?_
            simpa [c1] using hk2
      | succ q ih =>
        intro n h0 hn
        have ih2 := ih (n + 1) (by omega) (by omega)
        simp only [clF] at ih2
        rw [if_neg (by omega)] at ih2
        rcases clF_or (L := L) (all := all) n (by omega) with z | ⟨j, z1, z2⟩
        · rw [z] at ih2 ⊢
          refine rw_iload f_X0_clash_40 rfl ?_
          refine rw_const f_X0_clash_42 ?_
          refine rw_aload f_X0_clash_43 rfl ?_
          refine rw_callV f_X0_clash_44 rfl (by first | assumption | exact hW.k rfl | exact hW.k0) (by first | assumption | exact hW.1 | omega | exact Nat.succ_ne_zero _) rfl rfl rfl rfl (rn_ki (C_buttons hC ?_))
          refine rw_ishl f_X0_clash_47 ?_
          rw [e2]
          refine rw_icmpF f_X0_clash_48 (decide_eq_false (nI_ge (by omega) (by omega))) ?_
          refine rw_iload f_X0_clash_51 rfl ?_
          refine rw_iload f_X0_clash_53 rfl ?_
          refine rw_const f_X0_clash_54 ?_
          refine rw_ixor f_X0_clash_55 ?_
          refine rw_iand f_X0_clash_56 ?_
          first | refine rw_ne0B f_X0_clash_57 (fun c1 => ?_) (fun c1 => ?_) | refine rw_ne0 f_X0_clash_57 (fun c1 => ?_) (fun c1 => ?_)
          · refine rw_iinc f_X0_clash_97 rfl rfl ?_
            refine rw_goto f_X0_clash_100 ?_
            rw [nI_1']
            simp only [c1, show ((-1 : Int32) < 0) from by decide, not_true_eq_false, not_false_eq_true, and_true, true_and, and_false, false_and, if_true, if_false, Bool.false_eq_true] at ih2
            exact ih2
          · refine rw_iload f_X0_clash_60 rfl ?_
            refine rw_ifT f_X0_clash_62 (by decide) ?_
            refine rw_aload f_X0_clash_78 rfl ?_
            refine rw_getR f_X0_clash_79 (by first | assumption | exact hW.k rfl | exact hW.k0) (by first | assumption | exact hW.r0 rfl | exact hW.r rfl | rfl) ?_
            refine rw_iload f_X0_clash_82 rfl ?_
            refine rw_callV f_X0_clash_84 rfl (by first | assumption | exact hW.k rfl | exact hW.k0) (by first | assumption | exact hW.1 | omega | exact Nat.succ_ne_zero _) rfl rfl rfl rfl (rn_ki (C_canKeep hW hL k1 ?_))
            first | refine rw_eq0B f_X0_clash_87 (fun c2 => ?_) (fun c2 => ?_) | refine rw_eq0 f_X0_clash_87 (fun c2 => ?_) (fun c2 => ?_)
            · refine rw_iload f_X0_clash_93 rfl ?_
              refine rw_istore f_X0_clash_95 rfl rfl ?_
              refine rw_iinc f_X0_clash_97 rfl rfl ?_
              refine rw_goto f_X0_clash_100 ?_
              rw [nI_1']
              simp only [c1, c2, show ((-1 : Int32) < 0) from by decide, not_true_eq_false, not_false_eq_true, and_true, true_and, and_false, false_and, if_true, if_false, Bool.false_eq_true] at ih2
              exact ih2
            · refine rw_goto f_X0_clash_90 ?_
              refine rw_iinc f_X0_clash_97 rfl rfl ?_
              refine rw_goto f_X0_clash_100 ?_
              rw [nI_1']
              simp only [c1, c2, show ((-1 : Int32) < 0) from by decide, not_true_eq_false, not_false_eq_true, and_true, true_and, and_false, false_and, if_true, if_false, Bool.false_eq_true] at ih2
              exact ih2
        · have np := nI_pos (n := j) (by omega)
          rw [z2] at ih2 ⊢
          refine rw_iload f_X0_clash_40 rfl ?_
          refine rw_const f_X0_clash_42 ?_
          refine rw_aload f_X0_clash_43 rfl ?_
          refine rw_callV f_X0_clash_44 rfl (by first | assumption | exact hW.k rfl | exact hW.k0) (by first | assumption | exact hW.1 | omega | exact Nat.succ_ne_zero _) rfl rfl rfl rfl (rn_ki (C_buttons hC ?_))
          refine rw_ishl f_X0_clash_47 ?_
          rw [e2]
          refine rw_icmpF f_X0_clash_48 (decide_eq_false (nI_ge (by omega) (by omega))) ?_
          refine rw_iload f_X0_clash_51 rfl ?_
          refine rw_iload f_X0_clash_53 rfl ?_
          refine rw_const f_X0_clash_54 ?_
          refine rw_ixor f_X0_clash_55 ?_
          refine rw_iand f_X0_clash_56 ?_
          first | refine rw_ne0B f_X0_clash_57 (fun c1 => ?_) (fun c1 => ?_) | refine rw_ne0 f_X0_clash_57 (fun c1 => ?_) (fun c1 => ?_)
          · refine rw_iinc f_X0_clash_97 rfl rfl ?_
            refine rw_goto f_X0_clash_100 ?_
            rw [nI_1']
            simp only [c1, np, not_true_eq_false, not_false_eq_true, and_true, true_and, and_false, false_and, if_true, if_false, Bool.false_eq_true] at ih2
            exact ih2
          · refine rw_iload f_X0_clash_60 rfl ?_
            refine rw_ifF f_X0_clash_62 (decide_eq_false np) ?_
            refine rw_iload f_X0_clash_65 rfl ?_
            refine rw_callS f_X0_clash_67 rfl rfl rfl (rn_ki (J_bitCount (s10_n (by omega)) ?_))
            refine rw_iload f_X0_clash_70 rfl ?_
            refine rw_callS f_X0_clash_72 rfl rfl rfl (rn_ki (J_bitCount (s10_n (by omega)) ?_))
            refine rw_ge f_X0_clash_75 (fun c2 => ?_) (fun c2 => ?_)
            · refine rw_iinc f_X0_clash_97 rfl rfl ?_
              refine rw_goto f_X0_clash_100 ?_
              rw [nI_1']
              simp only [c1, c2, np, not_true_eq_false, not_false_eq_true, and_true, true_and, and_false, false_and, if_true, if_false, Bool.false_eq_true] at ih2
              exact ih2
            · refine rw_aload f_X0_clash_78 rfl ?_
              refine rw_getR f_X0_clash_79 (by first | assumption | exact hW.k rfl | exact hW.k0) (by first | assumption | exact hW.r0 rfl | exact hW.r rfl | rfl) ?_
              refine rw_iload f_X0_clash_82 rfl ?_
              refine rw_callV f_X0_clash_84 rfl (by first | assumption | exact hW.k rfl | exact hW.k0) (by first | assumption | exact hW.1 | omega | exact Nat.succ_ne_zero _) rfl rfl rfl rfl (rn_ki (C_canKeep hW hL k1 ?_))
              first | refine rw_eq0B f_X0_clash_87 (fun c3 => ?_) (fun c3 => ?_) | refine rw_eq0 f_X0_clash_87 (fun c3 => ?_) (fun c3 => ?_)
              · refine rw_iload f_X0_clash_93 rfl ?_
                refine rw_istore f_X0_clash_95 rfl rfl ?_
                refine rw_iinc f_X0_clash_97 rfl rfl ?_
                refine rw_goto f_X0_clash_100 ?_
                rw [nI_1']
                simp only [c1, c2, c3, np, not_true_eq_false, not_false_eq_true, and_true, true_and, and_false, false_and, if_true, if_false, Bool.false_eq_true] at ih2
                exact ih2
              · refine rw_goto f_X0_clash_90 ?_
                refine rw_iinc f_X0_clash_97 rfl rfl ?_
                refine rw_goto f_X0_clash_100 ?_
                rw [nI_1']
                simp only [c1, c2, c3, np, not_true_eq_false, not_false_eq_true, and_true, true_and, and_false, false_and, if_true, if_false, Bool.false_eq_true] at ih2
                exact ih2
    exact key (2 ^ nB - 1) 1 (by omega) (by have : 0 < 2 ^ nB := Nat.pow_pos (by decide); omega)
  have hW := hC.1
  refine rw_aload f_X0_clash_0 rfl ?_
  refine rw_iload f_X0_clash_1 rfl ?_
  refine rw_callV f_X0_clash_2 rfl (by first | assumption | exact hW.k rfl | exact hW.k0) (by first | assumption | exact hW.1 | omega | exact Nat.succ_ne_zero _) rfl rfl rfl rfl (rn_ki (C_isMan hC ?_))
  first | refine rw_eq0B f_X0_clash_5 (fun c1 => ?_) (fun c1 => ?_) | refine rw_eq0 f_X0_clash_5 (fun c1 => ?_) (fun c1 => ?_)
  · refine rw_const f_X0_clash_17 ?_
    refine rw_iret f_X0_clash_18 ?_
    first | (have hk2 := hk h hC Fr_refl; simpa [c1] using hk2)
  · refine rw_iload f_X0_clash_8 rfl ?_
    refine rw_const f_X0_clash_9 ?_
    refine rw_const f_X0_clash_10 ?_
    refine rw_callS f_X0_clash_11 rfl rfl rfl (rn_ki (C_isIn ?_))
    first | refine rw_ne0B f_X0_clash_14 (fun c2 => ?_) (fun c2 => ?_) | refine rw_ne0 f_X0_clash_14 (fun c2 => ?_) (fun c2 => ?_)
    · exact tail c1 c2
    · refine rw_const f_X0_clash_17 ?_
      refine rw_iret f_X0_clash_18 ?_
      first | (have hk2 := hk h hC Fr_refl; simpa [c1, c2] using hk2)
end CClash
