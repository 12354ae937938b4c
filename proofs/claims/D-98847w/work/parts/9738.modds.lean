/-! THE MODEL: odds -/
section MOdds
variable {d : Nat} {h : am_H} {m : Nat} {V W : am_M} {nM nD nB nA nU nT nL : Nat}
theorem bit_nI {x j : Nat} (hx : x < 1024) (hj : j < 32) : (nI x >>> (nI j &&& 31)) &&& 1 = nI (x / 2 ^ j % 2) := by
  rw [and1_bI hj, tb_nI hj, Nat.testBit_eq_decide_div_mod_eq]
  rcases Nat.mod_two_eq_zero_or_one (x / 2 ^ j) with e | e <;> rw [e] <;> rfl
theorem m_threadBy (hW : MW h m) (hB : WB V nM nD nB) {b n x : Nat} (hb : b < nB) (hn : n ≤ 6) (hx : x < 1024) {t : Nat} (ht : t ≤ 99) (et : V 34 (10 + b) = nI t) {k : Int32 → am_H → Prop} (hk : ∀ X, Wr V X → k (nI (pthN V b x n 0 t)) (mh h m X)) : Rn (d + 3) n_X9_threadBy 0 [am_r m, am_i (nI b), am_i (nI n), am_i (nI x), am_u, am_u] [] (mh h m V) (kI k) := by
  obtain ⟨⟨fM, fM6, fD, fD6, fB, fB10⟩, fO, -, -, -, fW⟩ := hB
  obtain ⟨a, ha, ea⟩ := (fO b hb).2.1
  refine rw_aload f_X9_threadBy_0 rfl ?_
  refine rm_getR f_X9_threadBy_1 hW rfl ?_
  refine rw_const f_X9_threadBy_4 ?_
  refine rw_iload f_X9_threadBy_6 rfl ?_
  refine rw_iadd f_X9_threadBy_7 ?_
  refine rm_xald (j := 10 + b) f_X9_threadBy_8 hW (by exact rfl) (by first | rfl | exact nI_addl _ _ | (simp only [nI, Int32.ofNat_add, Int32.ofNat_mul]; rfl) | (simp only [nI_addl, nI_mull, nI_lit, nI_1']; done) | (simp only [nI_1, nI_0, nI_addl, nI_mull, ← nI_succ]; rfl)) (by omega) ?_
  rw [et]
  refine rw_istore f_X9_threadBy_9 rfl rfl ?_
  refine rw_const f_X9_threadBy_11 ?_
  refine rw_istore f_X9_threadBy_12 rfl rfl ?_
  skip
  refine rn_inv (N := n) (fun i ls hh => ∃ W o, hh = mh h m W ∧ Wr V W ∧ ls = [am_r m, am_i (nI b), am_i (nI n), am_i (nI x), am_i (nI o), am_i (nI i)] ∧ o ≤ 99 ∧ pthN V b x n 0 t = pthN V b (x / 2 ^ i) (n - i) i o) (fun i hi ls hh hI ih => ?_) (fun ls hh hI => ?_) ⟨V, t, rfl, .refl, rfl, ht, by rw [Nat.pow_zero, Nat.div_one, Nat.sub_zero]⟩
  · obtain ⟨W, o, rfl, wr, rfl, ho, hpt⟩ := hI
    have rBy : W 27 b = nI a := by rw [wr _ (by decide) (by decide)]; exact ea
    have rH : W 16 a = hoV V b := by unfold hoV; rw [ea, nI_clamp (by omega), wr _ (by decide) (by decide)]
    have rN : W 34 20 = V 34 20 := by rw [wr _ (by decide) (by decide)]
    rw [show n - i = (n - (i + 1)) + 1 by omega, pthN] at hpt
    by_cases c : o = 0
    · subst c
      rw [if_pos rfl] at hpt
      refine rw_iload f_X9_threadBy_14 rfl ?_
      refine rw_iload f_X9_threadBy_16 rfl ?_
      refine rw_icmpF f_X9_threadBy_17 (decide_eq_false (nI_ge hi (by omega))) ?_
      refine rw_iload f_X9_threadBy_20 rfl ?_
      refine rw_ifT f_X9_threadBy_22 (by decide) ?_
      refine rw_iload f_X9_threadBy_69 rfl ?_
      refine rw_iret f_X9_threadBy_71 ?_
      have z := hk W wr
      rw [hpt] at z
      exact z
    · rw [if_neg c, Nat.div_div_eq_div_mul, ← Nat.pow_succ] at hpt
      obtain ⟨d1, d2⟩ := dN_eq (V := V) (b := b) (st := nI (x / 2 ^ i % 2)) (dy := V 34 20 + nI i) ho
      refine rw_iload f_X9_threadBy_14 rfl ?_
      refine rw_iload f_X9_threadBy_16 rfl ?_
      refine rw_icmpF f_X9_threadBy_17 (decide_eq_false (nI_ge hi (by omega))) ?_
      refine rw_iload f_X9_threadBy_20 rfl ?_
      refine rw_ifF f_X9_threadBy_22 (decide_eq_false (nI_nle (by omega) (by omega))) ?_
      refine rw_iload f_X9_threadBy_25 rfl ?_
      refine rw_aload f_X9_threadBy_27 rfl ?_
      refine rw_iload f_X9_threadBy_28 rfl ?_
      refine rw_aload f_X9_threadBy_30 rfl ?_
      refine rm_getR f_X9_threadBy_31 hW rfl ?_
      refine rw_aload f_X9_threadBy_34 rfl ?_
      refine rm_getR f_X9_threadBy_35 hW rfl ?_
      refine rw_iload f_X9_threadBy_38 rfl ?_
      refine rm_xald f_X9_threadBy_39 hW (by exact rfl) rfl (by omega) ?_
      rw [rBy]
      refine rm_xald (j := a) f_X9_threadBy_40 hW (by exact rfl) (by first | rfl | exact nI_addl _ _ | (simp only [nI, Int32.ofNat_add, Int32.ofNat_mul]; rfl) | (simp only [nI_addl, nI_mull, nI_lit, nI_1']; done) | (simp only [nI_1, nI_0, nI_addl, nI_mull, ← nI_succ]; rfl)) (by omega) ?_
      rw [rH]
      refine rw_iload f_X9_threadBy_41 rfl ?_
      refine rw_iload f_X9_threadBy_42 rfl ?_
      refine rw_ishr f_X9_threadBy_44 ?_
      refine rw_const f_X9_threadBy_45 ?_
      refine rw_iand f_X9_threadBy_46 ?_
      rw [bit_nI hx (by omega)]
      refine rw_aload f_X9_threadBy_47 rfl ?_
      refine rm_getR f_X9_threadBy_48 hW rfl ?_
      refine rw_const f_X9_threadBy_51 ?_
      refine rm_xald (j := 20) f_X9_threadBy_53 hW (by exact rfl) (by first | rfl | exact nI_addl _ _ | (simp only [nI, Int32.ofNat_add, Int32.ofNat_mul]; rfl) | (simp only [nI_addl, nI_mull, nI_lit, nI_1']; done) | (simp only [nI_1, nI_0, nI_addl, nI_mull, ← nI_succ]; rfl)) (by omega) ?_
      rw [rN]
      refine rw_iload f_X9_threadBy_54 rfl ?_
      refine rw_iadd f_X9_threadBy_56 ?_
      refine rw_callV f_X9_threadBy_57 rfl hW.1 hW.2.1 rfl rfl rfl rfl (rn_ki (m_wearOf hW (okWear_V wr.reg fW) (fun X hX => ?_)))
      rw [wrV_V wr.reg]
      refine rw_isub f_X9_threadBy_60 ?_
      rw [d1]
      refine rw_istore f_X9_threadBy_61 rfl rfl ?_
      refine rw_iinc f_X9_threadBy_63 rfl rfl ?_
      refine rw_goto f_X9_threadBy_66 ?_
      rw [nI_1']
      exact ih _ _ ⟨X, _, rfl, wr.tr hX, rfl, d2, hpt⟩
  · obtain ⟨W, o, rfl, wr, rfl, ho, hpt⟩ := hI
    rw [Nat.sub_self, pthN] at hpt
    refine rw_iload f_X9_threadBy_14 rfl ?_
    refine rw_iload f_X9_threadBy_16 rfl ?_
    refine rw_icmpT f_X9_threadBy_17 (decide_eq_true (Int32.le_refl _)) ?_
    refine rw_iload f_X9_threadBy_69 rfl ?_
    refine rw_iret f_X9_threadBy_71 ?_
    have z := hk W wr
    rw [hpt] at z
    exact z
theorem dN_V {V V' : am_M} (e : ∀ a j, regA a j = true → V' a j = V a j) {b k : Nat} {st dy : Int32} : dN V' b st dy k = dN V b st dy k := by
  unfold dN
  rw [wrV_V e, hoV_V e]
theorem pthN_V {V V' : am_M} (e : ∀ a j, regA a j = true → V' a j = V a j) (en : ∀ j, V' 34 j = V 34 j) {b : Nat} : ∀ {m x i k}, pthN V' b x m i k = pthN V b x m i k := by
  intro m
  induction m with
  | zero => intro x i k; rfl
  | succ m ih => intro x i k; simp only [pthN]; rw [ih, dN_V e, en]
theorem pthN_99 {V : am_M} {b : Nat} : ∀ {k : Nat}, k ≤ 99 → ∀ m x i, pthN V b x m i k ≤ 99 := by
  intro k hk m
  induction m generalizing k with
  | zero => intro x i; exact hk
  | succ m ih =>
    intro x i
    simp only [pthN]
    split
    · omega
    · exact ih (dN_eq hk).2 _ _
theorem lg_cmp_pos {x : Nat} (hx : x < 2 ^ 62) : lg_cmp (gN x) 0 ≤ 0 ↔ x = 0 := by
  have e0 := lg_cmp_0 (gN x) 0
  by_cases c : x = 0
  · subst c; exact ⟨fun _ => rfl, fun _ => by rw [e0.mpr rfl]; decide⟩
  · refine ⟨fun z => absurd z ?_, fun z => absurd z c⟩
    have hp : (0 : Int64) < gN x := by
      rw [Int64.lt_iff_toInt_lt, gN_toInt (by omega)]
      show (0 : Int) < _
      omega
    have : lg_cmp (gN x) 0 = 1 := by unfold lg_cmp; exact if_pos hp
    rw [this]
    decide
theorem m_common {h : am_H} {k : Int64 → am_H → Prop} {a0 b0 : Nat} : ∀ n a b, b < n → a < 2 ^ 62 → b < 2 ^ 62 → k (gN (Nat.gcd a b)) h → ∀ z z', Rn d n_X9_common 6 [am_l (gN a0), am_u, am_l (gN b0), am_u, am_l (gN a), am_u, am_l (gN b), am_u, z, z'] [] h (kL k) := by
  intro n
  induction n with
  | zero => intro a b hb; exact absurd hb (Nat.not_lt_zero b)
  | succ n ih =>
    intro a b hb ha hb2 hk z z'
    by_cases c : b = 0
    · subst c
      rw [Nat.gcd_zero_right] at hk
      refine rw_lload f_X9_common_6 rfl ?_
      refine rw_const f_X9_common_8 ?_
      refine rw_lcmp f_X9_common_9 ?_
      refine rw_ifT f_X9_common_10 (decide_eq_true ((lg_cmp_pos (by omega)).mpr rfl)) ?_
      refine rw_lload f_X9_common_31 rfl ?_
      refine rw_lret f_X9_common_33 ?_
      exact hk
    · have hm : a % b < b := Nat.mod_lt _ (by omega)
      have eg : Nat.gcd b (a % b) = Nat.gcd a b := by rw [Nat.gcd_comm a b, Nat.gcd_rec b a, Nat.gcd_comm]
      refine rw_lload f_X9_common_6 rfl ?_
      refine rw_const f_X9_common_8 ?_
      refine rw_lcmp f_X9_common_9 ?_
      refine rw_ifF f_X9_common_10 (decide_eq_false (fun q => c ((lg_cmp_pos hb2).mp q))) ?_
      refine rw_lload f_X9_common_13 rfl ?_
      refine rw_lload f_X9_common_15 rfl ?_
      refine rw_lrem f_X9_common_17 (fun q => c ((gN_0 (by omega)).mp q)) ?_
      rw [gN_mod ha hb2 (by omega)]
      refine rw_lstore f_X9_common_18 rfl rfl ?_
      refine rw_lload f_X9_common_20 rfl ?_
      refine rw_lstore f_X9_common_22 rfl rfl ?_
      refine rw_lload f_X9_common_24 rfl ?_
      refine rw_lstore f_X9_common_26 rfl rfl ?_
      refine rw_goto f_X9_common_28 ?_
      refine ih b (a % b) (by omega) hb2 (by omega) (by rw [eg]; exact hk) _ _
theorem m_commonX {h : am_H} {k : Int64 → am_H → Prop} {a b : Nat} (ha : a < 2 ^ 62) (hb : b < 2 ^ 62) (hk : k (gN (Nat.gcd a b)) h) : Rn d n_X9_common 0 [am_l (gN a), am_u, am_l (gN b), am_u, am_u, am_u, am_u, am_u, am_u, am_u] [] h (kL k) := by
  refine rw_lload f_X9_common_0 rfl ?_
  refine rw_lstore f_X9_common_1 rfl rfl ?_
  refine rw_lload f_X9_common_3 rfl ?_
  refine rw_lstore f_X9_common_4 rfl rfl ?_
  exact m_common (b + 1) a b (by omega) ha hb hk _ _
theorem two_pow_sh : ∀ n, n < 7 → (1 : Int32) <<< (nI n &&& 31) = nI (2 ^ n) := by decide +kernel
theorem m_odds (hW : MW h m) (hB : WB V nM nD nB) (ok : okDay (V 34)) {b n part : Int32} {k : Int64 → am_H → Prop} (hk : ∀ X, Eqv V X → k (sp_odds V b n part) (mh h m X)) : Rn (d + 4) n_X9_odds 0 [am_r m, am_i b, am_i n, am_i part, am_u, am_u, am_u, am_u, am_u, am_u, am_u, am_u] [] (mh h m V) (kL k) := by
  have hB' := hB
  obtain ⟨⟨fM, fM6, fD, fD6, fB, fB10⟩, fO, ⟨-, s, hs1, hs⟩, -⟩ := hB'
  unfold sp_odds ok_odds onB at hk
  cases hb : isIn b 0 (V 0 58 - 1) with
  | false =>
    refine rw_aload f_X9_odds_0 rfl ?_
    refine rw_iload f_X9_odds_1 rfl ?_
    refine rw_callV f_X9_odds_2 rfl hW.1 hW.2.1 rfl rfl rfl rfl (rn_ki (m_isButton hW ?_))
    refine rw_ifT f_X9_odds_5 (by rw [hb]; rfl) ?_
    refine rw_const f_X9_odds_35 ?_
    refine rw_lret f_X9_odds_38 ?_
    exact Eq.mp (by simp [hb]) (hk V .refl)
  | true =>
    obtain ⟨j, rfl, hj⟩ := isIn_nat (n := nB) (by omega) (by rw [← fB]; exact hb)
    rw [hb, Bool.true_and, nI_clamp (by omega)] at hk
    cases hn : isIn n 0 6 with
    | false =>
      refine rw_aload f_X9_odds_0 rfl ?_
      refine rw_iload f_X9_odds_1 rfl ?_
      refine rw_callV f_X9_odds_2 rfl hW.1 hW.2.1 rfl rfl rfl rfl (rn_ki (m_isButton hW ?_))
      refine rw_ifF f_X9_odds_5 (by rw [hb]; rfl) ?_
      refine rw_aload f_X9_odds_8 rfl ?_
      refine rw_iload f_X9_odds_9 rfl ?_
      refine rw_callV f_X9_odds_10 rfl hW.1 hW.2.1 rfl rfl rfl rfl (rn_ki (m_isOn hW (by omega) ?_))
      first | refine rw_eq0B f_X9_odds_13 (fun c1 => ?_) (fun c1 => ?_) | refine rw_eq0 f_X9_odds_13 (fun c1 => ?_) (fun c1 => ?_)
      · refine rw_const f_X9_odds_35 ?_
        refine rw_lret f_X9_odds_38 ?_
        exact Eq.mp (by simp [c1, hn]) (hk V .refl)
      · refine rw_iload f_X9_odds_16 rfl ?_
        refine rw_const f_X9_odds_17 ?_
        refine rw_const f_X9_odds_18 ?_
        refine rw_callS f_X9_odds_20 rfl rfl rfl (rn_ki (M_isIn ?_))
        refine rw_ifT f_X9_odds_23 (by rw [hn]; rfl) ?_
        refine rw_const f_X9_odds_35 ?_
        refine rw_lret f_X9_odds_38 ?_
        exact Eq.mp (by simp [c1, hn]) (hk V .refl)
    | true =>
      obtain ⟨N, rfl, hN6⟩ := isIn_nat (v := n) (n := 7) (by omega) hn
      obtain ⟨t0, ht0, et0⟩ := ok j (by omega)
      rw [nI_clamp (by omega)] at hk
      have eodd : oddN V (nI j) N = valN V j s (100 - s) N 0 t0 := by
        unfold oddN
        rw [nI_clamp (by omega), hs, nI_clamp (by omega), et0, nI_clamp (by omega)]
      rw [eodd] at hk
      have p6 : 100 ^ N ≤ 100 ^ 6 := Nat.pow_le_pow_right (by decide) (by omega)
      have p62 : (100 : Nat) ^ 6 < 2 ^ 62 := by decide
      have p0 : 0 < 100 ^ N := Nat.pow_pos (by decide)
      have u6 : valN V j s (100 - s) N 0 t0 ≤ 100 ^ N := valN_le (by omega) N 0 t0
      have g0 : 0 < Nat.gcd (100 ^ N) (valN V j s (100 - s) N 0 t0) := Nat.gcd_pos_of_pos_left _ p0
      have gle : Nat.gcd (100 ^ N) (valN V j s (100 - s) N 0 t0) ≤ 100 ^ N := Nat.gcd_le_left _ p0
      have n64 : 2 ^ N ≤ 2 ^ 6 := Nat.pow_le_pow_right (by decide) (by omega)
      have n64' : 2 ^ N ≤ 64 := n64
      refine rw_aload f_X9_odds_0 rfl ?_
      refine rw_iload f_X9_odds_1 rfl ?_
      refine rw_callV f_X9_odds_2 rfl hW.1 hW.2.1 rfl rfl rfl rfl (rn_ki (m_isButton hW ?_))
      refine rw_ifF f_X9_odds_5 (by rw [hb]; rfl) ?_
      refine rw_aload f_X9_odds_8 rfl ?_
      refine rw_iload f_X9_odds_9 rfl ?_
      refine rw_callV f_X9_odds_10 rfl hW.1 hW.2.1 rfl rfl rfl rfl (rn_ki (m_isOn hW (by omega) ?_))
      first | refine rw_eq0B f_X9_odds_13 (fun c1 => ?_) (fun c1 => ?_) | refine rw_eq0 f_X9_odds_13 (fun c1 => ?_) (fun c1 => ?_)
      · refine rw_const f_X9_odds_35 ?_
        refine rw_lret f_X9_odds_38 ?_
        exact Eq.mp (by simp [c1, hn]) (hk V .refl)
      refine rw_iload f_X9_odds_16 rfl ?_
      refine rw_const f_X9_odds_17 ?_
      refine rw_const f_X9_odds_18 ?_
      refine rw_callS f_X9_odds_20 rfl rfl rfl (rn_ki (M_isIn ?_))
      refine rw_ifF f_X9_odds_23 (by rw [hn]; rfl) ?_
      refine rw_iload f_X9_odds_26 rfl ?_
      refine rw_const f_X9_odds_27 ?_
      refine rw_const f_X9_odds_28 ?_
      refine rw_callS f_X9_odds_29 rfl rfl rfl (rn_ki (M_isIn ?_))
      first | refine rw_ne0B f_X9_odds_32 (fun c2 => ?_) (fun c2 => ?_) | refine rw_ne0 f_X9_odds_32 (fun c2 => ?_) (fun c2 => ?_)
      rotate_left
      · refine rw_const f_X9_odds_35 ?_
        refine rw_lret f_X9_odds_38 ?_
        exact Eq.mp (by simp [c1, c2, hn]) (hk V .refl)
      refine rw_const f_X9_odds_39 ?_
      refine rw_lstore f_X9_odds_40 rfl rfl ?_
      refine rw_const f_X9_odds_42 ?_
      refine rw_lstore f_X9_odds_43 rfl rfl ?_
      refine rw_const f_X9_odds_45 ?_
      refine rw_istore f_X9_odds_46 rfl rfl ?_
      skip
      rw [c1, hn, c2, if_neg (by decide)] at hk
      refine rn_for (N := N) (fun i => [am_r m, am_i (nI j), am_i (nI N), am_i part, am_l 0, am_u, am_l (gN (100 ^ i)), am_u, am_i (nI i), am_u, am_u, am_u]) (fun _ => mh h m V) (fun i hi ih => ?_) ?_
      · refine rw_iload f_X9_odds_48 rfl ?_
        refine rw_iload f_X9_odds_50 rfl ?_
        refine rw_icmpF f_X9_odds_51 (decide_eq_false (nI_ge hi (by omega))) ?_
        refine rw_lload f_X9_odds_54 rfl ?_
        refine rw_const f_X9_odds_56 ?_
        refine rw_lmul f_X9_odds_59 ?_
        rw [show gN (100 ^ i) * 100 = gN (100 ^ (i + 1)) from by rw [Nat.pow_succ, gN_mul]; rfl]
        refine rw_lstore f_X9_odds_60 rfl rfl ?_
        refine rw_iinc f_X9_odds_62 rfl rfl ?_
        refine rw_goto f_X9_odds_65 ?_
        rw [nI_1']
        exact ih
      · refine rw_iload f_X9_odds_48 rfl ?_
        refine rw_iload f_X9_odds_50 rfl ?_
        refine rw_icmpT f_X9_odds_51 (decide_eq_true (Int32.le_refl _)) ?_
        refine rw_const f_X9_odds_68 ?_
        refine rw_istore f_X9_odds_69 rfl rfl ?_
        skip
        refine rn_inv (N := 2 ^ N) (fun x ls hh => ∃ X y9 y10 y11, hh = mh h m X ∧ Wr V X ∧ (∀ v, ¬ y9 = am_l v ∨ True) ∧ ls = [am_r m, am_i (nI j), am_i (nI N), am_i part, am_l (gN (sumN (fun x => if pthN V j x N 0 t0 = 0 then 0 else prdN s (100 - s) x N) x)), am_u, am_l (gN (100 ^ N)), am_u, am_i (nI x), y9, y10, y11]) (fun x hx ls hh hI ih => ?_) (fun ls hh hI => ?_) ⟨V, am_u, am_u, am_u, rfl, .refl, fun _ => Or.inr trivial, rfl⟩
        · obtain ⟨X, y9, y10, y11, rfl, wr, -, rfl⟩ := hI
          have p99 : pthN V j x N 0 t0 ≤ 99 := pthN_99 ht0 N x 0
          have rS : ∀ Y, Wr V Y → Y 0 61 = nI s := fun Y wy => by rw [wy _ (by decide) (by decide)]; exact hs
          by_cases cz : pthN V j x N 0 t0 = 0
          · have ez : sumN (fun x => if pthN V j x N 0 t0 = 0 then 0 else prdN s (100 - s) x N) (x + 1) = sumN (fun x => if pthN V j x N 0 t0 = 0 then 0 else prdN s (100 - s) x N) x := by
              simp only [sumN]; rw [if_pos cz]; rfl
            refine rw_iload f_X9_odds_71 rfl ?_
            refine rw_const f_X9_odds_73 ?_
            refine rw_iload f_X9_odds_74 rfl ?_
            refine rw_ishl f_X9_odds_75 ?_
            rw [two_pow_sh N hN6]
            refine rw_icmpF f_X9_odds_76 (decide_eq_false (nI_ge hx (by omega))) ?_
            refine rw_aload f_X9_odds_79 rfl ?_
            refine rw_iload f_X9_odds_80 rfl ?_
            refine rw_iload f_X9_odds_81 rfl ?_
            refine rw_iload f_X9_odds_82 rfl ?_
            refine rw_callV f_X9_odds_84 rfl hW.1 hW.2.1 rfl rfl rfl rfl (rn_ki (m_threadBy hW (WB_V wr.reg hB) hj (by omega) (by omega) ht0 (by rw [wr _ (by decide) (by decide)]; exact et0) (fun Y wy => ?_)))
            rw [pthN_V wr.reg (fun j => by rw [wr _ (by decide) (by decide)]), cz]
            refine rw_ifF f_X9_odds_87 (by decide) ?_
            refine rw_goto f_X9_odds_90 ?_
            refine rw_iinc f_X9_odds_150 rfl rfl ?_
            refine rw_goto f_X9_odds_153 ?_
            rw [nI_1']
            rw [ez] at ih
            exact ih _ _ ⟨Y, _, _, _, rfl, wr.tr wy, fun _ => Or.inr trivial, rfl⟩
          · have ez : sumN (fun x => if pthN V j x N 0 t0 = 0 then 0 else prdN s (100 - s) x N) (x + 1) = sumN (fun x => if pthN V j x N 0 t0 = 0 then 0 else prdN s (100 - s) x N) x + prdN s (100 - s) x N := by
              simp only [sumN]; rw [if_neg cz]
            refine rw_iload f_X9_odds_71 rfl ?_
            refine rw_const f_X9_odds_73 ?_
            refine rw_iload f_X9_odds_74 rfl ?_
            refine rw_ishl f_X9_odds_75 ?_
            rw [two_pow_sh N hN6]
            refine rw_icmpF f_X9_odds_76 (decide_eq_false (nI_ge hx (by omega))) ?_
            refine rw_aload f_X9_odds_79 rfl ?_
            refine rw_iload f_X9_odds_80 rfl ?_
            refine rw_iload f_X9_odds_81 rfl ?_
            refine rw_iload f_X9_odds_82 rfl ?_
            refine rw_callV f_X9_odds_84 rfl hW.1 hW.2.1 rfl rfl rfl rfl (rn_ki (m_threadBy hW (WB_V wr.reg hB) hj (by omega) (by omega) ht0 (by rw [wr _ (by decide) (by decide)]; exact et0) (fun Y wy => ?_)))
            rw [pthN_V wr.reg (fun j => by rw [wr _ (by decide) (by decide)])]
            refine rw_ifT f_X9_odds_87 (decide_eq_true (nI_ne0 (by omega) (by omega))) ?_
            refine rw_const f_X9_odds_93 ?_
            refine rw_lstore f_X9_odds_94 rfl rfl ?_
            refine rw_const f_X9_odds_96 ?_
            refine rw_istore f_X9_odds_97 rfl rfl ?_
            skip
            have wy' := wr.tr wy
            rw [ez, gN_add] at ih
            generalize gN (sumN (fun x => if pthN V j x N 0 t0 = 0 then 0 else prdN s (100 - s) x N) x) = U at ih ⊢
            refine rn_inv (N := N) (fun i ls hh => hh = mh h m Y ∧ ∃ a, a * prdN s (100 - s) (x / 2 ^ i) (N - i) = prdN s (100 - s) x N ∧ ls = [am_r m, am_i (nI j), am_i (nI N), am_i part, am_l U, am_u, am_l (gN (100 ^ N)), am_u, am_i (nI x), am_l (gN a), am_u, am_i (nI i)]) (fun i hi ls hh hI ihi => ?_) (fun ls hh hI => ?_) ⟨rfl, 1, by rw [Nat.pow_zero, Nat.div_one, Nat.sub_zero, Nat.one_mul], rfl⟩
            · obtain ⟨rfl, a, ea, rfl⟩ := hI
              rw [show N - i = (N - (i + 1)) + 1 by omega, prdN, Nat.div_div_eq_div_mul, ← Nat.pow_succ, ← Nat.mul_assoc] at ea
              have e100 : (100 : Int32) - nI s = nI (100 - s) := by
                have := nI_addl (100 - s) s
                rw [show 100 - s + s = 100 by omega] at this
                rw [show (100 : Int32) = nI 100 from rfl, ← this]
                exact Int32.add_sub_cancel _ _
              have l1 : (nI s).toInt64 = gN s := nI_l (by omega)
              have l2 : (nI (100 - s)).toInt64 = gN (100 - s) := nI_l (by omega)
              rcases Nat.mod_two_eq_zero_or_one (x / 2 ^ i) with e | e
              · rw [e, if_neg (by decide)] at ea
                refine rw_iload f_X9_odds_99 rfl ?_
                refine rw_iload f_X9_odds_101 rfl ?_
                refine rw_icmpF f_X9_odds_102 (decide_eq_false (nI_ge hi (by omega))) ?_
                refine rw_lload f_X9_odds_105 rfl ?_
                refine rw_iload f_X9_odds_107 rfl ?_
                refine rw_iload f_X9_odds_109 rfl ?_
                refine rw_ishr f_X9_odds_111 ?_
                refine rw_const f_X9_odds_112 ?_
                refine rw_iand f_X9_odds_113 ?_
                rw [bit_nI (by omega) (by omega), e]
                refine rw_const f_X9_odds_114 ?_
                refine rw_icmpT f_X9_odds_115 (by decide) ?_
                refine rw_const f_X9_odds_126 ?_
                refine rw_aload f_X9_odds_128 rfl ?_
                refine rm_getI f_X9_odds_129 hW ?_
                rw [rS Y wy']
                refine rw_isub f_X9_odds_132 ?_
                rw [e100]
                refine rw_i2l f_X9_odds_133 ?_
                rw [l2]
                refine rw_lmul f_X9_odds_134 ?_
                rw [← gN_mul]
                refine rw_lstore f_X9_odds_135 rfl rfl ?_
                refine rw_iinc f_X9_odds_137 rfl rfl ?_
                refine rw_goto f_X9_odds_140 ?_
                rw [nI_1']
                exact ihi _ _ ⟨rfl, _, ea, rfl⟩
              · rw [e, if_pos rfl] at ea
                refine rw_iload f_X9_odds_99 rfl ?_
                refine rw_iload f_X9_odds_101 rfl ?_
                refine rw_icmpF f_X9_odds_102 (decide_eq_false (nI_ge hi (by omega))) ?_
                refine rw_lload f_X9_odds_105 rfl ?_
                refine rw_iload f_X9_odds_107 rfl ?_
                refine rw_iload f_X9_odds_109 rfl ?_
                refine rw_ishr f_X9_odds_111 ?_
                refine rw_const f_X9_odds_112 ?_
                refine rw_iand f_X9_odds_113 ?_
                rw [bit_nI (by omega) (by omega), e]
                refine rw_const f_X9_odds_114 ?_
                refine rw_icmpF f_X9_odds_115 (by decide) ?_
                refine rw_aload f_X9_odds_118 rfl ?_
                refine rm_getI f_X9_odds_119 hW ?_
                rw [rS Y wy']
                refine rw_i2l f_X9_odds_122 ?_
                rw [l1]
                refine rw_goto f_X9_odds_123 ?_
                refine rw_lmul f_X9_odds_134 ?_
                rw [← gN_mul]
                refine rw_lstore f_X9_odds_135 rfl rfl ?_
                refine rw_iinc f_X9_odds_137 rfl rfl ?_
                refine rw_goto f_X9_odds_140 ?_
                rw [nI_1']
                exact ihi _ _ ⟨rfl, _, ea, rfl⟩
            · obtain ⟨rfl, a, ea, rfl⟩ := hI
              rw [Nat.sub_self, prdN, Nat.mul_one] at ea
              subst ea
              refine rw_iload f_X9_odds_99 rfl ?_
              refine rw_iload f_X9_odds_101 rfl ?_
              refine rw_icmpT f_X9_odds_102 (decide_eq_true (Int32.le_refl _)) ?_
              refine rw_lload f_X9_odds_143 rfl ?_
              refine rw_lload f_X9_odds_145 rfl ?_
              refine rw_ladd f_X9_odds_147 ?_
              refine rw_lstore f_X9_odds_148 rfl rfl ?_
              refine rw_iinc f_X9_odds_150 rfl rfl ?_
              refine rw_goto f_X9_odds_153 ?_
              rw [nI_1']
              exact ih _ _ ⟨Y, _, _, _, rfl, wy', fun _ => Or.inr trivial, rfl⟩
        · obtain ⟨X, y9, y10, y11, rfl, wr, -, rfl⟩ := hI
          rw [val_sum]
          have hk' := hk X wr.eqv
          generalize valN V j s (100 - s) N 0 t0 = u at *
          generalize 100 ^ N = A at *
          refine rw_iload f_X9_odds_71 rfl ?_
          refine rw_const f_X9_odds_73 ?_
          refine rw_iload f_X9_odds_74 rfl ?_
          refine rw_ishl f_X9_odds_75 ?_
          rw [two_pow_sh N hN6]
          refine rw_icmpT f_X9_odds_76 (decide_eq_true (Int32.le_refl _)) ?_
          refine rw_lload f_X9_odds_156 rfl ?_
          refine rw_lload f_X9_odds_158 rfl ?_
          refine rw_callS f_X9_odds_160 rfl rfl rfl (rn_kl (m_commonX (by omega) (by omega) ?_))
          refine rw_lstore f_X9_odds_163 rfl rfl ?_
          refine rw_iload f_X9_odds_165 rfl ?_
          first | refine rw_ne0B f_X9_odds_166 (fun c1 => ?_) (fun c1 => ?_) | refine rw_ne0 f_X9_odds_166 (fun c1 => ?_) (fun c1 => ?_)
          · refine rw_lload f_X9_odds_177 rfl ?_
            refine rw_lload f_X9_odds_179 rfl ?_
            refine rw_ldiv f_X9_odds_181 (fun q => by have := (gN_0 (b := Nat.gcd A u) (by omega)).mp q; omega) ?_
            refine rw_lret f_X9_odds_182 ?_
            rw [gN_div (by omega) (by omega) g0]
            exact Eq.mp (by simp [c1]) hk'
          · refine rw_lload f_X9_odds_169 rfl ?_
            refine rw_lload f_X9_odds_171 rfl ?_
            refine rw_ldiv f_X9_odds_173 (fun q => by have := (gN_0 (b := Nat.gcd A u) (by omega)).mp q; omega) ?_
            refine rw_goto f_X9_odds_174 ?_
            refine rw_lret f_X9_odds_182 ?_
            rw [gN_div (by omega) (by omega) g0]
            exact Eq.mp (by simp [c1]) hk'
end MOdds
