/-! THE CLASS: truces, calm twos -/
def bP (b : Option pw) (p : pw) : Option pw := match b with
  | none => some p
  | some b => if b.2 < p.2 then some p else some b
/-- all twos -/
def prA (V : am_M) (nM : Nat) : List pw := prs V nM nM 0 (fun _ => -1) 0
def hasW (V : am_M) (w : Nat → Int32) (m : Nat) : Int32 := if 0 ≤ w m then V 19 (6 * m + (w m).toNatClampNeg) else 0
/-- two who would rather have one another -/
def badB (V : am_M) (w : Nat → Int32) (a b : Nat) : Bool := !decide (V 19 (6 * a + b) = -100) && !decide (w a = nI b) && !decide (V 19 (6 * a + b) ≤ hasW V w a) && !decide (V 19 (6 * a + b) ≤ hasW V w b)
def calmB (V : am_M) (nM : Nat) (w : Nat → Int32) : Bool := allB (fun a => allB (fun b => !badB V w a b) a) nM
section CPairs2
variable {d : Nat} {h : am_H} {V : am_M} {x r nM nD nB nA nU nT nL : Nat}
def QX (h hh : am_H) (x : Nat) : Prop := ∀ j, ¬ j = 12 → hp_I hh x j = hp_I h x j
def QB (h : am_H) (x nM : Nat) (L : List pw) (hh : am_H) : Prop := QX h hh x ∧ match L.foldl bP none with
  | none => hp_I hh (x + 24) 3 = 0
  | some p => hp_I hh (x + 24) 3 = 1 ∧ hp_I hh (x + 24) 2 = p.2 ∧ hp_I hh x 12 = nI nM ∧ ∀ j, j < nM → hp_I hh (x + 17) j = p.1 j
def QC (V : am_M) (h : am_H) (x nM : Nat) (L : List pw) (hh : am_H) : Prop := QX h hh x ∧ hp_I hh (x + 26) 2 = nI (L.filter (fun p => calmB V nM p.1)).length ∧ match L.filter (fun p => calmB V nM p.1) with
  | [] => hp_I hh x 12 = 0
  | p :: _ => hp_I hh x 12 = nI nM ∧ ∀ j, j < nM → hp_I hh (x + 17) j = p.1 j
theorem QB_w (L : List pw) (hh : am_H) (i : Nat) (v : Int32) (q : QB h x nM L hh) : QB h x nM L (hp_sI hh (x + 24 + 1) i v) := by
  obtain ⟨q1, q2⟩ := q
  refine ⟨fun j hj => by rw [sI_ne (by omega)]; exact q1 j hj, ?_⟩
  cases e : L.foldl bP none with
  | none => rw [e] at q2; show hp_I _ (x + 24) 3 = 0; rw [sI_ne (by omega)]; exact q2
  | some p =>
    rw [e] at q2
    obtain ⟨a1, a2, a3, a4⟩ := q2
    exact ⟨by rw [sI_ne (by omega)]; exact a1, by rw [sI_ne (by omega)]; exact a2, by rw [sI_ne (by omega)]; exact a3, fun j hj => by rw [sI_ne (by omega)]; exact a4 j hj⟩
theorem QC_w (L : List pw) (hh : am_H) (i : Nat) (v : Int32) (q : QC V h x nM L hh) : QC V h x nM L (hp_sI hh (x + 26 + 1) i v) := by
  obtain ⟨q1, q2, q3⟩ := q
  refine ⟨fun j hj => by rw [sI_ne (by omega)]; exact q1 j hj, by rw [sI_ne (by omega)]; exact q2, ?_⟩
  cases e : L.filter (fun p => calmB V nM p.1) with
  | nil => rw [e] at q3; show hp_I _ x 12 = 0; rw [sI_ne (by omega)]; exact q3
  | cons p l =>
    rw [e] at q3
    exact ⟨by rw [sI_ne (by omega)]; exact q3.1, fun j hj => by rw [sI_ne (by omega)]; exact q3.2 j hj⟩
theorem C_metB (hB0 : CB h V x r nM nD nB) (d : Nat) (L : List pw) (w : Nat → Int32) (wo : Int32) (hh : am_H) {k : am_H → Prop} (on : On (pS x) h hh) (hi : wI_ hh (x + 24) w) (hq : QB h x nM L hh) (hk : ∀ h', On (pS x) h h' → wI_ h' (x + 24) w → QB h x nM (L ++ [(w, wo)]) h' → k h') : Rn (d + 4) n_X6_met 0 [am_r (x + 24), am_i wo] [] hh (kV k) := by
  have hB := CB_pS hB0 on
  have hM6 := hB0.2.2.2.1.2.1
  obtain ⟨hW, hr, hG, ⟨fM, fM6, fD, fD6, fB, fB10⟩, fO, ⟨fH, fSt⟩, fHr, fFr, fWr⟩ := hB
  obtain ⟨⟨rK, r0⟩, ⟨hLM, hM⟩, ⟨hLD, hD⟩, ⟨hLO, hO⟩, ⟨⟨hlk, hla⟩, hlike⟩, ⟨htk, hwear⟩, gf, gu, gh, gs⟩ := hG
  have kLM := hLM.1.1; have zLM := hLM.2
  have kLD := hLD.1.1; have zLD := hLD.2
  have kLO := hLO.1.1; have zLO := hLO.2
  obtain ⟨q1, q2⟩ := hq
  have fa : (L ++ [(w, wo)]).foldl bP none = bP (L.foldl bP none) (w, wo) := by rw [List.foldl_append]; rfl
  have take : bP (L.foldl bP none) (w, wo) = some (w, wo) → Rn (d + 4) n_X6_met 16 [am_r (x + 24), am_i wo] [] hh (kV k) := by
    intro hb
    refine rw_aload f_X6_met_16 rfl ?_
    refine rw_const f_X6_met_17 ?_
    refine rw_putZ f_X6_met_18 (by first | assumption | exact hW.k rfl | exact hW.k0) (by first | exact Or.inl rfl | exact Or.inr rfl | exact bI_01 _ | assumption) ?_
    refine rw_aload f_X6_met_21 rfl ?_
    refine rw_iload f_X6_met_22 rfl ?_
    refine rw_putI f_X6_met_23 (by first | assumption | exact hW.k rfl | exact hW.k0) ?_
    refine rw_aload f_X6_met_26 rfl ?_
    skip
    generalize hg : hp_sI (hp_sI hh (x + 24) 3 1) (x + 24) 2 wo = g
    have on1 : On (pS x) h g := by rw [← hg]; exact (on.tr (On_sI (Or.inr (Or.inr (by omega))))).tr (On_sI (Or.inr (Or.inr (by omega))))
    have hB1 := CB_pS hB0 on1
    have hB := hB1
    obtain ⟨hW, hr, hG, ⟨fM, fM6, fD, fD6, fB, fB10⟩, fO, ⟨fH, fSt⟩, fHr, fFr, fWr⟩ := hB
    obtain ⟨⟨rK, r0⟩, ⟨hLM, hM⟩, ⟨hLD, hD⟩, ⟨hLO, hO⟩, ⟨⟨hlk, hla⟩, hlike⟩, ⟨htk, hwear⟩, gf, gu, gh, gs⟩ := hG
    have kLM := hLM.1.1; have zLM := hLM.2
    have kLD := hLD.1.1; have zLD := hLD.2
    have kLO := hLO.1.1; have zLO := hLO.2
    have r4 : hp_R g (x + 24) 4 = x := hW.r (a := 24) (b := 0) rfl
    have k25 : hp_K g (x + 25) = (1, 6) := hW.k rfl
    have r25 : hp_R g (x + 24) 0 = x + 25 := hW.r rfl
    refine rw_getR f_X6_met_27 (by first | assumption | exact hW.k rfl | exact hW.k0) (by first | assumption | exact hW.r0 rfl | exact hW.r rfl | rfl) ?_
    refine rw_aload f_X6_met_30 rfl ?_
    refine rw_getR f_X6_met_31 (by first | assumption | exact hW.k rfl | exact hW.k0) (by first | assumption | exact hW.r0 rfl | exact hW.r rfl | rfl) ?_
    refine rw_aload f_X6_met_34 rfl ?_
    refine rw_getR f_X6_met_35 (by first | assumption | exact hW.k rfl | exact hW.k0) (by first | assumption | exact hW.r0 rfl | exact hW.r rfl | rfl) ?_
    refine rw_getR f_X6_met_38 (by first | assumption | exact hW.k rfl | exact hW.k0) (by first | assumption | exact hW.r0 rfl | exact hW.r rfl | rfl) ?_
    refine rw_getR f_X6_met_41 (by first | assumption | exact hW.k rfl | exact hW.k0) (by first | assumption | exact hW.r0 rfl | exact hW.r rfl | rfl) ?_
    refine rw_callV f_X6_met_44 rfl (by first | assumption | exact hW.k rfl | exact hW.k0) (by first | assumption | exact hW.1 | omega | exact Nat.succ_ne_zero _) rfl rfl rfl rfl (rn_ki (J_sizeL (by assumption) ?_))
    refine rw_callV f_X6_met_47 rfl hW.k0 hW.1 rfl rfl rfl rfl (rn_kv (C_show hW k25 (by omega) hM6 (by omega) (fun h2 on2 s1 s2 s3 => ?_)))
    refine rw_vret f_X6_met_50 ?_
    skip
    have on3 : On (pS x) h h2 := on1.tr (on2.w (fun b w => w.elim Or.inl (fun w => Or.inr (Or.inl w))))
    have gi : ∀ b j, ¬ b = x + 24 → hp_I g b j = hp_I hh b j := fun b j hb => by rw [← hg, sI_ne (by omega), sI_ne (by omega)]
    refine hk h2 on3 (fun j hj => ?_) ⟨fun j hj => ?_, ?_⟩
    · rw [on2.I (show ¬ (x + 24 + 1 = x ∨ x + 24 + 1 = x + 17) by omega), gi _ _ (by omega)]; exact hi j hj
    · rw [s2 j hj, gi _ _ (by omega)]; exact q1 j hj
    · rw [fa, hb]
      refine ⟨?_, ?_, s1, fun j hj => ?_⟩
      · rw [on2.I (show ¬ (x + 24 = x ∨ x + 24 = x + 17) by omega), ← hg]; simp [sI_if]
      · rw [on2.I (show ¬ (x + 24 = x ∨ x + 24 = x + 17) by omega), ← hg]; simp [sI_if]
      · rw [s3 j hj, gi _ _ (by omega)]; exact hi j (by omega)
  cases e : L.foldl bP none with
  | none =>
    rw [e] at q2 take
    have q2' : hp_I hh (x + 24) 3 = 0 := q2
    refine rw_aload f_X6_met_0 rfl ?_
    refine rw_getI f_X6_met_1 (by first | assumption | exact hW.k rfl | exact hW.k0) ?_
    rw [q2']
    refine rw_ifT f_X6_met_4 (by decide) ?_
    exact take rfl
  | some p =>
    have fe := fa
    rw [e] at q2 take fe
    obtain ⟨a1, a2, a3, a4⟩ := q2
    by_cases c : p.2 < wo
    · refine rw_aload f_X6_met_0 rfl ?_
      refine rw_getI f_X6_met_1 (by first | assumption | exact hW.k rfl | exact hW.k0) ?_
      rw [a1]
      refine rw_ifF f_X6_met_4 (by decide) ?_
      refine rw_iload f_X6_met_7 rfl ?_
      refine rw_aload f_X6_met_8 rfl ?_
      refine rw_getI f_X6_met_9 (by first | assumption | exact hW.k rfl | exact hW.k0) ?_
      rw [a2]
      refine rw_icmpT f_X6_met_12 (decide_eq_true c) ?_
      exact take (by unfold bP; dsimp only; rw [if_pos c])
    · have hb : bP (some p) (w, wo) = some p := by unfold bP; dsimp only; rw [if_neg c]
      refine rw_aload f_X6_met_0 rfl ?_
      refine rw_getI f_X6_met_1 (by first | assumption | exact hW.k rfl | exact hW.k0) ?_
      rw [a1]
      refine rw_ifF f_X6_met_4 (by decide) ?_
      refine rw_iload f_X6_met_7 rfl ?_
      refine rw_aload f_X6_met_8 rfl ?_
      refine rw_getI f_X6_met_9 (by first | assumption | exact hW.k rfl | exact hW.k0) ?_
      rw [a2]
      refine rw_icmpF f_X6_met_12 (decide_eq_false c) ?_
      refine rw_vret f_X6_met_15 ?_
      exact hk hh on hi ⟨q1, by rw [fe, hb]; exact ⟨a1, a2, a3, a4⟩⟩
theorem C_hasOf (hB : CB h V x r nM nD nB) {w : Nat → Int32} (hw : wOK nM w) (hi : wI_ h (x + 26) w) {m : Nat} (hm : m < nM) {k : Int32 → am_H → Prop} (hk : k (hasW V w m) h) : Rn (d + 1) n_X5_hasOf 0 [am_r (x + 26), am_i (nI m)] [] h (kI k) := by
  have hB2 := hB
  have hM6 := hB.2.2.2.1.2.1
  obtain ⟨hW, hr, hG, ⟨fM, fM6, fD, fD6, fB, fB10⟩, fO, ⟨fH, fSt⟩, fHr, fFr, fWr⟩ := hB
  obtain ⟨⟨rK, r0⟩, ⟨hLM, hM⟩, ⟨hLD, hD⟩, ⟨hLO, hO⟩, ⟨⟨hlk, hla⟩, hlike⟩, ⟨htk, hwear⟩, gf, gu, gh, gs⟩ := hG
  have kLM := hLM.1.1; have zLM := hLM.2
  have kLD := hLD.1.1; have zLD := hLD.2
  have kLO := hLO.1.1; have zLO := hLO.2
  have c1 : hp_K h (x + 26) = (107, 0) := hW.k rfl
  have c2 : hp_R h (x + 26) 0 = x + 27 := hW.r rfl
  have c3 : hp_R h (x + 26) 1 = x := hW.r (a := 26) (b := 0) rfl
  have c4 : hp_K h (x + 27) = (1, 6) := hW.k rfl
  have em : hp_I h (x + 27) m = w m := hi m (by omega)
  have x0 := hW.1
  have kx := hW.k0
  unfold hasW at hk
  rcases hw m with e | ⟨a, ha, e⟩
  · rw [e, if_neg (by decide)] at hk
    refine rw_aload f_X5_hasOf_0 rfl ?_
    refine rw_getR f_X5_hasOf_1 (by assumption) (by first | assumption | rfl) ?_
    refine rw_iload f_X5_hasOf_4 rfl ?_
    refine rw_xaldE f_X5_hasOf_5 (by assumption) rfl (by omega) (by omega) ?_
    rw [em, e]
    refine rw_ifF f_X5_hasOf_6 (by decide) ?_
    refine rw_const f_X5_hasOf_9 ?_
    refine rw_goto f_X5_hasOf_10 ?_
    refine rw_iret f_X5_hasOf_30 ?_
    exact hk
  · rw [e, if_pos (nI_pos' (by omega)), nI_clamp (by omega)] at hk
    refine rw_aload f_X5_hasOf_0 rfl ?_
    refine rw_getR f_X5_hasOf_1 (by assumption) (by first | assumption | rfl) ?_
    refine rw_iload f_X5_hasOf_4 rfl ?_
    refine rw_xaldE f_X5_hasOf_5 (by assumption) rfl (by omega) (by omega) ?_
    rw [em, e]
    refine rw_ifT f_X5_hasOf_6 (decide_eq_true (nI_pos' (by omega))) ?_
    refine rw_aload f_X5_hasOf_13 rfl ?_
    refine rw_getO f_X5_hasOf_14 (by assumption) (by first | assumption | rfl) (by first | assumption | omega) ?_
    refine rw_getR f_X5_hasOf_17 (by assumption) (by first | assumption | rfl) ?_
    refine rw_iload f_X5_hasOf_20 rfl ?_
    refine rw_aload f_X5_hasOf_21 rfl ?_
    refine rw_getR f_X5_hasOf_22 (by assumption) (by first | assumption | rfl) ?_
    refine rw_iload f_X5_hasOf_25 rfl ?_
    refine rw_xaldE f_X5_hasOf_26 (by assumption) rfl (by omega) (by omega) ?_
    rw [em, e]
    refine rw_callV f_X5_hasOf_27 rfl (by assumption) (by first | assumption | omega) rfl rfl rfl rfl (rn_ki (C_likesB hB2 hm ha ?_))
    refine rw_iret f_X5_hasOf_30 ?_
    exact hk
theorem C_metC (hB0 : CB h V x r nM nD nB) (d : Nat) (L : List pw) (w : Nat → Int32) (wo : Int32) (hh : am_H) {k : am_H → Prop} (hlen : L.length < 2147483647) (hw : wOK nM w) (on : On (pS x) h hh) (hi : wI_ hh (x + 26) w) (hq : QC V h x nM L hh) (hk : ∀ h', On (pS x) h h' → wI_ h' (x + 26) w → QC V h x nM (L ++ [(w, wo)]) h' → k h') : Rn (d + 4) n_X7_met 0 [am_r (x + 26), am_i wo, am_u, am_u, am_u] [] hh (kV k) := by
  have hB := CB_pS hB0 on
  have hB2 := hB
  have hM6 := hB0.2.2.2.1.2.1
  obtain ⟨q1, q2, q3⟩ := hq
  have hfl : (L.filter (fun p => calmB V nM p.1)).length < 2147483647 := Nat.lt_of_le_of_lt (List.length_filter_le _ _) hlen
  obtain ⟨hW, hr, hG, ⟨fM, fM6, fD, fD6, fB, fB10⟩, fO, ⟨fH, fSt⟩, fHr, fFr, fWr⟩ := hB
  obtain ⟨⟨rK, r0⟩, ⟨hLM, hM⟩, ⟨hLD, hD⟩, ⟨hLO, hO⟩, ⟨⟨hlk, hla⟩, hlike⟩, ⟨htk, hwear⟩, gf, gu, gh, gs⟩ := hG
  have kLM := hLM.1.1; have zLM := hLM.2
  have kLD := hLD.1.1; have zLD := hLD.2
  have kLO := hLO.1.1; have zLO := hLO.2
  have r3 : hp_R hh (x + 26) 3 = x := hW.r (a := 26) (b := 0) rfl
  have k27 : hp_K hh (x + 27) = (1, 6) := hW.k rfl
  have r27 : hp_R hh (x + 26) 0 = x + 27 := hW.r rfl
  have k26 : hp_K hh (x + 26) = (107, 0) := hW.k rfl
  have z26 : ¬ x + 26 = 0 := by omega
  -- not calm: nothing changes
  have bad : calmB V nM w = false → k hh := by
    intro z
    refine hk hh on hi ⟨q1, ?_, ?_⟩
    · rw [List.filter_append]; simp [z]; exact q2
    · rw [List.filter_append]; simp [z]; exact q3
  -- calm
  have good : calmB V nM w = true → ∀ (y3 y4 : am_V), Rn (d + 4) n_X7_met 90 [am_r (x + 26), am_i wo, am_i (nI nM), y3, y4] [] hh (kV k) := by
    intro z y3 y4
    have fa : (L ++ [(w, wo)]).filter (fun p => calmB V nM p.1) = L.filter (fun p => calmB V nM p.1) ++ [(w, wo)] := by rw [List.filter_append]; simp [z]
    cases e : L.filter (fun p => calmB V nM p.1) with
    | nil =>
      rw [e] at q2 q3 fa
      have q2' : hp_I hh (x + 26) 2 = 0 := q2
      refine rw_aload f_X7_met_90 rfl ?_
      refine rw_getI f_X7_met_91 (by first | assumption | exact hW.k rfl | exact hW.k0) ?_
      rw [q2']
      refine rw_ifF f_X7_met_94 (by decide) ?_
      refine rw_aload f_X7_met_97 rfl ?_
      refine rw_getR f_X7_met_98 (by first | assumption | exact hW.k rfl | exact hW.k0) (by first | assumption | exact hW.r0 rfl | exact hW.r rfl | rfl) ?_
      refine rw_aload f_X7_met_101 rfl ?_
      refine rw_getR f_X7_met_102 (by first | assumption | exact hW.k rfl | exact hW.k0) (by first | assumption | exact hW.r0 rfl | exact hW.r rfl | rfl) ?_
      refine rw_aload f_X7_met_105 rfl ?_
      refine rw_getR f_X7_met_106 (by first | assumption | exact hW.k rfl | exact hW.k0) (by first | assumption | exact hW.r0 rfl | exact hW.r rfl | rfl) ?_
      refine rw_getR f_X7_met_109 (by first | assumption | exact hW.k rfl | exact hW.k0) (by first | assumption | exact hW.r0 rfl | exact hW.r rfl | rfl) ?_
      refine rw_getR f_X7_met_112 (by first | assumption | exact hW.k rfl | exact hW.k0) (by first | assumption | exact hW.r0 rfl | exact hW.r rfl | rfl) ?_
      refine rw_callV f_X7_met_115 rfl (by first | assumption | exact hW.k rfl | exact hW.k0) (by first | assumption | exact hW.1 | omega | exact Nat.succ_ne_zero _) rfl rfl rfl rfl (rn_ki (J_sizeL (by assumption) ?_))
      refine rw_callV f_X7_met_118 rfl hW.k0 hW.1 rfl rfl rfl rfl (rn_kv (C_show hW k27 (by omega) hM6 (by omega) (fun h2 on2 s1 s2 s3 => ?_)))
      skip
      have on3 : On (pS x) h h2 := on.tr (on2.w (fun b w => w.elim Or.inl (fun w => Or.inr (Or.inl w))))
      have k26' : hp_K h2 (x + 26) = (107, 0) := by rw [on2.K]; exact k26
      have e26 : hp_I h2 (x + 26) 2 = 0 := by rw [on2.I (show ¬ (x + 26 = x ∨ x + 26 = x + 17) by omega)]; exact q2'
      refine rw_aload f_X7_met_121 rfl ?_
      first | refine rw_dupr f_X7_met_122 ?_ | refine rw_dupi f_X7_met_122 ?_
      refine rw_getI f_X7_met_123 (by first | assumption | exact hW.k rfl | exact hW.k0) ?_
      rw [e26]
      refine rw_const f_X7_met_126 ?_
      refine rw_iadd f_X7_met_127 ?_
      refine rw_putI f_X7_met_128 (by first | assumption | exact hW.k rfl | exact hW.k0) ?_
      refine rw_vret f_X7_met_131 ?_
      skip
      refine hk _ (on3.tr (On_sI (Or.inr (Or.inr (by omega))))) (fun j hj => ?_) ⟨fun j hj => ?_, ?_, ?_⟩
      · rw [sI_ne (by omega), on2.I (show ¬ (x + 26 + 1 = x ∨ x + 26 + 1 = x + 17) by omega)]; exact hi j hj
      · rw [sI_ne (by omega), s2 j hj]; exact q1 j hj
      · rw [sI_same, fa]; rfl
      · rw [fa]
        exact ⟨by rw [sI_ne (by omega)]; exact s1, fun j hj => by rw [sI_ne (by omega), s3 j hj]; exact hi j (by omega)⟩
    | cons p l =>
      rw [e] at q2 q3 fa
      have nz : ¬ hp_I hh (x + 26) 2 = 0 := by
        rw [q2]
        rw [e] at hfl
        exact nI_ne0 (by simp) (by omega)
      refine rw_aload f_X7_met_90 rfl ?_
      refine rw_getI f_X7_met_91 (by first | assumption | exact hW.k rfl | exact hW.k0) ?_
      refine rw_ifT f_X7_met_94 (decide_eq_true nz) ?_
      skip
      refine rw_aload f_X7_met_121 rfl ?_
      first | refine rw_dupr f_X7_met_122 ?_ | refine rw_dupi f_X7_met_122 ?_
      refine rw_getI f_X7_met_123 (by first | assumption | exact hW.k rfl | exact hW.k0) ?_
      rw [q2]
      refine rw_const f_X7_met_126 ?_
      refine rw_iadd f_X7_met_127 ?_
      rw [nI_1']
      refine rw_putI f_X7_met_128 (by first | assumption | exact hW.k rfl | exact hW.k0) ?_
      refine rw_vret f_X7_met_131 ?_
      skip
      refine hk _ (on.tr (On_sI (Or.inr (Or.inr (by omega))))) (fun j hj => ?_) ⟨fun j hj => ?_, ?_, ?_⟩
      · rw [sI_ne (by omega)]; exact hi j hj
      · rw [sI_ne (by omega)]; exact q1 j hj
      · rw [sI_same, fa, List.length_append, List.length_singleton]
      · rw [fa]
        exact ⟨by rw [sI_ne (by omega)]; exact q3.1, fun j hj => by rw [sI_ne (by omega)]; exact q3.2 j hj⟩
  -- the inner loop
  have inner : ∀ a, a < nM → (∀ y3 y4 : am_V, allB (fun b => !badB V w a b) a = true → Rn (d + 4) n_X7_met 84 [am_r (x + 26), am_i wo, am_i (nI a), y3, y4] [] hh (kV k)) → ∀ q b (y4 : am_V), b + q = a → (∀ b', b' < b → badB V w a b' = false) → Rn (d + 4) n_X7_met 21 [am_r (x + 26), am_i wo, am_i (nI a), am_i (nI b), y4] [] hh (kV k) := by
    intro a ha kk q
    have ewa : hp_I hh (x + 27) a = w a := hi a (by omega)
    induction q with
    | zero =>
      intro b y4 hb hg
      obtain rfl : b = a := by omega
      refine rw_iload f_X7_met_21 rfl ?_
      refine rw_iload f_X7_met_22 rfl ?_
      refine rw_icmpT f_X7_met_23 (decide_eq_true (Int32.le_refl _)) ?_
      exact kk _ _ (allB_iff.mpr (fun b' hb' => by rw [hg b' hb']; rfl))
    | succ q ih =>
      intro b y4 hb hg
      by_cases z : badB V w a b = true
      · have nc : calmB V nM w = false := by
          cases zz : calmB V nM w with
          | false => rfl
          | true =>
            have := allB_iff.mp (allB_iff.mp zz a ha) b (by omega)
            rw [z] at this; cases this
        have z' := z
        unfold badB at z'
        simp only [Bool.and_eq_true, Bool.not_eq_true', decide_eq_false_iff_not] at z'
        obtain ⟨⟨⟨z1, z2⟩, z3⟩, z4⟩ := z'
        refine rw_iload f_X7_met_21 rfl ?_
        refine rw_iload f_X7_met_22 rfl ?_
        refine rw_icmpF f_X7_met_23 (decide_eq_false (nI_ge (by omega) (by omega))) ?_
        refine rw_aload f_X7_met_26 rfl ?_
        refine rw_getR f_X7_met_27 (by first | assumption | exact hW.k rfl | exact hW.k0) (by first | assumption | exact hW.r0 rfl | exact hW.r rfl | rfl) ?_
        refine rw_getR f_X7_met_30 (by first | assumption | exact hW.k rfl | exact hW.k0) (by first | assumption | exact hW.r0 rfl | exact hW.r rfl | rfl) ?_
        refine rw_iload f_X7_met_33 rfl ?_
        refine rw_iload f_X7_met_34 rfl ?_
        refine rw_callV f_X7_met_35 rfl (by first | assumption | exact hW.k rfl | exact hW.k0) (by first | assumption | exact hW.1 | omega | exact Nat.succ_ne_zero _) rfl rfl rfl rfl (rn_ki (C_likesB hB2 (by omega) (by omega) ?_))
        refine rw_istore f_X7_met_38 rfl rfl ?_
        refine rw_iload f_X7_met_40 rfl ?_
        refine rw_const f_X7_met_42 ?_
        refine rw_icmpF f_X7_met_44 (decide_eq_false z1) ?_
        refine rw_aload f_X7_met_47 rfl ?_
        refine rw_getR f_X7_met_48 (by first | assumption | exact hW.k rfl | exact hW.k0) (by first | assumption | exact hW.r0 rfl | exact hW.r rfl | rfl) ?_
        refine rw_iload f_X7_met_51 rfl ?_
        refine rw_xaldE f_X7_met_52 (by first | assumption | exact hW.k rfl | exact hW.k0) rfl (by omega) (by omega) ?_
        rw [ewa]
        refine rw_iload f_X7_met_53 rfl ?_
        refine rw_icmpF f_X7_met_54 (decide_eq_false z2) ?_
        refine rw_iload f_X7_met_57 rfl ?_
        refine rw_aload f_X7_met_59 rfl ?_
        refine rw_iload f_X7_met_60 rfl ?_
        refine rw_callV f_X7_met_61 rfl (by first | assumption | exact hW.k rfl | exact hW.k0) (by first | assumption | exact hW.1 | omega | exact Nat.succ_ne_zero _) rfl rfl rfl rfl (rn_ki (C_hasOf hB2 hw hi (by omega) ?_))
        refine rw_icmpF f_X7_met_64 (decide_eq_false z3) ?_
        refine rw_iload f_X7_met_67 rfl ?_
        refine rw_aload f_X7_met_69 rfl ?_
        refine rw_iload f_X7_met_70 rfl ?_
        refine rw_callV f_X7_met_71 rfl (by first | assumption | exact hW.k rfl | exact hW.k0) (by first | assumption | exact hW.1 | omega | exact Nat.succ_ne_zero _) rfl rfl rfl rfl (rn_ki (C_hasOf hB2 hw hi (by omega) ?_))
        refine rw_icmpF f_X7_met_74 (decide_eq_false z4) ?_
        refine rw_vret f_X7_met_77 ?_
        exact bad nc
      · have z' : badB V w a b = false := by simpa using z
        have ih2 := fun y4 => ih (b + 1) y4 (by omega) (fun b' hb' => by by_cases e : b' = b; exact e ▸ z'; exact hg b' (by omega))
        unfold badB at z'
        refine rw_iload f_X7_met_21 rfl ?_
        refine rw_iload f_X7_met_22 rfl ?_
        refine rw_icmpF f_X7_met_23 (decide_eq_false (nI_ge (by omega) (by omega))) ?_
        refine rw_aload f_X7_met_26 rfl ?_
        refine rw_getR f_X7_met_27 (by first | assumption | exact hW.k rfl | exact hW.k0) (by first | assumption | exact hW.r0 rfl | exact hW.r rfl | rfl) ?_
        refine rw_getR f_X7_met_30 (by first | assumption | exact hW.k rfl | exact hW.k0) (by first | assumption | exact hW.r0 rfl | exact hW.r rfl | rfl) ?_
        refine rw_iload f_X7_met_33 rfl ?_
        refine rw_iload f_X7_met_34 rfl ?_
        refine rw_callV f_X7_met_35 rfl (by first | assumption | exact hW.k rfl | exact hW.k0) (by first | assumption | exact hW.1 | omega | exact Nat.succ_ne_zero _) rfl rfl rfl rfl (rn_ki (C_likesB hB2 (by omega) (by omega) ?_))
        refine rw_istore f_X7_met_38 rfl rfl ?_
        refine rw_iload f_X7_met_40 rfl ?_
        refine rw_const f_X7_met_42 ?_
        refine rw_eq f_X7_met_44 (fun c1 => ?_) (fun c1 => ?_)
        · refine rw_iinc f_X7_met_78 rfl rfl ?_
          refine rw_goto f_X7_met_81 ?_
          rw [nI_1']
          exact ih2 _
        · refine rw_aload f_X7_met_47 rfl ?_
          refine rw_getR f_X7_met_48 (by first | assumption | exact hW.k rfl | exact hW.k0) (by first | assumption | exact hW.r0 rfl | exact hW.r rfl | rfl) ?_
          refine rw_iload f_X7_met_51 rfl ?_
          refine rw_xaldE f_X7_met_52 (by first | assumption | exact hW.k rfl | exact hW.k0) rfl (by omega) (by omega) ?_
          rw [ewa]
          refine rw_iload f_X7_met_53 rfl ?_
          refine rw_eq f_X7_met_54 (fun c2 => ?_) (fun c2 => ?_)
          · refine rw_iinc f_X7_met_78 rfl rfl ?_
            refine rw_goto f_X7_met_81 ?_
            rw [nI_1']
            exact ih2 _
          · refine rw_iload f_X7_met_57 rfl ?_
            refine rw_aload f_X7_met_59 rfl ?_
            refine rw_iload f_X7_met_60 rfl ?_
            refine rw_callV f_X7_met_61 rfl (by first | assumption | exact hW.k rfl | exact hW.k0) (by first | assumption | exact hW.1 | omega | exact Nat.succ_ne_zero _) rfl rfl rfl rfl (rn_ki (C_hasOf hB2 hw hi (by omega) ?_))
            refine rw_le f_X7_met_64 (fun c3 => ?_) (fun c3 => ?_)
            · refine rw_iinc f_X7_met_78 rfl rfl ?_
              refine rw_goto f_X7_met_81 ?_
              rw [nI_1']
              exact ih2 _
            · refine rw_iload f_X7_met_67 rfl ?_
              refine rw_aload f_X7_met_69 rfl ?_
              refine rw_iload f_X7_met_70 rfl ?_
              refine rw_callV f_X7_met_71 rfl (by first | assumption | exact hW.k rfl | exact hW.k0) (by first | assumption | exact hW.1 | omega | exact Nat.succ_ne_zero _) rfl rfl rfl rfl (rn_ki (C_hasOf hB2 hw hi (by omega) ?_))
              refine rw_le f_X7_met_74 (fun c4 => ?_) (fun c4 => ?_)
              · refine rw_iinc f_X7_met_78 rfl rfl ?_
                refine rw_goto f_X7_met_81 ?_
                rw [nI_1']
                exact ih2 _
              · refine rw_vret f_X7_met_77 ?_
                exfalso
                simp [c1, c2, c3, c4] at z'
  have outer : ∀ q a (y3 y4 : am_V), a + q = nM → (∀ a', a' < a → allB (fun b => !badB V w a' b) a' = true) → Rn (d + 4) n_X7_met 2 [am_r (x + 26), am_i wo, am_i (nI a), y3, y4] [] hh (kV k) := by
    intro q
    induction q with
    | zero =>
      intro a y3 y4 ha hg
      obtain rfl : a = nM := by omega
      refine rw_iload f_X7_met_2 rfl ?_
      refine rw_aload f_X7_met_3 rfl ?_
      refine rw_getR f_X7_met_4 (by first | assumption | exact hW.k rfl | exact hW.k0) (by first | assumption | exact hW.r0 rfl | exact hW.r rfl | rfl) ?_
      refine rw_getR f_X7_met_7 (by first | assumption | exact hW.k rfl | exact hW.k0) (by first | assumption | exact hW.r0 rfl | exact hW.r rfl | rfl) ?_
      refine rw_getR f_X7_met_10 (by first | assumption | exact hW.k rfl | exact hW.k0) (by first | assumption | exact hW.r0 rfl | exact hW.r rfl | rfl) ?_
      refine rw_callV f_X7_met_13 rfl (by first | assumption | exact hW.k rfl | exact hW.k0) (by first | assumption | exact hW.1 | omega | exact Nat.succ_ne_zero _) rfl rfl rfl rfl (rn_ki (J_sizeL (by assumption) ?_))
      refine rw_icmpT f_X7_met_16 (decide_eq_true (Int32.le_refl _)) ?_
      exact good (allB_iff.mpr (fun a' ha' => hg a' ha')) y3 y4
    | succ q ih =>
      intro a y3 y4 ha hg
      refine rw_iload f_X7_met_2 rfl ?_
      refine rw_aload f_X7_met_3 rfl ?_
      refine rw_getR f_X7_met_4 (by first | assumption | exact hW.k rfl | exact hW.k0) (by first | assumption | exact hW.r0 rfl | exact hW.r rfl | rfl) ?_
      refine rw_getR f_X7_met_7 (by first | assumption | exact hW.k rfl | exact hW.k0) (by first | assumption | exact hW.r0 rfl | exact hW.r rfl | rfl) ?_
      refine rw_getR f_X7_met_10 (by first | assumption | exact hW.k rfl | exact hW.k0) (by first | assumption | exact hW.r0 rfl | exact hW.r rfl | rfl) ?_
      refine rw_callV f_X7_met_13 rfl (by first | assumption | exact hW.k rfl | exact hW.k0) (by first | assumption | exact hW.1 | omega | exact Nat.succ_ne_zero _) rfl rfl rfl rfl (rn_ki (J_sizeL (by assumption) ?_))
      refine rw_icmpF f_X7_met_16 (decide_eq_false (nI_ge (by omega) (by omega))) ?_
      refine rw_const f_X7_met_19 ?_
      refine rw_istore f_X7_met_20 rfl rfl ?_
      refine inner a (by omega) (fun y3 y4 hc => ?_) a 0 y4 (by omega) (fun b hb => absurd hb (Nat.not_lt_zero b))
      refine rw_iinc f_X7_met_84 rfl rfl ?_
      refine rw_goto f_X7_met_87 ?_
      rw [nI_1']
      exact ih (a + 1) _ _ (by omega) (fun a' ha' => by by_cases e : a' = a; exact e ▸ hc; exact hg a' (by omega))
  refine rw_const f_X7_met_0 ?_
  refine rw_istore f_X7_met_1 rfl rfl ?_
  exact outer nM 0 am_u am_u (by omega) (fun a ha => absurd ha (Nat.not_lt_zero a))
theorem C_goThrough (hB0 : CB h V x r nM nD nB) {c t jm : Nat} (hT : pT x c t jm) {Q : List pw → am_H → Prop} (hQ : ∀ L hh i v, Q L hh → Q L (hp_sI hh (c + 1) i v))
    (hmet : ∀ (d : Nat) L w wo hh {k : am_H → Prop}, L.length < 200000 → wOK nM w → On (pS x) h hh → wI_ hh c w → Q L hh → (∀ h', On (pS x) h h' → wI_ h' c w → Q (L ++ [(w, wo)]) h' → k h') → Rn (d + 4) jm 0 (am_ent jm [am_r c, am_i wo]) [] hh (kV k)) (hble : Nat.ble (am_sum [am_r c, am_i 0]) (am_maxL jm) = true)
    {hh : am_H} (on : On (pS x) h hh) (hq : Q [] hh) {k : am_H → Prop} (hk : ∀ h', On (pS x) h h' → Q (prA V nM) h' → k h') : Rn (d + 12) n_X5_goThrough 0 [am_r c, am_u] [] hh (kV k) := by
  have hM6 := hB0.2.2.2.1.2.1
  have cin : pS x (c + 1) := by
    rcases hT with ⟨rfl, -⟩ | ⟨rfl, -⟩
    · right; right; omega
    · right; right; omega
  refine rw_const f_X5_goThrough_0 ?_
  refine rw_istore f_X5_goThrough_1 rfl rfl ?_
  refine rn_inv (N := 6) (fun i ls h1 => ls = [am_r c, am_i (nI i)] ∧ On (pS x) h h1 ∧ Q [] h1 ∧ ∀ j, j < i → hp_I h1 (c + 1) j = -1) (fun i hi ls h1 q ih => ?_) (fun ls h1 q => ?_) ⟨rfl, on, hq, fun j hj => absurd hj (Nat.not_lt_zero j)⟩
  · obtain ⟨rfl, on1, hq1, hw1⟩ := q
    obtain ⟨c1, c2, c3, c4, c5⟩ := hT.k (CB_pS hB0 on1).1
    refine rw_iload f_X5_goThrough_2 rfl ?_
    refine rw_const f_X5_goThrough_3 ?_
    refine rw_icmpF f_X5_goThrough_5 (decide_eq_false (by rw [show (6 : Int32) = nI 6 from rfl]; exact nI_ge hi (by omega))) ?_
    refine rw_aload f_X5_goThrough_8 rfl ?_
    refine rw_getR f_X5_goThrough_9 c1 c2 ?_ hT.t
    refine rw_iload f_X5_goThrough_12 rfl ?_
    refine rw_const f_X5_goThrough_13 ?_
    refine rw_iastE (j := i) f_X5_goThrough_14 c4 rfl hi (by omega) ?_
    refine rw_iinc f_X5_goThrough_15 rfl rfl ?_
    refine rw_goto f_X5_goThrough_18 ?_
    rw [nI_1']
    refine ih _ _ ⟨rfl, on1.tr (On_sI cin), hQ _ _ _ _ hq1, fun j hj => ?_⟩
    by_cases e : j = i
    · rw [e, sI_same]
    · rw [sI_ne (fun z => e z.2)]; exact hw1 j (by omega)
  · obtain ⟨rfl, on1, hq1, hw1⟩ := q
    obtain ⟨c1, c2, c3, c4, c5⟩ := hT.k (CB_pS hB0 on1).1
    refine rw_iload f_X5_goThrough_2 rfl ?_
    refine rw_const f_X5_goThrough_3 ?_
    refine rw_icmpT f_X5_goThrough_5 (by decide) ?_
    refine rw_aload f_X5_goThrough_21 rfl ?_
    refine rw_const f_X5_goThrough_22 ?_
    refine rw_const f_X5_goThrough_23 ?_
    have go := C_pgo (d := d + 6 - nM) (B := 200000) hB0 hT hQ hmet hble nM 0 (by omega) (fun _ => -1) (fun _ => Or.inl rfl) 0 [] h1 (by
      have := prs_len (V := V) hM6 nM 0 (fun _ => -1) 0
      have p7 : 7 ^ nM ≤ 7 ^ 6 := Nat.pow_le_pow_right (by decide) hM6
      have : (7 : Nat) ^ 6 = 117649 := by decide
      simp only [List.length_nil]
      omega) on1 hw1 hq1 (k := fun h' => Rn (d + 12) n_X5_goThrough 27 [am_r c, am_i (nI 6)] [] h' (kV k)) (fun h2 on2 hw2 hq2 => ?_)
    · rw [show d + 6 - nM + nM + 5 = d + 11 by omega] at go
      exact rw_callV f_X5_goThrough_24 rfl c1 c5 hT.dd.1 rfl rfl rfl (rn_kv go)
    · exact rw_vret f_X5_goThrough_27 (hk h2 on2 hq2)
variable {k : Int32 → am_H → Prop}
theorem bP_some {b : Option pw} {p : pw} : ∃ c, bP b p = some c := by
  unfold bP
  cases b with
  | none => exact ⟨_, rfl⟩
  | some b => dsimp only; split <;> exact ⟨_, rfl⟩
theorem foldP_some : ∀ (L : List pw), L ≠ [] → ∃ c, L.foldl bP none = some c := by
  intro L hL
  have : ∀ (L : List pw) (b : pw), ∃ c, L.foldl bP (some b) = some c := by
    intro L
    induction L with
    | nil => intro b; exact ⟨b, rfl⟩
    | cons p L ih =>
      intro b
      obtain ⟨c, hc⟩ := bP_some (b := some b) (p := p)
      rw [List.foldl_cons, hc]; exact ih c
  cases L with
  | nil => exact absurd rfl hL
  | cons p L => exact this L p
theorem prs_ne {V : am_M} {nM : Nat} : ∀ n m w wo, prs V nM n m w wo ≠ [] := by
  intro n
  induction n with
  | zero => intro m w wo; simp [prs]
  | succ n ih =>
    intro m w wo
    simp only [prs]
    split
    · exact ih _ _ _
    · intro e
      exact ih _ _ _ (List.append_eq_nil_iff.mp e).1
/-- the best of all twos -/
def bstP (V : am_M) (nM : Nat) : pw := ((prA V nM).foldl bP none).getD (fun _ => -1, 0)
theorem bstP_eq {V : am_M} {nM : Nat} : (prA V nM).foldl bP none = some (bstP V nM) := by
  obtain ⟨c, hc⟩ := foldP_some (prA V nM) (prs_ne _ _ _ _)
  unfold bstP
  rw [hc]; rfl
theorem CR_pS {h' : am_H} {f : Nat → Int32} {n : Nat} (hC : CR h V x r nM nD nB nA nU nT nL) (on : On (pS x) h h') (hx : QX h h' x) (e12 : hp_I h' x 12 = nI n) (hn : n ≤ 10) (hf : ∀ j, j < n → hp_I h' (x + 17) j = f j) : CR h' (showV V f n) x r nM nD nB nA nU nT n ∧ CFr x 0 0 h h' := by
  refine ⟨CR_show hC on.fr (fun b w => ?_) e12 hx hn hf (show ¬ (x + 13 = x ∨ x + 13 = x + 17 ∨ (x + 24 ≤ x + 13 ∧ x + 13 ≤ x + 27)) by omega), CFr_xS on (fun b w => by left; have w' : b = x ∨ b = x + 17 ∨ (x + 24 ≤ b ∧ b ≤ x + 27) := w; omega)⟩
  have hW := hC.1
  rcases w with e | e | e
  · exact Or.inl e
  · exact Or.inr (Or.inl e)
  · right; right
    unfold Scr
    rcases (by omega : b = x + 24 ∨ b = x + 25 ∨ b = x + 26 ∨ b = x + 27) with e | e | e | e <;> subst e
    · rw [hW.k (a := 24) rfl]; simp
    · rw [hW.k (a := 25) rfl]; simp
    · rw [hW.k (a := 26) rfl]; simp
    · rw [hW.k (a := 27) rfl]; simp
theorem C_truce (hC : CR h V x r nM nD nB nA nU nT nL) (hk : ∀ h', CR h' (showV V (bstP V nM).1 nM) x r nM nD nB nA nU nT nM → CFr x 0 0 h h' → k (bstP V nM).2 h') : Rn (d + 14) n_X0_truce 0 [am_r x] [] h (kI k) := by
  have hW := hC.1
  have hM6 := hC.wb.1.2.1
  refine rw_aload f_X0_truce_0 rfl ?_
  refine rw_const f_X0_truce_1 ?_
  refine rw_putI f_X0_truce_2 hW.k0 ?_
  have on1 : On (pS x) h (hp_sI h x 12 0) := On_sI (Or.inl rfl)
  have hx1 : QX h (hp_sI h x 12 0) x := fun j hj => sI_ne (by omega)
  generalize hp_sI h x 12 0 = h1 at *
  have hW1 := (CB_pS hC.b on1).1
  refine rw_aload f_X0_truce_5 rfl ?_
  refine rw_getR f_X0_truce_6 hW1.k0 (hW1.r0 rfl) ?_
  have k24 : hp_K h1 (x + 24) = (106, 0) := hW1.k rfl
  refine rw_callV f_X0_truce_9 rfl k24 (Nat.succ_ne_zero _) rfl rfl rfl rfl (rn_ki ?_)
  refine rw_aload f_X6_lay_0 rfl ?_
  refine rw_const f_X6_lay_1 ?_
  refine rw_putZ f_X6_lay_2 k24 (Or.inl rfl) ?_
  have on2 : On (pS x) h (hp_sI h1 (x + 24) 3 0) := on1.tr (On_sI (Or.inr (Or.inr (by omega))))
  have hq2 : QB h x nM [] (hp_sI h1 (x + 24) 3 0) := ⟨fun j hj => by rw [sI_ne (by omega)]; exact hx1 j hj, sI_same⟩
  generalize hp_sI h1 (x + 24) 3 0 = h2 at *
  have hW2 := (CB_pS hC.b on2).1
  have k24' : hp_K h2 (x + 24) = (106, 0) := hW2.k rfl
  refine rw_aload f_X6_lay_5 rfl ?_
  refine rw_callV f_X6_lay_6 rfl k24' (Nat.succ_ne_zero _) rfl rfl rfl rfl (rn_kv (C_goThrough (d := d) hC.b (Or.inl ⟨rfl, rfl, rfl⟩) QB_w (fun d L w wo hh k hl hw on hi hq hk => C_metB hC.b d L w wo hh on hi hq hk) rfl on2 hq2 (fun h3 on3 hq3 => ?_)))
  obtain ⟨qx, q⟩ := hq3
  rw [bstP_eq] at q
  obtain ⟨a1, a2, a3, a4⟩ := q
  have hW3 := (CB_pS hC.b on3).1
  have k24'' : hp_K h3 (x + 24) = (106, 0) := hW3.k rfl
  refine rw_aload f_X6_lay_9 rfl ?_
  refine rw_getI f_X6_lay_10 k24'' ?_
  rw [a2]
  refine rw_iret f_X6_lay_13 ?_
  obtain ⟨z1, z2⟩ := CR_pS hC on3 qx a3 (by omega) a4
  exact rw_iret f_X0_truce_12 (hk h3 z1 z2)
/-- the calm ones -/
def calmL (V : am_M) (nM : Nat) : List pw := (prA V nM).filter (fun p => calmB V nM p.1)
def calmV (V : am_M) (nM : Nat) : am_M := match calmL V nM with
  | [] => showV V (fun _ => 0) 0
  | p :: _ => showV V p.1 nM
def calmN (V : am_M) (nM : Nat) : Nat := match calmL V nM with
  | [] => 0
  | _ :: _ => nM
theorem C_calm (hC : CR h V x r nM nD nB nA nU nT nL) (hk : ∀ h', CR h' (calmV V nM) x r nM nD nB nA nU nT (calmN V nM) → CFr x 0 0 h h' → k (nI (calmL V nM).length) h') : Rn (d + 14) n_X0_calm 0 [am_r x] [] h (kI k) := by
  have hW := hC.1
  have hM6 := hC.wb.1.2.1
  refine rw_aload f_X0_calm_0 rfl ?_
  refine rw_const f_X0_calm_1 ?_
  refine rw_putI f_X0_calm_2 hW.k0 ?_
  have on1 : On (pS x) h (hp_sI h x 12 0) := On_sI (Or.inl rfl)
  have hx1 : QX h (hp_sI h x 12 0) x := fun j hj => sI_ne (by omega)
  have h12 : hp_I (hp_sI h x 12 0) x 12 = 0 := sI_same
  generalize hp_sI h x 12 0 = h1 at *
  have hW1 := (CB_pS hC.b on1).1
  refine rw_aload f_X0_calm_5 rfl ?_
  refine rw_getR f_X0_calm_6 hW1.k0 (hW1.r0 rfl) ?_
  have k26 : hp_K h1 (x + 26) = (107, 0) := hW1.k rfl
  refine rw_callV f_X0_calm_9 rfl k26 (Nat.succ_ne_zero _) rfl rfl rfl rfl (rn_ki ?_)
  refine rw_aload f_X7_lay_0 rfl ?_
  refine rw_const f_X7_lay_1 ?_
  refine rw_putI f_X7_lay_2 k26 ?_
  have on2 : On (pS x) h (hp_sI h1 (x + 26) 2 0) := on1.tr (On_sI (Or.inr (Or.inr (by omega))))
  have hq2 : QC V h x nM [] (hp_sI h1 (x + 26) 2 0) := ⟨fun j hj => by rw [sI_ne (by omega)]; exact hx1 j hj, sI_same, by show hp_I _ x 12 = 0; rw [sI_ne (by omega)]; exact h12⟩
  generalize hp_sI h1 (x + 26) 2 0 = h2 at *
  have hW2 := (CB_pS hC.b on2).1
  have k26' : hp_K h2 (x + 26) = (107, 0) := hW2.k rfl
  refine rw_aload f_X7_lay_5 rfl ?_
  refine rw_callV f_X7_lay_6 rfl k26' (Nat.succ_ne_zero _) rfl rfl rfl rfl (rn_kv (C_goThrough (d := d) hC.b (Or.inr ⟨rfl, rfl, rfl⟩) QC_w (fun d L w wo hh k hl hw on hi hq hk => C_metC hC.b d L w wo hh (by omega) hw on hi hq hk) rfl on2 hq2 (fun h3 on3 hq3 => ?_)))
  obtain ⟨qx, q1, q2⟩ := hq3
  have hW3 := (CB_pS hC.b on3).1
  have k26'' : hp_K h3 (x + 26) = (107, 0) := hW3.k rfl
  refine rw_aload f_X7_lay_9 rfl ?_
  refine rw_getI f_X7_lay_10 k26'' ?_
  rw [q1]
  refine rw_iret f_X7_lay_13 ?_
  refine rw_iret f_X0_calm_12 ?_
  have hk2 := hk h3
  unfold calmV calmN at hk2
  have q2' : (match calmL V nM with
    | [] => hp_I h3 x 12 = 0
    | p :: _ => hp_I h3 x 12 = nI nM ∧ ∀ j, j < nM → hp_I h3 (x + 17) j = p.1 j) := q2
  show k (nI (calmL V nM).length) h3
  cases e : calmL V nM with
  | nil =>
    rw [e] at q2' hk2
    obtain ⟨z1, z2⟩ := CR_pS (f := fun _ => 0) (n := 0) hC on3 qx q2' (by omega) (fun j hj => absurd hj (Nat.not_lt_zero j))
    exact hk2 z1 z2
  | cons p l =>
    rw [e] at q2' hk2
    obtain ⟨z1, z2⟩ := CR_pS hC on3 qx q2'.1 (by omega) q2'.2
    exact hk2 z1 z2
end CPairs2
