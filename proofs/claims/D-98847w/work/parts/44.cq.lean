/-! THE CLASS: queries -/
theorem LST.kind {h : am_H} {l n : Nat} (hL : LST h l n) : hp_K h l = (130, 0) := hL.1.1
theorem COath.parts {h : am_H} {V : am_M} {a i : Nat} (al : Al h) (q : COath h V a i) : ([115, 116] : List Nat).contains (hp_K h a).1 = true ∧ ((hp_K h a = (115, 0) ∧ V 33 i = 1) ∨ (hp_K h a = (116, 0) ∧ V 33 i = 0)) ∧ ¬ a = 0 ∧ hp_I h a 0 = V 26 i ∧ hp_I h a 1 = V 27 i ∧ hp_I h a 2 = V 28 i ∧ hp_I h a 3 = V 29 i ∧ hp_I h a 4 = V 30 i ∧ hp_I h a 5 = V 31 i := by
  obtain ⟨q1, q2⟩ := q
  refine ⟨?_, q1, ?_, q2⟩
  · rcases q1 with e | e
    · rw [e.1]; rfl
    · rw [e.1]; rfl
  · rcases q1 with e | e
    · exact Al_ne al e.1 (by decide)
    · exact Al_ne al e.1 (by decide)
section RowsC
variable {d i pc : Nat} {ls st : List am_V} {h : am_H} {K : am_R → am_H → Prop}
theorem rw_getIC {ts : List Nat} {g nx a : Nat} (f : am_fetch i pc = some (in_getI ts g nx)) (ht : ts.contains (hp_K h a).1 = true) (k : Rn d i nx ls (am_i (hp_I h a g) :: st) h K) : Rn d i pc ls (am_r a :: st) h K := rn_go f (by unfold in_getI; dsimp only; rw [ht]; rfl) k
theorem rw_castC {ts : List Nat} {nx a : Nat} (f : am_fetch i pc = some (in_cast ts nx)) (ht : ts.contains (hp_K h a).1 = true) (k : Rn d i nx ls (am_r a :: st) h K) : Rn d i pc ls (am_r a :: st) h K := rn_go f (by unfold in_cast; dsimp only; rw [ht, Bool.or_true]; rfl) k
theorem X15_isP {k : Int32 → am_H → Prop} {a : Nat} (hk : k 1 h) : Rn d n_X15_isPromise 0 [am_r a] [] h (kI k) := by
  refine rw_const f_X15_isPromise_0 ?_
  exact rw_zret f_X15_isPromise_1 (Or.inr rfl) hk
theorem X16_isP {k : Int32 → am_H → Prop} {a : Nat} (hk : k 0 h) : Rn d n_X16_isPromise 0 [am_r a] [] h (kI k) := by
  refine rw_const f_X16_isPromise_0 ?_
  exact rw_zret f_X16_isPromise_1 (Or.inl rfl) hk
theorem rw_isP {nx a : Nat} {v : Int32} (f : am_fetch i pc = some (in_callU [(115, n_X15_isPromise), (116, n_X16_isPromise)] 0 nx)) (hp : (hp_K h a = (115, 0) ∧ v = 1) ∨ (hp_K h a = (116, 0) ∧ v = 0)) (h0 : ¬ a = 0) (hn : Nat.ble (am_sum st) 8 = true) (k : Rn (d + 1) i nx ls (am_i v :: st) h K) : Rn (d + 1) i pc ls (am_r a :: st) h K := by
  rcases hp with e | e
  · obtain ⟨e1, rfl⟩ := e
    exact rw_callV f rfl e1 h0 rfl hn rfl rfl (rn_ki (X15_isP k))
  · obtain ⟨e1, rfl⟩ := e
    exact rw_callV f rfl e1 h0 rfl hn rfl rfl (rn_ki (X16_isP k))
/-- a loop that counts up, with locals that may be anything -/
theorem rn_forJ {J : Type} {N : Nat} (LS : Nat → J → List am_V) (Hs : Nat → am_H) (step : ∀ b, b < N → ∀ j, (∀ j', Rn d i pc (LS (b + 1) j') [] (Hs (b + 1)) K) → Rn d i pc (LS b j) [] (Hs b) K) (hx : ∀ j, Rn d i pc (LS N j) [] (Hs N) K) (j0 : J) : Rn d i pc (LS 0 j0) [] (Hs 0) K := by
  have : ∀ n b, b + n = N → ∀ j, Rn d i pc (LS b j) [] (Hs b) K := by
    intro n
    induction n with
    | zero => intro b hb; rw [show b = N by omega]; exact hx
    | succ n ih => intro b hb j; exact step b (by omega) j (ih (b + 1) (by omega))
  exact this N 0 (by omega) j0
/-- a loop by what holds at its head, of locals and heap -/
theorem rn_inv {N : Nat} (Inv : Nat → List am_V → am_H → Prop) (step : ∀ b, b < N → ∀ ls h, Inv b ls h → (∀ ls' h', Inv (b + 1) ls' h' → Rn d i pc ls' [] h' K) → Rn d i pc ls [] h K) (hx : ∀ ls h, Inv N ls h → Rn d i pc ls [] h K) (h0 : Inv 0 ls h) : Rn d i pc ls [] h K := by
  have : ∀ n b, b + n = N → ∀ ls h, Inv b ls h → Rn d i pc ls [] h K := by
    intro n
    induction n with
    | zero => intro b hb; rw [show b = N by omega]; exact hx
    | succ n ih => intro b hb ls h q; exact step b (by omega) ls h q (ih (b + 1) (by omega))
  exact this N 0 (by omega) ls h h0
end RowsC
theorem zshl (k : Int32) : (0 : Int32) <<< k = 0 := by
  apply Int32.toBitVec_inj.mp
  simp
theorem or0 (a : Int32) : a ||| 0 = a := by
  apply Int32.toBitVec_inj.mp
  simp
theorem bs_no {p : Nat → Bool} {n : Nat} (h : p n = false) : bs p (n + 1) = bs p n := by
  simp only [bs, h, bI, Bool.false_eq_true, if_false]
  rw [zshl, or0]
theorem bs_yes {p : Nat → Bool} {n : Nat} (h : p n = true) : bs p (n + 1) = bs p n ||| (1 <<< (nI n &&& 31)) := (bs_t h).symm
section CQ
variable {d : Nat} {h : am_H} {V : am_M} {x r nM nD nB nA nU nT nL : Nat} {k : Int32 → am_H → Prop}
theorem J_sizeL {l n : Nat} (hL : LST h l n) (hk : k (nI n) h) : Rn d n_J2_size 0 [am_r l] [] h (kI k) := J_size hL.1 hk
theorem J_getL {l n i : Nat} {k : Nat → am_H → Prop} (hL : LST h l n) (hi : i < n) (hk : k (el h l i) h) : Rn (d + 2) n_J2_get 0 [am_r l, am_i (nI i)] [] h (kR k) := J_get hL.1 hL.2 hi hk
theorem J_isEmptyL {l n : Nat} (hL : LST h l n) (hk : k (bI (decide (n = 0))) h) : Rn d n_J2_isEmpty 0 [am_r l] [] h (kI k) := J_isEmpty hL.1 hk
theorem C_isIn {v a b : Int32} (hk : k (bI (isIn v a b)) h) : Rn d n_X0_isIn 0 [am_i v, am_i a, am_i b] [] h (kI k) := by
  unfold isIn bI at hk
  refine rw_iload f_X0_isIn_0 rfl ?_
  refine rw_iload f_X0_isIn_1 rfl ?_
  refine rw_lt f_X0_isIn_2 (fun c1 => ?_) (fun c1 => ?_)
  · refine rw_const f_X0_isIn_14 ?_
    refine rw_zret f_X0_isIn_15 (by first | exact Or.inl rfl | exact Or.inr rfl | exact bI_01 _ | assumption) ?_
    first | (rw [decide_eq_false (Int32.not_le.mpr c1)] at hk; exact hk) | (rw [decide_eq_true (Int32.not_lt.mp c1), decide_eq_false (Int32.not_le.mpr c2)] at hk; exact hk) | (rw [decide_eq_true (Int32.not_lt.mp c1), decide_eq_true (Int32.not_lt.mp c2)] at hk; exact hk)
  · refine rw_iload f_X0_isIn_5 rfl ?_
    refine rw_iload f_X0_isIn_6 rfl ?_
    refine rw_gt f_X0_isIn_7 (fun c2 => ?_) (fun c2 => ?_)
    · refine rw_const f_X0_isIn_14 ?_
      refine rw_zret f_X0_isIn_15 (by first | exact Or.inl rfl | exact Or.inr rfl | exact bI_01 _ | assumption) ?_
      first | (rw [decide_eq_false (Int32.not_le.mpr c1)] at hk; exact hk) | (rw [decide_eq_true (Int32.not_lt.mp c1), decide_eq_false (Int32.not_le.mpr c2)] at hk; exact hk) | (rw [decide_eq_true (Int32.not_lt.mp c1), decide_eq_true (Int32.not_lt.mp c2)] at hk; exact hk)
    · refine rw_const f_X0_isIn_10 ?_
      refine rw_goto f_X0_isIn_11 ?_
      refine rw_zret f_X0_isIn_15 (by first | exact Or.inl rfl | exact Or.inr rfl | exact bI_01 _ | assumption) ?_
      first | (rw [decide_eq_false (Int32.not_le.mpr c1)] at hk; exact hk) | (rw [decide_eq_true (Int32.not_lt.mp c1), decide_eq_false (Int32.not_le.mpr c2)] at hk; exact hk) | (rw [decide_eq_true (Int32.not_lt.mp c1), decide_eq_true (Int32.not_lt.mp c2)] at hk; exact hk)
def hasB (set k : Int32) : Bool := decide ((set >>> (k &&& 31)) &&& 1 = 1)
theorem C_has {s a : Int32} (hk : k (bI (hasB s a)) h) : Rn d n_X0_has 0 [am_i s, am_i a] [] h (kI k) := by
  refine rw_iload f_X0_has_0 rfl ?_
  refine rw_iload f_X0_has_1 rfl ?_
  refine rw_ishr f_X0_has_2 ?_
  refine rw_const f_X0_has_3 ?_
  refine rw_iand f_X0_has_4 ?_
  refine rw_const f_X0_has_5 ?_
  refine rw_ne f_X0_has_6 (fun c1 => ?_) (fun c1 => ?_)
  · refine rw_const f_X0_has_13 ?_
    refine rw_zret f_X0_has_14 (by first | exact Or.inl rfl | exact Or.inr rfl | exact bI_01 _ | assumption) ?_
    simpa [bI, hasB, c1] using hk
  · refine rw_const f_X0_has_9 ?_
    refine rw_goto f_X0_has_10 ?_
    refine rw_zret f_X0_has_14 (by first | exact Or.inl rfl | exact Or.inr rfl | exact bI_01 _ | assumption) ?_
    simpa [bI, hasB, c1] using hk
theorem C_buttons (hC : CR h V x r nM nD nB nA nU nT nL) (hk : k (nI nB) h) : Rn (d + 1) n_X0_buttons 0 [am_r x] [] h (kI k) := by
  have hC' := hC
  obtain ⟨hW, hr, hG, hN, hA, hT, hX, hI, hS, hF⟩ := hC'
  obtain ⟨⟨rK, r0⟩, ⟨hLM, hM⟩, ⟨hLD, hD⟩, ⟨hLO, hO⟩, ⟨⟨hlk, hla⟩, hlike⟩, ⟨htk, hwear⟩, gf, gu, gh, gs⟩ := hG
  obtain ⟨⟨⟨fM, fM6, fD, fD6, fB, fB10⟩, fO, ⟨fH, fSt⟩, fHr, fFr, fWr⟩, ⟨fA, fU, fAU, fT, fT30, fL, fL10⟩, fTp, fNow, fWere, fBox, fTg⟩ := hF
  have kLM := hLM.1.1; have zLM := hLM.2
  have kLD := hLD.1.1; have zLD := hLD.2
  have kLO := hLO.1.1; have zLO := hLO.2
  refine rw_aload f_X0_buttons_0 rfl ?_
  refine rw_getR f_X0_buttons_1 (by first | assumption | exact hW.k rfl | exact hW.k0) (by first | assumption | exact hW.r0 rfl | exact hW.r rfl | rfl) ?_
  refine rw_getR f_X0_buttons_4 (by first | assumption | exact hW.k rfl | exact hW.k0) (by first | assumption | exact hW.r0 rfl | exact hW.r rfl | rfl) ?_
  refine rw_callV f_X0_buttons_7 rfl (by first | assumption | exact hW.k rfl | exact hW.k0) (by first | assumption | exact hW.1 | omega | exact Nat.succ_ne_zero _) rfl rfl rfl rfl (rn_ki (J_sizeL (by assumption) ?_))
  refine rw_iret f_X0_buttons_10 ?_
  exact hk
theorem C_isButton (hC : CR h V x r nM nD nB nA nU nT nL) {v : Int32} (hk : k (bI (isIn v 0 (V 0 58 - 1))) h) : Rn (d + 2) n_X0_isButton 0 [am_r x, am_i v] [] h (kI k) := by
  have hC' := hC
  obtain ⟨hW, hr, hG, hN, hA, hT, hX, hI, hS, hF⟩ := hC'
  obtain ⟨⟨rK, r0⟩, ⟨hLM, hM⟩, ⟨hLD, hD⟩, ⟨hLO, hO⟩, ⟨⟨hlk, hla⟩, hlike⟩, ⟨htk, hwear⟩, gf, gu, gh, gs⟩ := hG
  obtain ⟨⟨⟨fM, fM6, fD, fD6, fB, fB10⟩, fO, ⟨fH, fSt⟩, fHr, fFr, fWr⟩, ⟨fA, fU, fAU, fT, fT30, fL, fL10⟩, fTp, fNow, fWere, fBox, fTg⟩ := hF
  have kLM := hLM.1.1; have zLM := hLM.2
  have kLD := hLD.1.1; have zLD := hLD.2
  have kLO := hLO.1.1; have zLO := hLO.2
  rw [fB] at hk
  refine rw_iload f_X0_isButton_0 rfl ?_
  refine rw_const f_X0_isButton_1 ?_
  refine rw_aload f_X0_isButton_2 rfl ?_
  refine rw_callV f_X0_isButton_3 rfl (by first | assumption | exact hW.k rfl | exact hW.k0) (by first | assumption | exact hW.1 | omega | exact Nat.succ_ne_zero _) rfl rfl rfl rfl (rn_ki (C_buttons hC ?_))
  refine rw_const f_X0_isButton_6 ?_
  refine rw_isub f_X0_isButton_7 ?_
  refine rw_callS f_X0_isButton_8 rfl rfl rfl (rn_ki (C_isIn ?_))
  refine rw_zret f_X0_isButton_11 (by first | exact Or.inl rfl | exact Or.inr rfl | exact bI_01 _ | assumption) ?_
  exact hk
theorem C_isMan (hC : CR h V x r nM nD nB nA nU nT nL) {v : Int32} (hk : k (bI (isIn v 0 (V 0 56 - 1))) h) : Rn (d + 1) n_X0_isMan 0 [am_r x, am_i v] [] h (kI k) := by
  have hC' := hC
  obtain ⟨hW, hr, hG, hN, hA, hT, hX, hI, hS, hF⟩ := hC'
  obtain ⟨⟨rK, r0⟩, ⟨hLM, hM⟩, ⟨hLD, hD⟩, ⟨hLO, hO⟩, ⟨⟨hlk, hla⟩, hlike⟩, ⟨htk, hwear⟩, gf, gu, gh, gs⟩ := hG
  obtain ⟨⟨⟨fM, fM6, fD, fD6, fB, fB10⟩, fO, ⟨fH, fSt⟩, fHr, fFr, fWr⟩, ⟨fA, fU, fAU, fT, fT30, fL, fL10⟩, fTp, fNow, fWere, fBox, fTg⟩ := hF
  have kLM := hLM.1.1; have zLM := hLM.2
  have kLD := hLD.1.1; have zLD := hLD.2
  have kLO := hLO.1.1; have zLO := hLO.2
  rw [fM] at hk
  refine rw_iload f_X0_isMan_0 rfl ?_
  refine rw_const f_X0_isMan_1 ?_
  refine rw_aload f_X0_isMan_2 rfl ?_
  refine rw_getR f_X0_isMan_3 (by first | assumption | exact hW.k rfl | exact hW.k0) (by first | assumption | exact hW.r0 rfl | exact hW.r rfl | rfl) ?_
  refine rw_getR f_X0_isMan_6 (by first | assumption | exact hW.k rfl | exact hW.k0) (by first | assumption | exact hW.r0 rfl | exact hW.r rfl | rfl) ?_
  refine rw_callV f_X0_isMan_9 rfl (by first | assumption | exact hW.k rfl | exact hW.k0) (by first | assumption | exact hW.1 | omega | exact Nat.succ_ne_zero _) rfl rfl rfl rfl (rn_ki (J_sizeL (by assumption) ?_))
  refine rw_const f_X0_isMan_12 ?_
  refine rw_isub f_X0_isMan_13 ?_
  refine rw_callS f_X0_isMan_14 rfl rfl rfl (rn_ki (C_isIn ?_))
  refine rw_zret f_X0_isMan_17 (by first | exact Or.inl rfl | exact Or.inr rfl | exact bI_01 _ | assumption) ?_
  exact hk
theorem C_isDeed (hC : CR h V x r nM nD nB nA nU nT nL) {v : Int32} (hk : k (bI (isIn v 0 (V 0 57 - 1))) h) : Rn (d + 1) n_X0_isDeed 0 [am_r x, am_i v] [] h (kI k) := by
  have hC' := hC
  obtain ⟨hW, hr, hG, hN, hA, hT, hX, hI, hS, hF⟩ := hC'
  obtain ⟨⟨rK, r0⟩, ⟨hLM, hM⟩, ⟨hLD, hD⟩, ⟨hLO, hO⟩, ⟨⟨hlk, hla⟩, hlike⟩, ⟨htk, hwear⟩, gf, gu, gh, gs⟩ := hG
  obtain ⟨⟨⟨fM, fM6, fD, fD6, fB, fB10⟩, fO, ⟨fH, fSt⟩, fHr, fFr, fWr⟩, ⟨fA, fU, fAU, fT, fT30, fL, fL10⟩, fTp, fNow, fWere, fBox, fTg⟩ := hF
  have kLM := hLM.1.1; have zLM := hLM.2
  have kLD := hLD.1.1; have zLD := hLD.2
  have kLO := hLO.1.1; have zLO := hLO.2
  rw [fD] at hk
  refine rw_iload f_X0_isDeed_0 rfl ?_
  refine rw_const f_X0_isDeed_1 ?_
  refine rw_aload f_X0_isDeed_2 rfl ?_
  refine rw_getR f_X0_isDeed_3 (by first | assumption | exact hW.k rfl | exact hW.k0) (by first | assumption | exact hW.r0 rfl | exact hW.r rfl | rfl) ?_
  refine rw_getR f_X0_isDeed_6 (by first | assumption | exact hW.k rfl | exact hW.k0) (by first | assumption | exact hW.r0 rfl | exact hW.r rfl | rfl) ?_
  refine rw_callV f_X0_isDeed_9 rfl (by first | assumption | exact hW.k rfl | exact hW.k0) (by first | assumption | exact hW.1 | omega | exact Nat.succ_ne_zero _) rfl rfl rfl rfl (rn_ki (J_sizeL (by assumption) ?_))
  refine rw_const f_X0_isDeed_12 ?_
  refine rw_isub f_X0_isDeed_13 ?_
  refine rw_callS f_X0_isDeed_14 rfl rfl rfl (rn_ki (C_isIn ?_))
  refine rw_zret f_X0_isDeed_17 (by first | exact Or.inl rfl | exact Or.inr rfl | exact bI_01 _ | assumption) ?_
  exact hk
theorem C_isOn (hC : CR h V x r nM nD nB nA nU nT nL) {b : Nat} (hb : b < nB) (hk : k (bI (decide (V 34 b = 0))) h) : Rn (d + 3) n_X0_isOn 0 [am_r x, am_i (nI b)] [] h (kI k) := by
  have hC' := hC
  obtain ⟨hW, hr, hG, hN, hA, hT, hX, hI, hS, hF⟩ := hC'
  obtain ⟨⟨rK, r0⟩, ⟨hLM, hM⟩, ⟨hLD, hD⟩, ⟨hLO, hO⟩, ⟨⟨hlk, hla⟩, hlike⟩, ⟨htk, hwear⟩, gf, gu, gh, gs⟩ := hG
  obtain ⟨⟨⟨fM, fM6, fD, fD6, fB, fB10⟩, fO, ⟨fH, fSt⟩, fHr, fFr, fWr⟩, ⟨fA, fU, fAU, fT, fT30, fL, fL10⟩, fTp, fNow, fWere, fBox, fTg⟩ := hF
  have kLM := hLM.1.1; have zLM := hLM.2
  have kLD := hLD.1.1; have zLD := hLD.2
  have kLO := hLO.1.1; have zLO := hLO.2
  have e : isIn (nI b) 0 (V 0 58 - 1) = true := by rw [fB]; exact isIn_of (by omega) hb
  have eS := (hN.1 b (by omega)).1
  have eT := (hN.1 b (by omega)).2
  refine rw_aload f_X0_isOn_0 rfl ?_
  refine rw_iload f_X0_isOn_1 rfl ?_
  refine rw_callV f_X0_isOn_2 rfl (by first | assumption | exact hW.k rfl | exact hW.k0) (by first | assumption | exact hW.1 | omega | exact Nat.succ_ne_zero _) rfl rfl rfl rfl (rn_ki (C_isButton hC ?_))
  first | refine rw_eq0B f_X0_isOn_5 (fun c1 => ?_) (fun c1 => ?_) | refine rw_eq0 f_X0_isOn_5 (fun c1 => ?_) (fun c1 => ?_)
  · refine rw_const f_X0_isOn_24 ?_
    refine rw_zret f_X0_isOn_25 (by first | exact Or.inl rfl | exact Or.inr rfl | exact bI_01 _ | assumption) ?_
    first | (rw [e] at c1; exact absurd c1 (by decide)) | (rw [eS] at c2; simpa [bI, c2] using hk)
  · refine rw_aload f_X0_isOn_8 rfl ?_
    refine rw_getR f_X0_isOn_9 (by first | assumption | exact hW.k rfl | exact hW.k0) (by first | assumption | exact hW.r0 rfl | exact hW.r rfl | rfl) ?_
    refine rw_getR f_X0_isOn_12 (by first | assumption | exact hW.k rfl | exact hW.k0) (by first | assumption | exact hW.r0 rfl | exact hW.r rfl | rfl) ?_
    refine rw_iload f_X0_isOn_15 rfl ?_
    refine rw_xaldE f_X0_isOn_16 (by first | assumption | exact hW.k rfl | exact hW.k0) rfl (by omega) (by omega) ?_
    first | refine rw_ne0B f_X0_isOn_17 (fun c2 => ?_) (fun c2 => ?_) | refine rw_ne0 f_X0_isOn_17 (fun c2 => ?_) (fun c2 => ?_)
    · refine rw_const f_X0_isOn_24 ?_
      refine rw_zret f_X0_isOn_25 (by first | exact Or.inl rfl | exact Or.inr rfl | exact bI_01 _ | assumption) ?_
      first | (rw [e] at c1; exact absurd c1 (by decide)) | (rw [eS] at c2; simpa [bI, c2] using hk)
    · refine rw_const f_X0_isOn_20 ?_
      refine rw_goto f_X0_isOn_21 ?_
      refine rw_zret f_X0_isOn_25 (by first | exact Or.inl rfl | exact Or.inr rfl | exact bI_01 _ | assumption) ?_
      first | (rw [e] at c1; exact absurd c1 (by decide)) | (rw [eS] at c2; simpa [bI, c2] using hk)
/-- 'isOn' of any number -/
def onB (V : am_M) (v : Int32) : Bool := isIn v 0 (V 0 58 - 1) && decide (V 34 v.toNatClampNeg = 0)
theorem C_isOnX (hC : CR h V x r nM nD nB nA nU nT nL) {v : Int32} (hk : k (bI (onB V v)) h) : Rn (d + 3) n_X0_isOn 0 [am_r x, am_i v] [] h (kI k) := by
  unfold onB at hk
  by_cases e : isIn v 0 (V 0 58 - 1) = true
  · obtain ⟨j, rfl, hj⟩ := isIn_nat (n := nB) (by have := hC.2.2.2.2.2.2.2.2.2.1.1.2.2.2.2.2; omega) (by rw [← hC.2.2.2.2.2.2.2.2.2.1.1.2.2.2.2.1]; exact e)
    rw [e, Bool.true_and, nI_clamp (by have := hC.2.2.2.2.2.2.2.2.2.1.1.2.2.2.2.2; omega)] at hk
    exact C_isOn hC hj hk
  · have hC' := hC
    obtain ⟨hW, hr, hG, hN, hA, hT, hX, hI, hS, hF⟩ := hC'
    obtain ⟨⟨rK, r0⟩, ⟨hLM, hM⟩, ⟨hLD, hD⟩, ⟨hLO, hO⟩, ⟨⟨hlk, hla⟩, hlike⟩, ⟨htk, hwear⟩, gf, gu, gh, gs⟩ := hG
    obtain ⟨⟨⟨fM, fM6, fD, fD6, fB, fB10⟩, fO, ⟨fH, fSt⟩, fHr, fFr, fWr⟩, ⟨fA, fU, fAU, fT, fT30, fL, fL10⟩, fTp, fNow, fWere, fBox, fTg⟩ := hF
    have kLM := hLM.1.1; have zLM := hLM.2
    have kLD := hLD.1.1; have zLD := hLD.2
    have kLO := hLO.1.1; have zLO := hLO.2
    have e' : isIn v 0 (V 0 58 - 1) = false := by simpa using e
    rw [e', Bool.false_and] at hk
    refine rw_aload f_X0_isOn_0 rfl ?_
    refine rw_iload f_X0_isOn_1 rfl ?_
    refine rw_callV f_X0_isOn_2 rfl (by first | assumption | exact hW.k rfl | exact hW.k0) (by first | assumption | exact hW.1 | omega | exact Nat.succ_ne_zero _) rfl rfl rfl rfl (rn_ki (C_isButton hC ?_))
    first | refine rw_eq0B f_X0_isOn_5 (fun c1 => ?_) (fun c1 => ?_) | refine rw_eq0 f_X0_isOn_5 (fun c1 => ?_) (fun c1 => ?_)
    · refine rw_const f_X0_isOn_24 ?_
      refine rw_zret f_X0_isOn_25 (by first | exact Or.inl rfl | exact Or.inr rfl | exact bI_01 _ | assumption) ?_
      exact hk
    · exact absurd c1 e
end CQ
