/-! THE CLASS: acts -/
/-- the memory with another day at hand -/
def nowV (V : am_M) (f : Nat → Int32) : am_M := fun a j => if a = 34 then f j else V a j
theorem nowV_o {V : am_M} {f : Nat → Int32} {a j : Nat} (h1 : ¬ a = 34) : nowV V f a j = V a j := if_neg h1
theorem nowV_n {V : am_M} {f : Nat → Int32} {j : Nat} : nowV V f 34 j = f j := if_pos rfl
theorem nowV_reg (V : am_M) (f : Nat → Int32) : ∀ a j, regA a j = true → nowV V f a j = V a j := fun a j e => nowV_o (by rintro rfl; cases e)
section CNows
variable {WI : Nat → Prop} {c s d : Nat} {h h' : am_H} {V : am_M} {x r nM nD nB nA nU nT nL : Nat}
theorem WS_now {f : Nat → Int32} (hF : WS V nA nU nT nL) (ok : okDay f) : WS (nowV V f) nA nU nT nL := by
  obtain ⟨⟨s1, s2, s3, s4, s5, s6, s7⟩, sT, s8, s9, s10, s11⟩ := hF
  have e : ∀ {a j : Nat}, ¬ a = 34 → nowV V f a j = V a j := fun h1 => nowV_o h1
  refine ⟨⟨by rw [e (by decide)]; exact s1, by rw [e (by decide)]; exact s2, s3, by rw [e (by decide)]; exact s4, s5, by rw [e (by decide)]; exact s6, s7⟩, by rw [e (by decide)]; exact sT, ?_, ?_, ?_, ?_⟩
  · intro b hb; rw [nowV_n]; exact ok b hb
  · intro i hi b hb
    show ∃ t, t ≤ 99 ∧ nowV V f 35 (24 * i + (10 + b)) = nI t
    rw [e (by decide)]; exact s9 i hi b hb
  · intro b hb e1
    rw [e (by decide)] at e1
    intro c hc
    show ∃ t, t ≤ 99 ∧ nowV V f 51 _ = nI t
    rw [e (by decide)]; exact s10 b hb e1 c hc
  · intro j hj; rw [e (by decide)]; exact s11 j hj
theorem CR_now {f : Nat → Int32} (hC : CR h V x r nM nD nB nA nU nT nL) (fr : Fr WI no c s h h') (hw : ∀ b, WI b → Scr h x b ∨ (x + 7 ≤ b ∧ b ≤ x + 9)) (hp : DP h' (x + 7) (x + 8) (x + 9) f) (ok : okDay f) : CR h' (nowV V f) x r nM nD nB nA nU nT nL := by
  obtain ⟨q1, q2, q3, q4, q5, q6, q7, q8⟩ := CR_fr' hC fr hw
  obtain ⟨hW, hr, hG, hN, hA, hT, hX, hI, hS, hF⟩ := hC
  have e : ∀ {a j : Nat}, ¬ a = 34 → nowV V f a j = V a j := fun h1 => nowV_o h1
  refine ⟨q1, q2, CReg_V (nowV_reg V f) q3, ?_, ?_, CTug_V (fun a j q => e (by omega)) q5, CBox_V (fun a j q => e (by omega)) q6, CInt_V (fun a j q => e (by omega)) q7, q8, WB_V (nowV_reg V f) hF.1, WS_now hF.2 ok⟩
  · unfold CNow
    rw [nowV_n, nowV_n, nowV_n]
    exact ⟨fun b hb => by rw [nowV_n, nowV_n]; exact hp.1 b hb, hp.2⟩
  · obtain ⟨a1, a2, a3, a4⟩ := q4
    refine ⟨a1, a2, fun i hi => ?_, a4⟩
    have e2 : (fun j => nowV V f 35 (24 * i + j)) = (fun j => V 35 (24 * i + j)) := funext fun j => e (by decide)
    rw [e2]; exact a3 i hi
variable {k : Int32 → am_H → Prop}
/-- what a function becomes at one place -/
def fup (f : Nat → Int32) (i : Nat) (v : Int32) : Nat → Int32 := fun j => if j = i then v else f j
theorem fup_s {f : Nat → Int32} {i : Nat} {v : Int32} : fup f i v i = v := if_pos rfl
theorem fup_n {f : Nat → Int32} {i j : Nat} {v : Int32} (h : ¬ j = i) : fup f i v j = f j := if_neg h
theorem okDay_up {f : Nat → Int32} {i : Nat} {v : Int32} (ok : okDay f) (hi : i < 10 ∨ 20 ≤ i) : okDay (fup f i v) := by
  intro b hb; rw [fup_n (by omega)]; exact ok b hb
theorem okDay_upT {f : Nat → Int32} {i t : Nat} {v : Int32} (ok : okDay f) (hv : v = nI t) (ht : t ≤ 99) : okDay (fup f i v) := by
  intro b hb
  by_cases e : 10 + b = i
  · rw [e, fup_s]; exact ⟨t, ht, hv⟩
  · rw [fup_n e]; exact ok b hb
/-- a state is set -/
theorem DP_S {h : am_H} {D S T i : Nat} {f : Nat → Int32} {v : Int32} (hp : DP h D S T f) (hi : i < 10) (n1 : ¬ S = T) (n2 : ¬ D = S) : DP (hp_sI h S i v) D S T (fup f i v) := by
  obtain ⟨q1, q2, q3, q4⟩ := hp
  refine ⟨fun j hj => ⟨?_, ?_⟩, ?_, ?_, ?_⟩
  · by_cases e : j = i
    · rw [e, sI_same, fup_s]
    · rw [sI_ne (by omega), fup_n e]; exact (q1 j hj).1
  · rw [sI_ne (by omega), fup_n (by omega)]; exact (q1 j hj).2
  · rw [sI_ne (by omega), fup_n (by omega)]; exact q2
  · rw [sI_ne (by omega), fup_n (by omega)]; exact q3
  · rw [sI_ne (by omega), fup_n (by omega)]; exact q4
theorem DP_T {h : am_H} {D S T i : Nat} {f : Nat → Int32} {v : Int32} (hp : DP h D S T f) (hi : i < 10) (n1 : ¬ S = T) (n2 : ¬ D = T) : DP (hp_sI h T i v) D S T (fup f (10 + i) v) := by
  obtain ⟨q1, q2, q3, q4⟩ := hp
  refine ⟨fun j hj => ⟨?_, ?_⟩, ?_, ?_, ?_⟩
  · rw [sI_ne (by omega), fup_n (by omega)]; exact (q1 j hj).1
  · by_cases e : j = i
    · rw [e, sI_same, fup_s]
    · rw [sI_ne (by omega), fup_n (by omega)]; exact (q1 j hj).2
  · rw [sI_ne (by omega), fup_n (by omega)]; exact q2
  · rw [sI_ne (by omega), fup_n (by omega)]; exact q3
  · rw [sI_ne (by omega), fup_n (by omega)]; exact q4
theorem DP_C {h : am_H} {D S T : Nat} {f : Nat → Int32} {v : Int32} (hp : DP h D S T f) (n1 : ¬ D = S) (n2 : ¬ D = T) : DP (hp_sI h D 4 v) D S T (fup f 22 v) := by
  obtain ⟨q1, q2, q3, q4⟩ := hp
  refine ⟨fun j hj => ⟨?_, ?_⟩, ?_, ?_, ?_⟩
  · rw [sI_ne (by omega), fup_n (by omega)]; exact (q1 j hj).1
  · rw [sI_ne (by omega), fup_n (by omega)]; exact (q1 j hj).2
  · rw [sI_ne (by omega), fup_n (by omega)]; exact q2
  · rw [sI_ne (by omega), fup_n (by omega)]; exact q3
  · rw [sI_same, fup_s]
abbrev nowW (x : Nat) : Nat → Prop := fun b => x + 7 ≤ b ∧ b ≤ x + 9
theorem CFr_now (on : On (nowW x) h h') : CFr x 0 0 h h' := Fr_w on.fr (fun b _ w => by left; have w' : x + 7 ≤ b ∧ b ≤ x + 9 := w; omega) (fun _ _ w => absurd w id) (Nat.le_refl _) (Nat.le_refl _)
theorem CFr_tr {c1 s1 c2 s2 : Nat} {h1 h2 : am_H} (p : CFr x c1 s1 h h1) (q : CFr x c2 s2 h1 h2) (hc : c1 + c2 ≤ c) (hs : s1 + s2 ≤ s) : CFr x c s h h2 := Fr_tr p q (fun _ _ w => w) (fun _ _ w => w) (fun _ _ w => w) (fun _ _ w => w) hc hs
theorem CR_nowOn {f : Nat → Int32} (hC : CR h V x r nM nD nB nA nU nT nL) (on : On (nowW x) h h') (hp : DP h' (x + 7) (x + 8) (x + 9) f) (ok : okDay f) : CR h' (nowV V f) x r nM nD nB nA nU nT nL := CR_now hC on.fr (fun b w => Or.inr w) hp ok
/-- acts behind an act -/
abbrev nA1 (nA : Nat) : Nat := if nA = 40 then 40 else nA + 1
/-- no act changes a place of the day at hand -/
theorem actV_now {j : Nat} : actV V nA 34 j = V 34 j := actV_o (by decide) (by omega)
theorem actV_nowf : actV V nA 34 = V 34 := funext fun j => actV_now
theorem now_act {h1 : am_H} {a b : Nat} (c1' : CR h1 (actV V nA) x r nM nD nB a b nT nL) : DP h1 (x + 7) (x + 8) (x + 9) (V 34) := by
  have q := c1'.2.2.2.1; unfold CNow at q; rw [actV_nowf] at q; exact q
def ok_undoes (V : am_M) (b : Int32) : Bool := onB V b && !onB V (V 31 b.toNatClampNeg)
theorem C_undoes (hC : CR h V x r nM nD nB nA nU nT nL) {b : Int32} (hk0 : ok_undoes V b = false → k 0 h) (hk1 : ok_undoes V b = true → ∀ h', CR h' (nowV (actV V nA) (fup (V 34) b.toNatClampNeg 2)) x r nM nD nB (nA1 nA) 0 nT nL → CFr x 6 250 h h' → k 1 h') : Rn (d + 9) n_X0_undoes 0 [am_r x, am_i b] [] h (kI k) := by
  have hC' := hC
  obtain ⟨hW, hr, hG, hN, hA, hT, hX, hI, hS, hF⟩ := hC'
  obtain ⟨⟨rK, r0⟩, ⟨hLM, hM⟩, ⟨hLD, hD⟩, ⟨hLO, hO⟩, ⟨⟨hlk, hla⟩, hlike⟩, ⟨htk, hwear⟩, gf, gu, gh, gs⟩ := hG
  obtain ⟨⟨⟨fM, fM6, fD, fD6, fB, fB10⟩, fO, ⟨fH, fSt⟩, fHr, fFr, fWr⟩, ⟨fA, fU, fAU, fT, fT30, fL, fL10⟩, fTp, fNow, fWere, fBox, fTg⟩ := hF
  have kLM := hLM.1.1; have zLM := hLM.2
  have kLD := hLD.1.1; have zLD := hLD.2
  have kLO := hLO.1.1; have zLO := hLO.2
  unfold ok_undoes at hk0 hk1
  by_cases e : isIn b 0 (V 0 58 - 1) = true
  · obtain ⟨j, rfl, hj⟩ := isIn_nat (n := nB) (by omega) (by rw [← fB]; exact e)
    rw [nI_clamp (by omega)] at hk0 hk1
    obtain ⟨oc, op, oz, o0, o1, o2, o3, o4, o5⟩ := COath.parts hW.al (hO j (by omega))
    have tail : (onB V (nI j) && !onB V (V 31 j)) = true → Rn (d + 9) n_X0_undoes 34 [am_r x, am_i (nI j)] [] h (kI k) := by
      intro ok
      refine rw_aload f_X0_undoes_34 rfl ?_
      refine rw_callV f_X0_undoes_35 rfl (by first | assumption | exact hW.k rfl | exact hW.k0) (by first | assumption | exact hW.1 | omega | exact Nat.succ_ne_zero _) rfl rfl rfl rfl (rn_kv (C_keepAct hC (fun h1 c1' fr1 => ?_)))
      skip
      have hW := c1'.1
      refine rw_aload f_X0_undoes_38 rfl ?_
      refine rw_getR f_X0_undoes_39 (by first | assumption | exact hW.k rfl | exact hW.k0) (by first | assumption | exact hW.r0 rfl | exact hW.r rfl | rfl) ?_
      refine rw_getR f_X0_undoes_42 (by first | assumption | exact hW.k rfl | exact hW.k0) (by first | assumption | exact hW.r0 rfl | exact hW.r rfl | rfl) ?_
      refine rw_iload f_X0_undoes_45 rfl ?_
      refine rw_const f_X0_undoes_46 ?_
      refine rw_iastE (j := j) f_X0_undoes_47 (by first | assumption | exact hW.k rfl | exact hW.k0) (by first | rfl | exact nI_addl _ _ | (simp only [nI, Int32.ofNat_add, Int32.ofNat_mul]; rfl) | (simp only [nI_addl, nI_mull, nI_lit, nI_1']; done) | (simp only [nI_1, nI_0, nI_addl, nI_mull, ← nI_succ]; rfl)) (by omega) (by omega) ?_
      refine rw_const f_X0_undoes_48 ?_
      refine rw_zret f_X0_undoes_49 (by first | exact Or.inl rfl | exact Or.inr rfl | exact bI_01 _ | assumption) ?_
      skip
      have on : On (nowW x) h1 (hp_sI h1 (x + 8) j 2) := On_sI (by omega)
      exact hk1 ok _ (CR_nowOn c1' on (DP_S (now_act c1') (by omega) (by omega) (by omega)) (okDay_up fNow (by omega))) (CFr_tr fr1 (CFr_now on) (by omega) (by omega))
    refine rw_aload f_X0_undoes_0 rfl ?_
    refine rw_iload f_X0_undoes_1 rfl ?_
    refine rw_callV f_X0_undoes_2 rfl (by first | assumption | exact hW.k rfl | exact hW.k0) (by first | assumption | exact hW.1 | omega | exact Nat.succ_ne_zero _) rfl rfl rfl rfl (rn_ki (C_isOnX hC ?_))
    first | refine rw_eq0B f_X0_undoes_5 (fun c1 => ?_) (fun c1 => ?_) | refine rw_eq0 f_X0_undoes_5 (fun c1 => ?_) (fun c1 => ?_)
    · refine rw_const f_X0_undoes_32 ?_
      refine rw_zret f_X0_undoes_33 (by first | exact Or.inl rfl | exact Or.inr rfl | exact bI_01 _ | assumption) ?_
      exact hk0 (by simp [c1])
    · refine rw_aload f_X0_undoes_8 rfl ?_
      refine rw_aload f_X0_undoes_9 rfl ?_
      refine rw_getR f_X0_undoes_10 (by first | assumption | exact hW.k rfl | exact hW.k0) (by first | assumption | exact hW.r0 rfl | exact hW.r rfl | rfl) ?_
      refine rw_getR f_X0_undoes_13 (by first | assumption | exact hW.k rfl | exact hW.k0) (by first | assumption | exact hW.r0 rfl | exact hW.r rfl | rfl) ?_
      refine rw_iload f_X0_undoes_16 rfl ?_
      refine rw_callV f_X0_undoes_17 rfl (by first | assumption | exact hW.k rfl | exact hW.k0) (by first | assumption | exact hW.1 | omega | exact Nat.succ_ne_zero _) rfl rfl rfl rfl (rn_kr (J_getL (by assumption) (by omega) ?_))
      refine rw_castC f_X0_undoes_20 (by assumption) ?_
      refine rw_getIC f_X0_undoes_23 (by assumption) ?_
      rw [o5]
      refine rw_callV f_X0_undoes_26 rfl (by first | assumption | exact hW.k rfl | exact hW.k0) (by first | assumption | exact hW.1 | omega | exact Nat.succ_ne_zero _) rfl rfl rfl rfl (rn_ki (C_isOnX hC ?_))
      first | refine rw_eq0B f_X0_undoes_29 (fun c2 => ?_) (fun c2 => ?_) | refine rw_eq0 f_X0_undoes_29 (fun c2 => ?_) (fun c2 => ?_)
      · exact tail (by simp [c1, c2])
      · refine rw_const f_X0_undoes_32 ?_
        refine rw_zret f_X0_undoes_33 (by first | exact Or.inl rfl | exact Or.inr rfl | exact bI_01 _ | assumption) ?_
        exact hk0 (by simp [c1, c2])
  · have e' : onB V b = false := by unfold onB; simp [e]
    rw [e', Bool.false_and] at hk0
    refine rw_aload f_X0_undoes_0 rfl ?_
    refine rw_iload f_X0_undoes_1 rfl ?_
    refine rw_callV f_X0_undoes_2 rfl (by first | assumption | exact hW.k rfl | exact hW.k0) (by first | assumption | exact hW.1 | omega | exact Nat.succ_ne_zero _) rfl rfl rfl rfl (rn_ki (C_isOnX hC ?_))
    first | refine rw_eq0B f_X0_undoes_5 (fun c1 => ?_) (fun c1 => ?_) | refine rw_eq0 f_X0_undoes_5 (fun c1 => ?_) (fun c1 => ?_)
    · refine rw_const f_X0_undoes_32 ?_
      refine rw_zret f_X0_undoes_33 (by first | exact Or.inl rfl | exact Or.inr rfl | exact bI_01 _ | assumption) ?_
      exact hk0 rfl
    · rw [e'] at c1
      exact absurd c1 (by decide)
def ok_cut (V : am_M) (b : Int32) : Bool := onB V b && !decide (V 34 22 = 3)
theorem C_cut (hC : CR h V x r nM nD nB nA nU nT nL) {b : Int32} (hk0 : ok_cut V b = false → k (-1) h) (hk1 : ok_cut V b = true → ∀ h', CR h' (nowV (actV V nA) (fup (fup (V 34) b.toNatClampNeg 2) 22 (V 34 22 + 1))) x r nM nD nB (nA1 nA) 0 nT nL → CFr x 6 250 h h' → k (V 34 22 + 1) h') : Rn (d + 9) n_X0_cut 0 [am_r x, am_i b] [] h (kI k) := by
  have hC' := hC
  obtain ⟨hW, hr, hG, hN, hA, hT, hX, hI, hS, hF⟩ := hC'
  obtain ⟨⟨rK, r0⟩, ⟨hLM, hM⟩, ⟨hLD, hD⟩, ⟨hLO, hO⟩, ⟨⟨hlk, hla⟩, hlike⟩, ⟨htk, hwear⟩, gf, gu, gh, gs⟩ := hG
  obtain ⟨⟨⟨fM, fM6, fD, fD6, fB, fB10⟩, fO, ⟨fH, fSt⟩, fHr, fFr, fWr⟩, ⟨fA, fU, fAU, fT, fT30, fL, fL10⟩, fTp, fNow, fWere, fBox, fTg⟩ := hF
  have kLM := hLM.1.1; have zLM := hLM.2
  have kLD := hLD.1.1; have zLD := hLD.2
  have kLO := hLO.1.1; have zLO := hLO.2
  unfold ok_cut at hk0 hk1
  by_cases e : isIn b 0 (V 0 58 - 1) = true
  · obtain ⟨j, rfl, hj⟩ := isIn_nat (n := nB) (by omega) (by rw [← fB]; exact e)
    rw [nI_clamp (by omega)] at hk1
    have tail : (onB V (nI j) && !decide (V 34 22 = 3)) = true → Rn (d + 9) n_X0_cut 21 [am_r x, am_i (nI j)] [] h (kI k) := by
      intro ok
      refine rw_aload f_X0_cut_21 rfl ?_
      refine rw_callV f_X0_cut_22 rfl (by first | assumption | exact hW.k rfl | exact hW.k0) (by first | assumption | exact hW.1 | omega | exact Nat.succ_ne_zero _) rfl rfl rfl rfl (rn_kv (C_keepAct hC (fun h1 c1' fr1 => ?_)))
      skip
      have hW := c1'.1
      have on1 : On (nowW x) h1 (hp_sI h1 (x + 8) j 2) := On_sI (by omega)
      have p1 := DP_S (v := 2) (now_act c1') (show j < 10 by omega) (by omega) (by omega)
      have e4 : hp_I (hp_sI h1 (x + 8) j 2) (x + 7) 4 = V 34 22 := by rw [p1.2.2.2, fup_n (by omega)]
      refine rw_aload f_X0_cut_25 rfl ?_
      refine rw_getR f_X0_cut_26 (by first | assumption | exact hW.k rfl | exact hW.k0) (by first | assumption | exact hW.r0 rfl | exact hW.r rfl | rfl) ?_
      refine rw_getR f_X0_cut_29 (by first | assumption | exact hW.k rfl | exact hW.k0) (by first | assumption | exact hW.r0 rfl | exact hW.r rfl | rfl) ?_
      refine rw_iload f_X0_cut_32 rfl ?_
      refine rw_const f_X0_cut_33 ?_
      refine rw_iastE (j := j) f_X0_cut_34 (by first | assumption | exact hW.k rfl | exact hW.k0) (by first | rfl | exact nI_addl _ _ | (simp only [nI, Int32.ofNat_add, Int32.ofNat_mul]; rfl) | (simp only [nI_addl, nI_mull, nI_lit, nI_1']; done) | (simp only [nI_1, nI_0, nI_addl, nI_mull, ← nI_succ]; rfl)) (by omega) (by omega) ?_
      refine rw_aload f_X0_cut_35 rfl ?_
      refine rw_getR f_X0_cut_36 (by first | assumption | exact hW.k rfl | exact hW.k0) (by first | assumption | exact hW.r0 rfl | exact hW.r rfl | rfl) ?_
      first | refine rw_dupr f_X0_cut_39 ?_ | refine rw_dupi f_X0_cut_39 ?_
      refine rw_getI f_X0_cut_40 (by first | assumption | exact hW.k rfl | exact hW.k0) ?_
      rw [e4]
      refine rw_const f_X0_cut_43 ?_
      refine rw_iadd f_X0_cut_44 ?_
      refine rw_putI f_X0_cut_45 (by first | assumption | exact hW.k rfl | exact hW.k0) ?_
      refine rw_aload f_X0_cut_48 rfl ?_
      refine rw_getR f_X0_cut_49 (by first | assumption | exact hW.k rfl | exact hW.k0) (by first | assumption | exact hW.r0 rfl | exact hW.r rfl | rfl) ?_
      refine rw_getI f_X0_cut_52 (by first | assumption | exact hW.k rfl | exact hW.k0) ?_
      rw [sI_same]
      refine rw_iret f_X0_cut_55 ?_
      skip
      have on : On (nowW x) h1 (hp_sI (hp_sI h1 (x + 8) j 2) (x + 7) 4 (V 34 22 + 1)) := on1.tr (On_sI (by omega))
      exact hk1 ok _ (CR_nowOn c1' on (DP_C p1 (by omega) (by omega)) (okDay_up (okDay_up fNow (by omega)) (by omega))) (CFr_tr fr1 (CFr_now on) (by omega) (by omega))
    refine rw_aload f_X0_cut_0 rfl ?_
    refine rw_iload f_X0_cut_1 rfl ?_
    refine rw_callV f_X0_cut_2 rfl (by first | assumption | exact hW.k rfl | exact hW.k0) (by first | assumption | exact hW.1 | omega | exact Nat.succ_ne_zero _) rfl rfl rfl rfl (rn_ki (C_isOnX hC ?_))
    first | refine rw_eq0B f_X0_cut_5 (fun c1 => ?_) (fun c1 => ?_) | refine rw_eq0 f_X0_cut_5 (fun c1 => ?_) (fun c1 => ?_)
    · refine rw_const f_X0_cut_19 ?_
      refine rw_iret f_X0_cut_20 ?_
      exact hk0 (by simp [c1])
    · refine rw_aload f_X0_cut_8 rfl ?_
      refine rw_getR f_X0_cut_9 (by first | assumption | exact hW.k rfl | exact hW.k0) (by first | assumption | exact hW.r0 rfl | exact hW.r rfl | rfl) ?_
      refine rw_getI f_X0_cut_12 (by first | assumption | exact hW.k rfl | exact hW.k0) ?_
      rw [hN.2.2.2]
      refine rw_const f_X0_cut_15 ?_
      refine rw_ne f_X0_cut_16 (fun c2 => ?_) (fun c2 => ?_)
      · exact tail (by simp [c1, c2])
      · refine rw_const f_X0_cut_19 ?_
        refine rw_iret f_X0_cut_20 ?_
        exact hk0 (by simp [c1, c2])
  · have e' : onB V b = false := by unfold onB; simp [e]
    rw [e', Bool.false_and] at hk0
    refine rw_aload f_X0_cut_0 rfl ?_
    refine rw_iload f_X0_cut_1 rfl ?_
    refine rw_callV f_X0_cut_2 rfl (by first | assumption | exact hW.k rfl | exact hW.k0) (by first | assumption | exact hW.1 | omega | exact Nat.succ_ne_zero _) rfl rfl rfl rfl (rn_ki (C_isOnX hC ?_))
    first | refine rw_eq0B f_X0_cut_5 (fun c1 => ?_) (fun c1 => ?_) | refine rw_eq0 f_X0_cut_5 (fun c1 => ?_) (fun c1 => ?_)
    · refine rw_const f_X0_cut_19 ?_
      refine rw_iret f_X0_cut_20 ?_
      exact hk0 rfl
    · rw [e'] at c1
      exact absurd c1 (by decide)
def ok_sew (V : am_M) (b : Int32) : Bool := isIn b 0 (V 0 58 - 1) && (decide (V 34 b.toNatClampNeg = 0) || decide (V 34 b.toNatClampNeg = 4))
theorem C_sew (hC : CR h V x r nM nD nB nA nU nT nL) {b : Int32} (hk0 : ok_sew V b = false → k (-1) h) (hk1 : ok_sew V b = true → ∀ h', CR h' (nowV (actV V nA) (fup (fup (V 34) b.toNatClampNeg 0) (10 + b.toNatClampNeg) (V 30 b.toNatClampNeg))) x r nM nD nB (nA1 nA) 0 nT nL → CFr x 6 250 h h' → k (V 34 (10 + b.toNatClampNeg)) h') : Rn (d + 9) n_X0_sew 0 [am_r x, am_i b, am_u] [] h (kI k) := by
  have hC' := hC
  obtain ⟨hW, hr, hG, hN, hA, hT, hX, hI, hS, hF⟩ := hC'
  obtain ⟨⟨rK, r0⟩, ⟨hLM, hM⟩, ⟨hLD, hD⟩, ⟨hLO, hO⟩, ⟨⟨hlk, hla⟩, hlike⟩, ⟨htk, hwear⟩, gf, gu, gh, gs⟩ := hG
  obtain ⟨⟨⟨fM, fM6, fD, fD6, fB, fB10⟩, fO, ⟨fH, fSt⟩, fHr, fFr, fWr⟩, ⟨fA, fU, fAU, fT, fT30, fL, fL10⟩, fTp, fNow, fWere, fBox, fTg⟩ := hF
  have kLM := hLM.1.1; have zLM := hLM.2
  have kLD := hLD.1.1; have zLD := hLD.2
  have kLO := hLO.1.1; have zLO := hLO.2
  unfold ok_sew at hk0 hk1
  by_cases e : isIn b 0 (V 0 58 - 1) = true
  · rw [e, Bool.true_and] at hk0 hk1
    obtain ⟨j, rfl, hj⟩ := isIn_nat (n := nB) (by omega) (by rw [← fB]; exact e)
    rw [nI_clamp (by omega)] at hk0 hk1
    have eS := (hN.1 j (by omega)).1
    have eT := (hN.1 j (by omega)).2
    have tail : (decide (V 34 j = 0) || decide (V 34 j = 4)) = true → Rn (d + 9) n_X0_sew 35 [am_r x, am_i (nI j), am_u] [] h (kI k) := by
      intro ok
      refine rw_aload f_X0_sew_35 rfl ?_
      refine rw_callV f_X0_sew_36 rfl (by first | assumption | exact hW.k rfl | exact hW.k0) (by first | assumption | exact hW.1 | omega | exact Nat.succ_ne_zero _) rfl rfl rfl rfl (rn_kv (C_keepAct hC (fun h1 c1' fr1 => ?_)))
      skip
      have on1 : On (nowW x) h1 (hp_sI h1 (x + 8) j 0) := On_sI (by omega)
      have p1 := DP_S (v := 0) (now_act c1') (show j < 10 by omega) (by omega) (by omega)
      have c2' := CR_nowOn c1' on1 p1 (okDay_up fNow (by omega))
      have eT1 : hp_I h1 (x + 9) j = V 34 (10 + j) := ((now_act c1').1 j (by omega)).2
      have hW1 := c1'.1
      obtain ⟨t, ht, et⟩ := (fO j hj).2.2.2.1
      have hC := c2'
      have hC' := hC
      obtain ⟨hW, hr, hG, hN, hA, hT, hX, hI, hS, hF⟩ := hC'
      obtain ⟨⟨rK, r0⟩, ⟨hLM, hM⟩, ⟨hLD, hD⟩, ⟨hLO, hO⟩, ⟨⟨hlk, hla⟩, hlike⟩, ⟨htk, hwear⟩, gf, gu, gh, gs⟩ := hG
      obtain ⟨⟨⟨fM, fM6, fD, fD6, fB, fB10⟩, fO, ⟨fH, fSt⟩, fHr, fFr, fWr⟩, ⟨fA, fU, fAU, fT, fT30, fL, fL10⟩, fTp, fNow, fWere, fBox, fTg⟩ := hF
      have kLM := hLM.1.1; have zLM := hLM.2
      have kLD := hLD.1.1; have zLD := hLD.2
      have kLO := hLO.1.1; have zLO := hLO.2
      obtain ⟨oc, op, oz, o0, o1, o2, o3, o4, o5⟩ := COath.parts hW.al (hO j (by omega))
      have hW := hW1
      refine rw_aload f_X0_sew_39 rfl ?_
      refine rw_getR f_X0_sew_40 (by first | assumption | exact hW.k rfl | exact hW.k0) (by first | assumption | exact hW.r0 rfl | exact hW.r rfl | rfl) ?_
      refine rw_getR f_X0_sew_43 (by first | assumption | exact hW.k rfl | exact hW.k0) (by first | assumption | exact hW.r0 rfl | exact hW.r rfl | rfl) ?_
      refine rw_iload f_X0_sew_46 rfl ?_
      refine rw_xaldE f_X0_sew_47 (by first | assumption | exact hW.k rfl | exact hW.k0) rfl (by omega) (by omega) ?_
      rw [eT1]
      refine rw_istore f_X0_sew_48 rfl rfl ?_
      refine rw_aload f_X0_sew_49 rfl ?_
      refine rw_getR f_X0_sew_50 (by first | assumption | exact hW.k rfl | exact hW.k0) (by first | assumption | exact hW.r0 rfl | exact hW.r rfl | rfl) ?_
      refine rw_getR f_X0_sew_53 (by first | assumption | exact hW.k rfl | exact hW.k0) (by first | assumption | exact hW.r0 rfl | exact hW.r rfl | rfl) ?_
      refine rw_iload f_X0_sew_56 rfl ?_
      refine rw_const f_X0_sew_57 ?_
      refine rw_iastE (j := j) f_X0_sew_58 (by first | assumption | exact hW.k rfl | exact hW.k0) (by first | rfl | exact nI_addl _ _ | (simp only [nI, Int32.ofNat_add, Int32.ofNat_mul]; rfl) | (simp only [nI_addl, nI_mull, nI_lit, nI_1']; done) | (simp only [nI_1, nI_0, nI_addl, nI_mull, ← nI_succ]; rfl)) (by omega) (by omega) ?_
      skip
      have hW := c2'.1
      have et2 : nowV (actV V nA) (fup (V 34) j 0) 30 j = V 30 j := by rw [nowV_o (by decide), actV_o (by decide) (by omega)]
      refine rw_aload f_X0_sew_59 rfl ?_
      refine rw_getR f_X0_sew_60 (by first | assumption | exact hW.k rfl | exact hW.k0) (by first | assumption | exact hW.r0 rfl | exact hW.r rfl | rfl) ?_
      refine rw_getR f_X0_sew_63 (by first | assumption | exact hW.k rfl | exact hW.k0) (by first | assumption | exact hW.r0 rfl | exact hW.r rfl | rfl) ?_
      refine rw_iload f_X0_sew_66 rfl ?_
      refine rw_aload f_X0_sew_67 rfl ?_
      refine rw_getR f_X0_sew_68 (by first | assumption | exact hW.k rfl | exact hW.k0) (by first | assumption | exact hW.r0 rfl | exact hW.r rfl | rfl) ?_
      refine rw_getR f_X0_sew_71 (by first | assumption | exact hW.k rfl | exact hW.k0) (by first | assumption | exact hW.r0 rfl | exact hW.r rfl | rfl) ?_
      refine rw_iload f_X0_sew_74 rfl ?_
      refine rw_callV f_X0_sew_75 rfl (by first | assumption | exact hW.k rfl | exact hW.k0) (by first | assumption | exact hW.1 | omega | exact Nat.succ_ne_zero _) rfl rfl rfl rfl (rn_kr (J_getL (by assumption) (by omega) ?_))
      refine rw_castC f_X0_sew_78 (by assumption) ?_
      refine rw_getIC f_X0_sew_81 (by assumption) ?_
      rw [o4, et2]
      refine rw_iastE (j := j) f_X0_sew_84 (by first | assumption | exact hW.k rfl | exact hW.k0) (by first | rfl | exact nI_addl _ _ | (simp only [nI, Int32.ofNat_add, Int32.ofNat_mul]; rfl) | (simp only [nI_addl, nI_mull, nI_lit, nI_1']; done) | (simp only [nI_1, nI_0, nI_addl, nI_mull, ← nI_succ]; rfl)) (by omega) (by omega) ?_
      refine rw_iload f_X0_sew_85 rfl ?_
      refine rw_iret f_X0_sew_86 ?_
      skip
      have on : On (nowW x) h1 (hp_sI (hp_sI h1 (x + 8) j 0) (x + 9) j (V 30 j)) := on1.tr (On_sI (by omega))
      exact hk1 ok _ (CR_nowOn c1' on (DP_T p1 (by omega) (by omega) (by omega)) (okDay_upT (okDay_up (by assumption) (by omega)) et ht)) (CFr_tr fr1 (CFr_now on) (by omega) (by omega))
    refine rw_aload f_X0_sew_0 rfl ?_
    refine rw_iload f_X0_sew_1 rfl ?_
    refine rw_callV f_X0_sew_2 rfl (by first | assumption | exact hW.k rfl | exact hW.k0) (by first | assumption | exact hW.1 | omega | exact Nat.succ_ne_zero _) rfl rfl rfl rfl (rn_ki (C_isButton hC ?_))
    first | refine rw_eq0B f_X0_sew_5 (fun c1 => ?_) (fun c1 => ?_) | refine rw_eq0 f_X0_sew_5 (fun c1 => ?_) (fun c1 => ?_)
    · refine rw_const f_X0_sew_33 ?_
      refine rw_iret f_X0_sew_34 ?_
      first | (exact absurd c1 (by rw [e]; decide)) | exact hk0 (by simp [c1])
    · refine rw_aload f_X0_sew_8 rfl ?_
      refine rw_getR f_X0_sew_9 (by first | assumption | exact hW.k rfl | exact hW.k0) (by first | assumption | exact hW.r0 rfl | exact hW.r rfl | rfl) ?_
      refine rw_getR f_X0_sew_12 (by first | assumption | exact hW.k rfl | exact hW.k0) (by first | assumption | exact hW.r0 rfl | exact hW.r rfl | rfl) ?_
      refine rw_iload f_X0_sew_15 rfl ?_
      refine rw_xaldE f_X0_sew_16 (by first | assumption | exact hW.k rfl | exact hW.k0) rfl (by omega) (by omega) ?_
      rw [eS]
      first | refine rw_eq0B f_X0_sew_17 (fun c2 => ?_) (fun c2 => ?_) | refine rw_eq0 f_X0_sew_17 (fun c2 => ?_) (fun c2 => ?_)
      · exact tail (by simp [c1, c2])
      · refine rw_aload f_X0_sew_20 rfl ?_
        refine rw_getR f_X0_sew_21 (by first | assumption | exact hW.k rfl | exact hW.k0) (by first | assumption | exact hW.r0 rfl | exact hW.r rfl | rfl) ?_
        refine rw_getR f_X0_sew_24 (by first | assumption | exact hW.k rfl | exact hW.k0) (by first | assumption | exact hW.r0 rfl | exact hW.r rfl | rfl) ?_
        refine rw_iload f_X0_sew_27 rfl ?_
        refine rw_xaldE f_X0_sew_28 (by first | assumption | exact hW.k rfl | exact hW.k0) rfl (by omega) (by omega) ?_
        rw [eS]
        refine rw_const f_X0_sew_29 ?_
        refine rw_eq f_X0_sew_30 (fun c3 => ?_) (fun c3 => ?_)
        · exact tail (by simp [c1, c2, c3])
        · refine rw_const f_X0_sew_33 ?_
          refine rw_iret f_X0_sew_34 ?_
          first | (exact absurd c1 (by rw [e]; decide)) | exact hk0 (by simp [c1, c2, c3])
  · have e' : isIn b 0 (V 0 58 - 1) = false := by simpa using e
    rw [e', Bool.false_and] at hk0
    refine rw_aload f_X0_sew_0 rfl ?_
    refine rw_iload f_X0_sew_1 rfl ?_
    refine rw_callV f_X0_sew_2 rfl (by first | assumption | exact hW.k rfl | exact hW.k0) (by first | assumption | exact hW.1 | omega | exact Nat.succ_ne_zero _) rfl rfl rfl rfl (rn_ki (C_isButton hC ?_))
    first | refine rw_eq0B f_X0_sew_5 (fun c1 => ?_) (fun c1 => ?_) | refine rw_eq0 f_X0_sew_5 (fun c1 => ?_) (fun c1 => ?_)
    · refine rw_const f_X0_sew_33 ?_
      refine rw_iret f_X0_sew_34 ?_
      exact hk0 rfl
    · exact absurd c1 e
theorem C_day (hC : CR h V x r nM nD nB nA nU nT nL) (hk0 : V 34 20 = 99 → k (-1) h) (hk1 : ¬ V 34 20 = 99 → ∀ h', CR h' (nowV (actV V nA) (goF V nB (V 34))) x r nM nD nB (nA1 nA) 0 nT nL → CFr x 6 250 h h' → k (cntB (lostN V (V 34)) nB) h') : Rn (d + 333) n_X0_day 0 [am_r x] [] h (kI k) := by
  have hC' := hC
  obtain ⟨hW, hr, hG, hN, hA, hT, hX, hI, hS, hF⟩ := hC'
  obtain ⟨⟨rK, r0⟩, ⟨hLM, hM⟩, ⟨hLD, hD⟩, ⟨hLO, hO⟩, ⟨⟨hlk, hla⟩, hlike⟩, ⟨htk, hwear⟩, gf, gu, gh, gs⟩ := hG
  obtain ⟨⟨⟨fM, fM6, fD, fD6, fB, fB10⟩, fO, ⟨fH, fSt⟩, fHr, fFr, fWr⟩, ⟨fA, fU, fAU, fT, fT30, fL, fL10⟩, fTp, fNow, fWere, fBox, fTg⟩ := hF
  have kLM := hLM.1.1; have zLM := hLM.2
  have kLD := hLD.1.1; have zLD := hLD.2
  have kLO := hLO.1.1; have zLO := hLO.2
  by_cases e : V 34 20 = 99
  · refine rw_aload f_X0_day_0 rfl ?_
    refine rw_getR f_X0_day_1 (by first | assumption | exact hW.k rfl | exact hW.k0) (by first | assumption | exact hW.r0 rfl | exact hW.r rfl | rfl) ?_
    refine rw_getI f_X0_day_4 (by first | assumption | exact hW.k rfl | exact hW.k0) ?_
    rw [hN.2.1, e]
    refine rw_const f_X0_day_7 ?_
    refine rw_icmpF f_X0_day_9 (by decide) ?_
    refine rw_const f_X0_day_12 ?_
    refine rw_iret f_X0_day_13 ?_
    exact hk0 e
  · refine rw_aload f_X0_day_0 rfl ?_
    refine rw_getR f_X0_day_1 (by first | assumption | exact hW.k rfl | exact hW.k0) (by first | assumption | exact hW.r0 rfl | exact hW.r rfl | rfl) ?_
    refine rw_getI f_X0_day_4 (by first | assumption | exact hW.k rfl | exact hW.k0) ?_
    rw [hN.2.1]
    refine rw_const f_X0_day_7 ?_
    refine rw_icmpT f_X0_day_9 (decide_eq_true e) ?_
    refine rw_aload f_X0_day_14 rfl ?_
    refine rw_callV f_X0_day_15 rfl (by first | assumption | exact hW.k rfl | exact hW.k0) (by first | assumption | exact hW.1 | omega | exact Nat.succ_ne_zero _) rfl rfl rfl rfl (rn_kv (C_keepAct hC (fun h1 c1' fr1 => ?_)))
    skip
    have hW := c1'.1
    have hr1 := c1'.2.1
    have rK1 := c1'.2.2.1.1.1
    have reg : ∀ a j, regA a j = true → V a j = actV V nA a j := fun a j e => (actV_reg V nA a j e).symm
    have hB1 : CB h1 V x r nM nD nB := ⟨c1'.1, c1'.2.1, CReg_V reg c1'.2.2.1, hC.2.2.2.2.2.2.2.2.2.1⟩
    refine rw_aload f_X0_day_18 rfl ?_
    refine rw_getR f_X0_day_19 (by first | assumption | exact hW.k rfl | exact hW.k0) (by first | assumption | exact hW.r0 rfl | exact hW.r rfl | rfl) ?_
    refine rw_aload f_X0_day_22 rfl ?_
    refine rw_getR f_X0_day_23 (by first | assumption | exact hW.k rfl | exact hW.k0) (by first | assumption | exact hW.r0 rfl | exact hW.r rfl | rfl) ?_
    refine rw_callV f_X0_day_26 rfl (by first | assumption | exact hW.k rfl | exact hW.k0) (by first | assumption | exact hW.1 | omega | exact Nat.succ_ne_zero _) rfl rfl rfl rfl (rn_ki (C_goOn (d := d + 1) hB1 (nowK hW) fNow (now_act c1') (fun h2 on2 p2 => ?_)))
    refine rw_iret f_X0_day_29 ?_
    skip
    have kt := c1'.2.2.1.2.2.2.2.2.1.1
    refine hk1 e h2 (CR_now c1' on2.fr (fun b w => ?_) p2 fNow.go) (CFr_tr fr1 (Fr_w (c := 0) (s := 0) on2.fr (fun b _ w => ?_) (fun _ _ w => absurd w id) (Nat.le_refl _) (Nat.le_refl _)) (by omega) (by omega))
    · rcases w with w | w | w | w
      · right; omega
      · right; omega
      · right; omega
      · left; unfold Scr; rw [w, kt]; simp
    · rcases w with w | w | w | w
      · left; omega
      · left; omega
      · left; omega
      · have := c1'.2.2.1.2.2.2.2.1.1.2.2; omega
end CNows
