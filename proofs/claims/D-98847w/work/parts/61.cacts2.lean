/-! THE CLASS: does, will, images -/
def doB (V : am_M) (man deed : Int32) (b : Nat) : Bool := decide (V 34 b = 0) && decide (V 26 b = man) && decide (V 28 b = deed)
def doF (V : am_M) (man deed : Int32) (n : Nat) (j : Nat) : Int32 := if j < n ∧ doB V man deed j = true then (if V 33 j = 0 then 3 else 1) else V 34 j
def doN (V : am_M) (man deed : Int32) (n : Nat) : Int32 := 100 * cntB (fun b => doB V man deed b && !decide (V 33 b = 0)) n + cntB (fun b => doB V man deed b && decide (V 33 b = 0)) n
theorem doF_no {V : am_M} {man deed : Int32} {b : Nat} (h : doB V man deed b = false) : doF V man deed (b + 1) = doF V man deed b := by
  funext j
  unfold doF
  by_cases e : j = b
  · subst e; rw [if_neg (by simp [h]), if_neg (by simp [h])]
  · by_cases e2 : j < b ∧ doB V man deed j = true
    · rw [if_pos ⟨by omega, e2.2⟩, if_pos e2]
    · rw [if_neg (fun q => e2 ⟨by omega, q.2⟩), if_neg e2]
theorem doF_yes {V : am_M} {man deed : Int32} {b : Nat} (h : doB V man deed b = true) : doF V man deed (b + 1) = fup (doF V man deed b) b (if V 33 b = 0 then 3 else 1) := by
  funext j
  unfold doF fup
  by_cases e : j = b
  · subst e; rw [if_pos ⟨by omega, h⟩, if_pos rfl]
  · rw [if_neg e]
    dsimp only
    by_cases e2 : j < b ∧ doB V man deed j = true
    · rw [if_pos ⟨by omega, e2.2⟩, if_pos e2]
    · rw [if_neg (fun q => e2 ⟨by omega, q.2⟩), if_neg e2]
theorem doF_ok {V : am_M} {man deed : Int32} {n : Nat} (ok : okDay (V 34)) (hn : n ≤ 10) : okDay (doF V man deed n) := by
  intro b hb
  unfold doF
  rw [if_neg (by omega)]
  exact ok b hb
theorem doF_at {V : am_M} {man deed : Int32} {b : Nat} : doF V man deed b b = V 34 b := by
  unfold doF; rw [if_neg (by omega)]
section CDoes
variable {c s d : Nat} {h h' : am_H} {V : am_M} {x r nM nD nB nA nU nT nL : Nat} {k : Int32 → am_H → Prop}
def ok_does (V : am_M) (man deed : Int32) : Bool := isIn man 0 (V 0 56 - 1) && isIn deed 0 (V 0 57 - 1)
theorem nowV_act {f : Nat → Int32} {a j : Nat} (h1 : ¬ a = 34) (h2 : ¬ a = 35) (h3 : ¬ (a = 0 ∧ (j = 69 ∨ j = 70))) : nowV (actV V nA) f a j = V a j := by rw [nowV_o h1, actV_o h2 h3]
theorem C_does (hC : CR h V x r nM nD nB nA nU nT nL) {man deed : Int32} (hk0 : ok_does V man deed = false → k (-1) h) (hk1 : ok_does V man deed = true → ∀ h', CR h' (nowV (actV V nA) (doF V man deed nB)) x r nM nD nB (nA1 nA) 0 nT nL → CFr x 6 250 h h' → k (doN V man deed nB) h') : Rn (d + 9) n_X0_does 0 [am_r x, am_i man, am_i deed, am_u, am_u, am_u] [] h (kI k) := by
  have hC' := hC
  obtain ⟨hW, hr, hG, hN, hA, hT, hX, hI, hS, hF⟩ := hC'
  obtain ⟨⟨rK, r0⟩, ⟨hLM, hM⟩, ⟨hLD, hD⟩, ⟨hLO, hO⟩, ⟨⟨hlk, hla⟩, hlike⟩, ⟨htk, hwear⟩, gf, gu, gh, gs⟩ := hG
  obtain ⟨⟨⟨fM, fM6, fD, fD6, fB, fB10⟩, fO, ⟨fH, fSt⟩, fHr, fFr, fWr⟩, ⟨fA, fU, fAU, fT, fT30, fL, fL10⟩, fTp, fNow, fWere, fBox, fTg⟩ := hF
  have kLM := hLM.1.1; have zLM := hLM.2
  have kLD := hLD.1.1; have zLD := hLD.2
  have kLO := hLO.1.1; have zLO := hLO.2
  unfold ok_does at hk0 hk1
  have tail : (isIn man 0 (V 0 56 - 1) && isIn deed 0 (V 0 57 - 1)) = true → Rn (d + 9) n_X0_does 18 [am_r x, am_i man, am_i deed, am_u, am_u, am_u] [] h (kI k) := by
    intro ok
    refine rw_aload f_X0_does_18 rfl ?_
    refine rw_callV f_X0_does_19 rfl (by first | assumption | exact hW.k rfl | exact hW.k0) (by first | assumption | exact hW.1 | omega | exact Nat.succ_ne_zero _) rfl rfl rfl rfl (rn_kv (C_keepAct hC (fun h1 c1' fr1 => ?_)))
    refine rw_const f_X0_does_22 ?_
    refine rw_istore f_X0_does_23 rfl rfl ?_
    refine rw_const f_X0_does_24 ?_
    refine rw_istore f_X0_does_25 rfl rfl ?_
    skip
    have fNow0 := fNow
    have nB10 := fB10
    refine rn_inv (N := nB) (fun b ls hh => (∃ j, ls = [am_r x, am_i man, am_i deed, am_i (doN V man deed b), am_i (nI b), j]) ∧ On (nowW x) h1 hh ∧ DP hh (x + 7) (x + 8) (x + 9) (doF V man deed b)) (fun b hb ls hh hi ih => ?_) (fun ls hh hi => ?_) ⟨⟨am_u, rfl⟩, On_refl, ?_⟩
    · obtain ⟨⟨jj, rfl⟩, on, hp⟩ := hi
      have hC := CR_nowOn c1' on hp (doF_ok fNow (by omega))
      have hC' := hC
      obtain ⟨hW, hr, hG, hN, hA, hT, hX, hI, hS, hF⟩ := hC'
      obtain ⟨⟨rK, r0⟩, ⟨hLM, hM⟩, ⟨hLD, hD⟩, ⟨hLO, hO⟩, ⟨⟨hlk, hla⟩, hlike⟩, ⟨htk, hwear⟩, gf, gu, gh, gs⟩ := hG
      obtain ⟨⟨⟨fM, fM6, fD, fD6, fB, fB10⟩, fO, ⟨fH, fSt⟩, fHr, fFr, fWr⟩, ⟨fA, fU, fAU, fT, fT30, fL, fL10⟩, fTp, fNow, fWere, fBox, fTg⟩ := hF
      have kLM := hLM.1.1; have zLM := hLM.2
      have kLD := hLD.1.1; have zLD := hLD.2
      have kLO := hLO.1.1; have zLO := hLO.2
      obtain ⟨oc, op, oz, o0, o1, o2, o3, o4, o5⟩ := COath.parts hW.al (hO b (by omega))
      have eS : hp_I hh (x + 8) b = V 34 b := by rw [(hp.1 b (by omega)).1, doF_at]
      rw [nowV_act (by decide) (by decide) (by omega)] at o0 o2 op
      by_cases dd : doB V man deed b = true
      · have dd' := dd
        unfold doB at dd'
        simp only [Bool.and_eq_true, decide_eq_true_eq] at dd'
        obtain ⟨⟨z1, z2⟩, z3⟩ := dd'
        have hp2 := DP_S (v := if V 33 b = 0 then 3 else 1) hp (show b < 10 by omega) (show ¬ x + 8 = x + 9 by omega) (show ¬ x + 7 = x + 8 by omega)
        rw [← doF_yes dd] at hp2
        have on2 : On (nowW x) h1 (hp_sI hh (x + 8) b (if V 33 b = 0 then 3 else 1)) := on.tr (On_sI (by omega))
        have ih2 := fun j' v (hv : v = doN V man deed (b + 1)) => ih [am_r x, am_i man, am_i deed, am_i v, am_i (nI (b + 1)), j'] _ ⟨⟨j', by rw [hv]⟩, on2, hp2⟩
        refine rw_iload f_X0_does_27 rfl ?_
        refine rw_aload f_X0_does_29 rfl ?_
        refine rw_callV f_X0_does_30 rfl (by first | assumption | exact hW.k rfl | exact hW.k0) (by first | assumption | exact hW.1 | omega | exact Nat.succ_ne_zero _) rfl rfl rfl rfl (rn_ki (C_buttons hC ?_))
        refine rw_icmpF f_X0_does_33 (decide_eq_false (nI_ge hb (by omega))) ?_
        refine rw_aload f_X0_does_36 rfl ?_
        refine rw_getR f_X0_does_37 (by first | assumption | exact hW.k rfl | exact hW.k0) (by first | assumption | exact hW.r0 rfl | exact hW.r rfl | rfl) ?_
        refine rw_getR f_X0_does_40 (by first | assumption | exact hW.k rfl | exact hW.k0) (by first | assumption | exact hW.r0 rfl | exact hW.r rfl | rfl) ?_
        refine rw_iload f_X0_does_43 rfl ?_
        refine rw_callV f_X0_does_45 rfl (by first | assumption | exact hW.k rfl | exact hW.k0) (by first | assumption | exact hW.1 | omega | exact Nat.succ_ne_zero _) rfl rfl rfl rfl (rn_kr (J_getL (by assumption) (by omega) ?_))
        refine rw_castC f_X0_does_48 (by assumption) ?_
        refine rw_astore f_X0_does_51 rfl rfl ?_
        refine rw_aload f_X0_does_53 rfl ?_
        refine rw_getR f_X0_does_54 (by first | assumption | exact hW.k rfl | exact hW.k0) (by first | assumption | exact hW.r0 rfl | exact hW.r rfl | rfl) ?_
        refine rw_getR f_X0_does_57 (by first | assumption | exact hW.k rfl | exact hW.k0) (by first | assumption | exact hW.r0 rfl | exact hW.r rfl | rfl) ?_
        refine rw_iload f_X0_does_60 rfl ?_
        refine rw_xaldE f_X0_does_62 (by first | assumption | exact hW.k rfl | exact hW.k0) rfl (by omega) (by omega) ?_
        rw [eS]
        refine rw_ifF f_X0_does_63 (decide_eq_false (fun c => c z1)) ?_
        refine rw_aload f_X0_does_66 rfl ?_
        refine rw_getIC f_X0_does_68 (by assumption) ?_
        rw [o0]
        refine rw_iload f_X0_does_71 rfl ?_
        refine rw_icmpF f_X0_does_72 (decide_eq_false (fun c => c z2)) ?_
        refine rw_aload f_X0_does_75 rfl ?_
        refine rw_getIC f_X0_does_77 (by assumption) ?_
        rw [o2]
        refine rw_iload f_X0_does_80 rfl ?_
        refine rw_icmpT f_X0_does_81 (decide_eq_true z3) ?_
        refine rw_aload f_X0_does_87 rfl ?_
        refine rw_getR f_X0_does_88 (by first | assumption | exact hW.k rfl | exact hW.k0) (by first | assumption | exact hW.r0 rfl | exact hW.r rfl | rfl) ?_
        refine rw_getR f_X0_does_91 (by first | assumption | exact hW.k rfl | exact hW.k0) (by first | assumption | exact hW.r0 rfl | exact hW.r rfl | rfl) ?_
        refine rw_iload f_X0_does_94 rfl ?_
        refine rw_aload f_X0_does_96 rfl ?_
        refine rw_byDeed f_X0_does_98 op oz rfl ?_
        refine rw_iastE (j := b) f_X0_does_101 (by first | assumption | exact hW.k rfl | exact hW.k0) (by first | rfl | exact nI_addl _ _ | (simp only [nI, Int32.ofNat_add, Int32.ofNat_mul]; rfl) | (simp only [nI_addl, nI_mull, nI_lit, nI_1']; done) | (simp only [nI_1, nI_0, nI_addl, nI_mull, ← nI_succ]; rfl)) (by omega) (by omega) ?_
        refine rw_iload f_X0_does_102 rfl ?_
        refine rw_aload f_X0_does_103 rfl ?_
        refine rw_isP f_X0_does_105 (by assumption) (by assumption) rfl ?_
        first | refine rw_eq0B f_X0_does_108 (fun c1 => ?_) (fun c1 => ?_) | refine rw_eq0 f_X0_does_108 (fun c1 => ?_) (fun c1 => ?_)
        · refine rw_const f_X0_does_116 ?_
          refine rw_iadd f_X0_does_117 ?_
          refine rw_istore f_X0_does_118 rfl rfl ?_
          refine rw_iinc f_X0_does_119 rfl rfl ?_
          refine rw_goto f_X0_does_122 ?_
          rw [nI_1']
          refine ih2 _ _ ?_
          unfold doN
          simp only [cntB, dd, c1, decide_true, decide_false, Bool.not_true, Bool.not_false, Bool.and_true, Bool.and_false, Bool.true_and, bI, if_true, Bool.false_eq_true, if_false]
          grind
        · refine rw_const f_X0_does_111 ?_
          refine rw_goto f_X0_does_113 ?_
          refine rw_iadd f_X0_does_117 ?_
          refine rw_istore f_X0_does_118 rfl rfl ?_
          refine rw_iinc f_X0_does_119 rfl rfl ?_
          refine rw_goto f_X0_does_122 ?_
          rw [nI_1']
          refine ih2 _ _ ?_
          unfold doN
          simp only [cntB, dd, c1, decide_true, decide_false, Bool.not_true, Bool.not_false, Bool.and_true, Bool.and_false, Bool.true_and, bI, if_true, Bool.false_eq_true, if_false]
          grind
      · have dd' : doB V man deed b = false := by simpa using dd
        have e1 : doN V man deed (b + 1) = doN V man deed b := by
          unfold doN
          simp only [cntB, dd', Bool.false_and, bI, Bool.false_eq_true, if_false, Int32.add_zero]
        have ih2 := fun j' => ih [am_r x, am_i man, am_i deed, am_i (doN V man deed b), am_i (nI (b + 1)), j'] hh ⟨⟨j', by rw [e1]⟩, on, by rw [doF_no dd']; exact hp⟩
        unfold doB at dd'
        refine rw_iload f_X0_does_27 rfl ?_
        refine rw_aload f_X0_does_29 rfl ?_
        refine rw_callV f_X0_does_30 rfl (by first | assumption | exact hW.k rfl | exact hW.k0) (by first | assumption | exact hW.1 | omega | exact Nat.succ_ne_zero _) rfl rfl rfl rfl (rn_ki (C_buttons hC ?_))
        refine rw_icmpF f_X0_does_33 (decide_eq_false (nI_ge hb (by omega))) ?_
        refine rw_aload f_X0_does_36 rfl ?_
        refine rw_getR f_X0_does_37 (by first | assumption | exact hW.k rfl | exact hW.k0) (by first | assumption | exact hW.r0 rfl | exact hW.r rfl | rfl) ?_
        refine rw_getR f_X0_does_40 (by first | assumption | exact hW.k rfl | exact hW.k0) (by first | assumption | exact hW.r0 rfl | exact hW.r rfl | rfl) ?_
        refine rw_iload f_X0_does_43 rfl ?_
        refine rw_callV f_X0_does_45 rfl (by first | assumption | exact hW.k rfl | exact hW.k0) (by first | assumption | exact hW.1 | omega | exact Nat.succ_ne_zero _) rfl rfl rfl rfl (rn_kr (J_getL (by assumption) (by omega) ?_))
        refine rw_castC f_X0_does_48 (by assumption) ?_
        refine rw_astore f_X0_does_51 rfl rfl ?_
        refine rw_aload f_X0_does_53 rfl ?_
        refine rw_getR f_X0_does_54 (by first | assumption | exact hW.k rfl | exact hW.k0) (by first | assumption | exact hW.r0 rfl | exact hW.r rfl | rfl) ?_
        refine rw_getR f_X0_does_57 (by first | assumption | exact hW.k rfl | exact hW.k0) (by first | assumption | exact hW.r0 rfl | exact hW.r rfl | rfl) ?_
        refine rw_iload f_X0_does_60 rfl ?_
        refine rw_xaldE f_X0_does_62 (by first | assumption | exact hW.k rfl | exact hW.k0) rfl (by omega) (by omega) ?_
        rw [eS]
        first | refine rw_ne0B f_X0_does_63 (fun c1 => ?_) (fun c1 => ?_) | refine rw_ne0 f_X0_does_63 (fun c1 => ?_) (fun c1 => ?_)
        · refine rw_iinc f_X0_does_119 rfl rfl ?_
          refine rw_goto f_X0_does_122 ?_
          rw [nI_1']
          exact ih2 _
        · refine rw_aload f_X0_does_66 rfl ?_
          refine rw_getIC f_X0_does_68 (by assumption) ?_
          rw [o0]
          refine rw_iload f_X0_does_71 rfl ?_
          refine rw_ne f_X0_does_72 (fun c2 => ?_) (fun c2 => ?_)
          · refine rw_iinc f_X0_does_119 rfl rfl ?_
            refine rw_goto f_X0_does_122 ?_
            rw [nI_1']
            exact ih2 _
          · refine rw_aload f_X0_does_75 rfl ?_
            refine rw_getIC f_X0_does_77 (by assumption) ?_
            rw [o2]
            refine rw_iload f_X0_does_80 rfl ?_
            refine rw_eq f_X0_does_81 (fun c3 => ?_) (fun c3 => ?_)
            · exfalso
              simp [c1, c2, c3] at dd'
            · refine rw_goto f_X0_does_84 ?_
              refine rw_iinc f_X0_does_119 rfl rfl ?_
              refine rw_goto f_X0_does_122 ?_
              rw [nI_1']
              exact ih2 _
    · obtain ⟨⟨jj, rfl⟩, on, hp⟩ := hi
      have hC := CR_nowOn c1' on hp (doF_ok fNow (by omega))
      have hC' := hC
      obtain ⟨hW, hr, hG, hN, hA, hT, hX, hI, hS, hF⟩ := hC'
      obtain ⟨⟨rK, r0⟩, ⟨hLM, hM⟩, ⟨hLD, hD⟩, ⟨hLO, hO⟩, ⟨⟨hlk, hla⟩, hlike⟩, ⟨htk, hwear⟩, gf, gu, gh, gs⟩ := hG
      obtain ⟨⟨⟨fM, fM6, fD, fD6, fB, fB10⟩, fO, ⟨fH, fSt⟩, fHr, fFr, fWr⟩, ⟨fA, fU, fAU, fT, fT30, fL, fL10⟩, fTp, fNow, fWere, fBox, fTg⟩ := hF
      have kLM := hLM.1.1; have zLM := hLM.2
      have kLD := hLD.1.1; have zLD := hLD.2
      have kLO := hLO.1.1; have zLO := hLO.2
      refine rw_iload f_X0_does_27 rfl ?_
      refine rw_aload f_X0_does_29 rfl ?_
      refine rw_callV f_X0_does_30 rfl (by first | assumption | exact hW.k rfl | exact hW.k0) (by first | assumption | exact hW.1 | omega | exact Nat.succ_ne_zero _) rfl rfl rfl rfl (rn_ki (C_buttons hC ?_))
      refine rw_icmpT f_X0_does_33 (decide_eq_true (Int32.le_refl _)) ?_
      refine rw_iload f_X0_does_125 rfl ?_
      refine rw_iret f_X0_does_126 ?_
      exact hk1 ok hh hC (CFr_tr fr1 (CFr_now on) (by omega) (by omega))
    · have : doF V man deed 0 = V 34 := by funext j; unfold doF; rw [if_neg (fun q => Nat.not_lt_zero _ q.1)]
      rw [this]; exact now_act c1'
  refine rw_aload f_X0_does_0 rfl ?_
  refine rw_iload f_X0_does_1 rfl ?_
  refine rw_callV f_X0_does_2 rfl (by first | assumption | exact hW.k rfl | exact hW.k0) (by first | assumption | exact hW.1 | omega | exact Nat.succ_ne_zero _) rfl rfl rfl rfl (rn_ki (C_isMan hC ?_))
  first | refine rw_eq0B f_X0_does_5 (fun c1 => ?_) (fun c1 => ?_) | refine rw_eq0 f_X0_does_5 (fun c1 => ?_) (fun c1 => ?_)
  · refine rw_const f_X0_does_16 ?_
    refine rw_iret f_X0_does_17 ?_
    exact hk0 (by simp [c1])
  · refine rw_aload f_X0_does_8 rfl ?_
    refine rw_iload f_X0_does_9 rfl ?_
    refine rw_callV f_X0_does_10 rfl (by first | assumption | exact hW.k rfl | exact hW.k0) (by first | assumption | exact hW.1 | omega | exact Nat.succ_ne_zero _) rfl rfl rfl rfl (rn_ki (C_isDeed hC ?_))
    first | refine rw_ne0B f_X0_does_13 (fun c2 => ?_) (fun c2 => ?_) | refine rw_ne0 f_X0_does_13 (fun c2 => ?_) (fun c2 => ?_)
    · exact tail (by simp [c1, c2])
    · refine rw_const f_X0_does_16 ?_
      refine rw_iret f_X0_does_17 ?_
      exact hk0 (by simp [c1, c2])
end CDoes
