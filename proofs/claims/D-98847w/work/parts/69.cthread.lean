/-! THE CLASS: leave, holds, first -/
/-- a thread after n days, with or without storms -/
def holdF (V : am_M) (b : Nat) (st : Int32) : Nat → Int32
  | 0 => V 34 (10 + b)
  | n + 1 => holdF V b st n - wrV V (holdF V b st n) (hoV V b) st (V 34 20 + nI n)
theorem holdF_in {V : am_M} {b : Nat} {st : Int32} (ok : okDay (V 34)) (hb : b < 10) : ∀ n, ∃ t, t ≤ 99 ∧ holdF V b st n = nI t
  | 0 => ok b hb
  | n + 1 => by
    obtain ⟨t, h1, h2⟩ := holdF_in (st := st) ok hb n
    have p : (0 : Int32) ≤ holdF V b st n := by rw [h2]; exact nI_pos' (by omega)
    have w := wrV_in (V := V) (ho := hoV V b) (st := st) (dy := V 34 20 + nI n) p
    exact small_of h2 h1 w.1 w.2
theorem holdF_pos {V : am_M} {b : Nat} {st : Int32} (ok : okDay (V 34)) (hb : b < 10) (n : Nat) : 0 ≤ holdF V b st n := by
  obtain ⟨t, h1, h2⟩ := holdF_in (st := st) ok hb n
  rw [h2]; exact nI_pos' (by omega)
def sp_holds (V : am_M) (b n st : Int32) : Int32 := if onB V b = false then -1 else if isIn n 0 60 = false then -1 else if isIn st 0 1 = false then -1 else holdF V b.toNatClampNeg st n.toNatClampNeg
/-- the first one that is so -/
def fst1 (p : Nat → Bool) : Nat → Option Nat
  | 0 => none
  | n + 1 => match fst1 p n with
    | some b => some b
    | none => if p n = true then some n else none
theorem fst1_none {p : Nat → Bool} : ∀ {n}, fst1 p n = none ↔ ∀ b, b < n → p b = false
  | 0 => by simp [fst1]
  | n + 1 => by
    have ih := fst1_none (p := p) (n := n)
    unfold fst1
    cases h : fst1 p n with
    | some b =>
      rw [h] at ih
      simp
      have : ¬ ∀ b, b < n → p b = false := fun q => by have := ih.mpr q; cases this
      by_cases z : ∃ b, b < n ∧ p b = true
      · obtain ⟨b', h1, h2⟩ := z
        exact ⟨b', by omega, h2⟩
      · exact absurd (fun b hb => by cases e : p b with | false => rfl | true => exact absurd ⟨b, hb, e⟩ z) this
    | none =>
      have q := ih.mp h
      dsimp only
      by_cases e : p n = true
      · rw [if_pos e]
        simp
        exact ⟨n, by omega, e⟩
      · rw [if_neg e]
        simp
        intro b hb
        by_cases z : b = n
        · rw [z]; simpa using e
        · exact q b (by omega)
theorem fst1_some {p : Nat → Bool} {b : Nat} : ∀ {n}, fst1 p n = some b → b < n ∧ p b = true ∧ ∀ c, c < b → p c = false
  | 0, h => by cases h
  | n + 1, h => by
    unfold fst1 at h
    cases e : fst1 p n with
    | some c =>
      rw [e] at h
      cases h
      obtain ⟨h1, h2, h3⟩ := fst1_some e
      exact ⟨by omega, h2, h3⟩
    | none =>
      rw [e] at h
      dsimp only at h
      by_cases z : p n = true
      · rw [if_pos z] at h
        cases h
        exact ⟨by omega, z, fst1_none.mp e⟩
      · rw [if_neg z] at h; cases h
theorem fst1_of {p : Nat → Bool} {b n : Nat} (hb : b < n) (hp : p b = true) (hc : ∀ c, c < b → p c = false) : fst1 p n = some b := by
  cases e : fst1 p n with
  | none => rw [fst1_none.mp e b hb] at hp; cases hp
  | some c =>
    obtain ⟨h1, h2, h3⟩ := fst1_some e
    by_cases z : c < b
    · rw [hc c z] at h2; cases h2
    · by_cases z2 : b < c
      · rw [h3 b z2] at hp; cases hp
      · rw [show c = b by omega]
/-- a button's thread is gone after n days -/
def goneB (V : am_M) (n b : Nat) : Bool := decide (V 34 b = 0) && decide (holdF V b 0 n = 0)
def sp_first (V : am_M) (nB : Nat) (what : Int32) : Int32 := if isIn what 0 1 = false then -1 else match fst1 (fun i => (fst1 (goneB V (i + 1)) nB).isSome) 60 with
  | none => -1
  | some i => if what = 0 then nI ((fst1 (goneB V (i + 1)) nB).getD 0) else nI (i + 1)
section CThread
variable {d : Nat} {h : am_H} {V : am_M} {x r nM nD nB nA nU nT nL : Nat} {k : Int32 → am_H → Prop}
abbrev tS (h : am_H) (r : Nat) : Nat → Prop := at_ (hp_R h r 13)
theorem CR_tS {h' : am_H} (hC : CR h V x r nM nD nB nA nU nT nL) (on : On (tS h r) h h') : CR h' V x r nM nD nB nA nU nT nL ∧ CFr x 0 0 h h' := CR_sW hC (on.w (fun b w => Or.inr w))
/-- the loop, whatever was asked -/
theorem C_holdsLoop (hC0 : CR h V x r nM nD nB nA nU nT nL) {j n : Nat} (hj : j < nB) (hn : n ≤ 60) {st : Int32} (hk : ∀ h', On (tS h r) h h' → k (holdF V j st n) h') : Rn (d + 331) n_X0_holds 43 [am_r x, am_i (nI j), am_i (nI n), am_i st, am_i (holdF V j st 0), am_i 0] [] h (kI k) := by
  have hB10 := hC0.wb.1.2.2.2.2.2
  refine rn_inv (N := n) (fun i ls hh => ls = [am_r x, am_i (nI j), am_i (nI n), am_i st, am_i (holdF V j st i), am_i (nI i)] ∧ On (tS h r) h hh) (fun i hi ls hh q ih => ?_) (fun ls hh q => ?_) ⟨rfl, On_refl⟩
  · obtain ⟨rfl, on⟩ := q
    have C1 := (CR_tS hC0 on).1
    have hW := C1.1
    have hr := C1.2.1
    have rK := C1.2.2.1.1.1
    have r0 := C1.2.2.1.1.2
    have e20 : hp_I hh (x + 7) 2 = V 34 20 := C1.2.2.2.1.2.1
    have rt : hp_R hh r 13 = hp_R h r 13 := by rw [on.R]
    refine rw_iload f_X0_holds_43 rfl ?_
    refine rw_iload f_X0_holds_45 rfl ?_
    refine rw_icmpF f_X0_holds_46 (decide_eq_false (nI_ge hi (by omega))) ?_
    refine rw_iload f_X0_holds_49 rfl ?_
    refine rw_aload f_X0_holds_51 rfl ?_
    refine rw_getR f_X0_holds_52 (by first | assumption | exact hW.k rfl | exact hW.k0) (by first | assumption | exact hW.r0 rfl | exact hW.r rfl | rfl) ?_
    refine rw_iload f_X0_holds_55 rfl ?_
    refine rw_iload f_X0_holds_56 rfl ?_
    refine rw_iload f_X0_holds_58 rfl ?_
    refine rw_aload f_X0_holds_59 rfl ?_
    refine rw_getR f_X0_holds_60 (by first | assumption | exact hW.k rfl | exact hW.k0) (by first | assumption | exact hW.r0 rfl | exact hW.r rfl | rfl) ?_
    refine rw_getI f_X0_holds_63 (by first | assumption | exact hW.k rfl | exact hW.k0) ?_
    rw [e20]
    refine rw_iload f_X0_holds_66 rfl ?_
    refine rw_iadd f_X0_holds_68 ?_
    refine rw_callV f_X0_holds_69 rfl (by first | assumption | exact hW.k rfl | exact hW.k0) (by first | assumption | exact hW.1 | omega | exact Nat.succ_ne_zero _) rfl rfl rfl rfl (rn_ki (C_wears (d := d) C1.b hj (holdF_pos hC0.ws.2.2.1 (by omega) i) (fun h1 on1 => ?_)))
    refine rw_isub f_X0_holds_72 ?_
    refine rw_istore f_X0_holds_73 rfl rfl ?_
    refine rw_iinc f_X0_holds_75 rfl rfl ?_
    refine rw_goto f_X0_holds_78 ?_
    rw [nI_1']
    exact ih _ h1 ⟨rfl, on.tr (on1.w (fun b w => by rw [show b = _ from w, rt]))⟩
  · obtain ⟨rfl, on⟩ := q
    refine rw_iload f_X0_holds_43 rfl ?_
    refine rw_iload f_X0_holds_45 rfl ?_
    refine rw_icmpT f_X0_holds_46 (decide_eq_true (Int32.le_refl _)) ?_
    refine rw_iload f_X0_holds_81 rfl ?_
    refine rw_iret f_X0_holds_83 ?_
    exact hk hh on
theorem C_holds (hC : CR h V x r nM nD nB nA nU nT nL) {b n st : Int32} (hk : ∀ h', CR h' V x r nM nD nB nA nU nT nL → CFr x 0 0 h h' → k (sp_holds V b n st) h') : Rn (d + 331) n_X0_holds 0 [am_r x, am_i b, am_i n, am_i st, am_u, am_u] [] h (kI k) := by
  unfold sp_holds at hk
  have hk0 := hk h hC Fr_refl
  have C0 := hC
  have hC' := hC
  obtain ⟨hW, hr, hG, hN, hA, hT, hX, hI, hS, hF⟩ := hC'
  obtain ⟨⟨rK, r0⟩, ⟨hLM, hM⟩, ⟨hLD, hD⟩, ⟨hLO, hO⟩, ⟨⟨hlk, hla⟩, hlike⟩, ⟨htk, hwear⟩, gf, gu, gh, gs⟩ := hG
  obtain ⟨⟨⟨fM, fM6, fD, fD6, fB, fB10⟩, fO, ⟨fH, fSt⟩, fHr, fFr, fWr⟩, ⟨fA, fU, fAU, fT, fT30, fL, fL10⟩, fTp, fNow, fWere, fBox, fTg⟩ := hF
  have kLM := hLM.1.1; have zLM := hLM.2
  have kLD := hLD.1.1; have zLD := hLD.2
  have kLO := hLO.1.1; have zLO := hLO.2
  have tail : onB V b = true → isIn n 0 60 = true → isIn st 0 1 = true → Rn (d + 331) n_X0_holds 29 [am_r x, am_i b, am_i n, am_i st, am_u, am_u] [] h (kI k) := by
    intro o1 o2 o3
    have o1' := o1
    unfold onB at o1'
    rw [Bool.and_eq_true] at o1'
    obtain ⟨j, rfl, hj⟩ := isIn_nat (n := nB) (by omega) (by rw [← fB]; exact o1'.1)
    obtain ⟨N, rfl, hN6⟩ := isIn_nat (n := 61) (by omega) o2
    have eT := (hN.1 j (by omega)).2
    refine rw_aload f_X0_holds_29 rfl ?_
    refine rw_getR f_X0_holds_30 (by first | assumption | exact hW.k rfl | exact hW.k0) (by first | assumption | exact hW.r0 rfl | exact hW.r rfl | rfl) ?_
    refine rw_getR f_X0_holds_33 (by first | assumption | exact hW.k rfl | exact hW.k0) (by first | assumption | exact hW.r0 rfl | exact hW.r rfl | rfl) ?_
    refine rw_iload f_X0_holds_36 rfl ?_
    refine rw_xaldE f_X0_holds_37 (by first | assumption | exact hW.k rfl | exact hW.k0) rfl (by omega) (by omega) ?_
    rw [eT]
    refine rw_istore f_X0_holds_38 rfl rfl ?_
    refine rw_const f_X0_holds_40 ?_
    refine rw_istore f_X0_holds_41 rfl rfl ?_
    refine C_holdsLoop (d := d) C0 hj (by omega) (fun h' on => ?_)
    obtain ⟨z1, z2⟩ := CR_tS C0 on
    have hk2 := hk h' z1 z2
    rw [if_neg (by rw [o1]; decide), if_neg (by rw [o2]; decide), if_neg (by rw [o3]; decide), nI_clamp (by omega), nI_clamp (by omega)] at hk2
    exact hk2
  refine rw_aload f_X0_holds_0 rfl ?_
  refine rw_iload f_X0_holds_1 rfl ?_
  refine rw_callV f_X0_holds_2 rfl (by first | assumption | exact hW.k rfl | exact hW.k0) (by first | assumption | exact hW.1 | omega | exact Nat.succ_ne_zero _) rfl rfl rfl rfl (rn_ki (C_isOnX hC ?_))
  first | refine rw_eq0B f_X0_holds_5 (fun c1 => ?_) (fun c1 => ?_) | refine rw_eq0 f_X0_holds_5 (fun c1 => ?_) (fun c1 => ?_)
  · refine rw_const f_X0_holds_27 ?_
    refine rw_iret f_X0_holds_28 ?_
    simpa [c1] using hk0
  · refine rw_iload f_X0_holds_8 rfl ?_
    refine rw_const f_X0_holds_9 ?_
    refine rw_const f_X0_holds_10 ?_
    refine rw_callS f_X0_holds_12 rfl rfl rfl (rn_ki (C_isIn ?_))
    first | refine rw_eq0B f_X0_holds_15 (fun c2 => ?_) (fun c2 => ?_) | refine rw_eq0 f_X0_holds_15 (fun c2 => ?_) (fun c2 => ?_)
    · refine rw_const f_X0_holds_27 ?_
      refine rw_iret f_X0_holds_28 ?_
      simpa [c1, c2] using hk0
    · refine rw_iload f_X0_holds_18 rfl ?_
      refine rw_const f_X0_holds_19 ?_
      refine rw_const f_X0_holds_20 ?_
      refine rw_callS f_X0_holds_21 rfl rfl rfl (rn_ki (C_isIn ?_))
      first | refine rw_ne0B f_X0_holds_24 (fun c3 => ?_) (fun c3 => ?_) | refine rw_ne0 f_X0_holds_24 (fun c3 => ?_) (fun c3 => ?_)
      · exact tail c1 c2 c3
      · refine rw_const f_X0_holds_27 ?_
        refine rw_iret f_X0_holds_28 ?_
        simpa [c1, c2, c3] using hk0
theorem C_first (hC : CR h V x r nM nD nB nA nU nT nL) {what : Int32} (hk : ∀ h', CR h' V x r nM nD nB nA nU nT nL → CFr x 0 0 h h' → k (sp_first V nB what) h') : Rn (d + 332) n_X0_first 0 [am_r x, am_i what, am_u, am_u] [] h (kI k) := by
  have C0 := hC
  have hB10 := hC.wb.1.2.2.2.2.2
  have fB := hC.wb.1.2.2.2.2.1
  unfold sp_first at hk
  by_cases e : isIn what 0 1 = true
  · have ret : ∀ i b hh, CR hh V x r nM nD nB nA nU nT nL → CFr x 0 0 h hh → i < 60 → (∀ i', i' < i → fst1 (goneB V (i' + 1)) nB = none) → fst1 (goneB V (i + 1)) nB = some b → k (if what = 0 then nI b else nI (i + 1)) hh := by
      intro i b hh c1 c2 hi hq hb
      have hk2 := hk hh c1 c2
      rw [if_neg (by rw [e]; decide), fst1_of (b := i) hi (by rw [hb]; rfl) (fun c hc => by rw [hq c hc]; rfl)] at hk2
      dsimp only at hk2
      rw [hb] at hk2; exact hk2
    -- the inner loop
    have inner : ∀ i, i < 60 → (∀ i', i' < i → fst1 (goneB V (i' + 1)) nB = none) → (∀ hh y, CR hh V x r nM nD nB nA nU nT nL → CFr x 0 0 h hh → fst1 (goneB V (i + 1)) nB = none → Rn (d + 332) n_X0_first 63 [am_r x, am_i what, am_i (nI (i + 1)), y] [] hh (kI k)) → ∀ q b hh, b + q = nB → (∀ b', b' < b → goneB V (i + 1) b' = false) → CR hh V x r nM nD nB nA nU nT nL → CFr x 0 0 h hh → Rn (d + 332) n_X0_first 21 [am_r x, am_i what, am_i (nI (i + 1)), am_i (nI b)] [] hh (kI k) := by
      intro i hi hq kn q
      induction q with
      | zero =>
        intro b hh hb hg c1' fr
        have hC := c1'
        have hW := hC.1
        have hn : fst1 (goneB V (i + 1)) nB = none := fst1_none.mpr (fun b' h' => hg b' (by omega))
        obtain rfl : b = nB := by omega
        refine rw_iload f_X0_first_21 rfl ?_
        refine rw_aload f_X0_first_22 rfl ?_
        refine rw_callV f_X0_first_23 rfl (by first | assumption | exact hW.k rfl | exact hW.k0) (by first | assumption | exact hW.1 | omega | exact Nat.succ_ne_zero _) rfl rfl rfl rfl (rn_ki (C_buttons hC ?_))
        refine rw_icmpT f_X0_first_26 (decide_eq_true (Int32.le_refl _)) ?_
        exact kn hh _ c1' fr hn
      | succ q ih =>
        intro b hh hb hg c1' fr
        have hC := c1'
        have hW := hC.1
        have ob : onB V (nI b) = decide (V 34 b = 0) := by
          unfold onB
          rw [fB, isIn_of (by omega) (by omega), Bool.true_and, nI_clamp (by omega)]
        by_cases c0 : V 34 b = 0
        · have h1 : sp_holds V (nI b) (nI (i + 1)) 0 = holdF V b 0 (i + 1) := by
            unfold sp_holds
            rw [if_neg (by rw [ob, decide_eq_true c0]; decide), if_neg (by have q := isIn_of (j := i + 1) (n := 61) (by omega) (by omega); rw [show nI 61 - 1 = (60 : Int32) from by decide] at q; rw [q]; decide), if_neg (by decide), nI_clamp (by omega), nI_clamp (by omega)]
          by_cases c2 : holdF V b 0 (i + 1) = 0
          · have gb : fst1 (goneB V (i + 1)) nB = some b := fst1_of (by omega) (by unfold goneB; rw [decide_eq_true c0, decide_eq_true c2]; rfl) hg
            refine rw_iload f_X0_first_21 rfl ?_
            refine rw_aload f_X0_first_22 rfl ?_
            refine rw_callV f_X0_first_23 rfl (by first | assumption | exact hW.k rfl | exact hW.k0) (by first | assumption | exact hW.1 | omega | exact Nat.succ_ne_zero _) rfl rfl rfl rfl (rn_ki (C_buttons hC ?_))
            refine rw_icmpF f_X0_first_26 (decide_eq_false (nI_ge (by omega) (by omega))) ?_
            refine rw_aload f_X0_first_29 rfl ?_
            refine rw_iload f_X0_first_30 rfl ?_
            refine rw_callV f_X0_first_31 rfl (by first | assumption | exact hW.k rfl | exact hW.k0) (by first | assumption | exact hW.1 | omega | exact Nat.succ_ne_zero _) rfl rfl rfl rfl (rn_ki (C_isOnX hC ?_))
            rw [ob, decide_eq_true c0]
            refine rw_ifF f_X0_first_34 (by decide) ?_
            refine rw_aload f_X0_first_37 rfl ?_
            refine rw_iload f_X0_first_38 rfl ?_
            refine rw_iload f_X0_first_39 rfl ?_
            refine rw_const f_X0_first_40 ?_
            refine rw_callV f_X0_first_41 rfl (by first | assumption | exact hW.k rfl | exact hW.k0) (by first | assumption | exact hW.1 | omega | exact Nat.succ_ne_zero _) rfl rfl rfl rfl (rn_ki (C_holds hC (fun h2 c2' f2 => ?_)))
            skip
            rw [h1, c2]
            have hr := ret i b h2 c2' (CFr_tr fr f2 (Nat.le_refl _) (Nat.le_refl _)) hi hq gb
            refine rw_ifF f_X0_first_44 (by decide) ?_
            refine rw_iload f_X0_first_47 rfl ?_
            first | refine rw_ne0B f_X0_first_48 (fun c1 => ?_) (fun c1 => ?_) | refine rw_ne0 f_X0_first_48 (fun c1 => ?_) (fun c1 => ?_)
            · refine rw_iload f_X0_first_55 rfl ?_
              refine rw_iret f_X0_first_56 ?_
              simpa [c1] using hr
            · refine rw_iload f_X0_first_51 rfl ?_
              refine rw_goto f_X0_first_52 ?_
              refine rw_iret f_X0_first_56 ?_
              simpa [c1] using hr
          · have gb : goneB V (i + 1) b = false := by unfold goneB; rw [decide_eq_false c2, Bool.and_false]
            refine rw_iload f_X0_first_21 rfl ?_
            refine rw_aload f_X0_first_22 rfl ?_
            refine rw_callV f_X0_first_23 rfl (by first | assumption | exact hW.k rfl | exact hW.k0) (by first | assumption | exact hW.1 | omega | exact Nat.succ_ne_zero _) rfl rfl rfl rfl (rn_ki (C_buttons hC ?_))
            refine rw_icmpF f_X0_first_26 (decide_eq_false (nI_ge (by omega) (by omega))) ?_
            refine rw_aload f_X0_first_29 rfl ?_
            refine rw_iload f_X0_first_30 rfl ?_
            refine rw_callV f_X0_first_31 rfl (by first | assumption | exact hW.k rfl | exact hW.k0) (by first | assumption | exact hW.1 | omega | exact Nat.succ_ne_zero _) rfl rfl rfl rfl (rn_ki (C_isOnX hC ?_))
            rw [ob, decide_eq_true c0]
            refine rw_ifF f_X0_first_34 (by decide) ?_
            refine rw_aload f_X0_first_37 rfl ?_
            refine rw_iload f_X0_first_38 rfl ?_
            refine rw_iload f_X0_first_39 rfl ?_
            refine rw_const f_X0_first_40 ?_
            refine rw_callV f_X0_first_41 rfl (by first | assumption | exact hW.k rfl | exact hW.k0) (by first | assumption | exact hW.1 | omega | exact Nat.succ_ne_zero _) rfl rfl rfl rfl (rn_ki (C_holds hC (fun h2 c2' f2 => ?_)))
            skip
            rw [h1]
            refine rw_ifT f_X0_first_44 (decide_eq_true c2) ?_
            refine rw_iinc f_X0_first_57 rfl rfl ?_
            refine rw_goto f_X0_first_60 ?_
            rw [nI_1']
            exact ih (b + 1) h2 (by omega) (fun b' hb' => by by_cases e : b' = b; exact e ▸ gb; exact hg b' (by omega)) c2' (CFr_tr fr f2 (Nat.le_refl _) (Nat.le_refl _))
        · have gb : goneB V (i + 1) b = false := by unfold goneB; rw [decide_eq_false c0, Bool.false_and]
          refine rw_iload f_X0_first_21 rfl ?_
          refine rw_aload f_X0_first_22 rfl ?_
          refine rw_callV f_X0_first_23 rfl (by first | assumption | exact hW.k rfl | exact hW.k0) (by first | assumption | exact hW.1 | omega | exact Nat.succ_ne_zero _) rfl rfl rfl rfl (rn_ki (C_buttons hC ?_))
          refine rw_icmpF f_X0_first_26 (decide_eq_false (nI_ge (by omega) (by omega))) ?_
          refine rw_aload f_X0_first_29 rfl ?_
          refine rw_iload f_X0_first_30 rfl ?_
          refine rw_callV f_X0_first_31 rfl (by first | assumption | exact hW.k rfl | exact hW.k0) (by first | assumption | exact hW.1 | omega | exact Nat.succ_ne_zero _) rfl rfl rfl rfl (rn_ki (C_isOnX hC ?_))
          rw [ob, decide_eq_false c0]
          refine rw_ifT f_X0_first_34 (by decide) ?_
          refine rw_iinc f_X0_first_57 rfl rfl ?_
          refine rw_goto f_X0_first_60 ?_
          rw [nI_1']
          exact ih (b + 1) hh (by omega) (fun b' hb' => by by_cases e : b' = b; exact e ▸ gb; exact hg b' (by omega)) c1' fr
    have outer : ∀ q i y hh, i + q = 60 → (∀ i', i' < i → fst1 (goneB V (i' + 1)) nB = none) → CR hh V x r nM nD nB nA nU nT nL → CFr x 0 0 h hh → Rn (d + 332) n_X0_first 13 [am_r x, am_i what, am_i (nI (i + 1)), y] [] hh (kI k) := by
      intro q
      induction q with
      | zero =>
        intro i y hh hi hq c1' fr
        obtain rfl : i = 60 := by omega
        have hk2 := hk hh c1' fr
        rw [if_neg (by rw [e]; decide), fst1_none.mpr (fun i hi => by rw [hq i hi]; rfl)] at hk2
        refine rw_iload f_X0_first_13 rfl ?_
        refine rw_const f_X0_first_14 ?_
        refine rw_icmpT f_X0_first_16 (by decide) ?_
        refine rw_const f_X0_first_69 ?_
        refine rw_iret f_X0_first_70 ?_
        exact hk2
      | succ q ih =>
        intro i y hh hi hq c1' fr
        refine rw_iload f_X0_first_13 rfl ?_
        refine rw_const f_X0_first_14 ?_
        refine rw_icmpF f_X0_first_16 (decide_eq_false (by rw [show (60 : Int32) = nI 60 from rfl]; exact Int32.not_lt.mpr (nI_le (by omega) (by omega)))) ?_
        refine rw_const f_X0_first_19 ?_
        refine rw_istore f_X0_first_20 rfl rfl ?_
        refine inner i (by omega) hq (fun hh2 y2 c2 f2 hn => ?_) nB 0 hh (by omega) (fun b hb => absurd hb (Nat.not_lt_zero b)) c1' fr
        refine rw_iinc f_X0_first_63 rfl rfl ?_
        refine rw_goto f_X0_first_66 ?_
        rw [nI_1']
        exact ih (i + 1) _ hh2 (by omega) (fun i' hi' => by by_cases e : i' = i; exact e ▸ hn; exact hq i' (by omega)) c2 f2
    have hW := hC.1
    refine rw_iload f_X0_first_0 rfl ?_
    refine rw_const f_X0_first_1 ?_
    refine rw_const f_X0_first_2 ?_
    refine rw_callS f_X0_first_3 rfl rfl rfl (rn_ki (C_isIn ?_))
    refine rw_ifT f_X0_first_6 (by rw [e]; decide) ?_
    refine rw_const f_X0_first_11 ?_
    refine rw_istore f_X0_first_12 rfl rfl ?_
    exact outer 60 0 _ h (by omega) (fun i hi => absurd hi (Nat.not_lt_zero i)) hC Fr_refl
  · have e' : isIn what 0 1 = false := by simpa using e
    have hk2 := hk h hC Fr_refl
    rw [if_pos e'] at hk2
    refine rw_iload f_X0_first_0 rfl ?_
    refine rw_const f_X0_first_1 ?_
    refine rw_const f_X0_first_2 ?_
    refine rw_callS f_X0_first_3 rfl rfl rfl (rn_ki (C_isIn ?_))
    refine rw_ifF f_X0_first_6 (by rw [e']; decide) ?_
    refine rw_const f_X0_first_9 ?_
    refine rw_iret f_X0_first_10 ?_
    exact hk2
/-- the buttons of a set, in a row -/
def setL (s : Int32) : Nat → List Nat
  | 0 => []
  | n + 1 => if hasB s (nI n) = true then setL s n ++ [n] else setL s n
theorem setL_len (s : Int32) : ∀ n, (setL s n).length ≤ n
  | 0 => Nat.le_refl _
  | n + 1 => by
    have := setL_len s n
    simp only [setL]
    split
    · rw [List.length_append, List.length_singleton]; omega
    · omega
def ok_leave (V : am_M) (man deed : Int32) : Bool := isIn man 0 (V 0 56 - 1) && isIn deed 0 (V 0 57 - 1)
theorem lset_V {V' : am_M} {n : Nat} {man deed : Int32} (e : ∀ a j, regA a j = true → V' a j = V a j) (en : ∀ j, V' 34 j = V 34 j) : sp_lset V' n man deed = sp_lset V n man deed := by
  have p : pr_leave V' man deed = pr_leave V man deed := by
    funext b
    unfold pr_leave
    rw [en b, en 20, e 26 b rfl, e 28 b rfl, e 33 b rfl, e 29 b rfl]
  have o : ∀ v, onB V' v = onB V v := fun v => by unfold onB; rw [en, e 0 58 rfl]
  have l : ∀ n s, lvd V' n s = lvd V n s := by
    intro n
    induction n with
    | zero => intro s; rfl
    | succ n ih => intro s; simp only [lvd, ih, o, e 31 n rfl]
  unfold sp_lset
  rw [p, l]
theorem C_leave (hC : CR h V x r nM nD nB nA nU nT nL) {man deed : Int32} (hk0 : ok_leave V man deed = false → ∀ h', CR h' (showV V (fun _ => 0) 0) x r nM nD nB nA nU nT 0 → CFr x 0 0 h h' → k (-1) h') (hk1 : ok_leave V man deed = true → ∀ h', CR h' (showV V (rowF (setL (sp_lset V nB man deed) nB)) (setL (sp_lset V nB man deed) nB).length) x r nM nD nB nA nU nT (setL (sp_lset V nB man deed) nB).length → CFr x 0 0 h h' → k (nI (setL (sp_lset V nB man deed) nB).length) h') : Rn (d + 5) n_X0_leave 0 [am_r x, am_i man, am_i deed, am_u, am_u] [] h (kI k) := by
  have hB10 := hC.wb.1.2.2.2.2.2
  have C0 := CR_lay0 hC (fun _ => 0)
  have on0 : On (xS x) h (hp_sI h x 12 0) := On_sI (Or.inl rfl)
  have hx0 : ∀ j, ¬ j = 12 → hp_I (hp_sI h x 12 0) x j = hp_I h x j := fun j hj => sI_ne (by omega)
  have hx12 : hp_I (hp_sI h x 12 0) x 12 = nI 0 := sI_same
  refine rw_aload f_X0_leave_0 rfl ?_
  refine rw_const f_X0_leave_1 ?_
  refine rw_putI f_X0_leave_2 hC.1.k0 ?_
  have hV0 : ∀ a j, ¬ a = 42 → ¬ (a = 0 ∧ j = 85) → showV V (fun _ => 0) 0 a j = V a j := fun a j h1 h2 => showV_o h1 h2
  have em : showV V (fun _ => 0) 0 0 56 = V 0 56 := hV0 _ _ (by decide) (by decide)
  have ed : showV V (fun _ => 0) 0 0 57 = V 0 57 := hV0 _ _ (by decide) (by decide)
  have els : sp_lset (showV V (fun _ => 0) 0) nB man deed = sp_lset V nB man deed := lset_V (fun a j q => hV0 a j (by rintro rfl; cases q) (by rintro ⟨rfl, rfl⟩; cases q)) (fun j => hV0 _ _ (by decide) (by omega))
  unfold ok_leave at hk0 hk1
  have hCh := hC
  generalize hp_sI h x 12 0 = g at *
  have xF : ∀ {h'}, On (xS x) h h' → CFr x 0 0 h h' := fun on => CFr_xS on (fun b w => by left; have w' : b = x ∨ b = x + 17 := w; omega)
  have tail : (isIn man 0 (V 0 56 - 1) && isIn deed 0 (V 0 57 - 1)) = true → Rn (d + 5) n_X0_leave 23 [am_r x, am_i man, am_i deed, am_u, am_u] [] g (kI k) := by
    intro ok
    have hC := C0
    have hW := C0.1
    refine rw_aload f_X0_leave_23 rfl ?_
    refine rw_iload f_X0_leave_24 rfl ?_
    refine rw_iload f_X0_leave_25 rfl ?_
    refine rw_callV f_X0_leave_26 rfl (by first | assumption | exact hW.k rfl | exact hW.k0) (by first | assumption | exact hW.1 | omega | exact Nat.succ_ne_zero _) rfl rfl rfl rfl (rn_ki (C_leaveSet C0 ?_))
    rw [els]
    refine rw_istore f_X0_leave_29 rfl rfl ?_
    refine rw_const f_X0_leave_30 ?_
    refine rw_istore f_X0_leave_31 rfl rfl ?_
    skip
    have hk2 := hk1 ok
    generalize sp_lset V nB man deed = s at *
    -- the world at each step: what is laid so far
    refine rn_inv (N := nB) (fun b ls hh => ls = [am_r x, am_i man, am_i deed, am_i s, am_i (nI b)] ∧ On (xS x) h hh ∧ hp_I hh x 12 = nI (setL s b).length ∧ (∀ j, ¬ j = 12 → hp_I hh x j = hp_I h x j) ∧ (∀ i e, (setL s b)[i]? = some e → hp_I hh (x + 17) i = nI e)) (fun b hb ls hh q ih => ?_) (fun ls hh q => ?_) ⟨rfl, on0, hx12, hx0, fun i e q => by cases q⟩
    · obtain ⟨rfl, on, z1, z2, z3⟩ := q
      have len := setL_len s b
      have hC : CR hh (showV V (rowF (setL s b)) (setL s b).length) x r nM nD nB nA nU nT (setL s b).length := CR_show hCh on.fr (fun b w => w.elim Or.inl (fun w => Or.inr (Or.inl w))) z1 z2 (by omega) (fun j hj => by rw [z3 j _ (List.getElem?_eq_getElem hj)]; unfold rowF; rw [List.getD_eq_getElem?_getD, List.getElem?_eq_getElem hj]; rfl) (show ¬ (x + 13 = x ∨ x + 13 = x + 17) by omega)
      have hW := hC.1
      simp only [setL] at ih
      cases c : hasB s (nI b) with
      | false =>
        rw [c, if_neg (by decide)] at ih
        have ih2 := ih _ hh ⟨rfl, on, z1, z2, z3⟩
        refine rw_iload f_X0_leave_33 rfl ?_
        refine rw_aload f_X0_leave_35 rfl ?_
        refine rw_callV f_X0_leave_36 rfl (by first | assumption | exact hW.k rfl | exact hW.k0) (by first | assumption | exact hW.1 | omega | exact Nat.succ_ne_zero _) rfl rfl rfl rfl (rn_ki (C_buttons hC ?_))
        refine rw_icmpF f_X0_leave_39 (decide_eq_false (nI_ge hb (by omega))) ?_
        refine rw_iload f_X0_leave_42 rfl ?_
        refine rw_iload f_X0_leave_43 rfl ?_
        refine rw_callS f_X0_leave_45 rfl rfl rfl (rn_ki (C_has ?_))
        rw [c]
        refine rw_ifF f_X0_leave_48 (by decide) ?_
        refine rw_goto f_X0_leave_51 ?_
        refine rw_iinc f_X0_leave_75 rfl rfl ?_
        refine rw_goto f_X0_leave_78 ?_
        rw [nI_1']
        exact ih2
      | true =>
        rw [c, if_pos rfl] at ih
        have e12 : hp_I (hp_sI hh (x + 17) (setL s b).length (nI b)) x 12 = nI (setL s b).length := (sI_ne (by omega)).trans z1
        have ih2 := ih _ (hp_sI (hp_sI hh (x + 17) (setL s b).length (nI b)) x 12 (nI ((setL s b).length + 1))) ⟨rfl, (on.tr (On_sI (Or.inr rfl))).tr (On_sI (Or.inl rfl)), by rw [sI_same, List.length_append, List.length_singleton], fun j hj => by rw [sI_ne (by omega), sI_ne (by omega)]; exact z2 j hj, fun i e q => ?_⟩
        · refine rw_iload f_X0_leave_33 rfl ?_
          refine rw_aload f_X0_leave_35 rfl ?_
          refine rw_callV f_X0_leave_36 rfl (by first | assumption | exact hW.k rfl | exact hW.k0) (by first | assumption | exact hW.1 | omega | exact Nat.succ_ne_zero _) rfl rfl rfl rfl (rn_ki (C_buttons hC ?_))
          refine rw_icmpF f_X0_leave_39 (decide_eq_false (nI_ge hb (by omega))) ?_
          refine rw_iload f_X0_leave_42 rfl ?_
          refine rw_iload f_X0_leave_43 rfl ?_
          refine rw_callS f_X0_leave_45 rfl rfl rfl (rn_ki (C_has ?_))
          rw [c]
          refine rw_ifT f_X0_leave_48 (by decide) ?_
          refine rw_aload f_X0_leave_54 rfl ?_
          refine rw_getR f_X0_leave_55 (by first | assumption | exact hW.k rfl | exact hW.k0) (by first | assumption | exact hW.r0 rfl | exact hW.r rfl | rfl) ?_
          refine rw_aload f_X0_leave_58 rfl ?_
          refine rw_getI f_X0_leave_59 (by first | assumption | exact hW.k rfl | exact hW.k0) ?_
          rw [z1]
          refine rw_iload f_X0_leave_62 rfl ?_
          refine rw_iastE (j := (setL s b).length) f_X0_leave_64 (by first | assumption | exact hW.k rfl | exact hW.k0) (by first | rfl | exact nI_addl _ _ | (simp only [nI, Int32.ofNat_add, Int32.ofNat_mul]; rfl) | (simp only [nI_addl, nI_mull, nI_lit, nI_1']; done) | (simp only [nI_1, nI_0, nI_addl, nI_mull, ← nI_succ]; rfl)) (by omega) (by omega) ?_
          refine rw_aload f_X0_leave_65 rfl ?_
          first | refine rw_dupr f_X0_leave_66 ?_ | refine rw_dupi f_X0_leave_66 ?_
          refine rw_getI f_X0_leave_67 (by first | assumption | exact hW.k rfl | exact hW.k0) ?_
          rw [e12]
          refine rw_const f_X0_leave_70 ?_
          refine rw_iadd f_X0_leave_71 ?_
          rw [nI_1']
          refine rw_putI f_X0_leave_72 (by first | assumption | exact hW.k rfl | exact hW.k0) ?_
          refine rw_iinc f_X0_leave_75 rfl rfl ?_
          refine rw_goto f_X0_leave_78 ?_
          rw [nI_1']
          exact ih2
        · rw [sI_ne (by omega)]
          by_cases z : i < (setL s b).length
          · rw [List.getElem?_append_left z] at q
            rw [sI_ne (by omega)]; exact z3 i e q
          · have hi := (List.getElem?_eq_some_iff.mp q).1
            rw [List.length_append, List.length_singleton] at hi
            obtain rfl : i = (setL s b).length := by omega
            rw [List.getElem?_append_right (Nat.le_refl _), Nat.sub_self] at q
            cases q
            exact sI_same
    · obtain ⟨rfl, on, z1, z2, z3⟩ := q
      have len := setL_len s nB
      have hC : CR hh (showV V (rowF (setL s nB)) (setL s nB).length) x r nM nD nB nA nU nT (setL s nB).length := CR_show hCh on.fr (fun b w => w.elim Or.inl (fun w => Or.inr (Or.inl w))) z1 z2 (by omega) (fun j hj => by rw [z3 j _ (List.getElem?_eq_getElem hj)]; unfold rowF; rw [List.getD_eq_getElem?_getD, List.getElem?_eq_getElem hj]; rfl) (show ¬ (x + 13 = x ∨ x + 13 = x + 17) by omega)
      have hW := hC.1
      refine rw_iload f_X0_leave_33 rfl ?_
      refine rw_aload f_X0_leave_35 rfl ?_
      refine rw_callV f_X0_leave_36 rfl (by first | assumption | exact hW.k rfl | exact hW.k0) (by first | assumption | exact hW.1 | omega | exact Nat.succ_ne_zero _) rfl rfl rfl rfl (rn_ki (C_buttons hC ?_))
      refine rw_icmpT f_X0_leave_39 (decide_eq_true (Int32.le_refl _)) ?_
      refine rw_aload f_X0_leave_81 rfl ?_
      refine rw_getI f_X0_leave_82 (by first | assumption | exact hW.k rfl | exact hW.k0) ?_
      refine rw_iret f_X0_leave_85 ?_
      rw [z1]
      exact hk2 hh hC (xF on)
  have hC := C0
  have hW := C0.1
  refine rw_aload f_X0_leave_5 rfl ?_
  refine rw_iload f_X0_leave_6 rfl ?_
  refine rw_callV f_X0_leave_7 rfl (by first | assumption | exact hW.k rfl | exact hW.k0) (by first | assumption | exact hW.1 | omega | exact Nat.succ_ne_zero _) rfl rfl rfl rfl (rn_ki (C_isMan hC ?_))
  rw [em]
  first | refine rw_eq0B f_X0_leave_10 (fun c1 => ?_) (fun c1 => ?_) | refine rw_eq0 f_X0_leave_10 (fun c1 => ?_) (fun c1 => ?_)
  · refine rw_const f_X0_leave_21 ?_
    refine rw_iret f_X0_leave_22 ?_
    exact hk0 (by simp [c1]) g C0 (xF on0)
  · refine rw_aload f_X0_leave_13 rfl ?_
    refine rw_iload f_X0_leave_14 rfl ?_
    refine rw_callV f_X0_leave_15 rfl (by first | assumption | exact hW.k rfl | exact hW.k0) (by first | assumption | exact hW.1 | omega | exact Nat.succ_ne_zero _) rfl rfl rfl rfl (rn_ki (C_isDeed hC ?_))
    rw [ed]
    first | refine rw_ne0B f_X0_leave_18 (fun c2 => ?_) (fun c2 => ?_) | refine rw_ne0 f_X0_leave_18 (fun c2 => ?_) (fun c2 => ?_)
    · exact tail (by simp [c1, c2])
    · refine rw_const f_X0_leave_21 ?_
      refine rw_iret f_X0_leave_22 ?_
      exact hk0 (by simp [c1, c2]) g C0 (xF on0)
end CThread
