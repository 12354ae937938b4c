/-! THE CLASS: reading, the small steps -/
section CRead
variable {d : Nat} {h : am_H} {R F r tp N : Nat} {T : tx}
/-- a reader: its text, its fault, its regiment, the strings -/
def PW (h : am_H) (R F r tp N : Nat) (T : tx) : Prop := RW h R tp N T ∧ hp_R h R 2 = F ∧ hp_K h F = (103, 0) ∧ ¬ F = 0 ∧ hp_R h R 3 = r ∧ SWd h ∧ Al h
/-- what a step may write: the reader, the fault -/
abbrev rS (R F : Nat) : Nat → Prop := fun b => b = R ∨ b = F
theorem PW.on {h' : am_H} (hP : PW h R F r tp N T) (on : OnL (rS R F) h h') (rf : RF h h' R) : PW h' R F r tp N T := by
  obtain ⟨⟨rK, rz, r0, tK, rN, hN, hT⟩, p2, p3, p4, p5, p6, p7⟩ := hP
  have nt : ¬ rS R F tp := fun w => by
    rcases w with e | e
    · rw [e, rK] at tK; cases tK
    · rw [e, p3] at tK; cases tK
  refine ⟨⟨by rw [on.K]; exact rK, rz, by rw [on.R]; exact r0, by rw [on.K]; exact tK, by rw [rf 1 (by omega)]; exact rN, hN, fun j hj => by rw [(on.2 tp nt).1]; exact hT j hj⟩, by rw [on.R]; exact p2, by rw [on.K]; exact p3, p4, by rw [on.R]; exact p5, ?_, on.fr.al p7⟩
  refine p6.fr p7 on.fr (fun b w => ?_) (fun b w => absurd w id)
  rcases w with e | e
  · rw [e, rK]; decide
  · rw [e, p3]; decide
/-- a step of the reader -/
def RSt (R F : Nat) (h h' : am_H) : Prop := OnL (rS R F) h h' ∧ RF h h' R
theorem RSt.tr {h1 h2 : am_H} (p : RSt R F h h1) (q : RSt R F h1 h2) : RSt R F h h2 := ⟨p.1.tr q.1, fun j hj => by rw [q.2 j hj, p.2 j hj]⟩
theorem RSt.refl : RSt R F h h := ⟨OnL_refl, fun _ _ => rfl⟩
theorem RSt.pw {h' : am_H} (s : RSt R F h h') (hP : PW h R F r tp N T) : PW h' R F r tp N T := hP.on s.1 s.2
theorem RSt.R1 {h' : am_H} (on : OnL (at_ R) h h') (rf : RF h h' R) : RSt R F h h' := ⟨on.w (fun b w => Or.inl w), rf⟩
theorem C_by (hF : hp_K h F = (103, 0)) {a b : Int32} {k : Nat → am_H → Prop} (hk : k F (hp_sI (hp_sI h F 0 a) F 1 b)) : Rn d n_X3_by 0 [am_r F, am_i a, am_i b] [] h (kR k) := by
  refine rw_aload f_X3_by_0 rfl ?_
  refine rw_iload f_X3_by_1 rfl ?_
  refine rw_putI f_X3_by_2 (by assumption) ?_
  refine rw_aload f_X3_by_5 rfl ?_
  refine rw_iload f_X3_by_6 rfl ?_
  refine rw_putI f_X3_by_7 (by assumption) ?_
  refine rw_aload f_X3_by_10 rfl ?_
  refine rw_aret f_X3_by_11 ?_
  exact hk
/-- the fault is told -/
def Flt (h : am_H) (F : Nat) (e : er) : Prop := hp_I h F 0 = e.1 ∧ hp_I h F 1 = nI e.2
theorem Flt_by (F : Nat) (e : er) : Flt (hp_sI (hp_sI h F 0 e.1) F 1 (nI e.2)) F e := ⟨by rw [sI_ne (by simp), sI_same], sI_same⟩
theorem st_by (hP : PW h R F r tp N T) {a b : Int32} : RSt R F h (hp_sI (hp_sI h F 0 a) F 1 b) := ⟨(OnL_sI (Or.inr rfl)).tr (OnL_sI (Or.inr rfl)), fun j _ => by
  have ne : ¬ R = F := fun e => by have := hP.1.1; rw [e, hP.2.2.1] at this; cases this
  rw [sI_ne (fun z => ne z.1), sI_ne (fun z => ne z.1)]⟩
theorem C_wrong (hP : PW h R F r tp N T) {p : Nat} (hT : RT h R N T p) {k : Nat → am_H → Prop} (hk : ∀ h', RSt R F h h' → hp_K h' F = (103, 0) → Flt h' F (err1 T N p) → k F h') : Rn (d + 1) n_X10_wrong 0 [am_r R] [] h (kR k) := by
  have rK := hP.1.1
  have r2 := hP.2.1
  have fK := hP.2.2.1
  have fz := hP.2.2.2.1
  have e6 := hT.2.2.2.1
  have e4 := hT.2.1
  have fin := fun a (ha : a = (err1 T N p).1) => hk (hp_sI (hp_sI h F 0 a) F 1 (nI p)) (st_by hP) fK (by rw [ha]; exact Flt_by F (err1 T N p))
  refine rw_aload f_X10_wrong_0 rfl ?_
  refine rw_getR f_X10_wrong_1 (by assumption) (by first | assumption | rfl) ?_
  refine rw_aload f_X10_wrong_4 rfl ?_
  refine rw_getI f_X10_wrong_5 (by assumption) ?_
  rw [e6]
  refine rw_const f_X10_wrong_8 ?_
  refine rw_ne f_X10_wrong_9 (fun c1 => ?_) (fun c1 => ?_)
  · refine rw_const f_X10_wrong_16 ?_
    refine rw_aload f_X10_wrong_17 rfl ?_
    refine rw_getI f_X10_wrong_18 (by assumption) ?_
    rw [e4]
    refine rw_callV f_X10_wrong_21 rfl (by assumption) (by first | assumption | omega) rfl rfl rfl rfl (rn_kr (C_by fK ?_))
    refine rw_aret f_X10_wrong_24 ?_
    exact fin _ (by unfold err1; simp [c1])
  · refine rw_const f_X10_wrong_12 ?_
    refine rw_goto f_X10_wrong_13 ?_
    refine rw_aload f_X10_wrong_17 rfl ?_
    refine rw_getI f_X10_wrong_18 (by assumption) ?_
    rw [e4]
    refine rw_callV f_X10_wrong_21 rfl (by assumption) (by first | assumption | omega) rfl rfl rfl rfl (rn_kr (C_by fK ?_))
    refine rw_aret f_X10_wrong_24 ?_
    exact fin _ (by unfold err1; simp [c1])
theorem C_must (hP : PW h R F r tp N T) {p : Nat} (hT : RT h R N T p) {c : Bool} {k : am_H → Prop} {xk : Nat → am_H → Prop} (hok : ∀ q h', pMust T N c p = .inl q → RSt R F h h' → RT h' R N T q → k h') (herr : ∀ e h', pMust T N c p = .inr e → RSt R F h h' → Flt h' F e → xk F h') : Rn (d + 3) n_X10_must 0 [am_r R, am_i (bI c)] [] h (kX (kV k) xk) := by
  have rK := hP.1.1
  have rz := hP.1.2.1
  have fK := hP.2.2.1
  unfold pMust at hok herr
  cases c with
  | true =>
    refine rw_iload f_X10_must_0 rfl ?_
    refine rw_ifT f_X10_must_1 (by decide) ?_
    refine rw_aload f_X10_must_9 rfl ?_
    refine rw_callV f_X10_must_10 rfl (by assumption) (by first | assumption | omega) rfl rfl rfl rfl (rn_kv (C_next hP.1 (tkE_ge hT.1).2 hT.2.2.1 (fun h1 on1 rf1 rt1 => ?_)))
    refine rx_vret f_X10_must_13 ?_
    exact hok _ h1 rfl (.R1 on1 rf1) rt1
  | false =>
    refine rw_iload f_X10_must_0 rfl ?_
    refine rw_ifF f_X10_must_1 (by decide) ?_
    refine rw_aload f_X10_must_4 rfl ?_
    refine rw_callV f_X10_must_5 rfl (by assumption) (by first | assumption | omega) rfl rfl rfl rfl (rn_kr (C_wrong hP hT (fun h1 st1 fK1 fl1 => ?_)))
    refine rx_throw f_X10_must_8 rfl (by assumption) ?_
    exact herr _ h1 rfl st1 fl1
theorem C_number (hP : PW h R F r tp N T) {p : Nat} (hT : RT h R N T p) {lo hi : Int32} {k : Int32 → am_H → Prop} {xk : Nat → am_H → Prop} (hok : ∀ v h', pNum T N lo hi p = .inl v → RSt R F h h' → RT h' R N T v.2 → k v.1 h') (herr : ∀ e h', pNum T N lo hi p = .inr e → RSt R F h h' → Flt h' F e → xk F h') : Rn (d + 3) n_X10_number 0 [am_r R, am_i lo, am_i hi, am_u] [] h (kX (kI k) xk) := by
  have rK := hP.1.1
  have rz := hP.1.2.1
  have r2 := hP.2.1
  have fK := hP.2.2.1
  have fz := hP.2.2.2.1
  have e6 := hT.2.2.2.1
  have e4 := hT.2.1
  unfold pNum at hok herr
  by_cases hD : tkD T N p = 2
  · have e7 := hT.2.2.2.2.1 hD
    rw [if_neg (fun z => z hD)] at hok herr
    have four : (tkN T N p < lo ∨ hi < tkN T N p) → xk F (hp_sI (hp_sI h F 0 4) F 1 (nI p)) := by
      intro z
      refine herr (4, p) _ ?_ (st_by hP) (Flt_by F (4, p))
      by_cases a : tkN T N p < lo
      · rw [if_pos a]
      · rw [if_neg a, if_pos (z.resolve_left a)]
    refine rw_aload f_X10_number_0 rfl ?_
    refine rw_getI f_X10_number_1 (by assumption) ?_
    rw [e6, hD]
    refine rw_const f_X10_number_4 ?_
    refine rw_icmpT f_X10_number_5 (by decide) ?_
    refine rw_aload f_X10_number_13 rfl ?_
    refine rw_getI f_X10_number_14 (by assumption) ?_
    rw [e7]
    refine rw_iload f_X10_number_17 rfl ?_
    refine rw_lt f_X10_number_18 (fun c1 => ?_) (fun c1 => ?_)
    · refine rw_aload f_X10_number_29 rfl ?_
      refine rw_getR f_X10_number_30 (by assumption) (by first | assumption | rfl) ?_
      refine rw_const f_X10_number_33 ?_
      refine rw_aload f_X10_number_34 rfl ?_
      refine rw_getI f_X10_number_35 (by assumption) ?_
      rw [e4]
      refine rw_callV f_X10_number_38 rfl (by assumption) (by first | assumption | omega) rfl rfl rfl rfl (rn_kr (C_by fK ?_))
      have fK1 : hp_K (hp_sI (hp_sI h F 0 4) F 1 (nI p)) F = (103, 0) := fK
      refine rx_throw f_X10_number_41 rfl (by assumption) ?_
      exact four (by first | exact Or.inl c1 | exact Or.inr (Int32.not_le.mp c2) | exact Or.inr c2)
    · refine rw_aload f_X10_number_21 rfl ?_
      refine rw_getI f_X10_number_22 (by assumption) ?_
      rw [e7]
      refine rw_iload f_X10_number_25 rfl ?_
      refine rw_le f_X10_number_26 (fun c2 => ?_) (fun c2 => ?_)
      · refine rw_aload f_X10_number_42 rfl ?_
        refine rw_getI f_X10_number_43 (by assumption) ?_
        rw [e7]
        refine rw_istore f_X10_number_46 rfl rfl ?_
        refine rw_aload f_X10_number_47 rfl ?_
        refine rw_callV f_X10_number_48 rfl (by assumption) (by first | assumption | omega) rfl rfl rfl rfl (rn_kv (C_next hP.1 (tkE_ge hT.1).2 hT.2.2.1 (fun h1 on1 rf1 rt1 => ?_)))
        refine rw_iload f_X10_number_51 rfl ?_
        refine rx_iret f_X10_number_52 ?_
        exact hok (tkN T N p, tkX T N p) h1 (by rw [if_neg c1, if_neg (Int32.not_lt.mpr c2)]) (.R1 on1 rf1) rt1
      · refine rw_aload f_X10_number_29 rfl ?_
        refine rw_getR f_X10_number_30 (by assumption) (by first | assumption | rfl) ?_
        refine rw_const f_X10_number_33 ?_
        refine rw_aload f_X10_number_34 rfl ?_
        refine rw_getI f_X10_number_35 (by assumption) ?_
        rw [e4]
        refine rw_callV f_X10_number_38 rfl (by assumption) (by first | assumption | omega) rfl rfl rfl rfl (rn_kr (C_by fK ?_))
        have fK1 : hp_K (hp_sI (hp_sI h F 0 4) F 1 (nI p)) F = (103, 0) := fK
        refine rx_throw f_X10_number_41 rfl (by assumption) ?_
        exact four (by first | exact Or.inl c1 | exact Or.inr (Int32.not_le.mp c2) | exact Or.inr c2)
  · rw [if_pos hD] at hok herr
    refine rw_aload f_X10_number_0 rfl ?_
    refine rw_getI f_X10_number_1 (by assumption) ?_
    rw [e6]
    refine rw_const f_X10_number_4 ?_
    refine rw_icmpF f_X10_number_5 (decide_eq_false hD) ?_
    refine rw_aload f_X10_number_8 rfl ?_
    refine rw_callV f_X10_number_9 rfl (by assumption) (by first | assumption | omega) rfl rfl rfl rfl (rn_kr (C_wrong hP hT (fun h1 st1 fK1 fl1 => ?_)))
    refine rx_throw f_X10_number_12 rfl (by assumption) ?_
    exact herr _ h1 rfl st1 fl1
theorem C_after (hP : PW h R F r tp N T) {p : Nat} (hT : RT h R N T p) {i : Nat} (hi : i < 22) {lo hh : Int32} {k : Int32 → am_H → Prop} {xk : Nat → am_H → Prop} (hok : ∀ v h', pAfter T N i lo hh p = .inl v → RSt R F h h' → RT h' R N T v.2 → k v.1 h') (herr : ∀ e h', pAfter T N i lo hh p = .inr e → RSt R F h h' → Flt h' F e → xk F h') : Rn (d + 5) n_X10_after 0 [am_r R, am_r (hp_R h 0 (10 + i)), am_i lo, am_i hh] [] h (kX (kI k) xk) := by
  have rK := hP.1.1
  have rz := hP.1.2.1
  unfold pAfter at hok herr
  refine rw_aload f_X10_after_0 rfl ?_
  refine rw_aload f_X10_after_1 rfl ?_
  refine rw_aload f_X10_after_2 rfl ?_
  refine rw_callV f_X10_after_3 rfl (by assumption) (by first | assumption | omega) rfl rfl rfl rfl (rn_ki (C_isWord hP.2.2.2.2.2.1 hP.1 hT (by omega) ?_))
  refine rw_callV f_X10_after_6 rfl (by assumption) (by first | assumption | omega) rfl rfl rfl rfl (rn_kx rfl rn_hv (C_must hP hT (fun q h1 e1 s1 t1 => ?_) (fun e h1 e1 s1 f1 => herr e h1 (by rw [e1]; rfl) s1 f1)))
  have rK1 := (s1.pw hP).1.1
  refine rw_aload f_X10_after_9 rfl ?_
  refine rw_iload f_X10_after_10 rfl ?_
  refine rw_iload f_X10_after_11 rfl ?_
  refine rw_callV f_X10_after_12 rfl (by assumption) (by first | assumption | omega) rfl rfl rfl rfl (rn_kx rfl rn_hi (C_number (s1.pw hP) t1 (fun v h2 e2 s2 t2 => ?_) (fun e h2 e2 s2 f2 => herr e h2 (by rw [e1]; exact e2) (s1.tr s2) f2)))
  refine rx_iret f_X10_after_15 ?_
  exact hok v h2 (by rw [e1]; exact e2) (s1.tr s2) t2
theorem tk3_lt {p : Nat} (e : tkD T N p = 3) : p < N := by
  apply Classical.byContradiction
  intro c
  unfold tkD at e
  rw [if_pos (by omega)] at e
  exact absurd e (by decide)
theorem C_isSH (hP : PW h R F r tp N T) {p : Nat} (hT : RT h R N T p) {c : Int32} {k : Int32 → am_H → Prop} (hk : k (bI (isSH T N p c)) h) : Rn (d + 1) n_X10_isSignHere 0 [am_r R, am_i c] [] h (kI k) := by
  have rK := hP.1.1
  have rz := hP.1.2.1
  have e6 := hT.2.2.2.1
  have e4 := hT.2.1
  have hN := hP.1.2.2.2.2.2.1
  have hp := hT.1
  unfold isSH at hk
  by_cases hD : tkD T N p = 3
  · have lt := tk3_lt hD
    refine rw_aload f_X10_isSignHere_0 rfl ?_
    refine rw_getI f_X10_isSignHere_1 (by assumption) ?_
    rw [e6, hD]
    refine rw_const f_X10_isSignHere_4 ?_
    refine rw_icmpF f_X10_isSignHere_5 (by decide) ?_
    refine rw_aload f_X10_isSignHere_8 rfl ?_
    refine rw_aload f_X10_isSignHere_9 rfl ?_
    refine rw_getI f_X10_isSignHere_10 (by assumption) ?_
    rw [e4]
    refine rw_callV f_X10_isSignHere_13 rfl (by assumption) (by first | assumption | omega) rfl rfl rfl rfl (rn_ki (C_sign hP.1 (by omega) ?_))
    rw [show sg0 T N p = T p from if_pos lt]
    refine rw_iload f_X10_isSignHere_16 rfl ?_
    refine rw_ne f_X10_isSignHere_17 (fun c1 => ?_) (fun c1 => ?_)
    · refine rw_const f_X10_isSignHere_24 ?_
      refine rw_zret f_X10_isSignHere_25 (by first | exact Or.inl rfl | exact Or.inr rfl | exact bI_01 _ | assumption) ?_
      simpa [bI, hD, c1] using hk
    · refine rw_const f_X10_isSignHere_20 ?_
      refine rw_goto f_X10_isSignHere_21 ?_
      refine rw_zret f_X10_isSignHere_25 (by first | exact Or.inl rfl | exact Or.inr rfl | exact bI_01 _ | assumption) ?_
      simpa [bI, hD, c1] using hk
  · refine rw_aload f_X10_isSignHere_0 rfl ?_
    refine rw_getI f_X10_isSignHere_1 (by assumption) ?_
    rw [e6]
    refine rw_const f_X10_isSignHere_4 ?_
    refine rw_icmpT f_X10_isSignHere_5 (decide_eq_true hD) ?_
    refine rw_const f_X10_isSignHere_24 ?_
    refine rw_zret f_X10_isSignHere_25 (by first | exact Or.inl rfl | exact Or.inr rfl | exact bI_01 _ | assumption) ?_
    simpa [bI, hD] using hk
theorem C_hasW (hP : PW h R F r tp N T) {p : Nat} (hT : RT h R N T p) {i : Nat} (hi : i < 22) {k : Int32 → am_H → Prop} (hk : ∀ h', RSt R F h h' → RT h' R N T (if isV T N p i = true then tkX T N p else p) → k (bI (isV T N p i)) h') : Rn (d + 5) n_X10_has 0 [am_r R, am_r (hp_R h 0 (10 + i)), am_u] [] h (kI k) := by
  have rK := hP.1.1
  have rz := hP.1.2.1
  cases hV : isW T N p (wc i) with
  | true =>
    refine rw_aload f_X10_has_0 rfl ?_
    refine rw_aload f_X10_has_1 rfl ?_
    refine rw_callV f_X10_has_2 rfl (by assumption) (by first | assumption | omega) rfl rfl rfl rfl (rn_ki (C_isWord hP.2.2.2.2.2.1 hP.1 hT (by omega) ?_))
    rw [hV]
    refine rw_istore f_X10_has_5 rfl rfl ?_
    refine rw_iload f_X10_has_6 rfl ?_
    refine rw_ifF f_X10_has_7 (by decide) ?_
    refine rw_aload f_X10_has_10 rfl ?_
    refine rw_callV f_X10_has_11 rfl (by assumption) (by first | assumption | omega) rfl rfl rfl rfl (rn_kv (C_next hP.1 (tkE_ge hT.1).2 hT.2.2.1 (fun h1 on1 rf1 rt1 => ?_)))
    refine rw_iload f_X10_has_14 rfl ?_
    refine rw_zret f_X10_has_15 (by first | exact Or.inl rfl | exact Or.inr rfl | exact bI_01 _ | assumption) ?_
    refine Eq.mp ?_ (hk h1 (.R1 on1 rf1) (by rw [if_pos hV]; exact rt1))
    rw [show isV T N p i = _ from hV]
  | false =>
    refine rw_aload f_X10_has_0 rfl ?_
    refine rw_aload f_X10_has_1 rfl ?_
    refine rw_callV f_X10_has_2 rfl (by assumption) (by first | assumption | omega) rfl rfl rfl rfl (rn_ki (C_isWord hP.2.2.2.2.2.1 hP.1 hT (by omega) ?_))
    rw [hV]
    refine rw_istore f_X10_has_5 rfl rfl ?_
    refine rw_iload f_X10_has_6 rfl ?_
    refine rw_ifT f_X10_has_7 (by decide) ?_
    refine rw_iload f_X10_has_14 rfl ?_
    refine rw_zret f_X10_has_15 (by first | exact Or.inl rfl | exact Or.inr rfl | exact bI_01 _ | assumption) ?_
    refine Eq.mp ?_ (hk h .refl (by rw [if_neg (show ¬ isW T N p (wc i) = true by rw [hV]; simp)]; exact hT))
    rw [show isV T N p i = _ from hV]
def oI : Option Nat → Int32
  | none => -1
  | some i => nI i
theorem C_which (hP : PW h R F r tp N T) {p : Nat} (hT : RT h R N T p) {A n : Nat} {ix : Nat → Nat} (hA : hp_K h A = (17, n)) (hn : n ≤ 22) (hix : ∀ j, j < n → ix j < 22 ∧ hp_R h A j = hp_R h 0 (10 + ix j)) {k : Int32 → am_H → Prop} (hk : k (oI (fst1 (fun j => isV T N p (ix j)) n)) h) : Rn (d + 5) n_X10_which 0 [am_r R, am_r A, am_u] [] h (kI k) := by
  have rK := hP.1.1
  have rz := hP.1.2.1
  have step : ∀ b, b < n → isV T N p (ix b) = false → Rn (d + 5) n_X10_which 2 [am_r R, am_r A, am_i (nI (b + 1))] [] h (kI k) → Rn (d + 5) n_X10_which 2 [am_r R, am_r A, am_i (nI b)] [] h (kI k) := by
    intro b hb e ih
    obtain ⟨i1, i2⟩ := hix b hb
    refine rw_iload f_X10_which_2 rfl ?_
    refine rw_aload f_X10_which_3 rfl ?_
    refine rw_alen f_X10_which_4 (by assumption) ?_
    refine rw_icmpF f_X10_which_5 (decide_eq_false (nI_ge hb (by omega))) ?_
    refine rw_aload f_X10_which_8 rfl ?_
    refine rw_aload f_X10_which_9 rfl ?_
    refine rw_iload f_X10_which_10 rfl ?_
    refine rw_aaldE (j := b) f_X10_which_11 (by assumption) (by first | rfl | exact nI_addl _ _ | (simp only [nI, Int32.ofNat_add, Int32.ofNat_mul]; rfl) | (simp only [nI_addl, nI_mull, nI_lit, nI_1']; done) | (simp only [nI_1, nI_0, nI_addl, nI_mull, ← nI_succ]; rfl)) (by omega) (by omega) (by first | assumption | rfl) ?_
    refine rw_callV f_X10_which_12 rfl (by assumption) (by first | assumption | omega) rfl rfl rfl rfl (rn_ki (C_isWord hP.2.2.2.2.2.1 hP.1 hT (by omega) ?_))
    rw [show isW T N p (wc (ix b)) = false from e]
    refine rw_ifT f_X10_which_15 (by decide) ?_
    refine rw_iinc f_X10_which_20 rfl rfl ?_
    refine rw_goto f_X10_which_23 ?_
    rw [nI_1']
    exact ih
  refine rw_const f_X10_which_0 ?_
  refine rw_istore f_X10_which_1 rfl rfl ?_
  skip
  cases e : fst1 (fun j => isV T N p (ix j)) n with
  | none =>
    have q := fst1_none.mp e
    rw [e] at hk
    refine rn_for (N := n) (fun b => [am_r R, am_r A, am_i (nI b)]) (fun _ => h) (fun b hb ih => step b hb (q b hb) ih) ?_
    refine rw_iload f_X10_which_2 rfl ?_
    refine rw_aload f_X10_which_3 rfl ?_
    refine rw_alen f_X10_which_4 (by assumption) ?_
    refine rw_icmpT f_X10_which_5 (decide_eq_true (Int32.le_refl _)) ?_
    refine rw_const f_X10_which_26 ?_
    refine rw_iret f_X10_which_27 ?_
    exact hk
  | some i =>
    obtain ⟨q1, q2, q3⟩ := fst1_some e
    rw [e] at hk
    obtain ⟨i1, i2⟩ := hix i q1
    refine rn_for (N := i) (fun b => [am_r R, am_r A, am_i (nI b)]) (fun _ => h) (fun b hb ih => step b (by omega) (q3 b hb) ih) ?_
    refine rw_iload f_X10_which_2 rfl ?_
    refine rw_aload f_X10_which_3 rfl ?_
    refine rw_alen f_X10_which_4 (by assumption) ?_
    refine rw_icmpF f_X10_which_5 (decide_eq_false (nI_ge q1 (by omega))) ?_
    refine rw_aload f_X10_which_8 rfl ?_
    refine rw_aload f_X10_which_9 rfl ?_
    refine rw_iload f_X10_which_10 rfl ?_
    refine rw_aaldE (j := i) f_X10_which_11 (by assumption) (by first | rfl | exact nI_addl _ _ | (simp only [nI, Int32.ofNat_add, Int32.ofNat_mul]; rfl) | (simp only [nI_addl, nI_mull, nI_lit, nI_1']; done) | (simp only [nI_1, nI_0, nI_addl, nI_mull, ← nI_succ]; rfl)) (by omega) (by omega) (by first | assumption | rfl) ?_
    refine rw_callV f_X10_which_12 rfl (by assumption) (by first | assumption | omega) rfl rfl rfl rfl (rn_ki (C_isWord hP.2.2.2.2.2.1 hP.1 hT (by omega) ?_))
    rw [show isW T N p (wc (ix i)) = true from q2]
    refine rw_ifF f_X10_which_15 (by decide) ?_
    refine rw_iload f_X10_which_18 rfl ?_
    refine rw_iret f_X10_which_19 ?_
    exact hk
theorem st_kw_lt : ∀ j, j < 22 → st_kw.getD j 0 < 22 := by decide
theorem st_nd_lt : ∀ j, j < 4 → st_nd.getD j 0 < 22 := by decide
theorem oI_neg {o : Option Nat} {n : Nat} (ho : ∀ i, o = some i → i < n) (hn : n < 100) : (oI o < 0) ↔ o = none := by
  cases o with
  | none => simp [oI]
  | some i =>
    have := ho i rfl
    have : ¬ nI i < 0 := Int32.not_lt.mpr (by have := nI_le (a := 0) (b := i) (by omega) (by omega); rw [nI_0] at this; exact this)
    simp [oI, this]
theorem C_isName (hP : PW h R F r tp N T) {p : Nat} (hT : RT h R N T p) {k : Int32 → am_H → Prop} (hk : k (bI (isNm T N p)) h) : Rn (d + 6) n_X10_isName 0 [am_r R] [] h (kI k) := by
  have rK := hP.1.1
  have rz := hP.1.2.1
  have e6 := hT.2.2.2.1
  have sw := hP.2.2.2.2.2.1.2.1
  unfold isNm at hk
  by_cases hD : tkD T N p = 1
  · have key : (oI (fst1 (fun j => isV T N p (st_kw.getD j 0)) 22) < 0) ↔ isKept (tkW T N p) = false := by
      rw [oI_neg (n := 22) (fun i e => (fst1_some e).1) (by omega), fst1_none]
      unfold isKept
      rw [← Bool.not_eq_true, anyB_iff]
      constructor
      · rintro q ⟨b, hb, e⟩
        have := q b hb
        unfold isV isW at this
        rw [decide_eq_true hD, e] at this
        cases this
      · intro q b hb
        unfold isV isW
        rw [decide_eq_true hD, Bool.true_and]
        exact Bool.eq_false_iff.mpr (fun e => q ⟨b, hb, e⟩)
    refine rw_aload f_X10_isName_0 rfl ?_
    refine rw_getI f_X10_isName_1 (by assumption) ?_
    rw [e6, hD]
    refine rw_const f_X10_isName_4 ?_
    refine rw_icmpF f_X10_isName_5 (by decide) ?_
    refine rw_aload f_X10_isName_8 rfl ?_
    refine rw_glob f_X10_isName_9 ?_
    refine rw_callV f_X10_isName_12 rfl (by assumption) (by first | assumption | omega) rfl rfl rfl rfl (rn_ki (C_which hP hT sw.1 (by omega) (fun j hj => ⟨st_kw_lt j hj, sw.2 j hj⟩) ?_))
    refine rw_ge0 f_X10_isName_15 (fun c1 => ?_) (fun c1 => ?_)
    · refine rw_const f_X10_isName_22 ?_
      refine rw_zret f_X10_isName_23 (by first | exact Or.inl rfl | exact Or.inr rfl | exact bI_01 _ | assumption) ?_
      first | (have z := key.mp (Int32.not_le.mp c1); simpa [bI, hD, z] using hk) | (have z : ¬ isKept (tkW T N p) = false := fun w => absurd (key.mpr w) (Int32.not_lt.mpr c1); simp only [Bool.not_eq_false] at z; simpa [bI, hD, z] using hk)
    · refine rw_const f_X10_isName_18 ?_
      refine rw_goto f_X10_isName_19 ?_
      refine rw_zret f_X10_isName_23 (by first | exact Or.inl rfl | exact Or.inr rfl | exact bI_01 _ | assumption) ?_
      first | (have z := key.mp (Int32.not_le.mp c1); simpa [bI, hD, z] using hk) | (have z : ¬ isKept (tkW T N p) = false := fun w => absurd (key.mpr w) (Int32.not_lt.mpr c1); simp only [Bool.not_eq_false] at z; simpa [bI, hD, z] using hk)
  · refine rw_aload f_X10_isName_0 rfl ?_
    refine rw_getI f_X10_isName_1 (by assumption) ?_
    rw [e6]
    refine rw_const f_X10_isName_4 ?_
    refine rw_icmpT f_X10_isName_5 (decide_eq_true hD) ?_
    refine rw_const f_X10_isName_22 ?_
    refine rw_zret f_X10_isName_23 (by first | exact Or.inl rfl | exact Or.inr rfl | exact bI_01 _ | assumption) ?_
    simpa [bI, hD] using hk
end CRead
