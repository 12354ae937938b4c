/-! THE MODEL: units, the whole formula -/
section MUnit
variable {d : Nat} {h h' : am_H} {m : Nat} {V W : am_M} {T : tx} {N : Nat}
/-- the state while a formula is read -/
def MS (h : am_H) (m : Nat) (W : am_M) (T : tx) (N : Nat) (k : List Int32) (c : am_S) (p u : Nat) : Prop := OK h m W T N p ∧ CP W k c ∧ W 0 20 = nI u ∧ W 0 22 = nI u
def Jt (k : List Int32) (c : am_S) (u : Nat) : Prop := c.length + k.length ≤ 10 * u + dpt k ∧ k.length ≤ u + dpt k ∧ dpt k ≤ 7 ∧ u ≤ 30
def Jf (k : List Int32) (c : am_S) (u : Nat) : Prop := c.length + k.length + 2 ≤ 10 * u ∧ k.length + 1 ≤ u + dpt k ∧ dpt k ≤ 7 ∧ u ≤ 30
def wsc (a j : Nat) : Prop := a = 3 ∨ a = 4 ∨ a = 7 ∨ (a = 0 ∧ ((4 ≤ j ∧ j ≤ 8) ∨ j = 17 ∨ j = 19 ∨ j = 20 ∨ j = 22 ∨ j = 23))
def Wf (V W : am_M) : Prop := ∀ a j, ¬ wsc a j → W a j = V a j
theorem Wf.refl : Wf V V := fun _ _ _ => rfl
theorem Wf.tr {V1 V2 : am_M} (p : Wf V V1) (q : Wf V1 V2) : Wf V V2 := fun a j e => (q a j e).trans (p a j e)
theorem Wf.up {a k : Nat} {v : Int32} (p : Wf V W) (e : wsc a k) : Wf V (am_up W a k v) := fun b j r => by
  rw [up_ne (fun z => r (by rw [z.1, z.2]; exact e))]
  exact p b j r
/-- the same, and a fault may be told -/
def We (V W : am_M) : Prop := ∀ a j, ¬ (wsc a j ∨ (a = 0 ∧ (j = 2 ∨ j = 3))) → W a j = V a j
theorem We.tr {V1 V2 : am_M} (p : We V V1) (q : We V1 V2) : We V V2 := fun a j e => (q a j e).trans (p a j e)
theorem We.up {a k : Nat} {v : Int32} (p : We V W) (e : wsc a k) : We V (am_up W a k v) := fun b j r => by
  rw [up_ne (fun z => r (Or.inl (by rw [z.1, z.2]; exact e)))]
  exact p b j r
theorem Wf.we (q : Wf V W) : We V W := fun a j e => q a j (fun z => e (Or.inl z))
theorem Fk.we (q : Fk V W) : We V W := fun a j e => q a j (fun z => e (by unfold fks tks at z; unfold wsc; omega))
theorem Tk.wf (q : Tk V W) : Wf V W := fun a j e => q a j (fun z => e (by unfold tks at z; unfold wsc; omega))
theorem Cf.wf (q : Cf V W) : Wf V W := fun a j e => q a j (fun z => e (by unfold wsc; omega))
theorem opV_wf {n dp : Nat} {s : Int32} : Wf W (opV W n dp s) := ((Wf.refl.up (by unfold wsc; omega)).up (by unfold wsc; omega)).up (by unfold wsc; omega)
theorem Tk.cp {k : List Int32} {c : am_S} (q : Tk V W) (cp : CP V k c) : CP W k c := cp.fr (fun a j z => q a j (by unfold tks; omega))
theorem CP_op {k : List Int32} {c : am_S} {s : Int32} (cp : CP V k c) (hs : s = 20 ∨ s = 21) : CP (opV V k.length (dpt k) s) (s :: k) c := by
  obtain ⟨q1, q2, q3, q4, q5⟩ := cp
  have e : ∀ a j, ¬ (a = 7 ∧ j = k.length) → ¬ (a = 0 ∧ (j = 19 ∨ j = 23)) → opV V k.length (dpt k) s a j = V a j := fun a j z z2 => by
    unfold opV
    rw [up_ne (by omega), up_ne (by omega), up_ne (by omega)]
  refine ⟨?_, ?_, ?_, ⟨?_, ?_⟩, fun i x hx => ?_⟩
  · rw [e _ _ (by omega) (by omega)]; exact q1
  · unfold opV; rw [up_ne (by omega)]; exact up_same
  · rw [dpt_c, if_pos hs, Nat.add_comm]; exact up_same
  · unfold opV; rw [up_ne (by omega), up_ne (by omega)]; exact up_same
  · exact KS_fr (fun j hj => e _ _ (by omega) (by omega)) q4
  · rw [e _ _ (by omega) (by omega), e _ _ (by omega) (by omega)]; exact q5 i x hx
theorem opV_o {n dp a j : Nat} {s : Int32} (z : ¬ (a = 7 ∧ j = n)) (z2 : ¬ (a = 0 ∧ (j = 19 ∨ j = 23))) : opV V n dp s a j = V a j := by
  unfold opV
  rw [up_ne (by omega), up_ne (by omega), up_ne (by omega)]
theorem askN_lt {p : Nat} : askN T N p < 0 ↔ pNamed T N p = none := by
  unfold askN
  cases e : pNamed T N p with
  | none => exact ⟨fun _ => rfl, fun _ => by decide⟩
  | some w =>
    have := (fst1_some e).1
    exact ⟨fun z => absurd z (Int32.not_lt.mpr (nI_nn (by omega))), fun z => by cases z⟩
theorem m_unit {kk : am_H → Prop} : ∀ (n : Nat) (k : List Int32) (c : am_S) (p u : Nat) (h : am_H) (W : am_M), MW h m → MS h m W T N k c p u → Jt k c u → N + 2 ≤ n + p → (∀ h' X n' k' c' p' u', mRun T N n true k c p u = mRun T N n' false k' c' p' u' → Lw m h h' → Wf W X → MS h' m X T N k' c' p' u' → Jf k' c' u' → N + 2 ≤ n' + p' → n' < n → kk (mh h' m X)) → (∀ h' X e, mRun T N n true k c p u = .inr e → Lw m h h' → We W X → ER X e → kk (mh h' m X)) → Rn (d + 3) n_X9_unit 2 [am_r m, am_i 1, am_u] [] (mh h m W) (kV kk) := by
  intro n
  induction n with
  | zero =>
    intro k c p u h W hW ms jt hf
    have := ms.1.le
    omega
  | succ n ih =>
  intro k c p u h W hW ms jt hf h1 h2
  rw [mRun_t] at h1 h2
  have ms0 := ms
  obtain ⟨ok, cp, u1, u2⟩ := ms
  obtain ⟨j1, j2, j3, j4⟩ := jt
  have kl : k.length < 160 := by omega
  have ends : ∀ h' X e, MW h' m → ER X e → kk (mh h' m X) → Rn (d + 3) n_X9_unit 2 [am_r m, am_i 1, am_u] [] (mh h' m X) (kV kk) := by
    intro h' X e hW er hk
    refine rw_iload f_X9_unit_2 rfl ?_
    refine rw_ifF f_X9_unit_3 (by decide) ?_
    refine rw_aload f_X9_unit_6 rfl ?_
    refine rm_getI f_X9_unit_7 hW ?_
    refine rw_ifT f_X9_unit_10 (decide_eq_true er.ne) ?_
    refine rw_aload f_X9_unit_101 rfl ?_
    refine rm_getI f_X9_unit_102 hW ?_
    refine rw_ifF f_X9_unit_105 (decide_eq_false er.nle) ?_
    refine rw_vret f_X9_unit_108 ?_
    exact hk
  have d6 : nI (dpt k) ≤ 6 ↔ dpt k ≤ 6 := nI_leI (b := 6) (by omega) (by omega)
  have dp := cp.2.2.1
  have ol := cp.2.1
  by_cases cA : isV T N p wNOT = true ∧ mayN k = true
  · rw [if_pos cA] at h1 h2
    obtain ⟨cA1, cA2⟩ := cA
    have nb : ¬ tkD T N p = 4 := fun z => by have := isV_1 cA1; rw [z] at this; exact absurd this (by decide)
    have pr := tkD_N (isV_0 cA1)
    unfold isV at cA1
    rw [wc_15] at cA1
    by_cases c6 : 6 < dpt k
    · rw [if_pos c6] at h2
      refine rw_iload f_X9_unit_2 rfl ?_
      refine rw_ifF f_X9_unit_3 (by decide) ?_
      refine rw_aload f_X9_unit_6 rfl ?_
      refine rm_getI f_X9_unit_7 hW ?_
      rw [ok.f]
      refine rw_ifF f_X9_unit_10 (by decide) ?_
      refine rw_aload f_X9_unit_13 rfl ?_
      refine rw_const f_X9_unit_14 ?_
      refine rw_callV f_X9_unit_17 rfl hW.1 hW.2.1 rfl rfl rfl rfl (rn_ki (m_isWord hW ok ?_))
      rw [cA1]
      refine rw_ifF f_X9_unit_20 (by decide) ?_
      refine rw_aload f_X9_unit_23 rfl ?_
      refine rw_callV f_X9_unit_24 rfl hW.1 hW.2.1 rfl rfl rfl rfl (rn_ki (m_mayNot hW cp kl ?_))
      rw [cA2]
      refine rw_ifF f_X9_unit_27 (by decide) ?_
      refine rw_aload f_X9_unit_30 rfl ?_
      refine rm_getI f_X9_unit_31 hW ?_
      rw [dp]
      refine rw_const f_X9_unit_34 ?_
      refine rw_icmpF f_X9_unit_36 (decide_eq_false (fun z => by have := d6.mp z; omega)) ?_
      refine rw_aload f_X9_unit_39 rfl ?_
      refine rw_const f_X9_unit_40 ?_
      refine rw_callV f_X9_unit_41 rfl hW.1 hW.2.1 rfl rfl rfl rfl (rn_kv (m_wrong2 hW ok (fun X fk er => ?_)))
      refine rw_aload f_X9_unit_44 rfl ?_
      refine rw_const f_X9_unit_45 ?_
      refine rw_callV f_X9_unit_47 rfl hW.1 hW.2.1 rfl rfl rfl rfl (rn_kv (m_openUpE hW er (n := k.length) (dp := dpt k) ((fk _ _ (by unfold fks tks; omega)).trans ol) ((fk _ _ (by unfold fks tks; omega)).trans dp) kl (fun er2 => ?_)))
      refine rw_goto f_X9_unit_50 ?_
      exact ends h _ _ hW er2 (h2 h _ _ rfl .refl (fk.we.tr opV_wf.we) er2)
    · rw [if_neg c6] at h1 h2
      refine rw_iload f_X9_unit_2 rfl ?_
      refine rw_ifF f_X9_unit_3 (by decide) ?_
      refine rw_aload f_X9_unit_6 rfl ?_
      refine rm_getI f_X9_unit_7 hW ?_
      rw [ok.f]
      refine rw_ifF f_X9_unit_10 (by decide) ?_
      refine rw_aload f_X9_unit_13 rfl ?_
      refine rw_const f_X9_unit_14 ?_
      refine rw_callV f_X9_unit_17 rfl hW.1 hW.2.1 rfl rfl rfl rfl (rn_ki (m_isWord hW ok ?_))
      rw [cA1]
      refine rw_ifF f_X9_unit_20 (by decide) ?_
      refine rw_aload f_X9_unit_23 rfl ?_
      refine rw_callV f_X9_unit_24 rfl hW.1 hW.2.1 rfl rfl rfl rfl (rn_ki (m_mayNot hW cp kl ?_))
      rw [cA2]
      refine rw_ifF f_X9_unit_27 (by decide) ?_
      refine rw_aload f_X9_unit_30 rfl ?_
      refine rm_getI f_X9_unit_31 hW ?_
      rw [dp]
      refine rw_const f_X9_unit_34 ?_
      refine rw_icmpT f_X9_unit_36 (decide_eq_true (d6.mpr (by omega))) ?_
      refine rw_aload f_X9_unit_44 rfl ?_
      refine rw_const f_X9_unit_45 ?_
      refine rw_callV f_X9_unit_47 rfl hW.1 hW.2.1 rfl rfl rfl rfl (rn_kv (m_openUp hW ok nb (n := k.length) (dp := dpt k) ol dp kl (fun h3 X lw tk ok3 => ?_)))
      refine rw_goto f_X9_unit_50 ?_
      skip
      have e21 : dpt (21 :: k) = dpt k + 1 := by rw [dpt_c, if_pos (Or.inr rfl), Nat.add_comm]
      refine ih (21 :: k) c (tkX T N p) u h3 X (lw.mw hW) ⟨ok3, tk.cp (CP_op cp (Or.inr rfl)), ?_, ?_⟩ ⟨by rw [List.length_cons, e21]; omega, by rw [List.length_cons, e21]; omega, by rw [e21]; omega, j4⟩ (by omega) (fun h4 Y n' k' c' p' u' e l4 w4 s4 f4 g4 i4 => h1 h4 Y n' k' c' p' u' e (lw.tr l4) ((opV_wf.tr tk.wf).tr w4) s4 f4 g4 (by omega)) (fun h4 Y e e1 l4 w4 r4 => h2 h4 Y e e1 (lw.tr l4) ((opV_wf.tr tk.wf).we.tr w4) r4)
      · rw [tk _ _ (by unfold tks; omega), opV_o (by omega) (by omega)]; exact u1
      · rw [tk _ _ (by unfold tks; omega), opV_o (by omega) (by omega)]; exact u2
  rw [if_neg cA] at h1 h2
  have to53 : Rn (d + 3) n_X9_unit 53 [am_r m, am_i 1, am_u] [] (mh h m W) (kV kk) → Rn (d + 3) n_X9_unit 2 [am_r m, am_i 1, am_u] [] (mh h m W) (kV kk) := by
    intro go
    unfold isV at cA
    rw [wc_15] at cA
    cases cA1 : isW T N p 7237492 with
    | true =>
      have cA2 : mayN k = false := by
        cases e : mayN k with
        | false => rfl
        | true => exact absurd ⟨cA1, e⟩ cA
      refine rw_iload f_X9_unit_2 rfl ?_
      refine rw_ifF f_X9_unit_3 (by decide) ?_
      refine rw_aload f_X9_unit_6 rfl ?_
      refine rm_getI f_X9_unit_7 hW ?_
      rw [ok.f]
      refine rw_ifF f_X9_unit_10 (by decide) ?_
      refine rw_aload f_X9_unit_13 rfl ?_
      refine rw_const f_X9_unit_14 ?_
      refine rw_callV f_X9_unit_17 rfl hW.1 hW.2.1 rfl rfl rfl rfl (rn_ki (m_isWord hW ok ?_))
      rw [cA1]
      refine rw_ifF f_X9_unit_20 (by decide) ?_
      refine rw_aload f_X9_unit_23 rfl ?_
      refine rw_callV f_X9_unit_24 rfl hW.1 hW.2.1 rfl rfl rfl rfl (rn_ki (m_mayNot hW cp kl ?_))
      rw [cA2]
      refine rw_ifT f_X9_unit_27 (by decide) ?_
      exact go
    | false =>
      refine rw_iload f_X9_unit_2 rfl ?_
      refine rw_ifF f_X9_unit_3 (by decide) ?_
      refine rw_aload f_X9_unit_6 rfl ?_
      refine rm_getI f_X9_unit_7 hW ?_
      rw [ok.f]
      refine rw_ifF f_X9_unit_10 (by decide) ?_
      refine rw_aload f_X9_unit_13 rfl ?_
      refine rw_const f_X9_unit_14 ?_
      refine rw_callV f_X9_unit_17 rfl hW.1 hW.2.1 rfl rfl rfl rfl (rn_ki (m_isWord hW ok ?_))
      rw [cA1]
      refine rw_ifT f_X9_unit_20 (by decide) ?_
      exact go
  refine to53 ?_
  clear to53
  have s40 := srt_sg (T := T) (N := N) (p := p) (c := 40) (by decide)
  by_cases cB : isSH T N p 40 = true
  · rw [if_pos cB] at h1 h2
    have nb : ¬ tkD T N p = 4 := fun z => by have := (isSH_3 cB).1; rw [z] at this; exact absurd this (by decide)
    have pr := tkD_N (T := T) (N := N) (p := p) (fun z => by have := (isSH_3 cB).1; rw [z] at this; exact absurd this (by decide))
    have bad : (u = 30 ∨ 6 < dpt k) → Rn (d + 3) n_X9_unit 78 [am_r m, am_i 1, am_u] [] (mh h m W) (kV kk) := by
      intro cf
      rw [if_pos cf] at h2
      refine rw_aload f_X9_unit_78 rfl ?_
      refine rw_const f_X9_unit_79 ?_
      refine rw_callV f_X9_unit_80 rfl hW.1 hW.2.1 rfl rfl rfl rfl (rn_kv (m_wrong2 hW ok (fun X fk er => ?_)))
      refine rw_aload f_X9_unit_83 rfl ?_
      refine rw_callV f_X9_unit_84 rfl hW.1 hW.2.1 rfl rfl rfl rfl (rn_kv (m_countUnit hW (u := u) ((fk _ _ (by unfold fks tks; omega)).trans u1) ((fk _ _ (by unfold fks tks; omega)).trans u2) ?_))
      skip
      have er2 : ER (am_up (am_up X 0 20 (nI (u + 1))) 0 22 (nI (u + 1))) (err1 T N p) := (er.up (by omega)).up (by omega)
      have x1 : am_up (am_up X 0 20 (nI (u + 1))) 0 22 (nI (u + 1)) 0 19 = nI k.length := by rw [up_ne (by omega), up_ne (by omega), fk _ _ (by unfold fks tks; omega)]; exact ol
      have x2 : am_up (am_up X 0 20 (nI (u + 1))) 0 22 (nI (u + 1)) 0 23 = nI (dpt k) := by rw [up_ne (by omega), up_ne (by omega), fk _ _ (by unfold fks tks; omega)]; exact dp
      have wx : We W (am_up (am_up X 0 20 (nI (u + 1))) 0 22 (nI (u + 1))) := (fk.we.up (by unfold wsc; omega)).up (by unfold wsc; omega)
      refine rw_aload f_X9_unit_87 rfl ?_
      refine rw_const f_X9_unit_88 ?_
      refine rw_callV f_X9_unit_90 rfl hW.1 hW.2.1 rfl rfl rfl rfl (rn_kv (m_openUpE hW er2 (n := k.length) (dp := dpt k) x1 x2 kl (fun er3 => ?_)))
      refine rw_goto f_X9_unit_93 ?_
      exact ends h _ _ hW er3 (h2 h _ _ rfl .refl (wx.tr opV_wf.we) er3)
    by_cases cu : u = 30
    · refine rw_aload f_X9_unit_53 rfl ?_
      refine rm_getI f_X9_unit_54 hW ?_
      rw [ok.s]
      refine rw_const f_X9_unit_57 ?_
      refine rw_icmpF f_X9_unit_59 (decide_eq_false (fun z => z (s40.mpr cB))) ?_
      refine rw_aload f_X9_unit_62 rfl ?_
      refine rw_callV f_X9_unit_63 rfl hW.1 hW.2.1 rfl rfl rfl rfl (rn_ki (m_isFull hW u1 u2 j4 ?_))
      rw [decide_eq_true cu]
      refine rw_ifT f_X9_unit_66 (by decide) ?_
      exact bad (Or.inl cu)
    by_cases c6 : 6 < dpt k
    · refine rw_aload f_X9_unit_53 rfl ?_
      refine rm_getI f_X9_unit_54 hW ?_
      rw [ok.s]
      refine rw_const f_X9_unit_57 ?_
      refine rw_icmpF f_X9_unit_59 (decide_eq_false (fun z => z (s40.mpr cB))) ?_
      refine rw_aload f_X9_unit_62 rfl ?_
      refine rw_callV f_X9_unit_63 rfl hW.1 hW.2.1 rfl rfl rfl rfl (rn_ki (m_isFull hW u1 u2 j4 ?_))
      rw [decide_eq_false cu]
      refine rw_ifF f_X9_unit_66 (by decide) ?_
      refine rw_aload f_X9_unit_69 rfl ?_
      refine rm_getI f_X9_unit_70 hW ?_
      rw [dp]
      refine rw_const f_X9_unit_73 ?_
      refine rw_icmpF f_X9_unit_75 (decide_eq_false (fun z => by have := d6.mp z; omega)) ?_
      exact bad (Or.inr c6)
    rw [if_neg (fun z => z.elim cu c6)] at h1 h2
    clear bad
    have ok2 : OK h m (am_up (am_up W 0 20 (nI (u + 1))) 0 22 (nI (u + 1))) T N p := (ok.up (by unfold fks tks; omega)).up (by unfold fks tks; omega)
    have cp2 : CP (am_up (am_up W 0 20 (nI (u + 1))) 0 22 (nI (u + 1))) k c := cp.fr (fun a j z => by rw [up_ne (by omega), up_ne (by omega)])
    have wx : Wf W (am_up (am_up W 0 20 (nI (u + 1))) 0 22 (nI (u + 1))) := (Wf.refl.up (by unfold wsc; omega)).up (by unfold wsc; omega)
    have v1 : am_up (am_up W 0 20 (nI (u + 1))) 0 22 (nI (u + 1)) 0 20 = nI (u + 1) := by rw [up_ne (by omega)]; exact up_same
    have v2 : am_up (am_up W 0 20 (nI (u + 1))) 0 22 (nI (u + 1)) 0 22 = nI (u + 1) := up_same
    refine rw_aload f_X9_unit_53 rfl ?_
    refine rm_getI f_X9_unit_54 hW ?_
    rw [ok.s]
    refine rw_const f_X9_unit_57 ?_
    refine rw_icmpF f_X9_unit_59 (decide_eq_false (fun z => z (s40.mpr cB))) ?_
    refine rw_aload f_X9_unit_62 rfl ?_
    refine rw_callV f_X9_unit_63 rfl hW.1 hW.2.1 rfl rfl rfl rfl (rn_ki (m_isFull hW u1 u2 j4 ?_))
    rw [decide_eq_false cu]
    refine rw_ifF f_X9_unit_66 (by decide) ?_
    refine rw_aload f_X9_unit_69 rfl ?_
    refine rm_getI f_X9_unit_70 hW ?_
    rw [dp]
    refine rw_const f_X9_unit_73 ?_
    refine rw_icmpT f_X9_unit_75 (decide_eq_true (d6.mpr (by omega))) ?_
    refine rw_aload f_X9_unit_83 rfl ?_
    refine rw_callV f_X9_unit_84 rfl hW.1 hW.2.1 rfl rfl rfl rfl (rn_kv (m_countUnit hW u1 u2 ?_))
    refine rw_aload f_X9_unit_87 rfl ?_
    refine rw_const f_X9_unit_88 ?_
    refine rw_callV f_X9_unit_90 rfl hW.1 hW.2.1 rfl rfl rfl rfl (rn_kv (m_openUp hW ok2 nb (n := k.length) (dp := dpt k) cp2.2.1 cp2.2.2.1 kl (fun h3 X lw tk ok3 => ?_)))
    refine rw_goto f_X9_unit_93 ?_
    skip
    have e20 : dpt (20 :: k) = dpt k + 1 := by rw [dpt_c, if_pos (Or.inl rfl), Nat.add_comm]
    refine ih (20 :: k) c (tkX T N p) (u + 1) h3 X (lw.mw hW) ⟨ok3, tk.cp (CP_op cp2 (Or.inl rfl)), ?_, ?_⟩ ⟨by rw [List.length_cons, e20]; omega, by rw [List.length_cons, e20]; omega, by rw [e20]; omega, by omega⟩ (by omega) (fun h4 Y n' k' c' p' u' e l4 w4 s4 f4 g4 i4 => h1 h4 Y n' k' c' p' u' e (lw.tr l4) (((wx.tr opV_wf).tr tk.wf).tr w4) s4 f4 g4 (by omega)) (fun h4 Y e e1 l4 w4 r4 => h2 h4 Y e e1 (lw.tr l4) (((wx.tr opV_wf).tr tk.wf).we.tr w4) r4)
    · rw [tk _ _ (by unfold tks; omega), opV_o (by omega) (by omega)]; exact v1
    · rw [tk _ _ (by unfold tks; omega), opV_o (by omega) (by omega)]; exact v2
  rw [if_neg cB] at h1 h2
  have e2 := srt_is (T := T) (N := N) (p := p) 2 (by decide)
  have al := askN_lt (T := T) (N := N) (p := p)
  -- no unit there, or too many
  have bad : ((¬ tkD T N p = 2 ∧ pNamed T N p = none) ∨ u = 30) → Rn (d + 3) n_X9_unit 133 [am_r m, am_i 0, am_i (askN T N p)] [] (mh h m W) (kV kk) := by
    intro cf
    rw [if_pos cf] at h2
    refine rw_aload f_X9_unit_133 rfl ?_
    refine rw_const f_X9_unit_134 ?_
    refine rw_callV f_X9_unit_135 rfl hW.1 hW.2.1 rfl rfl rfl rfl (rn_kv (m_wrong2 hW ok (fun X fk er => ?_)))
    refine rw_aload f_X9_unit_138 rfl ?_
    refine rm_getI f_X9_unit_139 hW ?_
    refine rw_ifF f_X9_unit_142 (decide_eq_false er.nle) ?_
    refine rw_vret f_X9_unit_145 ?_
    exact h2 h X _ rfl .refl fk.we er
  have good : ¬ ((¬ tkD T N p = 2 ∧ pNamed T N p = none) ∨ u = 30) → Rn (d + 3) n_X9_unit 138 [am_r m, am_i 0, am_i (askN T N p)] [] (mh h m W) (kV kk) := by
    intro cf
    rw [if_neg cf] at h1
    have t0 : ¬ tkD T N p = 0 ∧ ¬ tkD T N p = 4 := by
      by_cases e : tkD T N p = 2
      · rw [e]; decide
      · cases e3 : pNamed T N p with
        | none => exact absurd (Or.inl ⟨e, e3⟩) cf
        | some w => rw [pNamed_1 e3]; decide
    have pr := tkD_N t0.1
    have un : ¬ u = 30 := fun z => cf (Or.inr z)
    have ok2 : OK h m (am_up (am_up W 0 20 (nI (u + 1))) 0 22 (nI (u + 1))) T N p := (ok.up (by unfold fks tks; omega)).up (by unfold fks tks; omega)
    have cp2 : CP (am_up (am_up W 0 20 (nI (u + 1))) 0 22 (nI (u + 1))) k c := cp.fr (fun a j z => by rw [up_ne (by omega), up_ne (by omega)])
    have wx : Wf W (am_up (am_up W 0 20 (nI (u + 1))) 0 22 (nI (u + 1))) := (Wf.refl.up (by unfold wsc; omega)).up (by unfold wsc; omega)
    have v1 : am_up (am_up W 0 20 (nI (u + 1))) 0 22 (nI (u + 1)) 0 20 = nI (u + 1) := by rw [up_ne (by omega)]; exact up_same
    have v2 : am_up (am_up W 0 20 (nI (u + 1))) 0 22 (nI (u + 1)) 0 22 = nI (u + 1) := up_same
    have at172 : ∀ a b, (a, b) = leafS T N p → Rn (d + 3) n_X9_unit 172 [am_r m, am_i 0, am_i (askN T N p)] [am_i b, am_i a, am_r m] (mh h m (am_up (am_up W 0 20 (nI (u + 1))) 0 22 (nI (u + 1)))) (kV kk) := by
      intro a b hab
      generalize am_up (am_up W 0 20 (nI (u + 1))) 0 22 (nI (u + 1)) = W2 at ok2 cp2 wx v1 v2
      have ok3 : OK h m (am_up (am_up (am_up W2 3 c.length a) 4 c.length b) 0 17 (nI (c.length + 1))) T N p := ((ok2.up (by unfold fks tks; omega)).up (by unfold fks tks; omega)).up (by unfold fks tks; omega)
      have wx3 : Wf W (am_up (am_up (am_up W2 3 c.length a) 4 c.length b) 0 17 (nI (c.length + 1))) := ((wx.up (by unfold wsc; omega)).up (by unfold wsc; omega)).up (by unfold wsc; omega)
      obtain ⟨q1, q2, q3, q4, q5⟩ := cp2
      have cp3 : CP (am_up (am_up (am_up W2 3 c.length a) 4 c.length b) 0 17 (nI (c.length + 1))) k (c ++ [leafS T N p]) := by
        refine ⟨?_, ?_, ?_, ?_, ?_⟩
        · rw [List.length_append]; exact up_same
        · rw [up_ne (by omega), up_ne (by omega), up_ne (by omega)]; exact q2
        · rw [up_ne (by omega), up_ne (by omega), up_ne (by omega)]; exact q3
        · exact KS_fr (fun j _ => by rw [up_ne (by omega), up_ne (by omega), up_ne (by omega)]) q4
        · rw [← hab]
          refine CS_add q5 (fun x j hx hj => ?_) ?_ ?_
          · rw [up_ne (by omega), up_ne (by omega), up_ne (by omega)]
          · rw [up_ne (by omega), up_ne (by omega)]; exact up_same
          · rw [up_ne (by omega)]; exact up_same
      refine rw_callV f_X9_unit_172 rfl hW.1 hW.2.1 rfl rfl rfl rfl (rn_kv (m_add hW q1 (by omega) ?_))
      refine rw_aload f_X9_unit_175 rfl ?_
      refine rw_callV f_X9_unit_176 rfl hW.1 hW.2.1 rfl rfl rfl rfl (rn_kv (m_next hW ok3 t0.2 (fun h4 Y lw tk ok4 => ?_)))
      refine rw_vret f_X9_unit_179 ?_
      refine h1 h4 Y n k (c ++ [leafS T N p]) (tkX T N p) (u + 1) rfl lw (wx3.tr tk.wf) ⟨ok4, tk.cp cp3, ?_, ?_⟩ ⟨by rw [List.length_append, List.length_singleton]; omega, by omega, j3, by omega⟩ (by omega) (by omega)
      · rw [tk _ _ (by unfold tks; omega), up_ne (by omega), up_ne (by omega), up_ne (by omega)]; exact v1
      · rw [tk _ _ (by unfold tks; omega), up_ne (by omega), up_ne (by omega), up_ne (by omega)]; exact v2
    cases e3 : pNamed T N p with
    | none =>
      have en : tkD T N p = 2 := by
        by_cases e : tkD T N p = 2
        · exact e
        · exact absurd (Or.inl ⟨e, e3⟩) cf
      have ea := al.mpr e3
      have num := ok2.2.2.2.2.2.1 en
      refine rw_aload f_X9_unit_138 rfl ?_
      refine rm_getI f_X9_unit_139 hW ?_
      rw [ok.f]
      refine rw_ifT f_X9_unit_142 (by decide) ?_
      refine rw_aload f_X9_unit_146 rfl ?_
      refine rw_callV f_X9_unit_147 rfl hW.1 hW.2.1 rfl rfl rfl rfl (rn_kv (m_countUnit hW u1 u2 ?_))
      refine rw_aload f_X9_unit_150 rfl ?_
      refine rw_iload f_X9_unit_151 rfl ?_
      refine rw_ifF f_X9_unit_152 (decide_eq_false (Int32.not_le.mpr ea)) ?_
      refine rw_const f_X9_unit_155 ?_
      refine rw_goto f_X9_unit_156 ?_
      refine rw_iload f_X9_unit_160 rfl ?_
      refine rw_ifF f_X9_unit_161 (decide_eq_false (Int32.not_le.mpr ea)) ?_
      refine rw_aload f_X9_unit_164 rfl ?_
      refine rm_getI f_X9_unit_165 hW ?_
      rw [num]
      refine rw_goto f_X9_unit_168 ?_
      exact at172 0 _ (by unfold leafS; rw [e3])
    | some w =>
      have ea : 0 ≤ askN T N p := Int32.not_lt.mp (fun z => by rw [al.mp z] at e3; cases e3)
      refine rw_aload f_X9_unit_138 rfl ?_
      refine rm_getI f_X9_unit_139 hW ?_
      rw [ok.f]
      refine rw_ifT f_X9_unit_142 (by decide) ?_
      refine rw_aload f_X9_unit_146 rfl ?_
      refine rw_callV f_X9_unit_147 rfl hW.1 hW.2.1 rfl rfl rfl rfl (rn_kv (m_countUnit hW u1 u2 ?_))
      refine rw_aload f_X9_unit_150 rfl ?_
      refine rw_iload f_X9_unit_151 rfl ?_
      refine rw_ifT f_X9_unit_152 (decide_eq_true ea) ?_
      refine rw_const f_X9_unit_159 ?_
      refine rw_iload f_X9_unit_160 rfl ?_
      refine rw_ifT f_X9_unit_161 (decide_eq_true ea) ?_
      refine rw_iload f_X9_unit_171 rfl ?_
      exact at172 1 _ (by unfold leafS askN; rw [e3])
  have full : Rn (d + 3) n_X9_unit 126 [am_r m, am_i 0, am_i (askN T N p)] [] (mh h m W) (kV kk) ∨ (¬ tkD T N p = 2 ∧ pNamed T N p = none) := by
    by_cases cf : ¬ tkD T N p = 2 ∧ pNamed T N p = none
    · exact Or.inr cf
    · refine Or.inl ?_
      by_cases cu : u = 30
      · refine rw_aload f_X9_unit_126 rfl ?_
        refine rw_callV f_X9_unit_127 rfl hW.1 hW.2.1 rfl rfl rfl rfl (rn_ki (m_isFull hW u1 u2 j4 ?_))
        rw [decide_eq_true cu]
        refine rw_ifF f_X9_unit_130 (by decide) ?_
        exact bad (Or.inr cu)
      · refine rw_aload f_X9_unit_126 rfl ?_
        refine rw_callV f_X9_unit_127 rfl hW.1 hW.2.1 rfl rfl rfl rfl (rn_ki (m_isFull hW u1 u2 j4 ?_))
        rw [decide_eq_false cu]
        refine rw_ifT f_X9_unit_130 (by decide) ?_
        exact good (fun z => z.elim cf cu)
  have n40 : ¬ srt T N p = 40 := fun z => cB (s40.mp z)
  by_cases en : tkD T N p = 2
  · have f := full.resolve_right (fun z => z.1 en)
    refine rw_aload f_X9_unit_53 rfl ?_
    refine rm_getI f_X9_unit_54 hW ?_
    rw [ok.s]
    refine rw_const f_X9_unit_57 ?_
    refine rw_icmpT f_X9_unit_59 (decide_eq_true n40) ?_
    refine rw_const f_X9_unit_96 ?_
    refine rw_istore f_X9_unit_97 rfl rfl ?_
    refine rw_goto f_X9_unit_98 ?_
    refine rw_iload f_X9_unit_2 rfl ?_
    refine rw_ifT f_X9_unit_3 (by decide) ?_
    refine rw_aload f_X9_unit_101 rfl ?_
    refine rm_getI f_X9_unit_102 hW ?_
    rw [ok.f]
    refine rw_ifT f_X9_unit_105 (by decide) ?_
    refine rw_aload f_X9_unit_109 rfl ?_
    refine rw_callV f_X9_unit_110 rfl hW.1 hW.2.1 rfl rfl rfl rfl (rn_ki (m_asked hW ok ?_))
    refine rw_istore f_X9_unit_113 rfl rfl ?_
    refine rw_aload f_X9_unit_114 rfl ?_
    refine rm_getI f_X9_unit_115 hW ?_
    rw [ok.s]
    refine rw_const f_X9_unit_118 ?_
    refine rw_icmpT f_X9_unit_119 (decide_eq_true (e2.mpr en)) ?_
    exact f
  · by_cases e3 : pNamed T N p = none
    · refine rw_aload f_X9_unit_53 rfl ?_
      refine rm_getI f_X9_unit_54 hW ?_
      rw [ok.s]
      refine rw_const f_X9_unit_57 ?_
      refine rw_icmpT f_X9_unit_59 (decide_eq_true n40) ?_
      refine rw_const f_X9_unit_96 ?_
      refine rw_istore f_X9_unit_97 rfl rfl ?_
      refine rw_goto f_X9_unit_98 ?_
      refine rw_iload f_X9_unit_2 rfl ?_
      refine rw_ifT f_X9_unit_3 (by decide) ?_
      refine rw_aload f_X9_unit_101 rfl ?_
      refine rm_getI f_X9_unit_102 hW ?_
      rw [ok.f]
      refine rw_ifT f_X9_unit_105 (by decide) ?_
      refine rw_aload f_X9_unit_109 rfl ?_
      refine rw_callV f_X9_unit_110 rfl hW.1 hW.2.1 rfl rfl rfl rfl (rn_ki (m_asked hW ok ?_))
      refine rw_istore f_X9_unit_113 rfl rfl ?_
      refine rw_aload f_X9_unit_114 rfl ?_
      refine rm_getI f_X9_unit_115 hW ?_
      rw [ok.s]
      refine rw_const f_X9_unit_118 ?_
      refine rw_icmpF f_X9_unit_119 (decide_eq_false (fun z => en (e2.mp z))) ?_
      refine rw_iload f_X9_unit_122 rfl ?_
      refine rw_ifT f_X9_unit_123 (decide_eq_true (al.mpr e3)) ?_
      exact bad (Or.inl ⟨en, e3⟩)
    · have f := full.resolve_right (fun z => e3 z.2)
      refine rw_aload f_X9_unit_53 rfl ?_
      refine rm_getI f_X9_unit_54 hW ?_
      rw [ok.s]
      refine rw_const f_X9_unit_57 ?_
      refine rw_icmpT f_X9_unit_59 (decide_eq_true n40) ?_
      refine rw_const f_X9_unit_96 ?_
      refine rw_istore f_X9_unit_97 rfl rfl ?_
      refine rw_goto f_X9_unit_98 ?_
      refine rw_iload f_X9_unit_2 rfl ?_
      refine rw_ifT f_X9_unit_3 (by decide) ?_
      refine rw_aload f_X9_unit_101 rfl ?_
      refine rm_getI f_X9_unit_102 hW ?_
      rw [ok.f]
      refine rw_ifT f_X9_unit_105 (by decide) ?_
      refine rw_aload f_X9_unit_109 rfl ?_
      refine rw_callV f_X9_unit_110 rfl hW.1 hW.2.1 rfl rfl rfl rfl (rn_ki (m_asked hW ok ?_))
      refine rw_istore f_X9_unit_113 rfl rfl ?_
      refine rw_aload f_X9_unit_114 rfl ?_
      refine rm_getI f_X9_unit_115 hW ?_
      rw [ok.s]
      refine rw_const f_X9_unit_118 ?_
      refine rw_icmpF f_X9_unit_119 (decide_eq_false (fun z => en (e2.mp z))) ?_
      refine rw_iload f_X9_unit_122 rfl ?_
      refine rw_ifF f_X9_unit_123 (decide_eq_false (fun z => e3 (al.mp z))) ?_
      exact f
end MUnit
