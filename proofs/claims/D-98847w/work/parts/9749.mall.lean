/-! THE MODEL: the whole text; the regiment in force -/
section MAll
variable {d : Nat} {h h' : am_H} {m : Nat} {V W : am_M} {T : tx} {N p : Nat} {g : rgT}
theorem m_allLoop {k : am_H → Prop} : ∀ (n : Nat) (g : rgT) (p : Nat) (h : am_H) (V : am_M), MW h m → OK h m V T N p → EN h m V g → gI g → N + 1 ≤ n + p → (∀ h' W g', pAll T N n g p = .inl g' → Lx m h h' → Ps V W → W 0 2 = 0 → EN h' m W g' → gI g' → k (mh h' m W)) → (∀ h' W e, pAll T N n g p = .inr e → Lx m h h' → Ps V W → ER W e → k (mh h' m W)) → Rn (d + 7) n_X9_readAll 98 [am_r m] [] (mh h m V) (kV k) := by
  intro n
  induction n with
  | zero => intro g p h V hW ok; have := ok.le; omega
  | succ n ih =>
  intro g p h V hW ok en gi hf h1 h2
  unfold pAll at h1 h2
  have e0 := srt_is (T := T) (N := N) (p := p) 0 (by decide)
  by_cases c0 : tkD T N p = 0
  · rw [if_pos c0] at h1
    refine rw_aload f_X9_readAll_98 rfl ?_
    refine rm_getI f_X9_readAll_99 hW ?_
    rw [ok.f]
    refine rw_ifF f_X9_readAll_102 (by decide) ?_
    refine rw_aload f_X9_readAll_105 rfl ?_
    refine rm_getI f_X9_readAll_106 hW ?_
    rw [ok.s]
    refine rw_ifT f_X9_readAll_109 (decide_eq_true (e0.mpr c0)) ?_
    refine rw_vret f_X9_readAll_119 ?_
    exact h1 h V g rfl .refl .refl ok.f en gi
  rw [if_neg c0] at h1 h2
  refine rw_aload f_X9_readAll_98 rfl ?_
  refine rm_getI f_X9_readAll_99 hW ?_
  rw [ok.f]
  refine rw_ifF f_X9_readAll_102 (by decide) ?_
  refine rw_aload f_X9_readAll_105 rfl ?_
  refine rm_getI f_X9_readAll_106 hW ?_
  rw [ok.s]
  refine rw_ifF f_X9_readAll_109 (decide_eq_false (fun z => c0 (e0.mp z))) ?_
  refine rw_aload f_X9_readAll_112 rfl ?_
  skip
  refine rw_callV f_X9_readAll_113 rfl hW.1 hW.2.1 rfl rfl rfl rfl (rn_kv (m_readLine hW ok en gi (fun h3 X r q e1 e2 lx ps ok3 en3 => ?_) (fun h3 X e e1 lx ps er => ?_)))
  · rw [e1, bnd_l, e2, bnd_l] at h1 h2
    have gl := pLine_gI gi e1
    have qm := pMust_in (fun z y => by have := (isSH_3 z).1; rw [y] at this; exact absurd this (by decide)) e2
    refine rw_goto f_X9_readAll_116 ?_
    exact ih r.1 q h3 X (lx.mw hW) ok3 en3 gl.1 (by omega) (fun h4 Y g' e l4 p4 f4 n4 i4 => h1 h4 Y g' e (lx.tr l4) (ps.tr p4) f4 n4 i4) (fun h4 Y e' e l4 p4 r4 => h2 h4 Y e' e (lx.tr l4) (ps.tr p4) r4)
  · have hW := lx.mw hW
    have h2' := h2 h3 X e (by
      rcases e1 with e1 | ⟨r, e1, e2⟩
      · rw [e1]; rfl
      · rw [e1, bnd_l, e2]; rfl) lx ps er
    refine rw_goto f_X9_readAll_116 ?_
    refine rw_aload f_X9_readAll_98 rfl ?_
    refine rm_getI f_X9_readAll_99 hW ?_
    refine rw_ifT f_X9_readAll_102 (decide_eq_true er.ne) ?_
    refine rw_vret f_X9_readAll_119 ?_
    exact h2'
/-- what reading a text leaves alone -/
def Pa (V W : am_M) : Prop := W 0 1 = 0 ∧ ∀ a j, ¬ psc a j → ¬ (a = 0 ∧ j = 1) → W a j = V a j
theorem m_readAll {t : Nat} (hW : MW h m) (ht : V 0 1 = nI t) (ht1 : t ≤ 1600) (hp : ∀ j, j < t → 0 ≤ V 1 j) {k : am_H → Prop} (h1 : ∀ h' W g, pText (V 1) t = .inl g → Lx m h h' → Pa V W → W 0 2 = 0 → EN h' m W g → gI g → k (mh h' m W)) (h2 : ∀ h' W e, pText (V 1) t = .inr e → Lx m h h' → Pa V W → ER W e → k (mh h' m W)) : Rn (d + 7) n_X9_readAll 0 [am_r m] [] (mh h m V) (kV k) := by
  unfold pText at h1 h2
  refine rw_aload f_X9_readAll_0 rfl ?_
  refine rw_aload f_X9_readAll_1 rfl ?_
  refine rm_getI f_X9_readAll_2 hW ?_
  rw [ht]
  refine rm_putI f_X9_readAll_5 hW ?_
  refine rw_aload f_X9_readAll_8 rfl ?_
  refine rw_const f_X9_readAll_9 ?_
  refine rm_putI f_X9_readAll_10 hW ?_
  refine rw_aload f_X9_readAll_13 rfl ?_
  refine rw_const f_X9_readAll_14 ?_
  refine rm_putI f_X9_readAll_15 hW ?_
  refine rw_aload f_X9_readAll_18 rfl ?_
  refine rw_const f_X9_readAll_19 ?_
  refine rm_putI f_X9_readAll_20 hW ?_
  refine rw_aload f_X9_readAll_23 rfl ?_
  refine rw_const f_X9_readAll_24 ?_
  refine rm_putI f_X9_readAll_25 hW ?_
  refine rw_aload f_X9_readAll_28 rfl ?_
  refine rw_const f_X9_readAll_29 ?_
  refine rm_putI f_X9_readAll_30 hW ?_
  refine rw_aload f_X9_readAll_33 rfl ?_
  refine rw_const f_X9_readAll_34 ?_
  refine rm_putI f_X9_readAll_35 hW ?_
  refine rw_aload f_X9_readAll_38 rfl ?_
  refine rw_const f_X9_readAll_39 ?_
  refine rm_putI f_X9_readAll_40 hW ?_
  refine rw_aload f_X9_readAll_43 rfl ?_
  refine rw_const f_X9_readAll_44 ?_
  refine rm_putI f_X9_readAll_45 hW ?_
  refine rw_aload f_X9_readAll_48 rfl ?_
  refine rw_const f_X9_readAll_49 ?_
  refine rm_putI f_X9_readAll_51 hW ?_
  refine rw_aload f_X9_readAll_54 rfl ?_
  refine rw_const f_X9_readAll_55 ?_
  refine rm_putI f_X9_readAll_56 hW ?_
  refine rw_aload f_X9_readAll_59 rfl ?_
  refine rw_const f_X9_readAll_60 ?_
  refine rm_putI f_X9_readAll_61 hW ?_
  refine rw_aload f_X9_readAll_64 rfl ?_
  refine rw_const f_X9_readAll_65 ?_
  refine rm_putZ f_X9_readAll_66 hW (by first | exact Or.inl rfl | exact Or.inr rfl | exact bI_01 _ | assumption) ?_
  refine rw_aload f_X9_readAll_69 rfl ?_
  refine rw_const f_X9_readAll_70 ?_
  refine rm_putZ f_X9_readAll_71 hW (by first | exact Or.inl rfl | exact Or.inr rfl | exact bI_01 _ | assumption) ?_
  refine rw_aload f_X9_readAll_74 rfl ?_
  refine rw_const f_X9_readAll_75 ?_
  refine rm_putZ f_X9_readAll_76 hW (by first | exact Or.inl rfl | exact Or.inr rfl | exact bI_01 _ | assumption) ?_
  refine rw_aload f_X9_readAll_79 rfl ?_
  refine rw_const f_X9_readAll_80 ?_
  refine rm_putZ f_X9_readAll_81 hW (by first | exact Or.inl rfl | exact Or.inr rfl | exact bI_01 _ | assumption) ?_
  refine rw_aload f_X9_readAll_84 rfl ?_
  refine rw_const f_X9_readAll_85 ?_
  refine rm_putI f_X9_readAll_86 hW ?_
  refine rw_aload f_X9_readAll_89 rfl ?_
  refine rw_const f_X9_readAll_90 ?_
  refine rm_putI f_X9_readAll_91 hW ?_
  skip
  generalize hX : am_up (am_up (am_up (am_up (am_up (am_up (am_up (am_up (am_up (am_up (am_up (am_up (am_up (am_up (am_up (am_up (am_up (am_up V 0 5 (nI t)) 0 1 0) 0 4 0) 0 2 0) 0 3 (-1)) 0 49 0) 0 50 0) 0 51 0) 0 52 0) 0 53 8) 0 54 0) 0 55 0) 0 62 0) 0 63 0) 0 64 0) 0 65 0) 0 20 0) 0 17 0 = X
  have xr : ∀ a j, ¬ a = 0 → X a j = V a j := fun a j z => by
    rw [← hX]
    repeat rw [up_ne (fun y => z y.1)]
  have x0 : ∀ j, ¬ (j = 5 ∨ j = 1 ∨ j = 4 ∨ j = 2 ∨ j = 3 ∨ (49 ≤ j ∧ j ≤ 55) ∨ (62 ≤ j ∧ j ≤ 65) ∨ j = 20 ∨ j = 17) → X 0 j = V 0 j := fun j z => by
    rw [← hX]
    repeat rw [up_ne (fun y => z (by omega))]
  have xv : X 0 5 = nI t ∧ X 0 1 = 0 ∧ X 0 4 = 0 ∧ X 0 2 = 0 ∧ X 0 3 = -1 ∧ X 0 49 = 0 ∧ X 0 50 = 0 ∧ X 0 51 = 0 ∧ X 0 52 = 0 ∧ X 0 53 = 8 ∧ X 0 54 = 0 ∧ X 0 55 = 0 ∧ X 0 62 = 0 ∧ X 0 63 = 0 ∧ X 0 64 = 0 ∧ X 0 65 = 0 ∧ X 0 20 = 0 := by
    rw [← hX]
    simp [am_up]
  clear hX
  obtain ⟨v5, v1, v4, v2, v3, v49, v50, v51, v52, v53, v54, v55, v62, v63, v64, v65, v20⟩ := xv
  have pa : Pa V X := ⟨v1, fun a j z z2 => by
    by_cases c : a = 0
    · rw [c]; exact x0 j (fun y => by unfold psc at z; omega)
    · exact xr a j c⟩
  have tp : TP X (V 1) t := ⟨v5, ht1, fun j hj => ⟨xr _ _ (by decide), hp j hj⟩⟩
  have en : EN h m X rg0 := by
    refine ⟨⟨v49, v50, v51, v52⟩, ⟨v20, v53, v54, v55⟩, ⟨v62, v63, v64, v65, v3⟩, ⟨?_, ?_, ?_⟩, ?_, ?_, ?_, ⟨?_, ?_⟩, trivial⟩
    · exact ⟨fun i hi => absurd hi (Nat.not_lt_zero _), fun i j hi => absurd hi (Nat.not_lt_zero _)⟩
    · exact ⟨fun i hi => absurd hi (Nat.not_lt_zero _), fun i j hi => absurd hi (Nat.not_lt_zero _)⟩
    · exact ⟨fun i hi => absurd hi (Nat.not_lt_zero _), fun i j hi => absurd hi (Nat.not_lt_zero _)⟩
    · intro i v hv; simp [rg0] at hv
    · intro i v hv; simp [rg0] at hv
    · intro i v hv; simp [rg0] at hv
    · intro a b ha; exact absurd ha (Nat.not_lt_zero _)
    · intro a b _ _ _; rfl
  refine rw_aload f_X9_readAll_94 rfl ?_
  refine rw_callV f_X9_readAll_95 rfl hW.1 hW.2.1 rfl rfl rfl rfl (rn_kv (m_token hW tp (e := 0) (Nat.zero_le _) v4 (fun h3 Y lw tk mt => ?_)))
  have ok3 : OK h3 m Y (V 1) t (rEnd isSp (V 1) t 0) := ⟨tk.tp tp, by rw [tk _ _ (by unfold tks; omega)]; exact v2, mt⟩
  have pt : ∀ {Z}, Ps Y Z → Pa V Z := fun {Z} q => ⟨by rw [q _ _ (by unfold psc; omega), tk _ _ (by unfold tks; omega)]; exact v1, fun a j z z2 => by rw [q a j z, tk a j (fun y => z (by unfold tks at y; unfold psc; omega))]; exact pa.2 a j z z2⟩
  exact m_allLoop (t + 1) rg0 _ h3 Y (lw.mw hW) ok3 (en.fr tk.en lw.nm) gI_0 (by omega) (fun h4 Z g' e l4 p4 f4 n4 i4 => h1 h4 Z g' e (lw.x.tr l4) (pt p4) f4 n4 i4) (fun h4 Z e' e l4 p4 r4 => h2 h4 Z e' e (lw.x.tr l4) (pt p4) r4)
theorem rm_zastN {d i pc : Nat} {ls st : List am_V} {K : am_R → am_H → Prop} {nx a u' j : Nat} {x v : Int32} (f : am_fetch i pc = some (in_bast nx)) (hW : MW h m) (e : mk_tbl a = some (3, u')) (ej : x = nI j) (hj : j < u') (k : Rn d i nx ls st (mh h m (am_up V a j (vp_nar .boolean v))) K) : Rn d i pc ls (am_i v :: am_i x :: am_r (m + a) :: st) (mh h m V) K := by
  subst ej
  have hu := (mkt_of e).2.2.1
  refine rw_zast (h := mh h m V) f (hW.k e) (vp_in_nI hj (by omega)) ?_
  rw [nI_clamp (by omega), mh_sa (mkt_of e).2.1]
  exact k
theorem nar_bI (b : Bool) : vp_nar .boolean (bI b) = bI b := by cases b <;> rfl
theorem m_regB {k : Int32 → am_H → Prop} (hW : MW h m) {n : Nat} (hs : W 0 18 = nI n) (hn : n ≤ 320) {y z : am_V} (hk : ∀ X, (∀ a j, ¬ (a = 5 ∨ a = 6) → X a j = W a j) → (∀ i, i < n → X 5 i = W 3 i ∧ X 6 i = W 4 i) → Rn d n_X9_regiment 136 [am_r m, am_i (nI n), z] [] (mh h m X) (kI k)) : Rn d n_X9_regiment 98 [am_r m, am_i (nI 0), z] [] (mh h m W) (kI k) := by
  have go : ∀ r j X, j + r = n → (∀ a j, ¬ (a = 5 ∨ a = 6) → X a j = W a j) → (∀ i, i < j → X 5 i = W 3 i ∧ X 6 i = W 4 i) → Rn d n_X9_regiment 98 [am_r m, am_i (nI j), z] [] (mh h m X) (kI k) := by
    intro r
    induction r with
    | zero =>
      intro j X hj fr cp
      have e : j = n := by omega
      subst e
      have s2 : X 0 18 = nI j := (fr _ _ (by omega)).trans hs
      refine rw_iload f_X9_regiment_98 rfl ?_
      refine rw_aload f_X9_regiment_99 rfl ?_
      refine rm_getI f_X9_regiment_100 hW ?_
      rw [s2]
      refine rw_icmpT f_X9_regiment_103 (decide_eq_true (Int32.le_refl _)) ?_
      exact hk X fr cp
    | succ r ih =>
      intro j X hj fr cp
      have s2 : X 0 18 = nI n := (fr _ _ (by omega)).trans hs
      refine rw_iload f_X9_regiment_98 rfl ?_
      refine rw_aload f_X9_regiment_99 rfl ?_
      refine rm_getI f_X9_regiment_100 hW ?_
      rw [s2]
      refine rw_icmpF f_X9_regiment_103 (decide_eq_false (nI_ge (by omega) (by omega))) ?_
      refine rw_aload f_X9_regiment_106 rfl ?_
      refine rm_getR f_X9_regiment_107 hW rfl ?_
      refine rw_iload f_X9_regiment_110 rfl ?_
      refine rw_aload f_X9_regiment_111 rfl ?_
      refine rm_getR f_X9_regiment_112 hW rfl ?_
      refine rw_iload f_X9_regiment_115 rfl ?_
      refine rm_xald (j := j) f_X9_regiment_116 hW (by exact rfl) (by first | rfl | exact nI_addl _ _ | (simp only [nI, Int32.ofNat_add, Int32.ofNat_mul]; rfl) | (simp only [nI_addl, nI_mull, nI_lit, nI_1']; done) | (simp only [nI_1, nI_0, nI_addl, nI_mull, ← nI_succ]; rfl)) (by omega) ?_
      refine rm_iast (j := j) f_X9_regiment_117 hW (by exact rfl) (by first | rfl | exact nI_addl _ _ | (simp only [nI, Int32.ofNat_add, Int32.ofNat_mul]; rfl) | (simp only [nI_addl, nI_mull, nI_lit, nI_1']; done) | (simp only [nI_1, nI_0, nI_addl, nI_mull, ← nI_succ]; rfl)) (by omega) ?_
      refine rw_aload f_X9_regiment_118 rfl ?_
      refine rm_getR f_X9_regiment_119 hW rfl ?_
      refine rw_iload f_X9_regiment_122 rfl ?_
      refine rw_aload f_X9_regiment_123 rfl ?_
      refine rm_getR f_X9_regiment_124 hW rfl ?_
      refine rw_iload f_X9_regiment_127 rfl ?_
      refine rm_xald (j := j) f_X9_regiment_128 hW (by exact rfl) (by first | rfl | exact nI_addl _ _ | (simp only [nI, Int32.ofNat_add, Int32.ofNat_mul]; rfl) | (simp only [nI_addl, nI_mull, nI_lit, nI_1']; done) | (simp only [nI_1, nI_0, nI_addl, nI_mull, ← nI_succ]; rfl)) (by omega) ?_
      refine rm_iast (j := j) f_X9_regiment_129 hW (by exact rfl) (by first | rfl | exact nI_addl _ _ | (simp only [nI, Int32.ofNat_add, Int32.ofNat_mul]; rfl) | (simp only [nI_addl, nI_mull, nI_lit, nI_1']; done) | (simp only [nI_1, nI_0, nI_addl, nI_mull, ← nI_succ]; rfl)) (by omega) ?_
      refine rw_iinc f_X9_regiment_130 rfl rfl ?_
      refine rw_goto f_X9_regiment_133 ?_
      rw [nI_1']
      refine ih (j + 1) _ (by omega) (fun a i z => by rw [up_ne (by omega), up_ne (by omega)]; exact fr a i z) (fun i hi => ?_)
      by_cases c : i = j
      · subst c
        refine ⟨?_, ?_⟩
        · rw [up_ne (by omega), up_same]; exact fr _ _ (by omega)
        · rw [up_same, up_ne (by omega)]; exact fr _ _ (by omega)
      · rw [up_ne (by omega), up_ne (by omega), up_ne (by omega), up_ne (by omega)]; exact cp i (by omega)
  exact go n 0 W (by omega) (fun _ _ _ => rfl) (fun i hi => absurd hi (by omega))
theorem m_regC {k : Int32 → am_H → Prop} (hW : MW h m) {z : am_V} (hk : ∀ X z, (∀ a j, ¬ (15 ≤ a ∧ a ≤ 19) → X a j = W a j) → (∀ i, i < 6 → X 15 i = W 10 i ∧ X 16 i = W 11 i ∧ X 17 i = W 12 i ∧ X 18 i = W 13 i) → (∀ i, i < 36 → X 19 i = W 14 i) → Rn d n_X9_regiment 234 [am_r m, am_i (nI 6), z] [] (mh h m X) (kI k)) : Rn d n_X9_regiment 138 [am_r m, am_i (nI 0), z] [] (mh h m W) (kI k) := by
  have go : ∀ r j X z, j + r = 6 → (∀ a j, ¬ (15 ≤ a ∧ a ≤ 19) → X a j = W a j) → (∀ i, i < j → X 15 i = W 10 i ∧ X 16 i = W 11 i ∧ X 17 i = W 12 i ∧ X 18 i = W 13 i) → (∀ i, i < 6 * j → X 19 i = W 14 i) → Rn d n_X9_regiment 138 [am_r m, am_i (nI j), z] [] (mh h m X) (kI k) := by
    intro r
    induction r with
    | zero =>
      intro j X z hj fr cp cf
      have e : j = 6 := by omega
      subst e
      refine rw_iload f_X9_regiment_138 rfl ?_
      refine rw_const f_X9_regiment_139 ?_
      refine rw_icmpT f_X9_regiment_141 (by decide) ?_
      exact hk X z fr cp cf
    | succ r ih =>
      intro j X z hj fr cp cf
      have inner : ∀ q o Y, o + q = 6 → (∀ a j, ¬ (15 ≤ a ∧ a ≤ 19) → Y a j = W a j) → (∀ i, i < j + 1 → Y 15 i = W 10 i ∧ Y 16 i = W 11 i ∧ Y 17 i = W 12 i ∧ Y 18 i = W 13 i) → (∀ i, i < 6 * j + o → Y 19 i = W 14 i) → Rn d n_X9_regiment 194 [am_r m, am_i (nI j), am_i (nI o)] [] (mh h m Y) (kI k) := by
        intro q
        induction q with
        | zero =>
          intro o Y ho fr cp cf
          have e : o = 6 := by omega
          subst e
          refine rw_iload f_X9_regiment_194 rfl ?_
          refine rw_const f_X9_regiment_195 ?_
          refine rw_icmpT f_X9_regiment_197 (by decide) ?_
          refine rw_iinc f_X9_regiment_228 rfl rfl ?_
          refine rw_goto f_X9_regiment_231 ?_
          rw [nI_1']
          exact ih (j + 1) Y _ (by omega) fr cp (fun i hi => cf i (by omega))
        | succ q iq =>
          intro o Y ho fr cp cf
          refine rw_iload f_X9_regiment_194 rfl ?_
          refine rw_const f_X9_regiment_195 ?_
          refine rw_icmpF f_X9_regiment_197 (decide_eq_false (nI_ge (b := 6) (by omega) (by decide))) ?_
          refine rw_aload f_X9_regiment_200 rfl ?_
          refine rm_getR f_X9_regiment_201 hW rfl ?_
          refine rw_const f_X9_regiment_204 ?_
          refine rw_iload f_X9_regiment_206 rfl ?_
          refine rw_imul f_X9_regiment_207 ?_
          refine rw_iload f_X9_regiment_208 rfl ?_
          refine rw_iadd f_X9_regiment_209 ?_
          refine rw_aload f_X9_regiment_210 rfl ?_
          refine rm_getR f_X9_regiment_211 hW rfl ?_
          refine rw_const f_X9_regiment_214 ?_
          refine rw_iload f_X9_regiment_216 rfl ?_
          refine rw_imul f_X9_regiment_217 ?_
          refine rw_iload f_X9_regiment_218 rfl ?_
          refine rw_iadd f_X9_regiment_219 ?_
          refine rm_xald (j := 6 * j + o) f_X9_regiment_220 hW (by exact rfl) (by first | rfl | exact nI_addl _ _ | (simp only [nI, Int32.ofNat_add, Int32.ofNat_mul]; rfl) | (simp only [nI_addl, nI_mull, nI_lit, nI_1']; done) | (simp only [nI_1, nI_0, nI_addl, nI_mull, ← nI_succ]; rfl)) (by omega) ?_
          refine rm_iast (j := 6 * j + o) f_X9_regiment_221 hW (by exact rfl) (by first | rfl | exact nI_addl _ _ | (simp only [nI, Int32.ofNat_add, Int32.ofNat_mul]; rfl) | (simp only [nI_addl, nI_mull, nI_lit, nI_1']; done) | (simp only [nI_1, nI_0, nI_addl, nI_mull, ← nI_succ]; rfl)) (by omega) ?_
          refine rw_iinc f_X9_regiment_222 rfl rfl ?_
          refine rw_goto f_X9_regiment_225 ?_
          rw [nI_1']
          refine iq (o + 1) _ (by omega) (fun a i z => by rw [up_ne (by omega)]; exact fr a i z) (fun i hi => by rw [up_ne (by omega), up_ne (by omega), up_ne (by omega), up_ne (by omega)]; exact cp i hi) (fun i hi => ?_)
          by_cases c : i = 6 * j + o
          · rw [c, up_same]; exact fr _ _ (by omega)
          · rw [up_ne (by omega)]; exact cf i (by omega)
      refine rw_iload f_X9_regiment_138 rfl ?_
      refine rw_const f_X9_regiment_139 ?_
      refine rw_icmpF f_X9_regiment_141 (decide_eq_false (nI_ge (b := 6) (by omega) (by decide))) ?_
      refine rw_aload f_X9_regiment_144 rfl ?_
      refine rm_getR f_X9_regiment_145 hW rfl ?_
      refine rw_iload f_X9_regiment_148 rfl ?_
      refine rw_aload f_X9_regiment_149 rfl ?_
      refine rm_getR f_X9_regiment_150 hW rfl ?_
      refine rw_iload f_X9_regiment_153 rfl ?_
      refine rm_xald (j := j) f_X9_regiment_154 hW (by exact rfl) (by first | rfl | exact nI_addl _ _ | (simp only [nI, Int32.ofNat_add, Int32.ofNat_mul]; rfl) | (simp only [nI_addl, nI_mull, nI_lit, nI_1']; done) | (simp only [nI_1, nI_0, nI_addl, nI_mull, ← nI_succ]; rfl)) (by omega) ?_
      refine rm_iast (j := j) f_X9_regiment_155 hW (by exact rfl) (by first | rfl | exact nI_addl _ _ | (simp only [nI, Int32.ofNat_add, Int32.ofNat_mul]; rfl) | (simp only [nI_addl, nI_mull, nI_lit, nI_1']; done) | (simp only [nI_1, nI_0, nI_addl, nI_mull, ← nI_succ]; rfl)) (by omega) ?_
      refine rw_aload f_X9_regiment_156 rfl ?_
      refine rm_getR f_X9_regiment_157 hW rfl ?_
      refine rw_iload f_X9_regiment_160 rfl ?_
      refine rw_aload f_X9_regiment_161 rfl ?_
      refine rm_getR f_X9_regiment_162 hW rfl ?_
      refine rw_iload f_X9_regiment_165 rfl ?_
      refine rm_xald (j := j) f_X9_regiment_166 hW (by exact rfl) (by first | rfl | exact nI_addl _ _ | (simp only [nI, Int32.ofNat_add, Int32.ofNat_mul]; rfl) | (simp only [nI_addl, nI_mull, nI_lit, nI_1']; done) | (simp only [nI_1, nI_0, nI_addl, nI_mull, ← nI_succ]; rfl)) (by omega) ?_
      refine rm_iast (j := j) f_X9_regiment_167 hW (by exact rfl) (by first | rfl | exact nI_addl _ _ | (simp only [nI, Int32.ofNat_add, Int32.ofNat_mul]; rfl) | (simp only [nI_addl, nI_mull, nI_lit, nI_1']; done) | (simp only [nI_1, nI_0, nI_addl, nI_mull, ← nI_succ]; rfl)) (by omega) ?_
      refine rw_aload f_X9_regiment_168 rfl ?_
      refine rm_getR f_X9_regiment_169 hW rfl ?_
      refine rw_iload f_X9_regiment_172 rfl ?_
      refine rw_aload f_X9_regiment_173 rfl ?_
      refine rm_getR f_X9_regiment_174 hW rfl ?_
      refine rw_iload f_X9_regiment_177 rfl ?_
      refine rm_xald (j := j) f_X9_regiment_178 hW (by exact rfl) (by first | rfl | exact nI_addl _ _ | (simp only [nI, Int32.ofNat_add, Int32.ofNat_mul]; rfl) | (simp only [nI_addl, nI_mull, nI_lit, nI_1']; done) | (simp only [nI_1, nI_0, nI_addl, nI_mull, ← nI_succ]; rfl)) (by omega) ?_
      refine rm_iast (j := j) f_X9_regiment_179 hW (by exact rfl) (by first | rfl | exact nI_addl _ _ | (simp only [nI, Int32.ofNat_add, Int32.ofNat_mul]; rfl) | (simp only [nI_addl, nI_mull, nI_lit, nI_1']; done) | (simp only [nI_1, nI_0, nI_addl, nI_mull, ← nI_succ]; rfl)) (by omega) ?_
      refine rw_aload f_X9_regiment_180 rfl ?_
      refine rm_getR f_X9_regiment_181 hW rfl ?_
      refine rw_iload f_X9_regiment_184 rfl ?_
      refine rw_aload f_X9_regiment_185 rfl ?_
      refine rm_getR f_X9_regiment_186 hW rfl ?_
      refine rw_iload f_X9_regiment_189 rfl ?_
      refine rm_xald (j := j) f_X9_regiment_190 hW (by exact rfl) (by first | rfl | exact nI_addl _ _ | (simp only [nI, Int32.ofNat_add, Int32.ofNat_mul]; rfl) | (simp only [nI_addl, nI_mull, nI_lit, nI_1']; done) | (simp only [nI_1, nI_0, nI_addl, nI_mull, ← nI_succ]; rfl)) (by omega) ?_
      refine rm_iast (j := j) f_X9_regiment_191 hW (by exact rfl) (by first | rfl | exact nI_addl _ _ | (simp only [nI, Int32.ofNat_add, Int32.ofNat_mul]; rfl) | (simp only [nI_addl, nI_mull, nI_lit, nI_1']; done) | (simp only [nI_1, nI_0, nI_addl, nI_mull, ← nI_succ]; rfl)) (by omega) ?_
      refine rw_const f_X9_regiment_192 ?_
      refine rw_istore f_X9_regiment_193 rfl rfl ?_
      refine inner 6 0 _ (by omega) (fun a i z => by rw [up_ne (by omega), up_ne (by omega), up_ne (by omega), up_ne (by omega)]; exact fr a i z) (fun i hi => ?_) (fun i hi => by rw [up_ne (by omega), up_ne (by omega), up_ne (by omega), up_ne (by omega)]; exact cf i (by omega))
      have fr' := fun a j h => fr a j h
      by_cases c : i = j
      · subst c
        simp only [am_up]
        simp
        exact ⟨fr _ _ (by omega), fr _ _ (by omega), fr _ _ (by omega), fr _ _ (by omega)⟩
      · simp only [am_up]
        simp [c]
        exact cp i (by omega)
  exact go 6 0 W z (by omega) (fun _ _ _ => rfl) (fun i hi => absurd hi (by omega)) (fun i hi => absurd hi (by omega))
theorem m_regD {k : Int32 → am_H → Prop} (hW : MW h m) {z : am_V} (hk : ∀ X, (∀ a j, ¬ a = 34 → X a j = W a j) → (∀ i, i < 23 → X 34 i = 0) → Rn d n_X9_regiment 255 [am_r m, am_i (nI 23), z] [] (mh h m X) (kI k)) : Rn d n_X9_regiment 236 [am_r m, am_i (nI 0), z] [] (mh h m W) (kI k) := by
  have go : ∀ r j X, j + r = 23 → (∀ a j, ¬ a = 34 → X a j = W a j) → (∀ i, i < j → X 34 i = 0) → Rn d n_X9_regiment 236 [am_r m, am_i (nI j), z] [] (mh h m X) (kI k) := by
    intro r
    induction r with
    | zero =>
      intro j X hj fr cp
      have e : j = 23 := by omega
      subst e
      refine rw_iload f_X9_regiment_236 rfl ?_
      refine rw_const f_X9_regiment_237 ?_
      refine rw_icmpT f_X9_regiment_239 (by decide) ?_
      exact hk X fr cp
    | succ r ih =>
      intro j X hj fr cp
      refine rw_iload f_X9_regiment_236 rfl ?_
      refine rw_const f_X9_regiment_237 ?_
      refine rw_icmpF f_X9_regiment_239 (decide_eq_false (nI_ge (b := 23) (by omega) (by decide))) ?_
      refine rw_aload f_X9_regiment_242 rfl ?_
      refine rm_getR f_X9_regiment_243 hW rfl ?_
      refine rw_iload f_X9_regiment_246 rfl ?_
      refine rw_const f_X9_regiment_247 ?_
      refine rm_iast (j := j) f_X9_regiment_248 hW (by exact rfl) (by first | rfl | exact nI_addl _ _ | (simp only [nI, Int32.ofNat_add, Int32.ofNat_mul]; rfl) | (simp only [nI_addl, nI_mull, nI_lit, nI_1']; done) | (simp only [nI_1, nI_0, nI_addl, nI_mull, ← nI_succ]; rfl)) (by omega) ?_
      refine rw_iinc f_X9_regiment_249 rfl rfl ?_
      refine rw_goto f_X9_regiment_252 ?_
      rw [nI_1']
      refine ih (j + 1) _ (by omega) (fun a i z => by rw [up_ne (by omega)]; exact fr a i z) (fun i hi => ?_)
      by_cases c : i = j
      · rw [c]; exact up_same
      · rw [up_ne (by omega)]; exact cp i (by omega)
  exact go 23 0 W (by omega) (fun _ _ _ => rfl) (fun i hi => absurd hi (by omega))
theorem m_regE {k : Int32 → am_H → Prop} (hW : MW h m) {nB : Nat} (hB : W 0 58 = nI nB) (hB10 : nB ≤ 10) {z : am_V} (hk : ∀ X, (∀ a j, ¬ ((26 ≤ a ∧ a ≤ 31) ∨ a = 33 ∨ (a = 34 ∧ 10 ≤ j ∧ j < 20)) → X a j = W a j) → (∀ i, i < 10 → X 26 i = W 20 i ∧ X 27 i = W 21 i ∧ X 28 i = W 22 i ∧ X 33 i = vp_nar .boolean (W 32 i) ∧ X 29 i = W 23 i ∧ X 30 i = W 24 i ∧ X 31 i = W 25 i ∧ X 34 (10 + i) = if i < nB then W 24 i else 0) → Rn d n_X9_regiment 380 [am_r m, am_i (nI 10), z] [] (mh h m X) (kI k)) : Rn d n_X9_regiment 257 [am_r m, am_i (nI 0), z] [] (mh h m W) (kI k) := by
  have go : ∀ r j X, j + r = 10 → (∀ a j, ¬ ((26 ≤ a ∧ a ≤ 31) ∨ a = 33 ∨ (a = 34 ∧ 10 ≤ j ∧ j < 20)) → X a j = W a j) → (∀ i, i < j → X 26 i = W 20 i ∧ X 27 i = W 21 i ∧ X 28 i = W 22 i ∧ X 33 i = vp_nar .boolean (W 32 i) ∧ X 29 i = W 23 i ∧ X 30 i = W 24 i ∧ X 31 i = W 25 i ∧ X 34 (10 + i) = if i < nB then W 24 i else 0) → Rn d n_X9_regiment 257 [am_r m, am_i (nI j), z] [] (mh h m X) (kI k) := by
    intro r
    induction r with
    | zero =>
      intro j X hj fr cp
      have e : j = 10 := by omega
      subst e
      refine rw_iload f_X9_regiment_257 rfl ?_
      refine rw_const f_X9_regiment_258 ?_
      refine rw_icmpT f_X9_regiment_260 (by decide) ?_
      exact hk X fr cp
    | succ r ih =>
      intro j X hj fr cp
      refine rw_iload f_X9_regiment_257 rfl ?_
      refine rw_const f_X9_regiment_258 ?_
      refine rw_icmpF f_X9_regiment_260 (decide_eq_false (nI_ge (b := 10) (by omega) (by decide))) ?_
      refine rw_aload f_X9_regiment_263 rfl ?_
      refine rm_getR f_X9_regiment_264 hW rfl ?_
      refine rw_iload f_X9_regiment_267 rfl ?_
      refine rw_aload f_X9_regiment_268 rfl ?_
      refine rm_getR f_X9_regiment_269 hW rfl ?_
      refine rw_iload f_X9_regiment_272 rfl ?_
      refine rm_xald (j := j) f_X9_regiment_273 hW (by exact rfl) (by first | rfl | exact nI_addl _ _ | (simp only [nI, Int32.ofNat_add, Int32.ofNat_mul]; rfl) | (simp only [nI_addl, nI_mull, nI_lit, nI_1']; done) | (simp only [nI_1, nI_0, nI_addl, nI_mull, ← nI_succ]; rfl)) (by omega) ?_
      refine rm_iast (j := j) f_X9_regiment_274 hW (by exact rfl) (by first | rfl | exact nI_addl _ _ | (simp only [nI, Int32.ofNat_add, Int32.ofNat_mul]; rfl) | (simp only [nI_addl, nI_mull, nI_lit, nI_1']; done) | (simp only [nI_1, nI_0, nI_addl, nI_mull, ← nI_succ]; rfl)) (by omega) ?_
      refine rw_aload f_X9_regiment_275 rfl ?_
      refine rm_getR f_X9_regiment_276 hW rfl ?_
      refine rw_iload f_X9_regiment_279 rfl ?_
      refine rw_aload f_X9_regiment_280 rfl ?_
      refine rm_getR f_X9_regiment_281 hW rfl ?_
      refine rw_iload f_X9_regiment_284 rfl ?_
      refine rm_xald (j := j) f_X9_regiment_285 hW (by exact rfl) (by first | rfl | exact nI_addl _ _ | (simp only [nI, Int32.ofNat_add, Int32.ofNat_mul]; rfl) | (simp only [nI_addl, nI_mull, nI_lit, nI_1']; done) | (simp only [nI_1, nI_0, nI_addl, nI_mull, ← nI_succ]; rfl)) (by omega) ?_
      refine rm_iast (j := j) f_X9_regiment_286 hW (by exact rfl) (by first | rfl | exact nI_addl _ _ | (simp only [nI, Int32.ofNat_add, Int32.ofNat_mul]; rfl) | (simp only [nI_addl, nI_mull, nI_lit, nI_1']; done) | (simp only [nI_1, nI_0, nI_addl, nI_mull, ← nI_succ]; rfl)) (by omega) ?_
      refine rw_aload f_X9_regiment_287 rfl ?_
      refine rm_getR f_X9_regiment_288 hW rfl ?_
      refine rw_iload f_X9_regiment_291 rfl ?_
      refine rw_aload f_X9_regiment_292 rfl ?_
      refine rm_getR f_X9_regiment_293 hW rfl ?_
      refine rw_iload f_X9_regiment_296 rfl ?_
      refine rm_xald (j := j) f_X9_regiment_297 hW (by exact rfl) (by first | rfl | exact nI_addl _ _ | (simp only [nI, Int32.ofNat_add, Int32.ofNat_mul]; rfl) | (simp only [nI_addl, nI_mull, nI_lit, nI_1']; done) | (simp only [nI_1, nI_0, nI_addl, nI_mull, ← nI_succ]; rfl)) (by omega) ?_
      refine rm_iast (j := j) f_X9_regiment_298 hW (by exact rfl) (by first | rfl | exact nI_addl _ _ | (simp only [nI, Int32.ofNat_add, Int32.ofNat_mul]; rfl) | (simp only [nI_addl, nI_mull, nI_lit, nI_1']; done) | (simp only [nI_1, nI_0, nI_addl, nI_mull, ← nI_succ]; rfl)) (by omega) ?_
      refine rw_aload f_X9_regiment_299 rfl ?_
      refine rm_getR f_X9_regiment_300 hW rfl ?_
      refine rw_iload f_X9_regiment_303 rfl ?_
      refine rw_aload f_X9_regiment_304 rfl ?_
      refine rm_getR f_X9_regiment_305 hW rfl ?_
      refine rw_iload f_X9_regiment_308 rfl ?_
      refine rm_xald (j := j) f_X9_regiment_309 hW (by exact rfl) (by first | rfl | exact nI_addl _ _ | (simp only [nI, Int32.ofNat_add, Int32.ofNat_mul]; rfl) | (simp only [nI_addl, nI_mull, nI_lit, nI_1']; done) | (simp only [nI_1, nI_0, nI_addl, nI_mull, ← nI_succ]; rfl)) (by omega) ?_
      skip
      refine rm_zastN (j := j) f_X9_regiment_310 hW (by exact rfl) rfl (by omega) ?_
      generalize hY : am_up (am_up (am_up (am_up X 26 j _) 27 j _) 28 j _) 33 j _ = Y
      have y0 : ∀ a i, ¬ ((a = 26 ∨ a = 27 ∨ a = 28 ∨ a = 33) ∧ i = j) → Y a i = X a i := fun a i z => by
        rw [← hY, up_ne (by omega), up_ne (by omega), up_ne (by omega), up_ne (by omega)]
      have y1 : Y 26 j = X 20 j ∧ Y 27 j = X 21 j ∧ Y 28 j = X 22 j ∧ Y 33 j = vp_nar .boolean (X 32 j) := by
        rw [← hY]
        simp [am_up]
      clear hY
      refine rw_aload f_X9_regiment_311 rfl ?_
      refine rm_getR f_X9_regiment_312 hW rfl ?_
      refine rw_iload f_X9_regiment_315 rfl ?_
      refine rw_aload f_X9_regiment_316 rfl ?_
      refine rm_getR f_X9_regiment_317 hW rfl ?_
      refine rw_iload f_X9_regiment_320 rfl ?_
      refine rm_xald (j := j) f_X9_regiment_321 hW (by exact rfl) (by first | rfl | exact nI_addl _ _ | (simp only [nI, Int32.ofNat_add, Int32.ofNat_mul]; rfl) | (simp only [nI_addl, nI_mull, nI_lit, nI_1']; done) | (simp only [nI_1, nI_0, nI_addl, nI_mull, ← nI_succ]; rfl)) (by omega) ?_
      refine rm_iast (j := j) f_X9_regiment_322 hW (by exact rfl) (by first | rfl | exact nI_addl _ _ | (simp only [nI, Int32.ofNat_add, Int32.ofNat_mul]; rfl) | (simp only [nI_addl, nI_mull, nI_lit, nI_1']; done) | (simp only [nI_1, nI_0, nI_addl, nI_mull, ← nI_succ]; rfl)) (by omega) ?_
      refine rw_aload f_X9_regiment_323 rfl ?_
      refine rm_getR f_X9_regiment_324 hW rfl ?_
      refine rw_iload f_X9_regiment_327 rfl ?_
      refine rw_aload f_X9_regiment_328 rfl ?_
      refine rm_getR f_X9_regiment_329 hW rfl ?_
      refine rw_iload f_X9_regiment_332 rfl ?_
      refine rm_xald (j := j) f_X9_regiment_333 hW (by exact rfl) (by first | rfl | exact nI_addl _ _ | (simp only [nI, Int32.ofNat_add, Int32.ofNat_mul]; rfl) | (simp only [nI_addl, nI_mull, nI_lit, nI_1']; done) | (simp only [nI_1, nI_0, nI_addl, nI_mull, ← nI_succ]; rfl)) (by omega) ?_
      refine rm_iast (j := j) f_X9_regiment_334 hW (by exact rfl) (by first | rfl | exact nI_addl _ _ | (simp only [nI, Int32.ofNat_add, Int32.ofNat_mul]; rfl) | (simp only [nI_addl, nI_mull, nI_lit, nI_1']; done) | (simp only [nI_1, nI_0, nI_addl, nI_mull, ← nI_succ]; rfl)) (by omega) ?_
      refine rw_aload f_X9_regiment_335 rfl ?_
      refine rm_getR f_X9_regiment_336 hW rfl ?_
      refine rw_iload f_X9_regiment_339 rfl ?_
      refine rw_aload f_X9_regiment_340 rfl ?_
      refine rm_getR f_X9_regiment_341 hW rfl ?_
      refine rw_iload f_X9_regiment_344 rfl ?_
      refine rm_xald (j := j) f_X9_regiment_345 hW (by exact rfl) (by first | rfl | exact nI_addl _ _ | (simp only [nI, Int32.ofNat_add, Int32.ofNat_mul]; rfl) | (simp only [nI_addl, nI_mull, nI_lit, nI_1']; done) | (simp only [nI_1, nI_0, nI_addl, nI_mull, ← nI_succ]; rfl)) (by omega) ?_
      refine rm_iast (j := j) f_X9_regiment_346 hW (by exact rfl) (by first | rfl | exact nI_addl _ _ | (simp only [nI, Int32.ofNat_add, Int32.ofNat_mul]; rfl) | (simp only [nI_addl, nI_mull, nI_lit, nI_1']; done) | (simp only [nI_1, nI_0, nI_addl, nI_mull, ← nI_succ]; rfl)) (by omega) ?_
      skip
      generalize hZ : am_up (am_up (am_up Y 29 j _) 30 j _) 31 j _ = Z
      have z0 : ∀ a i, ¬ ((a = 29 ∨ a = 30 ∨ a = 31) ∧ i = j) → Z a i = Y a i := fun a i z => by
        rw [← hZ, up_ne (by omega), up_ne (by omega), up_ne (by omega)]
      have z1 : Z 29 j = Y 23 j ∧ Z 30 j = Y 24 j ∧ Z 31 j = Y 25 j := by
        rw [← hZ]
        simp [am_up]
      clear hZ
      have zx : ∀ a i, ¬ (((26 ≤ a ∧ a ≤ 31) ∨ a = 33) ∧ i = j) → Z a i = X a i := fun a i z => (z0 a i (by omega)).trans (y0 a i (by omega))
      have zw : ∀ a i, (20 ≤ a ∧ a ≤ 25) ∨ a = 32 → Z a i = W a i := fun a i z => (zx a i (by omega)).trans (fr a i (by omega))
      have xw : ∀ a i, (20 ≤ a ∧ a ≤ 25) ∨ a = 32 → X a i = W a i := fun a i z => fr a i (by omega)
      have yw : ∀ a i, (20 ≤ a ∧ a ≤ 25) ∨ a = 32 → Y a i = W a i := fun a i z => (y0 a i (by omega)).trans (xw a i z)
      have zb : Z 0 58 = nI nB := (zx _ _ (by omega)).trans ((fr _ _ (by omega)).trans hB)
      have done : ∀ v, v = (if j < nB then W 24 j else 0) → Rn d n_X9_regiment 257 [am_r m, am_i (nI (j + 1)), z] [] (mh h m (am_up Z 34 (10 + j) v)) (kI k) := by
        intro v hv
        refine ih (j + 1) _ (by omega) (fun a i q => ?_) (fun i hi => ?_)
        · rw [up_ne (by omega), zx a i (by omega)]; exact fr a i q
        · by_cases c : i = j
          · subst c
            rw [up_ne (by omega), up_ne (by omega), up_ne (by omega), up_ne (by omega), up_ne (by omega), up_ne (by omega), up_ne (by omega), up_same, z0 _ _ (by omega), z0 _ _ (by omega), z0 _ _ (by omega), z0 _ _ (by omega), y1.1, y1.2.1, y1.2.2.1, y1.2.2.2, z1.1, z1.2.1, z1.2.2, xw _ _ (by omega), xw _ _ (by omega), xw _ _ (by omega), xw _ _ (by omega), yw _ _ (by omega), yw _ _ (by omega), yw _ _ (by omega)]
            exact ⟨rfl, rfl, rfl, rfl, rfl, rfl, rfl, hv⟩
          · rw [up_ne (by omega), up_ne (by omega), up_ne (by omega), up_ne (by omega), up_ne (by omega), up_ne (by omega), up_ne (by omega), up_ne (by omega), zx _ _ (by omega), zx _ _ (by omega), zx _ _ (by omega), zx _ _ (by omega), zx _ _ (by omega), zx _ _ (by omega), zx _ _ (by omega), zx _ _ (by omega)]
            exact cp i (by omega)
      by_cases cb : j < nB
      · rw [if_pos cb] at done
        refine rw_aload f_X9_regiment_347 rfl ?_
        refine rm_getR f_X9_regiment_348 hW rfl ?_
        refine rw_const f_X9_regiment_351 ?_
        refine rw_iload f_X9_regiment_353 rfl ?_
        refine rw_iadd f_X9_regiment_354 ?_
        refine rw_iload f_X9_regiment_355 rfl ?_
        refine rw_aload f_X9_regiment_356 rfl ?_
        refine rm_getI f_X9_regiment_357 hW ?_
        rw [zb]
        refine rw_icmpF f_X9_regiment_360 (decide_eq_false (nI_ge cb (by omega))) ?_
        refine rw_aload f_X9_regiment_363 rfl ?_
        refine rm_getR f_X9_regiment_364 hW rfl ?_
        refine rw_iload f_X9_regiment_367 rfl ?_
        refine rm_xald (j := j) f_X9_regiment_368 hW (by exact rfl) (by first | rfl | exact nI_addl _ _ | (simp only [nI, Int32.ofNat_add, Int32.ofNat_mul]; rfl) | (simp only [nI_addl, nI_mull, nI_lit, nI_1']; done) | (simp only [nI_1, nI_0, nI_addl, nI_mull, ← nI_succ]; rfl)) (by omega) ?_
        rw [zw _ _ (by omega)]
        refine rw_goto f_X9_regiment_369 ?_
        refine rm_iast (j := 10 + j) f_X9_regiment_373 hW (by exact rfl) (by first | rfl | exact nI_addl _ _ | (simp only [nI, Int32.ofNat_add, Int32.ofNat_mul]; rfl) | (simp only [nI_addl, nI_mull, nI_lit, nI_1']; done) | (simp only [nI_1, nI_0, nI_addl, nI_mull, ← nI_succ]; rfl)) (by omega) ?_
        refine rw_iinc f_X9_regiment_374 rfl rfl ?_
        refine rw_goto f_X9_regiment_377 ?_
        rw [nI_1']
        exact done _ rfl
      · rw [if_neg cb] at done
        refine rw_aload f_X9_regiment_347 rfl ?_
        refine rm_getR f_X9_regiment_348 hW rfl ?_
        refine rw_const f_X9_regiment_351 ?_
        refine rw_iload f_X9_regiment_353 rfl ?_
        refine rw_iadd f_X9_regiment_354 ?_
        refine rw_iload f_X9_regiment_355 rfl ?_
        refine rw_aload f_X9_regiment_356 rfl ?_
        refine rm_getI f_X9_regiment_357 hW ?_
        rw [zb]
        refine rw_icmpT f_X9_regiment_360 (decide_eq_true (nI_le (by omega) (by omega))) ?_
        refine rw_const f_X9_regiment_372 ?_
        refine rm_iast (j := 10 + j) f_X9_regiment_373 hW (by exact rfl) (by first | rfl | exact nI_addl _ _ | (simp only [nI, Int32.ofNat_add, Int32.ofNat_mul]; rfl) | (simp only [nI_addl, nI_mull, nI_lit, nI_1']; done) | (simp only [nI_1, nI_0, nI_addl, nI_mull, ← nI_succ]; rfl)) (by omega) ?_
        refine rw_iinc f_X9_regiment_374 rfl rfl ?_
        refine rw_goto f_X9_regiment_377 ?_
        rw [nI_1']
        exact done _ rfl
  exact go 10 0 W (by omega) (fun _ _ _ => rfl) (fun i hi => absurd hi (by omega))
theorem m_regF {k : Int32 → am_H → Prop} (hW : MW h m) {z : am_V} (hk : ∀ X, (∀ a j, ¬ a = 50 → X a j = W a j) → (∀ i, i < 3 → X 50 i = 0) → k (X 0 58) (mh h m X)) : Rn d n_X9_regiment 413 [am_r m, am_i (nI 0), z] [] (mh h m W) (kI k) := by
  have go : ∀ r j X, j + r = 3 → (∀ a j, ¬ a = 50 → X a j = W a j) → (∀ i, i < j → X 50 i = 0) → Rn d n_X9_regiment 413 [am_r m, am_i (nI j), z] [] (mh h m X) (kI k) := by
    intro r
    induction r with
    | zero =>
      intro j X hj fr cp
      have e : j = 3 := by omega
      subst e
      refine rw_iload f_X9_regiment_413 rfl ?_
      refine rw_const f_X9_regiment_414 ?_
      refine rw_icmpT f_X9_regiment_415 (by decide) ?_
      refine rw_aload f_X9_regiment_431 rfl ?_
      refine rm_getI f_X9_regiment_432 hW ?_
      refine rw_iret f_X9_regiment_435 ?_
      exact hk X fr cp
    | succ r ih =>
      intro j X hj fr cp
      refine rw_iload f_X9_regiment_413 rfl ?_
      refine rw_const f_X9_regiment_414 ?_
      refine rw_icmpF f_X9_regiment_415 (decide_eq_false (nI_ge (b := 3) (by omega) (by decide))) ?_
      refine rw_aload f_X9_regiment_418 rfl ?_
      refine rm_getR f_X9_regiment_419 hW rfl ?_
      refine rw_iload f_X9_regiment_422 rfl ?_
      refine rw_const f_X9_regiment_423 ?_
      refine rm_zast (j := j) f_X9_regiment_424 hW (by exact rfl) (by first | rfl | exact nI_addl _ _ | (simp only [nI, Int32.ofNat_add, Int32.ofNat_mul]; rfl) | (simp only [nI_addl, nI_mull, nI_lit, nI_1']; done) | (simp only [nI_1, nI_0, nI_addl, nI_mull, ← nI_succ]; rfl)) (by omega) (by first | exact Or.inl rfl | exact Or.inr rfl | exact bI_01 _ | assumption) ?_
      refine rw_iinc f_X9_regiment_425 rfl rfl ?_
      refine rw_goto f_X9_regiment_428 ?_
      rw [nI_1']
      refine ih (j + 1) _ (by omega) (fun a i z => by rw [up_ne (by omega)]; exact fr a i z) (fun i hi => ?_)
      by_cases c : i = j
      · rw [c]; exact up_same
      · rw [up_ne (by omega)]; exact cp i (by omega)
  exact go 3 0 W (by omega) (fun _ _ _ => rfl) (fun i hi => absurd hi (by omega))
end MAll
