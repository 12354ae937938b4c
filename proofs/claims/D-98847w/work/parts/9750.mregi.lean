/-! THE MODEL: the regiment -/
section MRegi
variable {d : Nat} {h h' : am_H} {m : Nat} {V W : am_M} {g : rgT}
theorem m_regiment {t : Nat} (hW : MW h m) (ht : V 0 1 = nI t) (ht1 : t ≤ 1600) (hp : ∀ j, j < t → 0 ≤ V 1 j) {k : Int32 → am_H → Prop} (h1 : ∀ h' W g, pText (V 1) t = .inl g → gI g → Lx m h h' → Enc W g → EncS W g → EncO V W → k (nI g.1.2.2.length) (mh h' m W)) (h2 : ∀ h' W e, pText (V 1) t = .inr e → Lx m h h' → Eqv (errV V e) W → k (-1) (mh h' m W)) : Rn (d + 8) n_X9_regiment 0 [am_r m, am_u, am_u] [] (mh h m V) (kI k) := by
  refine rw_aload f_X9_regiment_0 rfl ?_
  refine rw_callV f_X9_regiment_1 rfl hW.1 hW.2.1 rfl rfl rfl rfl (rn_kv (m_readAll hW ht ht1 hp (fun h3 W g e lx pa ff en gi => ?_) (fun h3 W e e1 lx pa er => ?_)))
  rotate_left
  · have hW := lx.mw hW
    have q : Eqv (errV V e) W := by
      intro a j r
      by_cases c1 : a = 0 ∧ j = 1
      · rw [c1.1, c1.2]; exact pa.1
      by_cases c2 : a = 0 ∧ j = 2
      · rw [c2.1, c2.2]; exact er.1
      by_cases c3 : a = 0 ∧ j = 3
      · rw [c3.1, c3.2]; exact er.2.2
      rw [errV_o (by omega)]
      refine pa.2 a j (fun z => ?_) c1
      revert r
      unfold relV
      simp only [List.contains_cons, List.contains_nil, Bool.or_eq_true, Bool.and_eq_true, beq_iff_eq, Nat.beq_eq, Bool.or_false, Bool.false_eq_true, or_false]
      intro r
      unfold psc at z
      omega
    refine rw_aload f_X9_regiment_4 rfl ?_
    refine rm_getI f_X9_regiment_5 hW ?_
    refine rw_ifF f_X9_regiment_8 (decide_eq_false er.nle) ?_
    refine rw_const f_X9_regiment_11 ?_
    refine rw_iret f_X9_regiment_12 ?_
    exact h2 h3 W e e1 lx q
  have hW := lx.mw hW
  have en0 := en
  obtain ⟨⟨n1, n2, n3, n4⟩, ⟨n5, n6, n7, n8⟩, ⟨n9, n10, n11, n12⟩, -, eM, eD, eO, ⟨eF, -⟩, eW⟩ := en
  have gi0 := gi
  obtain ⟨⟨g1, g2, g3, g4⟩, -, -, -, -, gw⟩ := gi
  -- how many steps
  obtain ⟨ns, hns, eS⟩ : ∃ ns, ns ≤ 320 ∧ (match g.2.2.1.1 with | none => ns = 0 | some c => ns = c.length ∧ W 0 17 = nI ns) := by
    revert eW gw
    cases g.2.2.1.1 with
    | none => exact fun _ _ => ⟨0, by omega, rfl⟩
    | some c => exact fun eW gw => ⟨c.length, gw.1, rfl, eW.1⟩
  -- the fields
  have fields : ∀ X, (∀ a j, ¬ (a = 0 ∧ ((56 ≤ j ∧ j ≤ 61) ∨ j = 21 ∨ j = 66 ∨ j = 18)) → X a j = W a j) → X 0 56 = nI g.1.1.length → X 0 57 = nI g.1.2.1.length → X 0 58 = nI g.1.2.2.length → X 0 59 = nI g.2.1.2 → X 0 60 = g.2.2.2.1.getD 8 → X 0 61 = g.2.2.2.2.1.getD 0 → X 0 21 = nI g.2.2.1.2 → X 0 66 = bI g.2.2.1.1.isSome → X 0 18 = nI ns → Rn (d + 8) n_X9_regiment 96 [am_r m, am_u, am_u] [] (mh h3 m X) (kI k) := by
    intro X fr x1 x2 x3 x4 x5 x6 x7 x8 x9
    refine rw_const f_X9_regiment_96 ?_
    refine rw_istore f_X9_regiment_97 rfl rfl ?_
    refine m_regB (y := am_u) hW x9 hns (fun X2 fr2 cp2 => ?_)
    refine rw_const f_X9_regiment_136 ?_
    refine rw_istore f_X9_regiment_137 rfl rfl ?_
    refine m_regC hW (fun X3 z3 fr3 cp3 cf3 => ?_)
    refine rw_const f_X9_regiment_234 ?_
    refine rw_istore f_X9_regiment_235 rfl rfl ?_
    refine m_regD hW (fun X4 fr4 cp4 => ?_)
    refine rw_const f_X9_regiment_255 ?_
    refine rw_istore f_X9_regiment_256 rfl rfl ?_
    have f0 : ∀ j, X4 0 j = X 0 j := fun j => (fr4 _ _ (by omega)).trans ((fr3 _ _ (by omega)).trans (fr2 _ _ (by omega)))
    refine m_regE hW ((f0 _).trans x3) g3 (fun X5 fr5 cp5 => ?_)
    have f5 : ∀ j, X5 0 j = X 0 j := fun j => (fr5 _ _ (by omega)).trans (f0 j)
    have xw : ∀ a j, ¬ a = 0 → X a j = W a j := fun a j z => fr a j (by omega)
    have d5 : X5 0 55 = g.2.2.2.2.2.getD 0 := (f5 _).trans ((fr _ _ (by omega)).trans n8)
    refine rw_aload f_X9_regiment_380 rfl ?_
    refine rm_getR f_X9_regiment_381 hW rfl ?_
    refine rw_const f_X9_regiment_384 ?_
    refine rw_aload f_X9_regiment_386 rfl ?_
    refine rm_getI f_X9_regiment_387 hW ?_
    rw [d5]
    refine rm_iast (j := 21) f_X9_regiment_390 hW (by exact rfl) (by first | rfl | exact nI_addl _ _ | (simp only [nI, Int32.ofNat_add, Int32.ofNat_mul]; rfl) | (simp only [nI_addl, nI_mull, nI_lit, nI_1']; done) | (simp only [nI_1, nI_0, nI_addl, nI_mull, ← nI_succ]; rfl)) (by omega) ?_
    refine rw_aload f_X9_regiment_391 rfl ?_
    refine rw_const f_X9_regiment_392 ?_
    refine rm_putI f_X9_regiment_393 hW ?_
    refine rw_aload f_X9_regiment_396 rfl ?_
    refine rw_const f_X9_regiment_397 ?_
    refine rm_putI f_X9_regiment_398 hW ?_
    refine rw_aload f_X9_regiment_401 rfl ?_
    refine rw_const f_X9_regiment_402 ?_
    refine rm_putI f_X9_regiment_403 hW ?_
    refine rw_aload f_X9_regiment_406 rfl ?_
    refine rw_const f_X9_regiment_407 ?_
    refine rm_putI f_X9_regiment_408 hW ?_
    skip
    generalize hY : am_up (am_up (am_up (am_up (am_up X5 34 21 _) 0 69 0) 0 70 0) 0 93 0) 0 85 0 = Y
    have y0 : ∀ a j, ¬ ((a = 34 ∧ j = 21) ∨ (a = 0 ∧ (j = 69 ∨ j = 70 ∨ j = 93 ∨ j = 85))) → Y a j = X5 a j := fun a j z => by
      rw [← hY, up_ne (by omega), up_ne (by omega), up_ne (by omega), up_ne (by omega), up_ne (by omega)]
    have y1 : Y 34 21 = g.2.2.2.2.2.getD 0 ∧ Y 0 69 = 0 ∧ Y 0 70 = 0 ∧ Y 0 93 = 0 ∧ Y 0 85 = 0 := by
      rw [← hY]
      simp [am_up]
    clear hY
    refine rw_const f_X9_regiment_411 ?_
    refine rw_istore f_X9_regiment_412 rfl rfl ?_
    refine m_regF hW (fun Z fr6 cp6 => ?_)
    have zr : ∀ a j, ¬ a = 50 → ¬ a = 34 → ¬ a = 0 → Z a j = X5 a j := fun a j q1 q2 q3 => (fr6 _ _ q1).trans (y0 a j (by omega))
    have zf : ∀ j, ¬ (j = 69 ∨ j = 70 ∨ j = 93 ∨ j = 85) → Z 0 j = X 0 j := fun j q => (fr6 _ _ (by omega)).trans ((y0 _ _ (by omega)).trans (f5 j))
    have zb : Z 0 58 = nI g.1.2.2.length := (zf _ (by omega)).trans x3
    rw [zb]
    -- the rows
    have r4 : ∀ a j, ¬ ((26 ≤ a ∧ a ≤ 31) ∨ a = 33 ∨ a = 34 ∨ a = 0 ∨ a = 50) → Z a j = X3 a j := fun a j q => (zr a j (by omega) (by omega) (by omega)).trans ((fr5 _ _ (by omega)).trans (fr4 _ _ (by omega)))
    have w3 : ∀ a j, ¬ (15 ≤ a ∧ a ≤ 19) → ¬ a = 5 → ¬ a = 6 → ¬ a = 0 → X3 a j = W a j := fun a j q1 q2 q3 q4 => (fr3 a j q1).trans ((fr2 a j (by omega)).trans (xw a j q4))
    have w2 : ∀ a j, ¬ a = 5 → ¬ a = 6 → ¬ a = 0 → X2 a j = W a j := fun a j q2 q3 q4 => (fr2 a j (by omega)).trans (xw a j q4)
    have w4 : ∀ a j, ¬ (15 ≤ a ∧ a ≤ 19) → ¬ a = 5 → ¬ a = 6 → ¬ a = 0 → ¬ a = 34 → X4 a j = W a j := fun a j q1 q2 q3 q4 q5 => (fr4 a j q5).trans (w3 a j q1 q2 q3 q4)
    have EO : ∀ (i : Nat) (v : oaT), g.1.2.2[i]? = some v → i < 10 := fun i v hv => by have := (List.getElem?_eq_some_iff.mp hv).1; omega
    have row : ∀ i, i < 10 → Z 26 i = W 20 i ∧ Z 27 i = W 21 i ∧ Z 28 i = W 22 i ∧ Z 33 i = vp_nar .boolean (W 32 i) ∧ Z 29 i = W 23 i ∧ Z 30 i = W 24 i ∧ Z 31 i = W 25 i := by
      intro i hi
      obtain ⟨c1, c2, c3, c4, c5, c6, c7, -⟩ := cp5 i hi
      rw [zr _ _ (by omega) (by omega) (by omega), zr _ _ (by omega) (by omega) (by omega), zr _ _ (by omega) (by omega) (by omega), zr _ _ (by omega) (by omega) (by omega), zr _ _ (by omega) (by omega) (by omega), zr _ _ (by omega) (by omega) (by omega), zr _ _ (by omega) (by omega) (by omega), c1, c2, c3, c4, c5, c6, c7, w4 _ _ (by omega) (by omega) (by omega) (by omega) (by omega), w4 _ _ (by omega) (by omega) (by omega) (by omega) (by omega), w4 _ _ (by omega) (by omega) (by omega) (by omega) (by omega), w4 _ _ (by omega) (by omega) (by omega) (by omega) (by omega), w4 _ _ (by omega) (by omega) (by omega) (by omega) (by omega), w4 _ _ (by omega) (by omega) (by omega) (by omega) (by omega), w4 _ _ (by omega) (by omega) (by omega) (by omega) (by omega)]
      exact ⟨rfl, rfl, rfl, rfl, rfl, rfl, rfl⟩
    refine h1 h3 Z g e gi0 lx ⟨⟨(zf _ (by omega)).trans x1, (zf _ (by omega)).trans x2, zb, (zf _ (by omega)).trans x4, (zf _ (by omega)).trans x7, (zf _ (by omega)).trans x5, (zf _ (by omega)).trans x6⟩, fun i v hv => ?_, fun i v hv => ?_, fun i v hv => ?_, fun a b ha hb => ?_, ?_⟩ ⟨fun j hj => ?_, (fr6 _ _ (by omega)).trans y1.2.1, (fr6 _ _ (by omega)).trans y1.2.2.1, (fr6 _ _ (by omega)).trans y1.2.2.2.1, (fr6 _ _ (by omega)).trans y1.2.2.2.2, cp6⟩ ⟨?_, ?_, ?_, ?_, fun j _ => ?_⟩
    · have hi : i < 6 := by have := (List.getElem?_eq_some_iff.mp hv).1; omega
      obtain ⟨c1, c2, c3, -⟩ := cp3 i hi
      rw [r4 _ _ (by omega), r4 _ _ (by omega), r4 _ _ (by omega), c1, c2, c3, w2 _ _ (by omega) (by omega) (by omega), w2 _ _ (by omega) (by omega) (by omega), w2 _ _ (by omega) (by omega) (by omega)]
      exact eM i v hv
    · have hi : i < 6 := by have := (List.getElem?_eq_some_iff.mp hv).1; omega
      obtain ⟨-, -, -, c4⟩ := cp3 i hi
      rw [r4 _ _ (by omega), c4, w2 _ _ (by omega) (by omega) (by omega)]
      exact eD i v hv
    · obtain ⟨c1, c2, c3, c4, c5, c6, c7⟩ := row i (EO i v hv)
      obtain ⟨o1, o2, o3, o4, o5, o6, o7⟩ := eO i v hv
      rw [c1, c2, c3, c4, c5, c6, c7, o1, o2, o3, o4, o5, o6, o7, nar_bI]
      exact ⟨rfl, rfl, rfl, rfl, rfl, rfl, rfl⟩
    · rw [r4 _ _ (by omega), cf3 _ (by omega), w2 _ _ (by omega) (by omega) (by omega)]
      exact eF a b ha hb
    · revert eW eS
      cases hc : g.2.2.1.1 with
      | none =>
        intro _ _
        show Z 0 66 = 0
        rw [zf _ (by omega), x8, hc]; rfl
      | some c =>
        intro eW eS
        refine ⟨?_, ?_, ?_⟩
        · rw [zf _ (by omega), x8, hc]; rfl
        · rw [zf _ (by omega), x9, eS.1]
        · apply List.ext_getElem?
          intro i
          unfold stepsOf
          rw [List.getElem?_map]
          by_cases ci : i < c.length
          · obtain ⟨s, hs⟩ := get_of ci
            have := eW.2 i s hs
            rw [List.getElem?_range ci, hs]
            show some (Z 5 i, Z 6 i) = some s
            rw [r4 _ _ (by omega), r4 _ _ (by omega), fr3 _ _ (by omega), fr3 _ _ (by omega), (cp2 i (by omega)).1, (cp2 i (by omega)).2, xw _ _ (by omega), xw _ _ (by omega), this.1, this.2]
          · rw [List.getElem?_eq_none (by rw [List.length_range]; omega), List.getElem?_eq_none (by omega)]; rfl
    · unfold startF
      have zj : ∀ j, ¬ j = 21 → Z 34 j = X5 34 j := fun j q => (fr6 _ _ (by omega)).trans (y0 _ _ (by omega))
      by_cases c1 : 10 ≤ j ∧ j < 20
      · rw [if_pos c1, zj _ (by omega)]
        have c8 := (cp5 (j - 10) (by omega)).2.2.2.2.2.2.2
        rw [show 10 + (j - 10) = j by omega] at c8
        rw [c8]
        by_cases c2 : j - 10 < g.1.2.2.length
        · obtain ⟨v, hv⟩ := get_of c2
          rw [if_pos c2, hv, w4 _ _ (by omega) (by omega) (by omega) (by omega) (by omega)]
          exact (eO _ v hv).2.2.2.2.2.1
        · rw [if_neg c2, List.getElem?_eq_none (by omega)]
      · rw [if_neg c1]
        by_cases c2 : j = 21
        · rw [if_pos c2, c2]; exact (fr6 _ _ (by omega)).trans y1.1
        · rw [if_neg c2, zj _ c2, fr5 _ _ (by omega)]; exact cp4 j hj
    · rw [zf _ (by omega), fr _ _ (by omega)]; exact pa.1
    · rw [zf _ (by omega), fr _ _ (by omega)]; exact ff
    · rw [zf _ (by omega), fr _ _ (by omega)]; exact n12.2
    · rw [zf _ (by omega), fr _ _ (by omega)]; exact pa.2 _ _ (by unfold psc; omega) (by omega)
    · rw [r4 _ _ (by omega), w3 _ _ (by omega) (by omega) (by omega) (by omega)]; exact pa.2 _ _ (by unfold psc; omega) (by omega)
  -- the walk to the fields
  have hz : W 0 62 = 0 ∨ W 0 62 = 1 := by rw [n9]; exact bI_01 _
  cases hc : g.2.2.1.1 with
  | none =>
    rw [hc] at eS n9
    have z0 : W 0 62 = 0 := n9
    refine rw_aload f_X9_regiment_4 rfl ?_
    refine rm_getI f_X9_regiment_5 hW ?_
    rw [ff]
    refine rw_ifT f_X9_regiment_8 (by decide) ?_
    refine rw_aload f_X9_regiment_13 rfl ?_
    refine rw_aload f_X9_regiment_14 rfl ?_
    refine rm_getI f_X9_regiment_15 hW ?_
    refine rm_putI f_X9_regiment_18 hW ?_
    refine rw_aload f_X9_regiment_21 rfl ?_
    refine rw_aload f_X9_regiment_22 rfl ?_
    refine rm_getI f_X9_regiment_23 hW ?_
    refine rm_putI f_X9_regiment_26 hW ?_
    refine rw_aload f_X9_regiment_29 rfl ?_
    refine rw_aload f_X9_regiment_30 rfl ?_
    refine rm_getI f_X9_regiment_31 hW ?_
    refine rm_putI f_X9_regiment_34 hW ?_
    refine rw_aload f_X9_regiment_37 rfl ?_
    refine rw_aload f_X9_regiment_38 rfl ?_
    refine rm_getI f_X9_regiment_39 hW ?_
    refine rm_putI f_X9_regiment_42 hW ?_
    refine rw_aload f_X9_regiment_45 rfl ?_
    refine rw_aload f_X9_regiment_46 rfl ?_
    refine rm_getI f_X9_regiment_47 hW ?_
    refine rm_putI f_X9_regiment_50 hW ?_
    refine rw_aload f_X9_regiment_53 rfl ?_
    refine rw_aload f_X9_regiment_54 rfl ?_
    refine rm_getI f_X9_regiment_55 hW ?_
    refine rm_putI f_X9_regiment_58 hW ?_
    refine rw_aload f_X9_regiment_61 rfl ?_
    refine rw_aload f_X9_regiment_62 rfl ?_
    refine rm_getI f_X9_regiment_63 hW ?_
    refine rm_putI f_X9_regiment_66 hW ?_
    refine rw_aload f_X9_regiment_69 rfl ?_
    refine rw_aload f_X9_regiment_70 rfl ?_
    refine rm_getI f_X9_regiment_71 hW ?_
    refine rm_putZ f_X9_regiment_74 hW (by simpa [am_up] using hz) ?_
    refine rw_aload f_X9_regiment_77 rfl ?_
    refine rw_aload f_X9_regiment_78 rfl ?_
    refine rm_getI f_X9_regiment_79 hW ?_
    refine rw_ifT f_X9_regiment_82 (decide_eq_true (by simpa [am_up] using z0)) ?_
    refine rw_const f_X9_regiment_92 ?_
    refine rm_putI f_X9_regiment_93 hW ?_
    refine fields _ (fun a j q => by repeat rw [up_ne (by omega)]) ?_ ?_ ?_ ?_ ?_ ?_ ?_ ?_ ?_
    · simpa [am_up] using n1
    · simpa [am_up] using n2
    · simpa [am_up] using n3
    · simpa [am_up] using n4
    · simpa [am_up] using n6
    · simpa [am_up] using n7
    · simpa [am_up] using n5
    · rw [hc]; simpa [am_up] using n9
    · rw [eS]; simp [am_up]; rfl
  | some c =>
    rw [hc] at eS n9
    have z0 : ¬ W 0 62 = 0 := by rw [n9]; show ¬ bI true = 0; decide
    refine rw_aload f_X9_regiment_4 rfl ?_
    refine rm_getI f_X9_regiment_5 hW ?_
    rw [ff]
    refine rw_ifT f_X9_regiment_8 (by decide) ?_
    refine rw_aload f_X9_regiment_13 rfl ?_
    refine rw_aload f_X9_regiment_14 rfl ?_
    refine rm_getI f_X9_regiment_15 hW ?_
    refine rm_putI f_X9_regiment_18 hW ?_
    refine rw_aload f_X9_regiment_21 rfl ?_
    refine rw_aload f_X9_regiment_22 rfl ?_
    refine rm_getI f_X9_regiment_23 hW ?_
    refine rm_putI f_X9_regiment_26 hW ?_
    refine rw_aload f_X9_regiment_29 rfl ?_
    refine rw_aload f_X9_regiment_30 rfl ?_
    refine rm_getI f_X9_regiment_31 hW ?_
    refine rm_putI f_X9_regiment_34 hW ?_
    refine rw_aload f_X9_regiment_37 rfl ?_
    refine rw_aload f_X9_regiment_38 rfl ?_
    refine rm_getI f_X9_regiment_39 hW ?_
    refine rm_putI f_X9_regiment_42 hW ?_
    refine rw_aload f_X9_regiment_45 rfl ?_
    refine rw_aload f_X9_regiment_46 rfl ?_
    refine rm_getI f_X9_regiment_47 hW ?_
    refine rm_putI f_X9_regiment_50 hW ?_
    refine rw_aload f_X9_regiment_53 rfl ?_
    refine rw_aload f_X9_regiment_54 rfl ?_
    refine rm_getI f_X9_regiment_55 hW ?_
    refine rm_putI f_X9_regiment_58 hW ?_
    refine rw_aload f_X9_regiment_61 rfl ?_
    refine rw_aload f_X9_regiment_62 rfl ?_
    refine rm_getI f_X9_regiment_63 hW ?_
    refine rm_putI f_X9_regiment_66 hW ?_
    refine rw_aload f_X9_regiment_69 rfl ?_
    refine rw_aload f_X9_regiment_70 rfl ?_
    refine rm_getI f_X9_regiment_71 hW ?_
    refine rm_putZ f_X9_regiment_74 hW (by simpa [am_up] using hz) ?_
    refine rw_aload f_X9_regiment_77 rfl ?_
    refine rw_aload f_X9_regiment_78 rfl ?_
    refine rm_getI f_X9_regiment_79 hW ?_
    refine rw_ifF f_X9_regiment_82 (decide_eq_false (by simpa [am_up] using z0)) ?_
    refine rw_aload f_X9_regiment_85 rfl ?_
    refine rm_getI f_X9_regiment_86 hW ?_
    refine rw_goto f_X9_regiment_89 ?_
    refine rm_putI f_X9_regiment_93 hW ?_
    refine fields _ (fun a j q => by repeat rw [up_ne (by omega)]) ?_ ?_ ?_ ?_ ?_ ?_ ?_ ?_ ?_
    · simpa [am_up] using n1
    · simpa [am_up] using n2
    · simpa [am_up] using n3
    · simpa [am_up] using n4
    · simpa [am_up] using n6
    · simpa [am_up] using n7
    · simpa [am_up] using n5
    · rw [hc]; simpa [am_up] using n9
    · simpa [am_up] using eS.2
end MRegi
