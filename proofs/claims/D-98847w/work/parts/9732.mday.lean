/-! THE MODEL: a day, days ahead, undo and redo -/
theorem goF_V {V V' : am_M} (e : ∀ a j, regA a j = true → V' a j = V a j) (nB : Nat) (f : Nat → Int32) : goF V' nB f = goF V nB f := by
  have et : ∀ b, thN V' f b = thN V f b := fun b => by unfold thN; rw [wrV_V e, hoV_V e, e 0 61 rfl]
  have e1 : ∀ b, s1N V' f b = s1N V f b := fun b => by unfold s1N; rw [et]
  have e2 : ∀ b, s2N V' f b = s2N V f b := fun b => by unfold s2N; rw [e1, e 29 b rfl, e 33 b rfl]
  funext j
  unfold goF
  simp only [e2, et]
theorem lostN_V {V V' : am_M} (e : ∀ a j, regA a j = true → V' a j = V a j) (f : Nat → Int32) : lostN V' f = lostN V f := by
  funext b
  unfold lostN thN
  rw [wrV_V e, hoV_V e, e 0 61 rfl]
theorem ite_s {α : Type} {j b : Nat} {x y : α} (h : ¬ j = b) : (if j < b + 1 then x else y) = if j < b then x else y := by
  by_cases e : j < b
  · rw [if_pos e, if_pos (by omega)]
  · rw [if_neg e, if_neg (by omega)]
section MDay
variable {d : Nat} {h : am_H} {m : Nat} {V : am_M} {k : Int32 → am_H → Prop} {nM nD nB nA nU nT nL : Nat}
/-- scratch of a day -/
def dsc (a j : Nat) : Prop := a = 8 ∨ a = 9 ∨ a = 36 ∨ a = 37 ∨ (a = 0 ∧ (j = 73 ∨ j = 74))
def Sd (V W : am_M) : Prop := ∀ a j, ¬ dsc a j → W a j = V a j
theorem Sd.refl : Sd V V := fun _ _ _ => rfl
theorem Sd.tr {V1 V2 : am_M} (p : Sd V V1) (q : Sd V1 V2) : Sd V V2 := fun a j e => (q a j e).trans (p a j e)
theorem Sd.up {W : am_M} {a k : Nat} {v : Int32} (p : Sd V W) (e : dsc a k) : Sd V (am_up W a k v) := fun b j r => by
  rw [up_ne (fun z => r (by rw [z.1, z.2]; exact e))]
  exact p b j r
theorem Sd.w {W X : am_M} (p : Sd V W) (q : ∀ a, ¬ a = 8 → ¬ a = 9 → X a = W a) : Sd V X := fun a j r => by
  rw [q a (fun z => r (Or.inl z)) (fun z => r (Or.inr (Or.inl z)))]
  exact p a j r
theorem rel_dsc {a j : Nat} (e : relV a j = true) : ¬ dsc a j := by
  intro z
  rcases z with z | z | z | z | ⟨z, y | y⟩
  all_goals (subst z; try subst y)
  all_goals cases e
theorem Sd.eqv {W : am_M} (p : Sd V W) : Eqv V W := fun a j e => p a j (rel_dsc e)
theorem Sd.reg {W : am_M} (p : Sd V W) : ∀ a j, regA a j = true → W a j = V a j := p.eqv.reg
/-- the picture at hand -/
def DS (V : am_M) (f : Nat → Int32) : Prop := (∀ b, b < 10 → V 36 b = f b ∧ V 37 b = f (10 + b)) ∧ V 0 73 = f 20 ∧ V 0 74 = f 21
theorem m_load (hW : MW h m) {k : am_H → Prop} (hk : ∀ W, Sd V W → DS W (V 34) → k (mh h m W)) : Rn d n_X9_load 0 [am_r m, am_u] [] (mh h m V) (kV k) := by
  refine rw_const f_X9_load_0 ?_
  refine rw_istore f_X9_load_1 rfl rfl ?_
  refine rn_inv (N := 10) (fun b ls hh => ∃ W, hh = mh h m W ∧ ls = [am_r m, am_i (nI b)] ∧ Sd V W ∧ ∀ j, j < b → W 36 j = V 34 j ∧ W 37 j = V 34 (10 + j)) (fun b hb ls hh hi ih => ?_) (fun ls hh hi => ?_) ⟨V, rfl, rfl, .refl, fun j hj => absurd hj (Nat.not_lt_zero j)⟩
  · obtain ⟨W, rfl, rfl, sd, hq⟩ := hi
    have eN : W 34 = V 34 := funext fun j => sd _ _ (by unfold dsc; omega)
    refine rw_iload f_X9_load_2 rfl ?_
    refine rw_const f_X9_load_3 ?_
    refine rw_icmpF f_X9_load_5 (decide_eq_false (by rw [show (10 : Int32) = nI 10 from rfl]; exact nI_ge hb (by omega))) ?_
    refine rw_aload f_X9_load_8 rfl ?_
    refine rm_getR f_X9_load_9 hW rfl ?_
    refine rw_iload f_X9_load_12 rfl ?_
    refine rw_aload f_X9_load_13 rfl ?_
    refine rm_getR f_X9_load_14 hW rfl ?_
    refine rw_iload f_X9_load_17 rfl ?_
    refine rm_xald f_X9_load_18 hW (by exact rfl) rfl (by omega) ?_
    rw [eN]
    refine rm_iast f_X9_load_19 hW (by exact rfl) rfl (by omega) ?_
    refine rw_aload f_X9_load_20 rfl ?_
    refine rm_getR f_X9_load_21 hW rfl ?_
    refine rw_iload f_X9_load_24 rfl ?_
    refine rw_aload f_X9_load_25 rfl ?_
    refine rm_getR f_X9_load_26 hW rfl ?_
    refine rw_const f_X9_load_29 ?_
    refine rw_iload f_X9_load_31 rfl ?_
    refine rw_iadd f_X9_load_32 ?_
    refine rm_xald (j := 10 + b) f_X9_load_33 hW (by exact rfl) (by first | rfl | exact nI_addl _ _ | (simp only [nI, Int32.ofNat_add, Int32.ofNat_mul]; rfl) | (simp only [nI_addl, nI_mull, nI_lit, nI_1']; done) | (simp only [nI_1, nI_0, nI_addl, nI_mull, ← nI_succ]; rfl)) (by omega) ?_
    rw [up_row (by decide), eN]
    refine rm_iast f_X9_load_34 hW (by exact rfl) rfl (by omega) ?_
    refine rw_iinc f_X9_load_35 rfl rfl ?_
    refine rw_goto f_X9_load_38 ?_
    rw [nI_1']
    refine ih _ _ ⟨_, rfl, rfl, (sd.up (by unfold dsc; omega)).up (by unfold dsc; omega), fun j hj => ?_⟩
    (rw [up_row (by decide), up_at, up_at, up_row (by decide)])
    (by_cases e : j = b)
    · (rw [if_pos e, if_pos e, e]; exact ⟨rfl, rfl⟩)
    · (rw [if_neg e, if_neg e]; exact hq j (by omega))
  · obtain ⟨W, rfl, rfl, sd, hq⟩ := hi
    have eN : W 34 = V 34 := funext fun j => sd _ _ (by unfold dsc; omega)
    refine rw_iload f_X9_load_2 rfl ?_
    refine rw_const f_X9_load_3 ?_
    refine rw_icmpT f_X9_load_5 (by decide) ?_
    refine rw_aload f_X9_load_41 rfl ?_
    refine rw_aload f_X9_load_42 rfl ?_
    refine rm_getR f_X9_load_43 hW rfl ?_
    refine rw_const f_X9_load_46 ?_
    refine rm_xald (j := 20) f_X9_load_48 hW (by exact rfl) (by first | rfl | exact nI_addl _ _ | (simp only [nI, Int32.ofNat_add, Int32.ofNat_mul]; rfl) | (simp only [nI_addl, nI_mull, nI_lit, nI_1']; done) | (simp only [nI_1, nI_0, nI_addl, nI_mull, ← nI_succ]; rfl)) (by omega) ?_
    rw [eN]
    refine rm_putI f_X9_load_49 hW ?_
    refine rw_aload f_X9_load_52 rfl ?_
    refine rw_aload f_X9_load_53 rfl ?_
    refine rm_getR f_X9_load_54 hW rfl ?_
    refine rw_const f_X9_load_57 ?_
    refine rm_xald (j := 21) f_X9_load_59 hW (by exact rfl) (by first | rfl | exact nI_addl _ _ | (simp only [nI, Int32.ofNat_add, Int32.ofNat_mul]; rfl) | (simp only [nI_addl, nI_mull, nI_lit, nI_1']; done) | (simp only [nI_1, nI_0, nI_addl, nI_mull, ← nI_succ]; rfl)) (by omega) ?_
    rw [up_row (by decide), eN]
    refine rm_putI f_X9_load_60 hW ?_
    refine rw_vret f_X9_load_63 ?_
    refine hk _ ((sd.up (by unfold dsc; omega)).up (by unfold dsc; omega)) ⟨fun j hj => ?_, ?_, ?_⟩
    · (rw [up_row (by decide), up_row (by decide), up_row (by decide), up_row (by decide)]; exact hq j hj)
    · (rw [up_at, if_neg (by decide), up_at, if_pos rfl])
    · (rw [up_at, if_pos rfl])
def q1I (h : am_H) (m : Nat) (V : am_M) (f : Nat → Int32) (b : Nat) (ls : List am_V) (hh : am_H) : Prop := ∃ W, hh = mh h m W ∧ ls = [am_r m, am_i (stN (V 0 61) (sdN (f 21))), am_i (cntB (lostN V f) b), am_i (nI b)] ∧ Sd V W ∧ (∀ j, j < 10 → W 36 j = (if j < b then s1N V f j else f j) ∧ W 37 j = (if j < b then thN V f j else f (10 + j))) ∧ W 0 73 = f 20 ∧ W 0 74 = sdN (f 21)
theorem m_go1 (hW : MW h m) (hB : WB V nM nD nB) {f : Nat → Int32} {K : am_R → am_H → Prop} (b : Nat) (hb : b < nB) (ls : List am_V) (hh : am_H) (hi : q1I h m V f b ls hh) (ih : ∀ ls' hh', q1I h m V f (b + 1) ls' hh' → Rn (d + 3) n_X9_goDay 46 ls' [] hh' K) : Rn (d + 3) n_X9_goDay 46 ls [] hh K := by
  obtain ⟨W, rfl, rfl, sd, hq, e20, e21⟩ := hi
  obtain ⟨⟨fM, fM6, fD, fD6, fB, fB10⟩, fO, -, -, -, fW⟩ := hB
  obtain ⟨es, et⟩ := hq b (by omega)
  rw [if_neg (Nat.lt_irrefl b)] at es et
  obtain ⟨a, ha, ea⟩ := (fO b hb).2.1
  have rB : W 0 58 = V 0 58 := sd _ _ (by unfold dsc; omega)
  have rBy : W 27 b = V 27 b := sd _ _ (by unfold dsc; omega)
  have rH : W 16 a = hoV V b := by unfold hoV; rw [ea, nI_clamp (by omega)]; exact sd _ _ (by unfold dsc; omega)
  by_cases c : f b = 0
  · have eth : thN V f b = f (10 + b) - wrV V (f (10 + b)) (hoV V b) (stN (V 0 61) (sdN (f 21))) (f 20) := by unfold thN; rw [if_pos c]
    have fin : ∀ X Y : am_M, (∀ a, ¬ a = 8 → ¬ a = 9 → X a = W a) → (∀ a, ¬ a = 36 → Y a = am_up X 37 b (thN V f b) a) → (∀ j, Y 36 j = if j = b then s1N V f b else X 36 j) → Rn (d + 3) n_X9_goDay 46 [am_r m, am_i (stN (V 0 61) (sdN (f 21))), am_i (cntB (lostN V f) (b + 1)), am_i (nI (b + 1))] [] (mh h m Y) K := by
      intro X Y hX hY hS
      refine ih _ _ ⟨Y, rfl, rfl, fun a j r => ?_, fun j hj => ⟨?_, ?_⟩, ?_, ?_⟩
      · have r1 : ¬ a = 8 := fun z => r (Or.inl z)
        have r2 : ¬ a = 9 := fun z => r (Or.inr (Or.inl z))
        have r3 : ¬ a = 36 := fun z => r (Or.inr (Or.inr (Or.inl z)))
        have r4 : ¬ a = 37 := fun z => r (Or.inr (Or.inr (Or.inr (Or.inl z))))
        rw [hY a r3, up_row r4, hX a r1 r2]
        exact sd a j r
      · rw [hS]
        by_cases e : j = b
        · subst e; rw [if_pos rfl, if_pos (by omega)]
        · rw [if_neg e, ite_s e, hX _ (by decide) (by decide)]; exact (hq j hj).1
      · rw [hY _ (by decide), up_at]
        by_cases e : j = b
        · subst e; rw [if_pos rfl, if_pos (by omega)]
        · rw [if_neg e, ite_s e, hX _ (by decide) (by decide)]; exact (hq j hj).2
      · rw [hY _ (by decide), up_row (by decide), hX _ (by decide) (by decide)]; exact e20
      · rw [hY _ (by decide), up_row (by decide), hX _ (by decide) (by decide)]; exact e21
    refine rw_iload f_X9_goDay_46 rfl ?_
    refine rw_aload f_X9_goDay_47 rfl ?_
    refine rm_getI f_X9_goDay_48 hW ?_
    rw [rB, fB]
    refine rw_icmpF f_X9_goDay_51 (decide_eq_false (nI_ge hb (by omega))) ?_
    refine rw_aload f_X9_goDay_54 rfl ?_
    refine rm_getR f_X9_goDay_55 hW rfl ?_
    refine rw_iload f_X9_goDay_58 rfl ?_
    refine rm_xald f_X9_goDay_59 hW (by exact rfl) rfl (by omega) ?_
    rw [es, c]
    refine rw_ifT f_X9_goDay_60 (by decide) ?_
    refine rw_aload f_X9_goDay_66 rfl ?_
    refine rm_getR f_X9_goDay_67 hW rfl ?_
    refine rw_iload f_X9_goDay_70 rfl ?_
    refine rw_dup2 f_X9_goDay_71 ?_
    refine rm_xald f_X9_goDay_72 hW (by exact rfl) rfl (by omega) ?_
    rw [et]
    refine rw_aload f_X9_goDay_73 rfl ?_
    refine rw_aload f_X9_goDay_74 rfl ?_
    refine rm_getR f_X9_goDay_75 hW rfl ?_
    refine rw_iload f_X9_goDay_78 rfl ?_
    refine rm_xald f_X9_goDay_79 hW (by exact rfl) rfl (by omega) ?_
    rw [et]
    refine rw_aload f_X9_goDay_80 rfl ?_
    refine rm_getR f_X9_goDay_81 hW rfl ?_
    refine rw_aload f_X9_goDay_84 rfl ?_
    refine rm_getR f_X9_goDay_85 hW rfl ?_
    refine rw_iload f_X9_goDay_88 rfl ?_
    refine rm_xald f_X9_goDay_89 hW (by exact rfl) rfl (by omega) ?_
    rw [rBy, ea]
    refine rm_xald (j := a) f_X9_goDay_90 hW (by exact rfl) (by first | rfl | exact nI_addl _ _ | (simp only [nI, Int32.ofNat_add, Int32.ofNat_mul]; rfl) | (simp only [nI_addl, nI_mull, nI_lit, nI_1']; done) | (simp only [nI_1, nI_0, nI_addl, nI_mull, ← nI_succ]; rfl)) (by omega) ?_
    rw [rH]
    refine rw_iload f_X9_goDay_91 rfl ?_
    refine rw_aload f_X9_goDay_92 rfl ?_
    refine rm_getI f_X9_goDay_93 hW ?_
    rw [e20]
    refine rw_callV f_X9_goDay_96 rfl hW.1 hW.2.1 rfl rfl rfl rfl (rn_ki (m_wearOf hW (okWear_V sd.reg fW) (fun X hX => ?_)))
    rw [wrV_V sd.reg]
    refine rw_isub f_X9_goDay_99 ?_
    refine rm_iast (j := b) f_X9_goDay_100 hW (by exact rfl) (by first | rfl | exact nI_addl _ _ | (simp only [nI, Int32.ofNat_add, Int32.ofNat_mul]; rfl) | (simp only [nI_addl, nI_mull, nI_lit, nI_1']; done) | (simp only [nI_1, nI_0, nI_addl, nI_mull, ← nI_succ]; rfl)) (by omega) ?_
    rw [← eth]
    refine rw_aload f_X9_goDay_101 rfl ?_
    refine rm_getR f_X9_goDay_102 hW rfl ?_
    refine rw_iload f_X9_goDay_105 rfl ?_
    refine rm_xald f_X9_goDay_106 hW (by exact rfl) rfl (by omega) ?_
    rw [up_same]
    refine rw_le0 f_X9_goDay_107 (fun c1 => ?_) (fun c1 => ?_)
    · refine rw_aload f_X9_goDay_113 rfl ?_
      refine rm_getR f_X9_goDay_114 hW rfl ?_
      refine rw_iload f_X9_goDay_117 rfl ?_
      refine rw_const f_X9_goDay_118 ?_
      refine rm_iast f_X9_goDay_119 hW (by exact rfl) rfl (by omega) ?_
      refine rw_iinc f_X9_goDay_120 rfl rfl ?_
      refine rw_iinc f_X9_goDay_123 rfl rfl ?_
      refine rw_goto f_X9_goDay_126 ?_
      rw [nI_1']
      first | (have z := fin X (am_up (am_up X 37 b (thN V f b)) 36 b 4) hX (fun a ha => up_row ha) (fun j => by rw [up_at, up_row (by decide)]; unfold s1N; rw [if_pos c, if_pos c1])); (simpa [cntB, lostN, c, c1, bI, am_put, am_kill] using z) | (have z := fin X (am_up X 37 b (thN V f b)) hX (fun a ha => rfl) (fun j => by (rw [up_row (by decide)]; unfold s1N; rw [if_pos c, if_neg c1]; by_cases e : j = b; (rw [if_pos e, e, hX _ (by decide) (by decide), es]); (rw [if_neg e])))); (simpa [cntB, lostN, c, c1, bI, am_put, am_kill] using z)
    · refine rw_goto f_X9_goDay_110 ?_
      refine rw_iinc f_X9_goDay_123 rfl rfl ?_
      refine rw_goto f_X9_goDay_126 ?_
      rw [nI_1']
      first | (have z := fin X (am_up (am_up X 37 b (thN V f b)) 36 b 4) hX (fun a ha => up_row ha) (fun j => by rw [up_at, up_row (by decide)]; unfold s1N; rw [if_pos c, if_pos c1])); (simpa [cntB, lostN, c, c1, bI, am_put, am_kill] using z) | (have z := fin X (am_up X 37 b (thN V f b)) hX (fun a ha => rfl) (fun j => by (rw [up_row (by decide)]; unfold s1N; rw [if_pos c, if_neg c1]; by_cases e : j = b; (rw [if_pos e, e, hX _ (by decide) (by decide), es]); (rw [if_neg e])))); (simpa [cntB, lostN, c, c1, bI, am_put, am_kill] using z)
  · refine rw_iload f_X9_goDay_46 rfl ?_
    refine rw_aload f_X9_goDay_47 rfl ?_
    refine rm_getI f_X9_goDay_48 hW ?_
    rw [rB, fB]
    refine rw_icmpF f_X9_goDay_51 (decide_eq_false (nI_ge hb (by omega))) ?_
    refine rw_aload f_X9_goDay_54 rfl ?_
    refine rm_getR f_X9_goDay_55 hW rfl ?_
    refine rw_iload f_X9_goDay_58 rfl ?_
    refine rm_xald f_X9_goDay_59 hW (by exact rfl) rfl (by omega) ?_
    rw [es]
    refine rw_ifF f_X9_goDay_60 (decide_eq_false c) ?_
    refine rw_goto f_X9_goDay_63 ?_
    refine rw_iinc f_X9_goDay_123 rfl rfl ?_
    refine rw_goto f_X9_goDay_126 ?_
    rw [nI_1']
    refine ih _ _ ⟨W, rfl, ?_, sd, fun j hj => ?_, e20, e21⟩
    · (simp [cntB, lostN, c, bI, am_put, am_kill])
    · (by_cases e : j = b; (subst e; rw [if_pos (by omega), if_pos (by omega), es, et]; unfold s1N thN; rw [if_neg c, if_neg c]; exact ⟨rfl, rfl⟩); (rw [ite_s e, ite_s e]; exact hq j hj))
def q2I (h : am_H) (m : Nat) (V : am_M) (nB : Nat) (f : Nat → Int32) (b : Nat) (ls : List am_V) (hh : am_H) : Prop := ∃ W, hh = mh h m W ∧ ls = [am_r m, am_i (stN (V 0 61) (sdN (f 21))), am_i (cntB (lostN V f) nB), am_i (nI b)] ∧ Sd V W ∧ (∀ j, j < 10 → W 36 j = (if j < b then s2N V f j else if j < nB then s1N V f j else f j) ∧ W 37 j = (if j < nB then thN V f j else f (10 + j))) ∧ W 0 73 = f 20 + 1 ∧ W 0 74 = sdN (f 21)
theorem m_go2 (hW : MW h m) (hB : WB V nM nD nB) {f : Nat → Int32} {K : am_R → am_H → Prop} (b : Nat) (hb : b < nB) (ls : List am_V) (hh : am_H) (hi : q2I h m V nB f b ls hh) (ih : ∀ ls' hh', q2I h m V nB f (b + 1) ls' hh' → Rn (d + 3) n_X9_goDay 141 ls' [] hh' K) : Rn (d + 3) n_X9_goDay 141 ls [] hh K := by
  obtain ⟨W, rfl, rfl, sd, hq, e20, e21⟩ := hi
  obtain ⟨⟨fM, fM6, fD, fD6, fB, fB10⟩, fO, -, -, -, fW⟩ := hB
  obtain ⟨es, et⟩ := hq b (by omega)
  rw [if_neg (Nat.lt_irrefl b), if_pos hb] at es
  have rB : W 0 58 = V 0 58 := sd _ _ (by unfold dsc; omega)
  have rU : W 29 b = V 29 b := sd _ _ (by unfold dsc; omega)
  have rP : W 33 b = V 33 b := sd _ _ (by unfold dsc; omega)
  have same : s2N V f b = s1N V f b → Rn (d + 3) n_X9_goDay 141 [am_r m, am_i (stN (V 0 61) (sdN (f 21))), am_i (cntB (lostN V f) nB), am_i (nI (b + 1))] [] (mh h m W) K := by
    intro e0
    refine ih _ _ ⟨W, rfl, rfl, sd, fun j hj => ⟨?_, (hq j hj).2⟩, e20, e21⟩
    by_cases e : j = b
    · subst e; rw [if_pos (by omega), es, e0]
    · rw [ite_s e]; exact (hq j hj).1
  have put : ∀ v, s2N V f b = v → Rn (d + 3) n_X9_goDay 141 [am_r m, am_i (stN (V 0 61) (sdN (f 21))), am_i (cntB (lostN V f) nB), am_i (nI (b + 1))] [] (mh h m (am_up W 36 b v)) K := by
    intro v e0
    refine ih _ _ ⟨_, rfl, rfl, sd.up (by unfold dsc; omega), fun j hj => ⟨?_, by rw [up_row (by decide)]; exact (hq j hj).2⟩, by rw [up_row (by decide)]; exact e20, by rw [up_row (by decide)]; exact e21⟩
    rw [up_at]
    by_cases e : j = b
    · subst e; rw [if_pos rfl, if_pos (by omega), e0]
    · rw [if_neg e, ite_s e]; exact (hq j hj).1
  refine rw_iload f_X9_goDay_141 rfl ?_
  refine rw_aload f_X9_goDay_142 rfl ?_
  refine rm_getI f_X9_goDay_143 hW ?_
  rw [rB, fB]
  refine rw_icmpF f_X9_goDay_146 (decide_eq_false (nI_ge hb (by omega))) ?_
  refine rw_aload f_X9_goDay_149 rfl ?_
  refine rm_getR f_X9_goDay_150 hW rfl ?_
  refine rw_iload f_X9_goDay_153 rfl ?_
  refine rm_xald f_X9_goDay_154 hW (by exact rfl) rfl (by omega) ?_
  rw [es]
  first | refine rw_ne0B f_X9_goDay_155 (fun c1 => ?_) (fun c1 => ?_) | refine rw_ne0 f_X9_goDay_155 (fun c1 => ?_) (fun c1 => ?_)
  · refine rw_iinc f_X9_goDay_191 rfl rfl ?_
    refine rw_goto f_X9_goDay_194 ?_
    rw [nI_1']
    first | exact same (by unfold s2N; simp [c1]) | exact put _ (by unfold s2N; simp [c1])
  · refine rw_aload f_X9_goDay_158 rfl ?_
    refine rm_getR f_X9_goDay_159 hW rfl ?_
    refine rw_iload f_X9_goDay_162 rfl ?_
    refine rm_xald f_X9_goDay_163 hW (by exact rfl) rfl (by omega) ?_
    rw [rU]
    refine rw_aload f_X9_goDay_164 rfl ?_
    refine rm_getI f_X9_goDay_165 hW ?_
    rw [e20]
    refine rw_ge f_X9_goDay_168 (fun c2 => ?_) (fun c2 => ?_)
    · refine rw_iinc f_X9_goDay_191 rfl rfl ?_
      refine rw_goto f_X9_goDay_194 ?_
      rw [nI_1']
      first | exact same (by unfold s2N; simp [c1, c2]) | exact put _ (by unfold s2N; simp [c1, c2])
    · refine rw_aload f_X9_goDay_171 rfl ?_
      refine rm_getR f_X9_goDay_172 hW rfl ?_
      refine rw_iload f_X9_goDay_175 rfl ?_
      refine rw_aload f_X9_goDay_176 rfl ?_
      refine rm_getR f_X9_goDay_177 hW rfl ?_
      refine rw_iload f_X9_goDay_180 rfl ?_
      refine rm_xald f_X9_goDay_181 hW (by exact rfl) rfl (by omega) ?_
      rw [rP]
      first | refine rw_eq0B f_X9_goDay_182 (fun c3 => ?_) (fun c3 => ?_) | refine rw_eq0 f_X9_goDay_182 (fun c3 => ?_) (fun c3 => ?_)
      · refine rw_const f_X9_goDay_189 ?_
        refine rm_iast f_X9_goDay_190 hW (by exact rfl) rfl (by omega) ?_
        refine rw_iinc f_X9_goDay_191 rfl rfl ?_
        refine rw_goto f_X9_goDay_194 ?_
        rw [nI_1']
        first | exact same (by unfold s2N; simp [c1, c2, c3]) | exact put _ (by unfold s2N; simp [c1, c2, c3])
      · refine rw_const f_X9_goDay_185 ?_
        refine rw_goto f_X9_goDay_186 ?_
        refine rm_iast f_X9_goDay_190 hW (by exact rfl) rfl (by omega) ?_
        refine rw_iinc f_X9_goDay_191 rfl rfl ?_
        refine rw_goto f_X9_goDay_194 ?_
        rw [nI_1']
        first | exact same (by unfold s2N; simp [c1, c2, c3]) | exact put _ (by unfold s2N; simp [c1, c2, c3])
theorem m_goDay (hW : MW h m) (hB : WB V nM nD nB) {f : Nat → Int32} (hp : DS V f) (hk : ∀ W, Sd V W → DS W (goF V nB f) → k (cntB (lostN V f) nB) (mh h m W)) : Rn (d + 3) n_X9_goDay 0 [am_r m, am_u, am_u, am_u] [] (mh h m V) (kI k) := by
  have hB' := hB
  obtain ⟨⟨fM, fM6, fD, fD6, fB, fB10⟩, fO, -, -, -, fW⟩ := hB'
  obtain ⟨p1, p2, p3⟩ := hp
  have eS : (f 21 * 137 + 71) - (f 21 * 137 + 71) / 1000 * 1000 = sdN (f 21) := by unfold sdN; rw [Int32.mul_comm (f 21) 137]
  have rest : Rn (d + 3) n_X9_goDay 46 [am_r m, am_i (stN (V 0 61) (sdN (f 21))), am_i 0, am_i 0] [] (mh h m (am_up V 0 74 (sdN (f 21)))) (kI k) := by
    refine rn_inv (N := nB) (q1I h m V f) (m_go1 hW hB) (fun ls hh hi => ?_) ⟨_, rfl, rfl, Sd.refl.up (by unfold dsc; omega), fun j hj => ⟨?_, ?_⟩, ?_, ?_⟩
    · obtain ⟨W, rfl, rfl, sd, hq, e20, e21⟩ := hi
      have rB : W 0 58 = V 0 58 := sd _ _ (by unfold dsc; omega)
      refine rw_iload f_X9_goDay_46 rfl ?_
      refine rw_aload f_X9_goDay_47 rfl ?_
      refine rm_getI f_X9_goDay_48 hW ?_
      rw [rB, fB]
      refine rw_icmpT f_X9_goDay_51 (decide_eq_true (Int32.le_refl _)) ?_
      refine rw_aload f_X9_goDay_129 rfl ?_
      first | refine rw_dupr f_X9_goDay_130 ?_ | refine rw_dupi f_X9_goDay_130 ?_
      refine rm_getI f_X9_goDay_131 hW ?_
      rw [e20]
      refine rw_const f_X9_goDay_134 ?_
      refine rw_iadd f_X9_goDay_135 ?_
      refine rm_putI f_X9_goDay_136 hW ?_
      refine rw_const f_X9_goDay_139 ?_
      refine rw_istore f_X9_goDay_140 rfl rfl ?_
      refine rn_inv (N := nB) (q2I h m V nB f) (m_go2 hW hB) (fun ls hh hi => ?_) ⟨_, rfl, rfl, sd.up (by unfold dsc; omega), fun j hj => ⟨?_, ?_⟩, ?_, ?_⟩
      · obtain ⟨X, rfl, rfl, sx, hx, x20, x21⟩ := hi
        have rX : X 0 58 = V 0 58 := sx _ _ (by unfold dsc; omega)
        refine rw_iload f_X9_goDay_141 rfl ?_
        refine rw_aload f_X9_goDay_142 rfl ?_
        refine rm_getI f_X9_goDay_143 hW ?_
        rw [rX, fB]
        refine rw_icmpT f_X9_goDay_146 (decide_eq_true (Int32.le_refl _)) ?_
        refine rw_iload f_X9_goDay_197 rfl ?_
        refine rw_iret f_X9_goDay_198 ?_
        refine hk X sx ⟨fun j hj => ⟨?_, ?_⟩, ?_, ?_⟩
        · rw [(hx j hj).1]; unfold goF; rw [if_pos hj]
          by_cases e : j < nB
          · rw [if_pos e, if_pos e]
          · rw [if_neg e, if_neg e, if_neg e]
        · have e : goF V nB f (10 + j) = if j < nB then thN V f j else f (10 + j) := by unfold goF; rw [if_neg (by omega), if_pos (by omega), Nat.add_sub_cancel_left]
          rw [(hx j hj).2, e]
        · rw [x20]; rfl
        · rw [x21]; rfl
      · rw [up_row (by decide), if_neg (Nat.not_lt_zero j)]; exact (hq j hj).1
      · rw [up_row (by decide)]; exact (hq j hj).2
      · rw [up_same]
      · rw [up_ne (by decide)]; exact e21
    · rw [up_row (by decide), if_neg (Nat.not_lt_zero j)]; exact (p1 j hj).1
    · rw [up_row (by decide), if_neg (Nat.not_lt_zero j)]; exact (p1 j hj).2
    · rw [up_ne (by decide)]; exact p2
    · rw [up_same]
  refine rw_aload f_X9_goDay_0 rfl ?_
  refine rw_aload f_X9_goDay_1 rfl ?_
  refine rm_getI f_X9_goDay_2 hW ?_
  rw [p3]
  refine rw_const f_X9_goDay_5 ?_
  refine rw_imul f_X9_goDay_8 ?_
  refine rw_const f_X9_goDay_9 ?_
  refine rw_iadd f_X9_goDay_11 ?_
  refine rw_const f_X9_goDay_12 ?_
  refine rw_irem f_X9_goDay_15 (by first | assumption | decide) ?_
  rw [eS]
  refine rm_putI f_X9_goDay_16 hW ?_
  refine rw_aload f_X9_goDay_19 rfl ?_
  refine rm_getI f_X9_goDay_20 hW ?_
  rw [up_same]
  refine rw_const f_X9_goDay_23 ?_
  refine rw_irem f_X9_goDay_25 (by first | assumption | decide) ?_
  refine rw_aload f_X9_goDay_26 rfl ?_
  refine rm_getI f_X9_goDay_27 hW ?_
  rw [up_ne (by decide)]
  refine rw_ge f_X9_goDay_30 (fun c1 => ?_) (fun c1 => ?_)
  · refine rw_const f_X9_goDay_37 ?_
    refine rw_callS f_X9_goDay_38 rfl rfl rfl (rn_ki (M_truthX (by first | exact Or.inl rfl | exact Or.inr rfl | exact bI_01 _) ?_))
    refine rw_istore f_X9_goDay_41 rfl rfl ?_
    refine rw_const f_X9_goDay_42 ?_
    refine rw_istore f_X9_goDay_43 rfl rfl ?_
    refine rw_const f_X9_goDay_44 ?_
    refine rw_istore f_X9_goDay_45 rfl rfl ?_
    first | (have z := rest; unfold stN at z; rw [if_pos c1] at z; exact z) | (have z := rest; unfold stN at z; rw [if_neg c1] at z; exact z)
  · refine rw_const f_X9_goDay_33 ?_
    refine rw_goto f_X9_goDay_34 ?_
    refine rw_callS f_X9_goDay_38 rfl rfl rfl (rn_ki (M_truthX (by first | exact Or.inl rfl | exact Or.inr rfl | exact bI_01 _) ?_))
    refine rw_istore f_X9_goDay_41 rfl rfl ?_
    refine rw_const f_X9_goDay_42 ?_
    refine rw_istore f_X9_goDay_43 rfl rfl ?_
    refine rw_const f_X9_goDay_44 ?_
    refine rw_istore f_X9_goDay_45 rfl rfl ?_
    first | (have z := rest; unfold stN at z; rw [if_pos c1] at z; exact z) | (have z := rest; unfold stN at z; rw [if_neg c1] at z; exact z)
theorem m_day (hW : MW h m) (hB : WB V nM nD nB) (hA : V 0 69 = nI nA) (hA40 : nA ≤ 40) (hk0 : V 34 20 = 99 → k (-1) (mh h m V)) (hk1 : ¬ V 34 20 = 99 → ∀ W, Eqv (nowV (actV V nA) (goF V nB (V 34))) W → k (cntB (lostN V (V 34)) nB) (mh h m W)) : Rn (d + 4) n_X9_day 0 [am_r m, am_u, am_u] [] (mh h m V) (kI k) := by
  have hB1 : WB (actV V nA) nM nD nB := WB_V (actV_reg V nA) hB
  refine rw_aload f_X9_day_0 rfl ?_
  refine rm_getR f_X9_day_1 hW rfl ?_
  refine rw_const f_X9_day_4 ?_
  refine rm_xald (j := 20) f_X9_day_6 hW (by exact rfl) (by first | rfl | exact nI_addl _ _ | (simp only [nI, Int32.ofNat_add, Int32.ofNat_mul]; rfl) | (simp only [nI_addl, nI_mull, nI_lit, nI_1']; done) | (simp only [nI_1, nI_0, nI_addl, nI_mull, ← nI_succ]; rfl)) (by omega) ?_
  refine rw_const f_X9_day_7 ?_
  refine rw_ne f_X9_day_9 (fun c1 => ?_) (fun c1 => ?_)
  rotate_left
  · refine rw_const f_X9_day_12 ?_
    refine rw_iret f_X9_day_13 ?_
    exact hk0 c1
  refine rw_aload f_X9_day_14 rfl ?_
  refine rw_callV f_X9_day_15 rfl hW.1 hW.2.1 rfl rfl rfl rfl (rn_kv (m_act hW hA hA40 ?_))
  refine rw_aload f_X9_day_18 rfl ?_
  refine rw_callV f_X9_day_19 rfl hW.1 hW.2.1 rfl rfl rfl rfl (rn_kv (m_load hW (fun W0 sd0 ds0 => ?_)))
  refine rw_aload f_X9_day_22 rfl ?_
  refine rw_callV f_X9_day_23 rfl hW.1 hW.2.1 rfl rfl rfl rfl (rn_ki (m_goDay hW (WB_V sd0.reg hB1) ds0 (fun W sd ds => ?_)))
  refine rw_istore f_X9_day_26 rfl rfl ?_
  refine rw_const f_X9_day_27 ?_
  refine rw_istore f_X9_day_28 rfl rfl ?_
  skip
  have sd1 : Sd (actV V nA) W := sd0.tr sd
  rw [goF_V sd0.reg, goF_V (actV_reg V nA), actV_nowf] at ds
  rw [lostN_V sd0.reg, lostN_V (actV_reg V nA), actV_nowf]
  obtain ⟨d1, d2, d3⟩ := ds
  refine rn_inv (N := 10) (fun b ls hh => ∃ X, hh = mh h m X ∧ ls = [am_r m, am_i (cntB (lostN V (V 34)) nB), am_i (nI b)] ∧ (∀ a, ¬ a = 34 → X a = W a) ∧ ∀ j, X 34 j = if j < b ∨ (10 ≤ j ∧ j < 10 + b) then goF V nB (V 34) j else V 34 j) (fun b hb ls hh hi ih => ?_) (fun ls hh hi => ?_) ⟨W, rfl, rfl, fun _ _ => rfl, fun j => ?_⟩
  · obtain ⟨X, rfl, rfl, x1, x2⟩ := hi
    have eS : X 36 b = goF V nB (V 34) b := by rw [x1 _ (by decide)]; exact (d1 b hb).1
    have eT : X 37 b = goF V nB (V 34) (10 + b) := by rw [x1 _ (by decide)]; exact (d1 b hb).2
    refine rw_iload f_X9_day_29 rfl ?_
    refine rw_const f_X9_day_30 ?_
    refine rw_icmpF f_X9_day_32 (decide_eq_false (by rw [show (10 : Int32) = nI 10 from rfl]; exact nI_ge hb (by omega))) ?_
    refine rw_aload f_X9_day_35 rfl ?_
    refine rm_getR f_X9_day_36 hW rfl ?_
    refine rw_iload f_X9_day_39 rfl ?_
    refine rw_aload f_X9_day_40 rfl ?_
    refine rm_getR f_X9_day_41 hW rfl ?_
    refine rw_iload f_X9_day_44 rfl ?_
    refine rm_xald f_X9_day_45 hW (by exact rfl) rfl (by omega) ?_
    rw [eS]
    refine rm_iast f_X9_day_46 hW (by exact rfl) rfl (by omega) ?_
    refine rw_aload f_X9_day_47 rfl ?_
    refine rm_getR f_X9_day_48 hW rfl ?_
    refine rw_const f_X9_day_51 ?_
    refine rw_iload f_X9_day_53 rfl ?_
    refine rw_iadd f_X9_day_54 ?_
    refine rw_aload f_X9_day_55 rfl ?_
    refine rm_getR f_X9_day_56 hW rfl ?_
    refine rw_iload f_X9_day_59 rfl ?_
    refine rm_xald f_X9_day_60 hW (by exact rfl) rfl (by omega) ?_
    rw [up_row (by decide), eT]
    refine rm_iast (j := 10 + b) f_X9_day_61 hW (by exact rfl) (by first | rfl | exact nI_addl _ _ | (simp only [nI, Int32.ofNat_add, Int32.ofNat_mul]; rfl) | (simp only [nI_addl, nI_mull, nI_lit, nI_1']; done) | (simp only [nI_1, nI_0, nI_addl, nI_mull, ← nI_succ]; rfl)) (by omega) ?_
    refine rw_iinc f_X9_day_62 rfl rfl ?_
    refine rw_goto f_X9_day_65 ?_
    rw [nI_1']
    refine ih _ _ ⟨_, rfl, rfl, fun a ha => by rw [up_row ha, up_row ha]; exact x1 a ha, fun j => ?_⟩
    rw [up_at, up_at, x2]
    (by_cases e1 : j = 10 + b)
    · (rw [if_pos e1, if_pos (by omega), e1])
    · (rw [if_neg e1]; by_cases e2 : j = b; (rw [if_pos e2, if_pos (by omega), e2]); (rw [if_neg e2]; by_cases e3 : j < b ∨ (10 ≤ j ∧ j < 10 + b); (rw [if_pos e3, if_pos (by omega)]); (rw [if_neg e3, if_neg (by omega)])))
  · obtain ⟨X, rfl, rfl, x1, x2⟩ := hi
    have e20 : X 0 73 = goF V nB (V 34) 20 := by rw [x1 _ (by decide)]; exact d2
    have e21 : X 0 74 = goF V nB (V 34) 21 := by rw [x1 _ (by decide)]; exact d3
    refine rw_iload f_X9_day_29 rfl ?_
    refine rw_const f_X9_day_30 ?_
    refine rw_icmpT f_X9_day_32 (by decide) ?_
    refine rw_aload f_X9_day_68 rfl ?_
    refine rm_getR f_X9_day_69 hW rfl ?_
    refine rw_const f_X9_day_72 ?_
    refine rw_aload f_X9_day_74 rfl ?_
    refine rm_getI f_X9_day_75 hW ?_
    rw [e20]
    refine rm_iast (j := 20) f_X9_day_78 hW (by exact rfl) (by first | rfl | exact nI_addl _ _ | (simp only [nI, Int32.ofNat_add, Int32.ofNat_mul]; rfl) | (simp only [nI_addl, nI_mull, nI_lit, nI_1']; done) | (simp only [nI_1, nI_0, nI_addl, nI_mull, ← nI_succ]; rfl)) (by omega) ?_
    refine rw_aload f_X9_day_79 rfl ?_
    refine rm_getR f_X9_day_80 hW rfl ?_
    refine rw_const f_X9_day_83 ?_
    refine rw_aload f_X9_day_85 rfl ?_
    refine rm_getI f_X9_day_86 hW ?_
    rw [up_row (by decide), e21]
    refine rm_iast (j := 21) f_X9_day_89 hW (by exact rfl) (by first | rfl | exact nI_addl _ _ | (simp only [nI, Int32.ofNat_add, Int32.ofNat_mul]; rfl) | (simp only [nI_addl, nI_mull, nI_lit, nI_1']; done) | (simp only [nI_1, nI_0, nI_addl, nI_mull, ← nI_succ]; rfl)) (by omega) ?_
    refine rw_iload f_X9_day_90 rfl ?_
    refine rw_iret f_X9_day_91 ?_
    refine hk1 c1 _ (fun a j e => ?_)
    by_cases ha : a = 34
    · subst ha
      rw [up_at, up_at, x2, nowV_n]
      by_cases e1 : j = 21
      · rw [if_pos e1, e1]
      · rw [if_neg e1]
        by_cases e2 : j = 20
        · rw [if_pos e2, e2]
        · rw [if_neg e2]
          by_cases e3 : j < 20
          · rw [if_pos (by omega)]
          · rw [if_neg (by omega)]
            unfold goF
            rw [if_neg (by omega), if_neg (by omega), if_neg e2, if_neg e1]
    · rw [up_row ha, up_row ha, x1 a ha, nowV_o ha]
      exact sd1 a j (rel_dsc e)
  · rw [if_neg (by omega)]
    have := sd1 34 j (by unfold dsc; omega)
    rw [this, actV_now]
theorem m_will (hW : MW h m) (hB : WB V nM nD nB) {b n : Int32} (hk : ∀ W, Eqv V W → k (sp_will V nB b n) (mh h m W)) : Rn (d + 4) n_X9_will 0 [am_r m, am_i b, am_i n, am_u] [] (mh h m V) (kI k) := by
  have hB' := hB
  obtain ⟨⟨fM, fM6, fD, fD6, fB, fB10⟩, -⟩ := hB'
  unfold sp_will at hk
  refine rw_aload f_X9_will_0 rfl ?_
  refine rw_iload f_X9_will_1 rfl ?_
  refine rw_callV f_X9_will_2 rfl hW.1 hW.2.1 rfl rfl rfl rfl (rn_ki (m_isButton hW ?_))
  first | refine rw_eq0B f_X9_will_5 (fun c1 => ?_) (fun c1 => ?_) | refine rw_eq0 f_X9_will_5 (fun c1 => ?_) (fun c1 => ?_)
  · refine rw_const f_X9_will_18 ?_
    refine rw_iret f_X9_will_19 ?_
    exact Eq.mp (by simp [c1]) (hk V .refl)
  refine rw_iload f_X9_will_8 rfl ?_
  refine rw_const f_X9_will_9 ?_
  refine rw_const f_X9_will_10 ?_
  refine rw_callS f_X9_will_12 rfl rfl rfl (rn_ki (M_isIn ?_))
  first | refine rw_ne0B f_X9_will_15 (fun c2 => ?_) (fun c2 => ?_) | refine rw_ne0 f_X9_will_15 (fun c2 => ?_) (fun c2 => ?_)
  rotate_left
  · refine rw_const f_X9_will_18 ?_
    refine rw_iret f_X9_will_19 ?_
    exact Eq.mp (by simp [c1, c2]) (hk V .refl)
  refine rw_aload f_X9_will_20 rfl ?_
  refine rw_callV f_X9_will_21 rfl hW.1 hW.2.1 rfl rfl rfl rfl (rn_kv (m_load hW (fun W0 sd0 ds0 => ?_)))
  refine rw_const f_X9_will_24 ?_
  refine rw_istore f_X9_will_25 rfl rfl ?_
  skip
  rw [if_neg (by rw [c1]; decide), if_neg (by rw [c2]; decide)] at hk
  obtain ⟨j, rfl, hj⟩ := isIn_nat (n := nB) (by omega) (by rw [← fB]; exact c1)
  obtain ⟨t, rfl, ht⟩ := isIn_nat (v := n) (n := 61) (by omega) c2
  rw [nI_clamp (by omega), nI_clamp (by omega)] at hk
  refine rn_inv (N := t) (fun i ls hh => ∃ X, hh = mh h m X ∧ ls = [am_r m, am_i (nI j), am_i (nI t), am_i (nI i)] ∧ Sd V X ∧ DS X (itF V nB i (V 34))) (fun i hi ls hh hI ih => ?_) (fun ls hh hI => ?_) ⟨W0, rfl, rfl, sd0, ds0⟩
  · obtain ⟨X, rfl, rfl, x1, x2⟩ := hI
    refine rw_iload f_X9_will_26 rfl ?_
    refine rw_iload f_X9_will_27 rfl ?_
    refine rw_icmpF f_X9_will_28 (decide_eq_false (nI_ge hi (by omega))) ?_
    refine rw_aload f_X9_will_31 rfl ?_
    refine rw_callV f_X9_will_32 rfl hW.1 hW.2.1 rfl rfl rfl rfl (rn_ki (m_goDay hW (WB_V x1.reg hB) x2 (fun Y sd ds => ?_)))
    first | refine rw_popi f_X9_will_35 ?_ | refine rw_popr f_X9_will_35 ?_
    refine rw_iinc f_X9_will_36 rfl rfl ?_
    refine rw_goto f_X9_will_39 ?_
    rw [nI_1']
    refine ih _ _ ⟨Y, rfl, rfl, x1.tr sd, ?_⟩
    rw [goF_V x1.reg] at ds
    exact ds
  · obtain ⟨X, rfl, rfl, x1, x2⟩ := hI
    refine rw_iload f_X9_will_26 rfl ?_
    refine rw_iload f_X9_will_27 rfl ?_
    refine rw_icmpT f_X9_will_28 (decide_eq_true (Int32.le_refl _)) ?_
    refine rw_aload f_X9_will_42 rfl ?_
    refine rm_getR f_X9_will_43 hW rfl ?_
    refine rw_iload f_X9_will_46 rfl ?_
    refine rm_xald f_X9_will_47 hW (by exact rfl) rfl (by omega) ?_
    refine rw_iret f_X9_will_48 ?_
    rw [(x2.1 j (by omega)).1]
    exact hk X x1.eqv
/-- places changed about: row n of 'were' and 'now', the first i -/
def exV (V : am_M) (n i : Nat) : am_M := fun a j => if a = 35 ∧ 24 * n ≤ j ∧ j < 24 * n + i then V 34 (j - 24 * n) else if a = 34 ∧ j < i then V 35 (24 * n + j) else V a j
theorem exV_o {n i a j : Nat} (h1 : ¬ a = 35) (h2 : ¬ a = 34) : exV V n i a j = V a j := by unfold exV; rw [if_neg (fun z => h1 z.1), if_neg (fun z => h2 z.1)]
theorem m_exchange (hW : MW h m) {n : Nat} (hn : n < 40) {k : am_H → Prop} (hk : k (mh h m (exV V n 23))) : Rn d n_X9_exchange 0 [am_r m, am_i (nI (24 * n)), am_u, am_u] [] (mh h m V) (kV k) := by
  refine rw_const f_X9_exchange_0 ?_
  refine rw_istore f_X9_exchange_1 rfl rfl ?_
  refine rn_inv (N := 23) (fun i ls hh => hh = mh h m (exV V n i) ∧ ∃ y, ls = [am_r m, am_i (nI (24 * n)), am_i (nI i), y]) (fun i hi ls hh hI ih => ?_) (fun ls hh hI => ?_) ⟨?_, am_u, rfl⟩
  · obtain ⟨rfl, y, rfl⟩ := hI
    have e1 : exV V n i 35 (24 * n + i) = V 35 (24 * n + i) := by unfold exV; rw [if_neg (by omega), if_neg (by omega)]
    have e2 : exV V n i 34 i = V 34 i := by unfold exV; rw [if_neg (by omega), if_neg (by omega)]
    have e3 : am_up (am_up (exV V n i) 35 (24 * n + i) (V 34 i)) 34 i (V 35 (24 * n + i)) = exV V n (i + 1) := by
      funext a j
      unfold am_up exV
      by_cases c1 : a = 34 ∧ j = i
      · rw [if_pos c1, if_neg (by omega), if_pos ⟨c1.1, by omega⟩, c1.2]
      · rw [if_neg c1]
        by_cases c2 : a = 35 ∧ j = 24 * n + i
        · rw [if_pos c2, if_pos ⟨c2.1, by omega, by omega⟩, c2.2, Nat.add_sub_cancel_left]
        · rw [if_neg c2]
          by_cases c3 : a = 35 ∧ 24 * n ≤ j ∧ j < 24 * n + i
          · rw [if_pos c3, if_pos ⟨c3.1, c3.2.1, by omega⟩]
          · rw [if_neg c3, if_neg (show ¬ (a = 35 ∧ 24 * n ≤ j ∧ j < 24 * n + (i + 1)) from fun z => by by_cases q : j = 24 * n + i; exact c2 ⟨z.1, q⟩; exact c3 ⟨z.1, z.2.1, by omega⟩)]
            by_cases c4 : a = 34 ∧ j < i
            · rw [if_pos c4, if_pos ⟨c4.1, by omega⟩]
            · rw [if_neg c4, if_neg (fun z => by by_cases q : j = i; exact c1 ⟨z.1, q⟩; exact c4 ⟨z.1, by omega⟩)]
    refine rw_iload f_X9_exchange_2 rfl ?_
    refine rw_const f_X9_exchange_3 ?_
    refine rw_icmpF f_X9_exchange_5 (decide_eq_false (by rw [show (23 : Int32) = nI 23 from rfl]; exact nI_ge hi (by omega))) ?_
    refine rw_aload f_X9_exchange_8 rfl ?_
    refine rm_getR f_X9_exchange_9 hW rfl ?_
    refine rw_iload f_X9_exchange_12 rfl ?_
    refine rw_iload f_X9_exchange_13 rfl ?_
    refine rw_iadd f_X9_exchange_14 ?_
    refine rm_xald (j := 24 * n + i) f_X9_exchange_15 hW (by exact rfl) (by first | rfl | exact nI_addl _ _ | (simp only [nI, Int32.ofNat_add, Int32.ofNat_mul]; rfl) | (simp only [nI_addl, nI_mull, nI_lit, nI_1']; done) | (simp only [nI_1, nI_0, nI_addl, nI_mull, ← nI_succ]; rfl)) (by omega) ?_
    rw [e1]
    refine rw_istore f_X9_exchange_16 rfl rfl ?_
    refine rw_aload f_X9_exchange_17 rfl ?_
    refine rm_getR f_X9_exchange_18 hW rfl ?_
    refine rw_iload f_X9_exchange_21 rfl ?_
    refine rw_iload f_X9_exchange_22 rfl ?_
    refine rw_iadd f_X9_exchange_23 ?_
    refine rw_aload f_X9_exchange_24 rfl ?_
    refine rm_getR f_X9_exchange_25 hW rfl ?_
    refine rw_iload f_X9_exchange_28 rfl ?_
    refine rm_xald f_X9_exchange_29 hW (by exact rfl) rfl (by omega) ?_
    rw [e2]
    refine rm_iast (j := 24 * n + i) f_X9_exchange_30 hW (by exact rfl) (by first | rfl | exact nI_addl _ _ | (simp only [nI, Int32.ofNat_add, Int32.ofNat_mul]; rfl) | (simp only [nI_addl, nI_mull, nI_lit, nI_1']; done) | (simp only [nI_1, nI_0, nI_addl, nI_mull, ← nI_succ]; rfl)) (by omega) ?_
    refine rw_aload f_X9_exchange_31 rfl ?_
    refine rm_getR f_X9_exchange_32 hW rfl ?_
    refine rw_iload f_X9_exchange_35 rfl ?_
    refine rw_iload f_X9_exchange_36 rfl ?_
    refine rm_iast (j := i) f_X9_exchange_37 hW (by exact rfl) (by first | rfl | exact nI_addl _ _ | (simp only [nI, Int32.ofNat_add, Int32.ofNat_mul]; rfl) | (simp only [nI_addl, nI_mull, nI_lit, nI_1']; done) | (simp only [nI_1, nI_0, nI_addl, nI_mull, ← nI_succ]; rfl)) (by omega) ?_
    refine rw_iinc f_X9_exchange_38 rfl rfl ?_
    refine rw_goto f_X9_exchange_41 ?_
    rw [nI_1', e3]
    exact ih _ _ ⟨rfl, _, rfl⟩
  · obtain ⟨rfl, y, rfl⟩ := hI
    refine rw_iload f_X9_exchange_2 rfl ?_
    refine rw_const f_X9_exchange_3 ?_
    refine rw_icmpT f_X9_exchange_5 (by decide) ?_
    refine rw_vret f_X9_exchange_44 ?_
    exact hk
  · congr 1
    funext a j
    unfold exV
    rw [if_neg (by omega), if_neg (by omega)]
theorem turnV_eq {n a' u' : Nat} {x y : Int32} (hx : x = nI a') (hy : y = nI u') : am_up (am_up (exV V n 23) 0 69 x) 0 70 y = turnV V n a' u' := by
  funext a j
  unfold am_up turnV exV
  by_cases e1 : a = 0 ∧ j = 70
  · rw [if_pos e1, if_neg (by omega), if_pos e1, hy]
  · rw [if_neg e1]
    by_cases e2 : a = 0 ∧ j = 69
    · rw [if_pos e2, if_pos e2, hx]
    · rw [if_neg e2, if_neg e2, if_neg e1]
      by_cases e3 : a = 35
      · rw [if_pos e3]
        by_cases e4 : 24 * n ≤ j ∧ j < 24 * n + 23
        · rw [if_pos ⟨e3, e4⟩, if_pos e4]
        · rw [if_neg (fun z => e4 z.2), if_neg (by omega), if_neg e4, e3]
      · rw [if_neg (fun z => e3 z.1), if_neg e3]
        by_cases e5 : a = 34
        · rw [if_pos e5]
          by_cases e6 : j < 23
          · rw [if_pos ⟨e5, e6⟩, if_pos e6]
          · rw [if_neg (fun z => e6 z.2), if_neg e6, e5]
        · rw [if_neg (fun z => e5 z.1), if_neg e5]
theorem exV_up {n i k : Nat} {x : Int32} : exV (am_up V 0 k x) n i = am_up (exV V n i) 0 k x := by
  funext a j
  unfold exV
  rw [up_row (by decide), up_row (by decide)]
  by_cases e1 : a = 35 ∧ 24 * n ≤ j ∧ j < 24 * n + i
  · rw [if_pos e1, up_ne (by omega), if_pos e1]
  · rw [if_neg e1]
    by_cases e2 : a = 34 ∧ j < i
    · rw [if_pos e2, up_ne (by omega), if_neg e1, if_pos e2]
    · rw [if_neg e2]
      unfold am_up
      by_cases e3 : a = 0 ∧ j = k
      · rw [if_pos e3, if_pos e3]
      · rw [if_neg e3, if_neg e3]
        show V a j = exV V n i a j
        unfold exV
        rw [if_neg e1, if_neg e2]
theorem m_undo (hW : MW h m) (hA : V 0 69 = nI nA) (hU : V 0 70 = nI nU) (hAU : nA + nU ≤ 40) (hk0 : nA = 0 → k 0 (mh h m V)) (hk1 : ∀ n, nA = n + 1 → k 1 (mh h m (turnV V n n (nU + 1)))) : Rn (d + 1) n_X9_undo 0 [am_r m] [] (mh h m V) (kI k) := by
  cases nA with
  | zero =>
    refine rw_aload f_X9_undo_0 rfl ?_
    refine rm_getI f_X9_undo_1 hW ?_
    rw [hA]
    refine rw_ifF f_X9_undo_4 (by decide) ?_
    refine rw_const f_X9_undo_7 ?_
    refine rw_zret f_X9_undo_8 (by first | exact Or.inl rfl | exact Or.inr rfl | exact bI_01 _ | assumption) ?_
    exact hk0 rfl
  | succ n =>
    have e1 : nI (n + 1) - 1 = nI n := nI_pred n
    refine rw_aload f_X9_undo_0 rfl ?_
    refine rm_getI f_X9_undo_1 hW ?_
    rw [hA]
    refine rw_ifT f_X9_undo_4 (decide_eq_true (nI_ne0 (by omega) (by omega))) ?_
    refine rw_aload f_X9_undo_9 rfl ?_
    first | refine rw_dupr f_X9_undo_10 ?_ | refine rw_dupi f_X9_undo_10 ?_
    refine rm_getI f_X9_undo_11 hW ?_
    rw [hA]
    refine rw_const f_X9_undo_14 ?_
    refine rw_isub f_X9_undo_15 ?_
    rw [e1]
    refine rm_putI f_X9_undo_16 hW ?_
    refine rw_aload f_X9_undo_19 rfl ?_
    first | refine rw_dupr f_X9_undo_20 ?_ | refine rw_dupi f_X9_undo_20 ?_
    refine rm_getI f_X9_undo_21 hW ?_
    rw [up_ne (by decide), hU]
    refine rw_const f_X9_undo_24 ?_
    refine rw_iadd f_X9_undo_25 ?_
    rw [nI_1']
    refine rm_putI f_X9_undo_26 hW ?_
    refine rw_aload f_X9_undo_29 rfl ?_
    refine rw_const f_X9_undo_30 ?_
    refine rw_aload f_X9_undo_32 rfl ?_
    refine rm_getI f_X9_undo_33 hW ?_
    rw [up_ne (by decide), up_same]
    refine rw_imul f_X9_undo_36 ?_
    rw [show (24 : Int32) * nI n = nI (24 * n) from nI_mull 24 n]
    refine rw_callV f_X9_undo_37 rfl hW.1 hW.2.1 rfl rfl rfl rfl (rn_kv (m_exchange hW (n := n) (by omega) ?_))
    refine rw_const f_X9_undo_40 ?_
    refine rw_zret f_X9_undo_41 (by first | exact Or.inl rfl | exact Or.inr rfl | exact bI_01 _ | assumption) ?_
    rw [exV_up, exV_up, turnV_eq rfl rfl]
    exact hk1 n rfl
theorem m_redo (hW : MW h m) (hA : V 0 69 = nI nA) (hU : V 0 70 = nI nU) (hAU : nA + nU ≤ 40) (hk0 : nU = 0 → k 0 (mh h m V)) (hk1 : ∀ n, nU = n + 1 → k 1 (mh h m (turnV V nA (nA + 1) n))) : Rn (d + 1) n_X9_redo 0 [am_r m] [] (mh h m V) (kI k) := by
  cases nU with
  | zero =>
    refine rw_aload f_X9_redo_0 rfl ?_
    refine rm_getI f_X9_redo_1 hW ?_
    rw [hU]
    refine rw_ifF f_X9_redo_4 (by decide) ?_
    refine rw_const f_X9_redo_7 ?_
    refine rw_zret f_X9_redo_8 (by first | exact Or.inl rfl | exact Or.inr rfl | exact bI_01 _ | assumption) ?_
    exact hk0 rfl
  | succ n =>
    have e1 : nI (n + 1) - 1 = nI n := nI_pred n
    refine rw_aload f_X9_redo_0 rfl ?_
    refine rm_getI f_X9_redo_1 hW ?_
    rw [hU]
    refine rw_ifT f_X9_redo_4 (decide_eq_true (nI_ne0 (by omega) (by omega))) ?_
    refine rw_aload f_X9_redo_9 rfl ?_
    refine rw_const f_X9_redo_10 ?_
    refine rw_aload f_X9_redo_12 rfl ?_
    refine rm_getI f_X9_redo_13 hW ?_
    rw [hA]
    refine rw_imul f_X9_redo_16 ?_
    rw [show (24 : Int32) * nI nA = nI (24 * nA) from nI_mull 24 nA]
    refine rw_callV f_X9_redo_17 rfl hW.1 hW.2.1 rfl rfl rfl rfl (rn_kv (m_exchange hW (n := nA) (by omega) ?_))
    refine rw_aload f_X9_redo_20 rfl ?_
    first | refine rw_dupr f_X9_redo_21 ?_ | refine rw_dupi f_X9_redo_21 ?_
    refine rm_getI f_X9_redo_22 hW ?_
    rw [exV_o (by decide) (by decide), hA]
    refine rw_const f_X9_redo_25 ?_
    refine rw_iadd f_X9_redo_26 ?_
    rw [nI_1']
    refine rm_putI f_X9_redo_27 hW ?_
    refine rw_aload f_X9_redo_30 rfl ?_
    first | refine rw_dupr f_X9_redo_31 ?_ | refine rw_dupi f_X9_redo_31 ?_
    refine rm_getI f_X9_redo_32 hW ?_
    rw [up_ne (by decide), exV_o (by decide) (by decide), hU]
    refine rw_const f_X9_redo_35 ?_
    refine rw_isub f_X9_redo_36 ?_
    rw [e1]
    refine rm_putI f_X9_redo_37 hW ?_
    refine rw_const f_X9_redo_40 ?_
    refine rw_zret f_X9_redo_41 (by first | exact Or.inl rfl | exact Or.inr rfl | exact bI_01 _ | assumption) ?_
    rw [turnV_eq rfl rfl]
    exact hk1 n rfl
end MDay
