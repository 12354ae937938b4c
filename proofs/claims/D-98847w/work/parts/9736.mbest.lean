/-! THE MODEL: the best order -/
section MBest
variable {d : Nat} {h : am_H} {m : Nat} {V W : am_M} {k : Int32 → am_H → Prop} {nM nD nB nA nU nT nL : Nat} {man bd : Int32}
/-- the best one so far -/
def BS (W : am_M) (b : ord) : Prop := W 0 81 = nI b.1.length ∧ W 0 82 = b.2.1 ∧ W 0 83 = b.2.2 ∧ ∀ i e, b.1[i]? = some e → W 41 i = nI e
theorem BS.op {b : ord} {X : am_M} (q : BS W b) (op : OpM W X) : BS X b := by
  obtain ⟨q1, q2, q3, q4⟩ := q
  exact ⟨by rw [op _ _ (by omega)]; exact q1, by rw [op _ _ (by omega)]; exact q2, by rw [op _ _ (by omega)]; exact q3, fun i e hi => by rw [op _ _ (by omega)]; exact q4 i e hi⟩
theorem get_D {l : List Nat} {i : Nat} (h : i < l.length) : l[i]? = some (l.getD i 0) := by
  rw [List.getD_eq_getElem?_getD, List.getElem?_eq_getElem h]
  rfl
theorem m_isAhead (hW : MW h m) {o b : ord} (om : W 0 79 = nI o.1.length) (ho : ∀ i e, o.1[i]? = some e → W 38 i = nI e ∧ e < 6) (hb : ∀ (i e : Nat), b.1[i]? = some e → e < 6) (lo : o.1.length ≤ 6) (lb : b.1.length ≤ 6) (q : BS W b) (ah : ahd b.1 o.1) (hk : k 0 (mh h m W)) : Rn d n_X9_isAhead 0 [am_r m, am_u] [] (mh h m W) (kI k) := by
  obtain ⟨q1, q2, q3, q4⟩ := q
  obtain ⟨l1, l2⟩ := com_le o.1 b.1
  refine rw_const f_X9_isAhead_0 ?_
  refine rw_istore f_X9_isAhead_1 rfl rfl ?_
  refine rn_for (N := com o.1 b.1) (fun i => [am_r m, am_i (nI i)]) (fun _ => mh h m W) (fun i hi ih => ?_) ?_
  · have e1 := (ho i _ (get_D (show i < o.1.length by omega))).1
    have e2 := q4 i _ (get_D (show i < b.1.length by omega))
    rw [com_eq o.1 b.1 i hi] at e1
    refine rw_iload f_X9_isAhead_2 rfl ?_
    refine rw_aload f_X9_isAhead_3 rfl ?_
    refine rm_getI f_X9_isAhead_4 hW ?_
    rw [om]
    refine rw_icmpF f_X9_isAhead_7 (decide_eq_false (nI_ge (by omega) (by omega))) ?_
    refine rw_iload f_X9_isAhead_10 rfl ?_
    refine rw_aload f_X9_isAhead_11 rfl ?_
    refine rm_getI f_X9_isAhead_12 hW ?_
    rw [q1]
    refine rw_icmpF f_X9_isAhead_15 (decide_eq_false (nI_ge (by omega) (by omega))) ?_
    refine rw_aload f_X9_isAhead_18 rfl ?_
    refine rm_getR f_X9_isAhead_19 hW rfl ?_
    refine rw_iload f_X9_isAhead_22 rfl ?_
    refine rm_xald (j := i) f_X9_isAhead_23 hW (by exact rfl) (by first | rfl | exact nI_addl _ _ | (simp only [nI, Int32.ofNat_add, Int32.ofNat_mul]; rfl) | (simp only [nI_addl, nI_mull, nI_lit, nI_1']; done) | (simp only [nI_1, nI_0, nI_addl, nI_mull, ← nI_succ]; rfl)) (by omega) ?_
    rw [e1]
    refine rw_aload f_X9_isAhead_24 rfl ?_
    refine rm_getR f_X9_isAhead_25 hW rfl ?_
    refine rw_iload f_X9_isAhead_28 rfl ?_
    refine rm_xald (j := i) f_X9_isAhead_29 hW (by exact rfl) (by first | rfl | exact nI_addl _ _ | (simp only [nI, Int32.ofNat_add, Int32.ofNat_mul]; rfl) | (simp only [nI_addl, nI_mull, nI_lit, nI_1']; done) | (simp only [nI_1, nI_0, nI_addl, nI_mull, ← nI_succ]; rfl)) (by omega) ?_
    rw [e2]
    refine rw_icmpF f_X9_isAhead_30 (by simp [c_ne]) ?_
    refine rw_iinc f_X9_isAhead_33 rfl rfl ?_
    refine rw_goto f_X9_isAhead_36 ?_
    rw [nI_1']
    exact ih
  · rcases ahd_com o.1 b.1 ah with e | ⟨e1, e2, e3⟩
    · rw [e]
      by_cases c : o.1.length ≤ b.1.length
      · refine rw_iload f_X9_isAhead_2 rfl ?_
        refine rw_aload f_X9_isAhead_3 rfl ?_
        refine rm_getI f_X9_isAhead_4 hW ?_
        rw [om]
        refine rw_icmpT f_X9_isAhead_7 (decide_eq_true (nI_le c (by omega))) ?_
        refine rw_iload f_X9_isAhead_39 rfl ?_
        refine rw_aload f_X9_isAhead_40 rfl ?_
        refine rm_getI f_X9_isAhead_41 hW ?_
        rw [q1]
        refine rw_icmpT f_X9_isAhead_44 (decide_eq_true (Int32.le_refl _)) ?_
        refine rw_const f_X9_isAhead_74 ?_
        refine rw_zret f_X9_isAhead_75 (by first | exact Or.inl rfl | exact Or.inr rfl | exact bI_01 _ | assumption) ?_
        exact hk
      · refine rw_iload f_X9_isAhead_2 rfl ?_
        refine rw_aload f_X9_isAhead_3 rfl ?_
        refine rm_getI f_X9_isAhead_4 hW ?_
        rw [om]
        refine rw_icmpF f_X9_isAhead_7 (decide_eq_false (nI_ge (by omega) (by omega))) ?_
        refine rw_iload f_X9_isAhead_10 rfl ?_
        refine rw_aload f_X9_isAhead_11 rfl ?_
        refine rm_getI f_X9_isAhead_12 hW ?_
        rw [q1]
        refine rw_icmpT f_X9_isAhead_15 (decide_eq_true (Int32.le_refl _)) ?_
        refine rw_iload f_X9_isAhead_39 rfl ?_
        refine rw_aload f_X9_isAhead_40 rfl ?_
        refine rm_getI f_X9_isAhead_41 hW ?_
        rw [q1]
        refine rw_icmpT f_X9_isAhead_44 (decide_eq_true (Int32.le_refl _)) ?_
        refine rw_const f_X9_isAhead_74 ?_
        refine rw_zret f_X9_isAhead_75 (by first | exact Or.inl rfl | exact Or.inr rfl | exact bI_01 _ | assumption) ?_
        exact hk
    · have g1 := ho _ _ (get_D e1)
      have g2 := q4 _ _ (get_D e2)
      have g3 := hb _ _ (get_D e2)
      refine rw_iload f_X9_isAhead_2 rfl ?_
      refine rw_aload f_X9_isAhead_3 rfl ?_
      refine rm_getI f_X9_isAhead_4 hW ?_
      rw [om]
      refine rw_icmpF f_X9_isAhead_7 (decide_eq_false (nI_ge (by omega) (by omega))) ?_
      refine rw_iload f_X9_isAhead_10 rfl ?_
      refine rw_aload f_X9_isAhead_11 rfl ?_
      refine rm_getI f_X9_isAhead_12 hW ?_
      rw [q1]
      refine rw_icmpF f_X9_isAhead_15 (decide_eq_false (nI_ge (by omega) (by omega))) ?_
      refine rw_aload f_X9_isAhead_18 rfl ?_
      refine rm_getR f_X9_isAhead_19 hW rfl ?_
      refine rw_iload f_X9_isAhead_22 rfl ?_
      refine rm_xald (j := com o.1 b.1) f_X9_isAhead_23 hW (by exact rfl) (by first | rfl | exact nI_addl _ _ | (simp only [nI, Int32.ofNat_add, Int32.ofNat_mul]; rfl) | (simp only [nI_addl, nI_mull, nI_lit, nI_1']; done) | (simp only [nI_1, nI_0, nI_addl, nI_mull, ← nI_succ]; rfl)) (by omega) ?_
      rw [g1.1]
      refine rw_aload f_X9_isAhead_24 rfl ?_
      refine rm_getR f_X9_isAhead_25 hW rfl ?_
      refine rw_iload f_X9_isAhead_28 rfl ?_
      refine rm_xald (j := com o.1 b.1) f_X9_isAhead_29 hW (by exact rfl) (by first | rfl | exact nI_addl _ _ | (simp only [nI, Int32.ofNat_add, Int32.ofNat_mul]; rfl) | (simp only [nI_addl, nI_mull, nI_lit, nI_1']; done) | (simp only [nI_1, nI_0, nI_addl, nI_mull, ← nI_succ]; rfl)) (by omega) ?_
      rw [g2]
      refine rw_icmpT f_X9_isAhead_30 (decide_eq_true (fun z => by have := nI_inj (by omega) (by omega) z; omega)) ?_
      refine rw_iload f_X9_isAhead_39 rfl ?_
      refine rw_aload f_X9_isAhead_40 rfl ?_
      refine rm_getI f_X9_isAhead_41 hW ?_
      rw [q1]
      refine rw_icmpF f_X9_isAhead_44 (decide_eq_false (nI_ge (by omega) (by omega))) ?_
      refine rw_iload f_X9_isAhead_47 rfl ?_
      refine rw_aload f_X9_isAhead_48 rfl ?_
      refine rm_getI f_X9_isAhead_49 hW ?_
      rw [om]
      refine rw_icmpF f_X9_isAhead_52 (decide_eq_false (fun z => by have := nI_inj (by omega) (by omega) z; omega)) ?_
      refine rw_aload f_X9_isAhead_55 rfl ?_
      refine rm_getR f_X9_isAhead_56 hW rfl ?_
      refine rw_iload f_X9_isAhead_59 rfl ?_
      refine rm_xald (j := com o.1 b.1) f_X9_isAhead_60 hW (by exact rfl) (by first | rfl | exact nI_addl _ _ | (simp only [nI, Int32.ofNat_add, Int32.ofNat_mul]; rfl) | (simp only [nI_addl, nI_mull, nI_lit, nI_1']; done) | (simp only [nI_1, nI_0, nI_addl, nI_mull, ← nI_succ]; rfl)) (by omega) ?_
      rw [g1.1]
      refine rw_aload f_X9_isAhead_61 rfl ?_
      refine rm_getR f_X9_isAhead_62 hW rfl ?_
      refine rw_iload f_X9_isAhead_65 rfl ?_
      refine rm_xald (j := com o.1 b.1) f_X9_isAhead_66 hW (by exact rfl) (by first | rfl | exact nI_addl _ _ | (simp only [nI, Int32.ofNat_add, Int32.ofNat_mul]; rfl) | (simp only [nI_addl, nI_mull, nI_lit, nI_1']; done) | (simp only [nI_1, nI_0, nI_addl, nI_mull, ← nI_succ]; rfl)) (by omega) ?_
      rw [g2]
      refine rw_icmpT f_X9_isAhead_67 (decide_eq_true (nI_le (by omega) (by omega))) ?_
      refine rw_const f_X9_isAhead_74 ?_
      refine rw_zret f_X9_isAhead_75 (by first | exact Or.inl rfl | exact Or.inr rfl | exact bI_01 _ | assumption) ?_
      exact hk
def betB (b o : ord) : Bool := if pc o.2.2 = pc b.2.2 then (if o.2.1 = b.2.1 then false else decide (o.2.1 < b.2.1)) else decide (pc b.2.2 < pc o.2.2)
theorem betB_upd (b o : ord) : updB (some b) o = some (if betB b o = true then o else b) := by
  unfold updB betB
  dsimp only
  by_cases e : pc o.2.2 = pc b.2.2
  · rw [if_pos e, if_pos e, if_neg (by rw [e]; exact fun q => Int32.lt_irrefl q)]
    by_cases e2 : o.2.1 = b.2.1
    · rw [if_pos e2, if_pos (by rw [e2]; exact Int32.le_refl _), if_neg (by decide)]
    · rw [if_neg e2]
      by_cases e3 : o.2.1 < b.2.1
      · rw [if_neg (Int32.not_le.mpr e3), if_pos (decide_eq_true e3)]
      · rw [if_pos (Int32.not_lt.mp e3), if_neg (by rw [decide_eq_false e3]; decide)]
  · rw [if_neg e, if_neg e]
    by_cases e2 : pc b.2.2 < pc o.2.2
    · rw [if_pos e2, if_pos (decide_eq_true e2)]
    · rw [if_neg e2, if_neg (by rw [decide_eq_false e2]; decide)]
theorem m_isBetter (hW : MW h m) {o b : ord} (om : W 0 79 = nI o.1.length) (es : W 39 o.1.length = o.2.1) (ek : W 40 o.1.length = o.2.2) (ho : ∀ i e, o.1[i]? = some e → W 38 i = nI e ∧ e < 6) (hb : ∀ (i e : Nat), b.1[i]? = some e → e < 6) (lo : o.1.length ≤ 6) (lb : b.1.length ≤ 6) (q : BS W b) (ah : ahd b.1 o.1) (hk : k (bI (betB b o)) (mh h m W)) : Rn (d + 1) n_X9_isBetter 0 [am_r m, am_u, am_u] [] (mh h m W) (kI k) := by
  have q' := q
  obtain ⟨q1, q2, q3, q4⟩ := q'
  unfold betB at hk
  refine rw_aload f_X9_isBetter_0 rfl ?_
  refine rm_getR f_X9_isBetter_1 hW rfl ?_
  refine rw_aload f_X9_isBetter_4 rfl ?_
  refine rm_getI f_X9_isBetter_5 hW ?_
  rw [om]
  refine rm_xald (j := o.1.length) f_X9_isBetter_8 hW (by exact rfl) (by first | rfl | exact nI_addl _ _ | (simp only [nI, Int32.ofNat_add, Int32.ofNat_mul]; rfl) | (simp only [nI_addl, nI_mull, nI_lit, nI_1']; done) | (simp only [nI_1, nI_0, nI_addl, nI_mull, ← nI_succ]; rfl)) (by omega) ?_
  rw [ek]
  refine rw_callS f_X9_isBetter_9 rfl rfl rfl (rn_ki (M_members ?_))
  refine rw_istore f_X9_isBetter_12 rfl rfl ?_
  refine rw_aload f_X9_isBetter_13 rfl ?_
  refine rm_getI f_X9_isBetter_14 hW ?_
  rw [q3]
  refine rw_callS f_X9_isBetter_17 rfl rfl rfl (rn_ki (M_members ?_))
  refine rw_istore f_X9_isBetter_20 rfl rfl ?_
  refine rw_iload f_X9_isBetter_21 rfl ?_
  refine rw_iload f_X9_isBetter_22 rfl ?_
  refine rw_eq f_X9_isBetter_23 (fun c1 => ?_) (fun c1 => ?_)
  · refine rw_aload f_X9_isBetter_37 rfl ?_
    refine rm_getR f_X9_isBetter_38 hW rfl ?_
    refine rw_aload f_X9_isBetter_41 rfl ?_
    refine rm_getI f_X9_isBetter_42 hW ?_
    rw [om]
    refine rm_xald (j := o.1.length) f_X9_isBetter_45 hW (by exact rfl) (by first | rfl | exact nI_addl _ _ | (simp only [nI, Int32.ofNat_add, Int32.ofNat_mul]; rfl) | (simp only [nI_addl, nI_mull, nI_lit, nI_1']; done) | (simp only [nI_1, nI_0, nI_addl, nI_mull, ← nI_succ]; rfl)) (by omega) ?_
    rw [es]
    refine rw_aload f_X9_isBetter_46 rfl ?_
    refine rm_getI f_X9_isBetter_47 hW ?_
    rw [q2]
    refine rw_eq f_X9_isBetter_50 (fun c2 => ?_) (fun c2 => ?_)
    · refine rw_aload f_X9_isBetter_77 rfl ?_
      refine rw_callV f_X9_isBetter_78 rfl hW.1 hW.2.1 rfl rfl rfl rfl (rn_ki (m_isAhead hW om ho hb lo lb q ah ?_))
      refine rw_zret f_X9_isBetter_81 (by first | exact Or.inl rfl | exact Or.inr rfl | exact bI_01 _ | assumption) ?_
      first | (simpa [c1, c2, bI] using hk) | (simpa [c1, c2, bI, Int32.not_lt.mpr c3] using hk) | (simpa [c1, c2, bI, Int32.not_lt.mpr c4] using hk) | (simp only [Int32.not_le, Int32.not_lt] at *; simpa [c1, c2, bI] using hk)
    · refine rw_aload f_X9_isBetter_53 rfl ?_
      refine rm_getR f_X9_isBetter_54 hW rfl ?_
      refine rw_aload f_X9_isBetter_57 rfl ?_
      refine rm_getI f_X9_isBetter_58 hW ?_
      rw [om]
      refine rm_xald (j := o.1.length) f_X9_isBetter_61 hW (by exact rfl) (by first | rfl | exact nI_addl _ _ | (simp only [nI, Int32.ofNat_add, Int32.ofNat_mul]; rfl) | (simp only [nI_addl, nI_mull, nI_lit, nI_1']; done) | (simp only [nI_1, nI_0, nI_addl, nI_mull, ← nI_succ]; rfl)) (by omega) ?_
      rw [es]
      refine rw_aload f_X9_isBetter_62 rfl ?_
      refine rm_getI f_X9_isBetter_63 hW ?_
      rw [q2]
      refine rw_ge f_X9_isBetter_66 (fun c3 => ?_) (fun c3 => ?_)
      · refine rw_const f_X9_isBetter_73 ?_
        refine rw_goto f_X9_isBetter_74 ?_
        refine rw_zret f_X9_isBetter_81 (by first | exact Or.inl rfl | exact Or.inr rfl | exact bI_01 _ | assumption) ?_
        first | (simpa [c1, c2, c3, bI] using hk) | (simpa [c1, c2, c3, bI, Int32.not_lt.mpr c3] using hk) | (simpa [c1, c2, c3, bI, Int32.not_lt.mpr c4] using hk) | (simp only [Int32.not_le, Int32.not_lt] at *; simpa [c1, c2, c3, bI] using hk)
      · refine rw_const f_X9_isBetter_69 ?_
        refine rw_goto f_X9_isBetter_70 ?_
        refine rw_zret f_X9_isBetter_81 (by first | exact Or.inl rfl | exact Or.inr rfl | exact bI_01 _ | assumption) ?_
        first | (simpa [c1, c2, c3, bI] using hk) | (simpa [c1, c2, c3, bI, Int32.not_lt.mpr c3] using hk) | (simpa [c1, c2, c3, bI, Int32.not_lt.mpr c4] using hk) | (simp only [Int32.not_le, Int32.not_lt] at *; simpa [c1, c2, c3, bI] using hk)
  · refine rw_iload f_X9_isBetter_26 rfl ?_
    refine rw_iload f_X9_isBetter_27 rfl ?_
    refine rw_le f_X9_isBetter_28 (fun c4 => ?_) (fun c4 => ?_)
    · refine rw_const f_X9_isBetter_35 ?_
      refine rw_zret f_X9_isBetter_36 (by first | exact Or.inl rfl | exact Or.inr rfl | exact bI_01 _ | assumption) ?_
      first | (simpa [c1, c4, bI] using hk) | (simpa [c1, c4, bI, Int32.not_lt.mpr c3] using hk) | (simpa [c1, c4, bI, Int32.not_lt.mpr c4] using hk) | (simp only [Int32.not_le, Int32.not_lt] at *; simpa [c1, c4, bI] using hk)
    · refine rw_const f_X9_isBetter_31 ?_
      refine rw_goto f_X9_isBetter_32 ?_
      refine rw_zret f_X9_isBetter_36 (by first | exact Or.inl rfl | exact Or.inr rfl | exact bI_01 _ | assumption) ?_
      first | (simpa [c1, c4, bI] using hk) | (simpa [c1, c4, bI, Int32.not_lt.mpr c3] using hk) | (simpa [c1, c4, bI, Int32.not_lt.mpr c4] using hk) | (simp only [Int32.not_le, Int32.not_lt] at *; simpa [c1, c4, bI] using hk)
theorem m_beginOrder (hW : MW h m) {k : am_H → Prop} (hk : k (mh h m (am_up (am_up (am_up V 0 79 0) 39 0 0) 40 0 0))) : Rn d n_X9_beginOrder 0 [am_r m] [] (mh h m V) (kV k) := by
  refine rw_aload f_X9_beginOrder_0 rfl ?_
  refine rw_const f_X9_beginOrder_1 ?_
  refine rm_putI f_X9_beginOrder_2 hW ?_
  refine rw_aload f_X9_beginOrder_5 rfl ?_
  refine rm_getR f_X9_beginOrder_6 hW rfl ?_
  refine rw_const f_X9_beginOrder_9 ?_
  refine rw_const f_X9_beginOrder_10 ?_
  refine rm_iast (j := 0) f_X9_beginOrder_11 hW (by exact rfl) (by first | rfl | exact nI_addl _ _ | (simp only [nI, Int32.ofNat_add, Int32.ofNat_mul]; rfl) | (simp only [nI_addl, nI_mull, nI_lit, nI_1']; done) | (simp only [nI_1, nI_0, nI_addl, nI_mull, ← nI_succ]; rfl)) (by omega) ?_
  refine rw_aload f_X9_beginOrder_12 rfl ?_
  refine rm_getR f_X9_beginOrder_13 hW rfl ?_
  refine rw_const f_X9_beginOrder_16 ?_
  refine rw_const f_X9_beginOrder_17 ?_
  refine rm_iast (j := 0) f_X9_beginOrder_18 hW (by exact rfl) (by first | rfl | exact nI_addl _ _ | (simp only [nI, Int32.ofNat_add, Int32.ofNat_mul]; rfl) | (simp only [nI_addl, nI_mull, nI_lit, nI_1']; done) | (simp only [nI_1, nI_0, nI_addl, nI_mull, ← nI_succ]; rfl)) (by omega) ?_
  refine rw_vret f_X9_beginOrder_19 ?_
  exact hk
theorem POs_0 {bd : Int32} (so : So V W) (eb : W 0 80 = bd) : POs V (am_up (am_up (am_up W 0 79 0) 39 0 0) 40 0 0) nB nD man bd ([], 0, 0) [] := by
  refine ⟨((so.up (by unfold osc; omega)).up (by unfold osc; omega)).up (by unfold osc; omega), rfl, ⟨?_, ?_, fun i e hi => ?_, trivial⟩, ?_, ?_⟩
  · rw [up_row (by decide)]; exact up_same
  · exact up_same
  · simp at hi
  · rw [up_row (by decide), up_row (by decide)]; exact up_same
  · rw [up_row (by decide), up_row (by decide), up_ne (by decide)]; exact eb
/-- from one order to the next: the best one stays -/
theorem m_bestLoop (hW : MW h m) (hB : WB V nM nD nB) {late : Int32} {k : am_H → Prop} : ∀ (L2 : List ord) (P : List ord) (o : ord) (L1 : List ord) (b : ord) (W : am_M) (y : am_V), POs V W nB nD man bd o P → srch V nB nD man bd (o :: P) 0 = L2 → oL V nB nD man bd = ([], 0, 0) :: (L1 ++ L2) → L1.foldl updB (some ([], 0, 0)) = some b → BS W b → (∀ X, So V X → BS X (bstO V nB nD man bd) → k (mh h m X)) → Rn (d + 4) n_X9_layBest 32 [am_r m, am_i man, am_i late, y] [] (mh h m W) (kV k) := by
  have hD6 := hB.1.2.2.2.1
  intro L2
  induction L2 with
  | nil =>
    intro P o L1 b W y hp hs ho hf hbs hk
    have eb : bstO V nB nD man bd = b := by
      unfold bstO
      rw [ho, List.append_nil, List.foldl_cons, show updB none (([], 0, 0) : ord) = some ([], 0, 0) from rfl, hf]
      rfl
    refine rw_aload f_X9_layBest_32 rfl ?_
    refine rw_iload f_X9_layBest_33 rfl ?_
    refine rw_callV f_X9_layBest_34 rfl hW.1 hW.2.1 rfl rfl rfl rfl (rn_ki (m_nextOrder hW hB hp (fun X op _ => ?_) (fun c Q X op ps e => by rw [hs] at e; cases e)))
    refine rw_ifT f_X9_layBest_37 (by decide) ?_
    refine rw_vret f_X9_layBest_115 ?_
    rw [eb] at hk
    exact hk X ((hp.1.tr (fun a j r => op a j (fun z => r (by unfold osc; omega))))) (hbs.op op)
  | cons c0 L2 ih =>
    intro P o L1 b W y hp hs ho hf hbs hk
    refine rw_aload f_X9_layBest_32 rfl ?_
    refine rw_iload f_X9_layBest_33 rfl ?_
    refine rw_callV f_X9_layBest_34 rfl hW.1 hW.2.1 rfl rfl rfl rfl (rn_ki (m_nextOrder hW hB hp (fun X op e => by rw [hs] at e; cases e) (fun c Q X op ps e => ?_)))
    refine rw_ifF f_X9_layBest_37 (by decide) ?_
    skip
    rw [hs] at e
    obtain ⟨rfl, e2⟩ := List.cons.inj e
    have ah := best_ahd ho hf
    obtain ⟨so, pth, po, om, ebd⟩ := ps
    have lc := (Pth_ok pth).2
    have ln := Pth_len pth
    have bm : b.1.length ≤ 6 ∧ ∀ (i e : Nat), b.1[i]? = some e → e < 6 := by
      have hm : b ∈ oL V nB nD man bd := by
        rw [ho]
        rcases fold_mem L1 ([], 0, 0) b hf with e | e
        · rw [e]; exact List.mem_cons_self
        · exact List.mem_cons_of_mem _ (List.mem_append_left _ e)
      have := dl_all (V := V) (nB := nB) (nD := nD) (man := man) (bd := bd) hB.1.2.2.2.2.2 (fun o => oOK nD o) (fun o e p h1 h2 h3 => (oOK_child h1 h2 h3).1) nD ([], 0, 0) (Pth_ok (V := V) (nB := nB) (man := man) (bd := bd) (P := []) (o := ([], 0, 0)) rfl).1 b hm
      exact ⟨by have := this.1; omega, fun i e hi => by have := this.2 e (List.mem_of_getElem? hi); omega⟩
    have bx := hbs.op op
    have step : ∀ (b' : ord) (Y : am_M) (y' : am_V), updB (some b) c0 = some b' → POs V Y nB nD man bd c0 Q → BS Y b' → Rn (d + 4) n_X9_layBest 32 [am_r m, am_i man, am_i late, y'] [] (mh h m Y) (kV k) := by
      intro b' Y y' hu hpy hby
      refine ih Q c0 (L1 ++ [c0]) b' Y y' hpy e2.symm (by rw [ho, List.append_assoc]; rfl) (by rw [List.foldl_append, hf]; exact hu) hby hk
    have ec : ∀ i e, c0.1[i]? = some e → X 38 i = nI e ∧ e < 6 := fun i e hi => ⟨po.2.2.1 i e hi, by have := (Pth_ok pth).1.2 e (List.mem_of_getElem? hi); omega⟩
    have om' : X 0 79 = nI c0.1.length := by rw [lc]; exact om
    have ek' : X 40 c0.1.length = c0.2.2 := by rw [lc]; exact po.2.1
    have es' : X 39 c0.1.length = c0.2.1 := by rw [lc]; exact po.1
    refine rw_aload f_X9_layBest_40 rfl ?_
    refine rw_callV f_X9_layBest_41 rfl hW.1 hW.2.1 rfl rfl rfl rfl (rn_ki (m_isBetter hW om' es' ek' ec bm.2 (by omega) bm.1 bx ah ?_))
    first | refine rw_ne0B f_X9_layBest_44 (fun c1 => ?_) (fun c1 => ?_) | refine rw_ne0 f_X9_layBest_44 (fun c1 => ?_) (fun c1 => ?_)
    rotate_left
    · refine rw_goto f_X9_layBest_47 ?_
      exact step b X y (by rw [betB_upd, if_neg (by rw [c1]; decide)]) ⟨so, pth, po, om, ebd⟩ bx
    refine rw_aload f_X9_layBest_50 rfl ?_
    refine rw_aload f_X9_layBest_51 rfl ?_
    refine rm_getI f_X9_layBest_52 hW ?_
    rw [om']
    refine rm_putI f_X9_layBest_55 hW ?_
    refine rw_aload f_X9_layBest_58 rfl ?_
    refine rw_aload f_X9_layBest_59 rfl ?_
    refine rm_getR f_X9_layBest_60 hW rfl ?_
    refine rw_aload f_X9_layBest_63 rfl ?_
    refine rm_getI f_X9_layBest_64 hW ?_
    rw [up_ne (by decide), om']
    refine rm_xald (j := c0.1.length) f_X9_layBest_67 hW (by exact rfl) (by first | rfl | exact nI_addl _ _ | (simp only [nI, Int32.ofNat_add, Int32.ofNat_mul]; rfl) | (simp only [nI_addl, nI_mull, nI_lit, nI_1']; done) | (simp only [nI_1, nI_0, nI_addl, nI_mull, ← nI_succ]; rfl)) (by omega) ?_
    rw [up_row (by decide), es']
    refine rm_putI f_X9_layBest_68 hW ?_
    refine rw_aload f_X9_layBest_71 rfl ?_
    refine rw_aload f_X9_layBest_72 rfl ?_
    refine rm_getR f_X9_layBest_73 hW rfl ?_
    refine rw_aload f_X9_layBest_76 rfl ?_
    refine rm_getI f_X9_layBest_77 hW ?_
    rw [up_ne (by decide), up_ne (by decide), om']
    refine rm_xald (j := c0.1.length) f_X9_layBest_80 hW (by exact rfl) (by first | rfl | exact nI_addl _ _ | (simp only [nI, Int32.ofNat_add, Int32.ofNat_mul]; rfl) | (simp only [nI_addl, nI_mull, nI_lit, nI_1']; done) | (simp only [nI_1, nI_0, nI_addl, nI_mull, ← nI_succ]; rfl)) (by omega) ?_
    rw [up_row (by decide), up_row (by decide), ek']
    refine rm_putI f_X9_layBest_81 hW ?_
    refine rw_const f_X9_layBest_84 ?_
    refine rw_istore f_X9_layBest_85 rfl rfl ?_
    skip
    refine rn_inv (N := c0.1.length) (fun i ls hh => ∃ Y, hh = mh h m Y ∧ ls = [am_r m, am_i man, am_i late, am_i (nI i)] ∧ (∀ a j, ¬ (a = 41) → ¬ (a = 0 ∧ 81 ≤ j ∧ j ≤ 83) → Y a j = X a j) ∧ Y 0 81 = nI c0.1.length ∧ Y 0 82 = c0.2.1 ∧ Y 0 83 = c0.2.2 ∧ ∀ j e, j < i → c0.1[j]? = some e → Y 41 j = nI e) (fun i hi ls hh hI ihi => ?_) (fun ls hh hI => ?_) ⟨_, rfl, rfl, fun a j n1 n2 => ?_, ?_, ?_, ?_, fun j e hj => absurd hj (Nat.not_lt_zero j)⟩
    · obtain ⟨Y, rfl, rfl, y1, y2, y3, y4, y5⟩ := hI
      have eo := (ec i _ (get_D hi)).1
      refine rw_iload f_X9_layBest_86 rfl ?_
      refine rw_aload f_X9_layBest_87 rfl ?_
      refine rm_getI f_X9_layBest_88 hW ?_
      rw [y1 _ _ (by decide) (by omega), om']
      refine rw_icmpF f_X9_layBest_91 (decide_eq_false (nI_ge hi (by omega))) ?_
      refine rw_aload f_X9_layBest_94 rfl ?_
      refine rm_getR f_X9_layBest_95 hW rfl ?_
      refine rw_iload f_X9_layBest_98 rfl ?_
      refine rw_aload f_X9_layBest_99 rfl ?_
      refine rm_getR f_X9_layBest_100 hW rfl ?_
      refine rw_iload f_X9_layBest_103 rfl ?_
      refine rm_xald (j := i) f_X9_layBest_104 hW (by exact rfl) (by first | rfl | exact nI_addl _ _ | (simp only [nI, Int32.ofNat_add, Int32.ofNat_mul]; rfl) | (simp only [nI_addl, nI_mull, nI_lit, nI_1']; done) | (simp only [nI_1, nI_0, nI_addl, nI_mull, ← nI_succ]; rfl)) (by omega) ?_
      rw [y1 _ _ (by decide) (by omega), eo]
      refine rm_iast (j := i) f_X9_layBest_105 hW (by exact rfl) (by first | rfl | exact nI_addl _ _ | (simp only [nI, Int32.ofNat_add, Int32.ofNat_mul]; rfl) | (simp only [nI_addl, nI_mull, nI_lit, nI_1']; done) | (simp only [nI_1, nI_0, nI_addl, nI_mull, ← nI_succ]; rfl)) (by omega) ?_
      refine rw_iinc f_X9_layBest_106 rfl rfl ?_
      refine rw_goto f_X9_layBest_109 ?_
      rw [nI_1']
      refine ihi _ _ ⟨_, rfl, rfl, fun a j n1 n2 => by rw [up_row n1]; exact y1 a j n1 n2, by rw [up_row (by decide)]; exact y2, by rw [up_row (by decide)]; exact y3, by rw [up_row (by decide)]; exact y4, fun j e hj he => ?_⟩
      rw [up_at]
      (by_cases q : j = i)
      · (rw [if_pos q]; rw [q, get_D hi] at he; cases he; rfl)
      · (rw [if_neg q]; exact y5 j e (by omega) he)
    · obtain ⟨Y, rfl, rfl, y1, y2, y3, y4, y5⟩ := hI
      refine rw_iload f_X9_layBest_86 rfl ?_
      refine rw_aload f_X9_layBest_87 rfl ?_
      refine rm_getI f_X9_layBest_88 hW ?_
      rw [y1 _ _ (by decide) (by omega), om']
      refine rw_icmpT f_X9_layBest_91 (decide_eq_true (Int32.le_refl _)) ?_
      refine rw_goto f_X9_layBest_112 ?_
      skip
      refine step c0 Y _ (by rw [betB_upd, if_pos c1]) ⟨fun a j r => ?_, pth, PO_eq (fun a j ha => y1 a j (by omega) (by omega)) po, by rw [y1 _ _ (by decide) (by omega)]; exact om, by rw [y1 _ _ (by decide) (by omega)]; exact ebd⟩ ⟨y2, y3, y4, fun j e he => y5 j e ?_ he⟩
      · rw [y1 a j (fun z => r (by unfold osc; omega)) (fun z => r (by unfold osc; omega))]
        exact so a j r
      · apply Classical.byContradiction
        intro c
        rw [List.getElem?_eq_none (by omega)] at he
        cases he
    · rw [up_ne (by omega), up_ne (by omega), up_ne (by omega)]
    · rw [up_ne (by decide), up_ne (by decide)]; exact up_same
    · rw [up_ne (by decide)]; exact up_same
    · exact up_same
theorem m_layBest (hW : MW h m) (hB : WB V nM nD nB) (so : So V W) {late : Int32} (hbd : V 34 20 + late = bd) {k : am_H → Prop} (hk : ∀ X, So V X → BS X (bstO V nB nD man bd) → k (mh h m X)) : Rn (d + 4) n_X9_layBest 0 [am_r m, am_i man, am_i late, am_u] [] (mh h m W) (kV k) := by
  refine rw_aload f_X9_layBest_0 rfl ?_
  refine rw_aload f_X9_layBest_1 rfl ?_
  refine rm_getR f_X9_layBest_2 hW rfl ?_
  refine rw_const f_X9_layBest_5 ?_
  refine rm_xald (j := 20) f_X9_layBest_7 hW (by exact rfl) (by first | rfl | exact nI_addl _ _ | (simp only [nI, Int32.ofNat_add, Int32.ofNat_mul]; rfl) | (simp only [nI_addl, nI_mull, nI_lit, nI_1']; done) | (simp only [nI_1, nI_0, nI_addl, nI_mull, ← nI_succ]; rfl)) (by omega) ?_
  refine rw_iload f_X9_layBest_8 rfl ?_
  refine rw_iadd f_X9_layBest_9 ?_
  rw [so.now, hbd]
  refine rm_putI f_X9_layBest_10 hW ?_
  refine rw_aload f_X9_layBest_13 rfl ?_
  refine rw_callV f_X9_layBest_14 rfl hW.1 hW.2.1 rfl rfl rfl rfl (rn_kv (m_beginOrder hW ?_))
  refine rw_aload f_X9_layBest_17 rfl ?_
  refine rw_const f_X9_layBest_18 ?_
  refine rm_putI f_X9_layBest_19 hW ?_
  refine rw_aload f_X9_layBest_22 rfl ?_
  refine rw_const f_X9_layBest_23 ?_
  refine rm_putI f_X9_layBest_24 hW ?_
  refine rw_aload f_X9_layBest_27 rfl ?_
  refine rw_const f_X9_layBest_28 ?_
  refine rm_putI f_X9_layBest_29 hW ?_
  skip
  have ps := POs_0 (nB := nB) (nD := nD) (man := man) (W := am_up W 0 80 bd) (so.up (by unfold osc; omega)) up_same
  obtain ⟨p1, p2, p3, p4, p5⟩ := ps
  refine m_bestLoop hW hB (bd := bd) (srch V nB nD man bd [([], 0, 0)] 0) [] ([], 0, 0) [] ([], 0, 0) _ am_u ⟨((p1.up (by unfold osc; omega)).up (by unfold osc; omega)).up (by unfold osc; omega), p2, PO_o0 (PO_o0 (PO_o0 p3)), ?_, ?_⟩ rfl oL_srch rfl ⟨?_, ?_, ?_, fun i e hi => by simp at hi⟩ hk
  · rw [up_ne (by decide), up_ne (by decide), up_ne (by decide)]; exact p4
  · rw [up_ne (by decide), up_ne (by decide), up_ne (by decide)]; exact p5
  · rw [up_ne (by decide), up_ne (by decide)]; exact up_same
  · rw [up_ne (by decide)]; exact up_same
  · exact up_same
theorem m_keep (hW : MW h m) (hB : WB V nM nD nB) {man what : Int32} (hk0 : ok_keep V man what = false → k (-1) (mh h m (showV V (fun _ => 0) 0))) (hk1 : ok_keep V man what = true → ∀ X, Eqv (showV V (rowF (bstO V nB nD man (V 34 20)).1) (bstO V nB nD man (V 34 20)).1.length) X → k (an_keep (bstO V nB nD man (V 34 20)) what) (mh h m X)) : Rn (d + 5) n_X9_keep 0 [am_r m, am_i man, am_i what, am_u] [] (mh h m V) (kI k) := by
  have reg : ∀ f n a j, regA a j = true → showV V f n a j = V a j := fun f n a j e => showV_o (by rintro rfl; cases e) (by rintro ⟨rfl, rfl⟩; cases e)
  have hB1 : WB (showV V (fun _ => 0) 0) nM nD nB := WB_V (reg _ _) hB
  have hD6 := hB.1.2.2.2.1
  have e0 : showV V (fun _ => 0) 0 34 20 + 0 = V 34 20 := by rw [showV_o (by decide) (by decide)]; exact Int32.add_zero _
  unfold ok_keep at hk0 hk1
  refine rw_aload f_X9_keep_0 rfl ?_
  refine rw_const f_X9_keep_1 ?_
  refine rm_putI f_X9_keep_2 hW ?_
  rw [show_0 (f := fun _ => 0)]
  refine rw_aload f_X9_keep_5 rfl ?_
  refine rw_iload f_X9_keep_6 rfl ?_
  refine rw_callV f_X9_keep_7 rfl hW.1 hW.2.1 rfl rfl rfl rfl (rn_ki (m_isMan hW ?_))
  first | refine rw_eq0B f_X9_keep_10 (fun c1 => ?_) (fun c1 => ?_) | refine rw_eq0 f_X9_keep_10 (fun c1 => ?_) (fun c1 => ?_)
  · refine rw_const f_X9_keep_22 ?_
    refine rw_iret f_X9_keep_23 ?_
    rw [reg _ _ _ _ rfl] at c1
    exact hk0 (by simp [c1])
  refine rw_iload f_X9_keep_13 rfl ?_
  refine rw_const f_X9_keep_14 ?_
  refine rw_const f_X9_keep_15 ?_
  refine rw_callS f_X9_keep_16 rfl rfl rfl (rn_ki (M_isIn ?_))
  first | refine rw_ne0B f_X9_keep_19 (fun c2 => ?_) (fun c2 => ?_) | refine rw_ne0 f_X9_keep_19 (fun c2 => ?_) (fun c2 => ?_)
  rotate_left
  · refine rw_const f_X9_keep_22 ?_
    refine rw_iret f_X9_keep_23 ?_
    rw [reg _ _ _ _ rfl] at c1
    exact hk0 (by simp [c1, c2])
  refine rw_aload f_X9_keep_24 rfl ?_
  refine rw_iload f_X9_keep_25 rfl ?_
  refine rw_const f_X9_keep_26 ?_
  refine rw_callV f_X9_keep_27 rfl hW.1 hW.2.1 rfl rfl rfl rfl (rn_kv (m_layBest hW hB1 .refl e0 (fun X so bs => ?_)))
  refine rw_const f_X9_keep_30 ?_
  refine rw_istore f_X9_keep_31 rfl rfl ?_
  skip
  rw [reg _ _ _ _ rfl] at c1
  have hk1' := hk1 (by simp [c1, c2])
  rw [bstO_V (V := V) (reg _ _) (fun j => showV_o (by decide) (by omega))] at bs
  generalize hO : bstO V nB nD man (V 34 20) = O at hk1' bs
  have lO : O.1.length ≤ 6 := by
    have := (oL_ok (V := V) (nD := nD) (man := man) (bd := V 34 20) hB.1.2.2.2.2.2 O (by rw [← hO]; exact bstO_mem)).2
    omega
  obtain ⟨b1, b2, b3, b4⟩ := bs
  refine rn_inv (N := O.1.length) (fun i ls hh => ∃ Y, hh = mh h m Y ∧ ls = [am_r m, am_i man, am_i what, am_i (nI i)] ∧ (∀ a, ¬ a = 42 → Y a = X a) ∧ ∀ j, Y 42 j = if j < i then rowF O.1 j else X 42 j) (fun i hi ls hh hI ih => ?_) (fun ls hh hI => ?_) ⟨X, rfl, rfl, fun _ _ => rfl, fun j => by rw [if_neg (Nat.not_lt_zero j)]⟩
  · obtain ⟨Y, rfl, rfl, y1, y2⟩ := hI
    refine rw_iload f_X9_keep_32 rfl ?_
    refine rw_aload f_X9_keep_33 rfl ?_
    refine rm_getI f_X9_keep_34 hW ?_
    rw [y1 _ (by decide), b1]
    refine rw_icmpF f_X9_keep_37 (decide_eq_false (nI_ge hi (by omega))) ?_
    refine rw_aload f_X9_keep_40 rfl ?_
    refine rm_getR f_X9_keep_41 hW rfl ?_
    refine rw_iload f_X9_keep_44 rfl ?_
    refine rw_aload f_X9_keep_45 rfl ?_
    refine rm_getR f_X9_keep_46 hW rfl ?_
    refine rw_iload f_X9_keep_49 rfl ?_
    refine rm_xald (j := i) f_X9_keep_50 hW (by exact rfl) (by first | rfl | exact nI_addl _ _ | (simp only [nI, Int32.ofNat_add, Int32.ofNat_mul]; rfl) | (simp only [nI_addl, nI_mull, nI_lit, nI_1']; done) | (simp only [nI_1, nI_0, nI_addl, nI_mull, ← nI_succ]; rfl)) (by omega) ?_
    rw [y1 _ (by decide), b4 i _ (get_D hi)]
    refine rm_iast (j := i) f_X9_keep_51 hW (by exact rfl) (by first | rfl | exact nI_addl _ _ | (simp only [nI, Int32.ofNat_add, Int32.ofNat_mul]; rfl) | (simp only [nI_addl, nI_mull, nI_lit, nI_1']; done) | (simp only [nI_1, nI_0, nI_addl, nI_mull, ← nI_succ]; rfl)) (by omega) ?_
    refine rw_iinc f_X9_keep_52 rfl rfl ?_
    refine rw_goto f_X9_keep_55 ?_
    rw [nI_1']
    refine ih _ _ ⟨_, rfl, rfl, fun a ha => by rw [up_row ha]; exact y1 a ha, fun j => ?_⟩
    rw [up_at, y2]
    (by_cases q : j = i)
    · (rw [if_pos q, if_pos (by omega), q]; rfl)
    · (rw [if_neg q, ite_s q])
  · obtain ⟨Y, rfl, rfl, y1, y2⟩ := hI
    have fin : ∀ v, v = an_keep O what → k v (mh h m (am_up Y 0 85 (nI O.1.length))) := by
      intro v hv
      rw [hv]
      refine hk1' _ (fun a j e => ?_)
      by_cases c : a = 0 ∧ j = 85
      · obtain ⟨rfl, rfl⟩ := c
        rw [up_same]; exact (if_pos ⟨rfl, rfl⟩).symm
      · rw [up_ne c]
        by_cases c2 : a = 42
        · subst c2
          rw [y2]
          unfold showV
          rw [if_neg c]
          by_cases c3 : j < O.1.length
          · rw [if_pos c3, if_pos ⟨rfl, c3⟩]
          · rw [if_neg c3, if_neg (fun z => c3 z.2), so _ _ (rel_osc e)]
            unfold showV
            rw [if_neg c, if_neg (by omega)]
        · rw [y1 a c2, so _ _ (rel_osc e), showV_o c2 c, showV_o c2 c]
    unfold an_keep at fin
    refine rw_iload f_X9_keep_32 rfl ?_
    refine rw_aload f_X9_keep_33 rfl ?_
    refine rm_getI f_X9_keep_34 hW ?_
    rw [y1 _ (by decide), b1]
    refine rw_icmpT f_X9_keep_37 (decide_eq_true (Int32.le_refl _)) ?_
    refine rw_aload f_X9_keep_58 rfl ?_
    refine rw_aload f_X9_keep_59 rfl ?_
    refine rm_getI f_X9_keep_60 hW ?_
    rw [y1 _ (by decide), b1]
    refine rm_putI f_X9_keep_63 hW ?_
    refine rw_iload f_X9_keep_66 rfl ?_
    first | refine rw_ne0B f_X9_keep_67 (fun c1 => ?_) (fun c1 => ?_) | refine rw_ne0 f_X9_keep_67 (fun c1 => ?_) (fun c1 => ?_)
    · refine rw_iload f_X9_keep_80 rfl ?_
      refine rw_const f_X9_keep_81 ?_
      refine rw_ne f_X9_keep_82 (fun c2 => ?_) (fun c2 => ?_)
      · refine rw_aload f_X9_keep_92 rfl ?_
        refine rm_getI f_X9_keep_93 hW ?_
        first | rw [up_ne (by decide), y1 _ (by decide), b3] | skip
        refine rw_iret f_X9_keep_96 ?_
        exact fin _ (by simp [c1, c2])
      · refine rw_aload f_X9_keep_85 rfl ?_
        refine rm_getI f_X9_keep_86 hW ?_
        rw [up_ne (by decide), y1 _ (by decide), b2]
        refine rw_goto f_X9_keep_89 ?_
        first | rw [up_ne (by decide), y1 _ (by decide), b3] | skip
        refine rw_iret f_X9_keep_96 ?_
        exact fin _ (by simp [c1, c2])
    · refine rw_aload f_X9_keep_70 rfl ?_
      refine rm_getI f_X9_keep_71 hW ?_
      rw [up_ne (by decide), y1 _ (by decide), b3]
      refine rw_callS f_X9_keep_74 rfl rfl rfl (rn_ki (M_members ?_))
      refine rw_goto f_X9_keep_77 ?_
      first | rw [up_ne (by decide), y1 _ (by decide), b3] | skip
      refine rw_iret f_X9_keep_96 ?_
      exact fin _ (by simp [c1])
theorem m_rest (hW : MW h m) (hB : WB V nM nD nB) {man : Int32} (hk : ∀ X, Eqv V X → k (sp_rest V nB nD man) (mh h m X)) : Rn (d + 5) n_X9_rest 0 [am_r m, am_i man, am_u, am_u] [] (mh h m V) (kI k) := by
  have e0 : V 34 20 + 0 = V 34 20 := Int32.add_zero _
  unfold sp_rest at hk
  have loop : ∀ n, n ≤ 60 → ∀ w, w = pc (bstO V nB nD man (V 34 20)).2.2 → (∀ X, Eqv V X → k (nI (restN V nB nD man w n)) (mh h m X)) → ∀ X, So V X → BS X (bstO V nB nD man (V 34 20 + nI n)) → Rn (d + 5) n_X9_rest 33 [am_r m, am_i man, am_i w, am_i (nI n)] [] (mh h m X) (kI k) := by
    intro n
    induction n with
    | zero =>
      intro _ w hw hk X so bs
      rw [show V 34 20 + nI 0 = V 34 20 from e0] at bs
      refine rw_aload f_X9_rest_33 rfl ?_
      refine rm_getI f_X9_rest_34 hW ?_
      rw [bs.2.2.1]
      refine rw_callS f_X9_rest_37 rfl rfl rfl (rn_ki (M_members ?_))
      refine rw_iload f_X9_rest_40 rfl ?_
      refine rw_icmpT f_X9_rest_41 (decide_eq_true (by rw [hw]; exact Int32.le_refl _)) ?_
      refine rw_iload f_X9_rest_56 rfl ?_
      refine rw_iret f_X9_rest_57 ?_
      exact hk X so.eqv
    | succ n ih =>
      intro hn w hw hk X so bs
      unfold restN at hk
      refine rw_aload f_X9_rest_33 rfl ?_
      refine rm_getI f_X9_rest_34 hW ?_
      rw [bs.2.2.1]
      refine rw_callS f_X9_rest_37 rfl rfl rfl (rn_ki (M_members ?_))
      refine rw_iload f_X9_rest_40 rfl ?_
      refine rw_ge f_X9_rest_41 (fun c1 => ?_) (fun c1 => ?_)
      · refine rw_iload f_X9_rest_56 rfl ?_
        refine rw_iret f_X9_rest_57 ?_
        rw [if_neg (Int32.not_lt.mpr c1)] at hk
        exact hk X so.eqv
      · refine rw_iinc f_X9_rest_44 rfl rfl ?_
        refine rw_aload f_X9_rest_47 rfl ?_
        refine rw_iload f_X9_rest_48 rfl ?_
        refine rw_iload f_X9_rest_49 rfl ?_
        rw [← Int32.sub_eq_add_neg, nI_pred]
        refine rw_callV f_X9_rest_50 rfl hW.1 hW.2.1 rfl rfl rfl rfl (rn_kv (m_layBest hW hB so (bd := V 34 20 + nI n) rfl (fun Y sy by_ => ?_)))
        refine rw_goto f_X9_rest_53 ?_
        rw [if_pos (Int32.not_le.mp c1)] at hk
        exact ih (by omega) w hw hk Y sy by_
  refine rw_aload f_X9_rest_0 rfl ?_
  refine rw_iload f_X9_rest_1 rfl ?_
  refine rw_callV f_X9_rest_2 rfl hW.1 hW.2.1 rfl rfl rfl rfl (rn_ki (m_isMan hW ?_))
  first | refine rw_ne0B f_X9_rest_5 (fun c1 => ?_) (fun c1 => ?_) | refine rw_ne0 f_X9_rest_5 (fun c1 => ?_) (fun c1 => ?_)
  · refine rw_aload f_X9_rest_10 rfl ?_
    refine rw_iload f_X9_rest_11 rfl ?_
    refine rw_const f_X9_rest_12 ?_
    refine rw_callV f_X9_rest_13 rfl hW.1 hW.2.1 rfl rfl rfl rfl (rn_kv (m_layBest hW hB .refl e0 (fun X so bs => ?_)))
    refine rw_aload f_X9_rest_16 rfl ?_
    refine rm_getI f_X9_rest_17 hW ?_
    rw [bs.2.2.1]
    refine rw_callS f_X9_rest_20 rfl rfl rfl (rn_ki (M_members ?_))
    refine rw_istore f_X9_rest_23 rfl rfl ?_
    refine rw_const f_X9_rest_24 ?_
    refine rw_istore f_X9_rest_26 rfl rfl ?_
    refine rw_aload f_X9_rest_27 rfl ?_
    refine rw_iload f_X9_rest_28 rfl ?_
    refine rw_iload f_X9_rest_29 rfl ?_
    refine rw_callV f_X9_rest_30 rfl hW.1 hW.2.1 rfl rfl rfl rfl (rn_kv (m_layBest hW hB so (bd := V 34 20 + nI 60) rfl (fun Y sy by_ => ?_)))
    exact loop 60 (Nat.le_refl _) _ rfl (fun X e => by have z := hk X e; rw [if_neg (by rw [c1]; decide)] at z; exact z) Y sy by_
  · refine rw_const f_X9_rest_8 ?_
    refine rw_iret f_X9_rest_9 ?_
    exact Eq.mp (by simp [c1]) (hk V .refl)
end MBest
