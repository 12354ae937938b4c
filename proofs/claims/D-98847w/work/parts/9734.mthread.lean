/-! THE MODEL: threads ahead, what must be left -/
theorem and1_bI {s : Int32} {a : Nat} (ha : a < 32) : (s >>> (nI a &&& 31)) &&& 1 = bI (tb s a) := by
  rw [← tb_shr ha]
  cases e : tb (s >>> (nI a &&& 31)) 0 with
  | true => exact (and1_iff _).mpr e
  | false =>
    apply tb_ext
    intro b hb
    show _ = tb 0 b
    rw [tb_and, tb_1, tb_0]
    by_cases q : b = 0
    · subst q; rw [e]; rfl
    · rw [decide_eq_false q, Bool.and_false]
theorem hasB_bI {s : Int32} {a : Nat} (ha : a < 32) : (s >>> (nI a &&& 31)) &&& 1 = bI (hasB s (nI a)) := by rw [and1_bI ha, has_tb ha]
def Wr (V W : am_M) : Prop := ∀ a, ¬ a = 8 → ¬ a = 9 → W a = V a
theorem Wr.refl {V : am_M} : Wr V V := fun _ _ _ => rfl
theorem Wr.tr {V V1 V2 : am_M} (p : Wr V V1) (q : ∀ a, ¬ a = 8 → ¬ a = 9 → V2 a = V1 a) : Wr V V2 := fun a h1 h2 => (q a h1 h2).trans (p a h1 h2)
theorem Wr.eqv {V W : am_M} (q : Wr V W) : Eqv V W := fun a j e => by
  rw [q a (fun z => by subst z; cases e) (fun z => by subst z; cases e)]
theorem Wr.reg {V W : am_M} (q : Wr V W) : ∀ a j, regA a j = true → W a j = V a j := q.eqv.reg
theorem holdF_z {V : am_M} {b i : Nat} {st : Int32} (h : holdF V b st i = 0) : ∀ n, i ≤ n → holdF V b st n = 0 := by
  intro n hn
  induction hn with
  | refl => exact h
  | @step n _ ih =>
    simp only [holdF]
    rw [ih]
    have := wrV_in (V := V) (th := 0) (ho := hoV V b) (st := st) (dy := V 34 20 + nI n) (by decide)
    rw [show wrV V 0 (hoV V b) st (V 34 20 + nI n) = 0 from Int32.le_antisymm this.2 this.1]
    rfl
theorem holdF_V {V V' : am_M} (e : ∀ a j, regA a j = true → V' a j = V a j) (en : ∀ j, V' 34 j = V 34 j) (b : Nat) (st : Int32) : ∀ n, holdF V' b st n = holdF V b st n
  | 0 => en _
  | n + 1 => by
    simp only [holdF]
    rw [holdF_V e en b st n, wrV_V e, hoV_V e, en]
section MThread
variable {d : Nat} {h : am_H} {m : Nat} {V : am_M} {k : Int32 → am_H → Prop} {nM nD nB nA nU nT nL : Nat}
theorem M_members {h : am_H} {s : Int32} (hk : k (pc s) h) : Rn d n_X9_members 0 [am_i s, am_u, am_u] [] h (kI k) := by
  refine rw_const f_X9_members_0 ?_
  refine rw_istore f_X9_members_1 rfl rfl ?_
  refine rw_const f_X9_members_2 ?_
  refine rw_istore f_X9_members_3 rfl rfl ?_
  refine rn_for (N := 10) (fun b => [am_i s, am_i (cntB (fun k => tb s k) b), am_i (nI b)]) (fun _ => h) (fun b hb ih => ?_) ?_
  · refine rw_iload f_X9_members_4 rfl ?_
    refine rw_const f_X9_members_5 ?_
    refine rw_icmpF f_X9_members_7 (decide_eq_false (by rw [show (10 : Int32) = nI 10 from rfl]; exact nI_ge hb (by omega))) ?_
    refine rw_iload f_X9_members_10 rfl ?_
    refine rw_iload f_X9_members_11 rfl ?_
    refine rw_iload f_X9_members_12 rfl ?_
    refine rw_ishr f_X9_members_13 ?_
    refine rw_const f_X9_members_14 ?_
    refine rw_iand f_X9_members_15 ?_
    rw [and1_bI (by omega)]
    refine rw_iadd f_X9_members_16 ?_
    refine rw_istore f_X9_members_17 rfl rfl ?_
    refine rw_iinc f_X9_members_18 rfl rfl ?_
    refine rw_goto f_X9_members_21 ?_
    rw [nI_1']
    exact ih
  · refine rw_iload f_X9_members_4 rfl ?_
    refine rw_const f_X9_members_5 ?_
    refine rw_icmpT f_X9_members_7 (by decide) ?_
    refine rw_iload f_X9_members_24 rfl ?_
    refine rw_iret f_X9_members_25 ?_
    exact hk
theorem m_threadSame (hW : MW h m) (hB : WB V nM nD nB) (ok : okDay (V 34)) {b n : Nat} (hb : b < nB) (hn : n ≤ 60) {st : Int32} (hk : ∀ W, Wr V W → k (holdF V b st n) (mh h m W)) : Rn (d + 3) n_X9_threadSame 0 [am_r m, am_i (nI b), am_i (nI n), am_i st, am_u, am_u] [] (mh h m V) (kI k) := by
  obtain ⟨⟨fM, fM6, fD, fD6, fB, fB10⟩, fO, -, -, -, fW⟩ := hB
  obtain ⟨a, ha, ea⟩ := (fO b hb).2.1
  refine rw_aload f_X9_threadSame_0 rfl ?_
  refine rm_getR f_X9_threadSame_1 hW rfl ?_
  refine rw_const f_X9_threadSame_4 ?_
  refine rw_iload f_X9_threadSame_6 rfl ?_
  refine rw_iadd f_X9_threadSame_7 ?_
  refine rm_xald (j := 10 + b) f_X9_threadSame_8 hW (by exact rfl) (by first | rfl | exact nI_addl _ _ | (simp only [nI, Int32.ofNat_add, Int32.ofNat_mul]; rfl) | (simp only [nI_addl, nI_mull, nI_lit, nI_1']; done) | (simp only [nI_1, nI_0, nI_addl, nI_mull, ← nI_succ]; rfl)) (by omega) ?_
  refine rw_istore f_X9_threadSame_9 rfl rfl ?_
  refine rw_const f_X9_threadSame_11 ?_
  refine rw_istore f_X9_threadSame_12 rfl rfl ?_
  skip
  refine rn_inv (N := n) (fun i ls hh => ∃ W, hh = mh h m W ∧ Wr V W ∧ ls = [am_r m, am_i (nI b), am_i (nI n), am_i st, am_i (holdF V b st i), am_i (nI i)]) (fun i hi ls hh hI ih => ?_) (fun ls hh hI => ?_) ⟨V, rfl, .refl, rfl⟩
  · obtain ⟨W, rfl, wr, rfl⟩ := hI
    obtain ⟨t, ht, et⟩ := holdF_in (V := V) (b := b) (st := st) ok (by omega) i
    have rBy : W 27 b = nI a := by rw [wr _ (by decide) (by decide)]; exact ea
    have rH : W 16 a = hoV V b := by unfold hoV; rw [ea, nI_clamp (by omega), wr _ (by decide) (by decide)]
    have rN : W 34 20 = V 34 20 := by rw [wr _ (by decide) (by decide)]
    have zero : holdF V b st i ≤ 0 → holdF V b st n = holdF V b st i := fun z => by
      have z0 : holdF V b st i = 0 := Int32.le_antisymm z (by rw [et]; exact nI_pos' (by omega))
      rw [z0]; exact holdF_z z0 n (by omega)
    refine rw_iload f_X9_threadSame_14 rfl ?_
    refine rw_iload f_X9_threadSame_16 rfl ?_
    refine rw_icmpF f_X9_threadSame_17 (decide_eq_false (nI_ge hi (by omega))) ?_
    refine rw_iload f_X9_threadSame_20 rfl ?_
    refine rw_le0 f_X9_threadSame_22 (fun c1 => ?_) (fun c1 => ?_)
    · refine rw_iload f_X9_threadSame_64 rfl ?_
      refine rw_iret f_X9_threadSame_66 ?_
      rw [← zero c1]
      exact hk W wr
    · refine rw_iload f_X9_threadSame_25 rfl ?_
      refine rw_aload f_X9_threadSame_27 rfl ?_
      refine rw_iload f_X9_threadSame_28 rfl ?_
      refine rw_aload f_X9_threadSame_30 rfl ?_
      refine rm_getR f_X9_threadSame_31 hW rfl ?_
      refine rw_aload f_X9_threadSame_34 rfl ?_
      refine rm_getR f_X9_threadSame_35 hW rfl ?_
      refine rw_iload f_X9_threadSame_38 rfl ?_
      refine rm_xald f_X9_threadSame_39 hW (by exact rfl) rfl (by omega) ?_
      rw [rBy]
      refine rm_xald (j := a) f_X9_threadSame_40 hW (by exact rfl) (by first | rfl | exact nI_addl _ _ | (simp only [nI, Int32.ofNat_add, Int32.ofNat_mul]; rfl) | (simp only [nI_addl, nI_mull, nI_lit, nI_1']; done) | (simp only [nI_1, nI_0, nI_addl, nI_mull, ← nI_succ]; rfl)) (by omega) ?_
      rw [rH]
      refine rw_iload f_X9_threadSame_41 rfl ?_
      refine rw_aload f_X9_threadSame_42 rfl ?_
      refine rm_getR f_X9_threadSame_43 hW rfl ?_
      refine rw_const f_X9_threadSame_46 ?_
      refine rm_xald (j := 20) f_X9_threadSame_48 hW (by exact rfl) (by first | rfl | exact nI_addl _ _ | (simp only [nI, Int32.ofNat_add, Int32.ofNat_mul]; rfl) | (simp only [nI_addl, nI_mull, nI_lit, nI_1']; done) | (simp only [nI_1, nI_0, nI_addl, nI_mull, ← nI_succ]; rfl)) (by omega) ?_
      rw [rN]
      refine rw_iload f_X9_threadSame_49 rfl ?_
      refine rw_iadd f_X9_threadSame_51 ?_
      refine rw_callV f_X9_threadSame_52 rfl hW.1 hW.2.1 rfl rfl rfl rfl (rn_ki (m_wearOf hW (okWear_V wr.reg fW) (fun X hX => ?_)))
      rw [wrV_V wr.reg]
      refine rw_isub f_X9_threadSame_55 ?_
      refine rw_istore f_X9_threadSame_56 rfl rfl ?_
      refine rw_iinc f_X9_threadSame_58 rfl rfl ?_
      refine rw_goto f_X9_threadSame_61 ?_
      rw [nI_1']
      exact ih _ _ ⟨X, rfl, wr.tr hX, rfl⟩
  · obtain ⟨W, rfl, wr, rfl⟩ := hI
    refine rw_iload f_X9_threadSame_14 rfl ?_
    refine rw_iload f_X9_threadSame_16 rfl ?_
    refine rw_icmpT f_X9_threadSame_17 (decide_eq_true (Int32.le_refl _)) ?_
    refine rw_iload f_X9_threadSame_64 rfl ?_
    refine rw_iret f_X9_threadSame_66 ?_
    exact hk W wr
theorem m_holds (hW : MW h m) (hB : WB V nM nD nB) (ok : okDay (V 34)) {b n st : Int32} (hk : ∀ W, Eqv V W → k (sp_holds V b n st) (mh h m W)) : Rn (d + 4) n_X9_holds 0 [am_r m, am_i b, am_i n, am_i st] [] (mh h m V) (kI k) := by
  have hB' := hB
  obtain ⟨⟨fM, fM6, fD, fD6, fB, fB10⟩, -⟩ := hB'
  unfold sp_holds onB at hk
  cases hb : isIn b 0 (V 0 58 - 1) with
  | false =>
    rw [hb, Bool.false_and, if_pos rfl] at hk
    refine rw_aload f_X9_holds_0 rfl ?_
    refine rw_iload f_X9_holds_1 rfl ?_
    refine rw_callV f_X9_holds_2 rfl hW.1 hW.2.1 rfl rfl rfl rfl (rn_ki (m_isButton hW ?_))
    refine rw_ifT f_X9_holds_5 (by rw [hb]; rfl) ?_
    refine rw_const f_X9_holds_35 ?_
    refine rw_goto f_X9_holds_36 ?_
    refine rw_iret f_X9_holds_46 ?_
    exact hk V .refl
  | true =>
    obtain ⟨j, rfl, hj⟩ := isIn_nat (n := nB) (by omega) (by rw [← fB]; exact hb)
    rw [hb, Bool.true_and, nI_clamp (by omega)] at hk
    cases hn : isIn n 0 60 with
    | false =>
      refine rw_aload f_X9_holds_0 rfl ?_
      refine rw_iload f_X9_holds_1 rfl ?_
      refine rw_callV f_X9_holds_2 rfl hW.1 hW.2.1 rfl rfl rfl rfl (rn_ki (m_isButton hW ?_))
      refine rw_ifF f_X9_holds_5 (by rw [hb]; rfl) ?_
      refine rw_aload f_X9_holds_8 rfl ?_
      refine rw_iload f_X9_holds_9 rfl ?_
      refine rw_callV f_X9_holds_10 rfl hW.1 hW.2.1 rfl rfl rfl rfl (rn_ki (m_isOn hW (by omega) ?_))
      first | refine rw_eq0B f_X9_holds_13 (fun c1 => ?_) (fun c1 => ?_) | refine rw_eq0 f_X9_holds_13 (fun c1 => ?_) (fun c1 => ?_)
      · refine rw_const f_X9_holds_35 ?_
        refine rw_goto f_X9_holds_36 ?_
        refine rw_iret f_X9_holds_46 ?_
        exact Eq.mp (by simp [c1, hn]) (hk V .refl)
      · refine rw_iload f_X9_holds_16 rfl ?_
        refine rw_const f_X9_holds_17 ?_
        refine rw_const f_X9_holds_18 ?_
        refine rw_callS f_X9_holds_20 rfl rfl rfl (rn_ki (M_isIn ?_))
        refine rw_ifT f_X9_holds_23 (by rw [hn]; rfl) ?_
        refine rw_const f_X9_holds_35 ?_
        refine rw_goto f_X9_holds_36 ?_
        refine rw_iret f_X9_holds_46 ?_
        exact Eq.mp (by simp [c1, hn]) (hk V .refl)
    | true =>
      obtain ⟨t, rfl, ht⟩ := isIn_nat (v := n) (n := 61) (by omega) hn
      rw [nI_clamp (by omega)] at hk
      refine rw_aload f_X9_holds_0 rfl ?_
      refine rw_iload f_X9_holds_1 rfl ?_
      refine rw_callV f_X9_holds_2 rfl hW.1 hW.2.1 rfl rfl rfl rfl (rn_ki (m_isButton hW ?_))
      refine rw_ifF f_X9_holds_5 (by rw [hb]; rfl) ?_
      refine rw_aload f_X9_holds_8 rfl ?_
      refine rw_iload f_X9_holds_9 rfl ?_
      refine rw_callV f_X9_holds_10 rfl hW.1 hW.2.1 rfl rfl rfl rfl (rn_ki (m_isOn hW (by omega) ?_))
      first | refine rw_eq0B f_X9_holds_13 (fun c1 => ?_) (fun c1 => ?_) | refine rw_eq0 f_X9_holds_13 (fun c1 => ?_) (fun c1 => ?_)
      · refine rw_const f_X9_holds_35 ?_
        refine rw_goto f_X9_holds_36 ?_
        refine rw_iret f_X9_holds_46 ?_
        first | exact Eq.mp (by simp [c1, hn]) (hk W wr.eqv) | exact Eq.mp (by simp [c1, hn]) (hk V .refl)
      · refine rw_iload f_X9_holds_16 rfl ?_
        refine rw_const f_X9_holds_17 ?_
        refine rw_const f_X9_holds_18 ?_
        refine rw_callS f_X9_holds_20 rfl rfl rfl (rn_ki (M_isIn ?_))
        refine rw_ifF f_X9_holds_23 (by rw [hn]; rfl) ?_
        refine rw_iload f_X9_holds_26 rfl ?_
        refine rw_const f_X9_holds_27 ?_
        refine rw_const f_X9_holds_28 ?_
        refine rw_callS f_X9_holds_29 rfl rfl rfl (rn_ki (M_isIn ?_))
        first | refine rw_ne0B f_X9_holds_32 (fun c2 => ?_) (fun c2 => ?_) | refine rw_ne0 f_X9_holds_32 (fun c2 => ?_) (fun c2 => ?_)
        · refine rw_aload f_X9_holds_39 rfl ?_
          refine rw_iload f_X9_holds_40 rfl ?_
          refine rw_iload f_X9_holds_41 rfl ?_
          refine rw_iload f_X9_holds_42 rfl ?_
          refine rw_callV f_X9_holds_43 rfl hW.1 hW.2.1 rfl rfl rfl rfl (rn_ki (m_threadSame hW hB ok hj (by omega) (fun W wr => ?_)))
          refine rw_iret f_X9_holds_46 ?_
          first | exact Eq.mp (by simp [c1, c2, hn]) (hk W wr.eqv) | exact Eq.mp (by simp [c1, c2, hn]) (hk V .refl)
        · refine rw_const f_X9_holds_35 ?_
          refine rw_goto f_X9_holds_36 ?_
          refine rw_iret f_X9_holds_46 ?_
          first | exact Eq.mp (by simp [c1, c2, hn]) (hk W wr.eqv) | exact Eq.mp (by simp [c1, c2, hn]) (hk V .refl)
/-- the day on which a thread is gone -/
def dayG (V : am_M) (b : Nat) : Option Nat := fst1 (fun i => decide (holdF V b 0 (i + 1) = 0)) 60
def dayI (o : Option Nat) : Int32 := match o with
  | none => 1000000
  | some i => nI (i + 1)
theorem dayG_V {V V' : am_M} (e : ∀ a j, regA a j = true → V' a j = V a j) (en : ∀ j, V' 34 j = V 34 j) (b : Nat) : dayG V' b = dayG V b := by
  unfold dayG
  congr 1
  funext i
  rw [holdF_V e en]
theorem m_daysOf (hW : MW h m) (hB : WB V nM nD nB) {b : Nat} (hb : b < nB) (hk : ∀ W, Wr V W → k (dayI (dayG V b)) (mh h m W)) : Rn (d + 3) n_X9_daysOf 0 [am_r m, am_i (nI b), am_u, am_u] [] (mh h m V) (kI k) := by
  obtain ⟨⟨fM, fM6, fD, fD6, fB, fB10⟩, fO, -, -, -, fW⟩ := hB
  obtain ⟨a, ha, ea⟩ := (fO b hb).2.1
  refine rw_aload f_X9_daysOf_0 rfl ?_
  refine rm_getR f_X9_daysOf_1 hW rfl ?_
  refine rw_const f_X9_daysOf_4 ?_
  refine rw_iload f_X9_daysOf_6 rfl ?_
  refine rw_iadd f_X9_daysOf_7 ?_
  refine rm_xald (j := 10 + b) f_X9_daysOf_8 hW (by exact rfl) (by first | rfl | exact nI_addl _ _ | (simp only [nI, Int32.ofNat_add, Int32.ofNat_mul]; rfl) | (simp only [nI_addl, nI_mull, nI_lit, nI_1']; done) | (simp only [nI_1, nI_0, nI_addl, nI_mull, ← nI_succ]; rfl)) (by omega) ?_
  refine rw_istore f_X9_daysOf_9 rfl rfl ?_
  refine rw_const f_X9_daysOf_10 ?_
  refine rw_istore f_X9_daysOf_11 rfl rfl ?_
  skip
  refine rn_inv (N := 60) (fun i ls hh => ∃ W, hh = mh h m W ∧ Wr V W ∧ ls = [am_r m, am_i (nI b), am_i (holdF V b 0 i), am_i (nI i)] ∧ ∀ j, j < i → ¬ holdF V b 0 (j + 1) = 0) (fun i hi ls hh hI ih => ?_) (fun ls hh hI => ?_) ⟨V, rfl, .refl, rfl, fun j hj => absurd hj (Nat.not_lt_zero j)⟩
  · obtain ⟨W, rfl, wr, rfl, hz⟩ := hI
    have rBy : W 27 b = nI a := by rw [wr _ (by decide) (by decide)]; exact ea
    have rH : W 16 a = hoV V b := by unfold hoV; rw [ea, nI_clamp (by omega), wr _ (by decide) (by decide)]
    have rN : W 34 20 = V 34 20 := by rw [wr _ (by decide) (by decide)]
    refine rw_iload f_X9_daysOf_12 rfl ?_
    refine rw_const f_X9_daysOf_13 ?_
    refine rw_icmpF f_X9_daysOf_15 (decide_eq_false (by rw [show (60 : Int32) = nI 60 from rfl]; exact nI_ge hi (by omega))) ?_
    refine rw_iload f_X9_daysOf_18 rfl ?_
    refine rw_aload f_X9_daysOf_19 rfl ?_
    refine rw_iload f_X9_daysOf_20 rfl ?_
    refine rw_aload f_X9_daysOf_21 rfl ?_
    refine rm_getR f_X9_daysOf_22 hW rfl ?_
    refine rw_aload f_X9_daysOf_25 rfl ?_
    refine rm_getR f_X9_daysOf_26 hW rfl ?_
    refine rw_iload f_X9_daysOf_29 rfl ?_
    refine rm_xald f_X9_daysOf_30 hW (by exact rfl) rfl (by omega) ?_
    rw [rBy]
    refine rm_xald (j := a) f_X9_daysOf_31 hW (by exact rfl) (by first | rfl | exact nI_addl _ _ | (simp only [nI, Int32.ofNat_add, Int32.ofNat_mul]; rfl) | (simp only [nI_addl, nI_mull, nI_lit, nI_1']; done) | (simp only [nI_1, nI_0, nI_addl, nI_mull, ← nI_succ]; rfl)) (by omega) ?_
    rw [rH]
    refine rw_const f_X9_daysOf_32 ?_
    refine rw_aload f_X9_daysOf_33 rfl ?_
    refine rm_getR f_X9_daysOf_34 hW rfl ?_
    refine rw_const f_X9_daysOf_37 ?_
    refine rm_xald (j := 20) f_X9_daysOf_39 hW (by exact rfl) (by first | rfl | exact nI_addl _ _ | (simp only [nI, Int32.ofNat_add, Int32.ofNat_mul]; rfl) | (simp only [nI_addl, nI_mull, nI_lit, nI_1']; done) | (simp only [nI_1, nI_0, nI_addl, nI_mull, ← nI_succ]; rfl)) (by omega) ?_
    rw [rN]
    refine rw_iload f_X9_daysOf_40 rfl ?_
    refine rw_iadd f_X9_daysOf_41 ?_
    refine rw_callV f_X9_daysOf_42 rfl hW.1 hW.2.1 rfl rfl rfl rfl (rn_ki (m_wearOf hW (okWear_V wr.reg fW) (fun X hX => ?_)))
    rw [wrV_V wr.reg]
    refine rw_isub f_X9_daysOf_45 ?_
    rw [show holdF V b 0 i - wrV V (holdF V b 0 i) (hoV V b) 0 (V 34 20 + nI i) = holdF V b 0 (i + 1) from rfl]
    refine rw_istore f_X9_daysOf_46 rfl rfl ?_
    refine rw_iload f_X9_daysOf_47 rfl ?_
    first | refine rw_ne0B f_X9_daysOf_48 (fun c1 => ?_) (fun c1 => ?_) | refine rw_ne0 f_X9_daysOf_48 (fun c1 => ?_) (fun c1 => ?_)
    · refine rw_iinc f_X9_daysOf_55 rfl rfl ?_
      refine rw_goto f_X9_daysOf_58 ?_
      rw [nI_1']
      refine ih _ _ ⟨X, rfl, wr.tr hX, rfl, fun j hj => ?_⟩
      (by_cases q : j = i)
      · (rw [q]; exact c1)
      · exact hz j (by omega)
    · refine rw_iload f_X9_daysOf_51 rfl ?_
      refine rw_const f_X9_daysOf_52 ?_
      refine rw_iadd f_X9_daysOf_53 ?_
      refine rw_iret f_X9_daysOf_54 ?_
      have e : dayG V b = some i := fst1_of hi (decide_eq_true c1) (fun j hj => decide_eq_false (hz j hj))
      have z := hk X (wr.tr hX)
      rw [e] at z
      rw [nI_1']
      exact z
  · obtain ⟨W, rfl, wr, rfl, hz⟩ := hI
    refine rw_iload f_X9_daysOf_12 rfl ?_
    refine rw_const f_X9_daysOf_13 ?_
    refine rw_icmpT f_X9_daysOf_15 (by decide) ?_
    refine rw_const f_X9_daysOf_61 ?_
    refine rw_iret f_X9_daysOf_64 ?_
    have e : dayG V b = none := fst1_none.mpr (fun j hj => decide_eq_false (hz j hj))
    have z := hk W wr
    rw [e] at z
    exact z
/-- buttons that are on -/
def dayB (V : am_M) (b : Nat) : Option Nat := if V 34 b = 0 then dayG V b else none
/-- the first to go, of n -/
def fstM (V : am_M) : Nat → Option (Nat × Nat)
  | 0 => none
  | n + 1 => match dayB V n with
    | none => fstM V n
    | some i => match fstM V n with
      | none => some (n, i)
      | some p => if p.2 ≤ i then some p else some (n, i)
theorem fstM_succ {n : Nat} : fstM V (n + 1) = match dayB V n with
    | none => fstM V n
    | some i => match fstM V n with
      | none => some (n, i)
      | some p => if p.2 ≤ i then some p else some (n, i) := rfl
theorem fstM_none : ∀ n, fstM V n = none → ∀ b, b < n → dayB V b = none := by
  intro n
  induction n with
  | zero => intro _ b hb; omega
  | succ n ih =>
    intro h b hb
    unfold fstM at h
    cases e : dayB V n with
    | none =>
      rw [e] at h
      by_cases q : b = n
      · rw [q]; exact e
      · exact ih h b (by omega)
    | some i =>
      rw [e] at h
      dsimp only at h
      cases e2 : fstM V n with
      | none => rw [e2] at h; cases h
      | some p =>
        rw [e2] at h
        dsimp only at h
        split at h <;> cases h
theorem fstM_some : ∀ n p, fstM V n = some p → p.1 < n ∧ dayB V p.1 = some p.2 ∧ (∀ c, c < n → ∀ j, dayB V c = some j → p.2 ≤ j) ∧ ∀ c, c < p.1 → ∀ j, dayB V c = some j → p.2 < j := by
  intro n
  induction n with
  | zero => intro p h; cases h
  | succ n ih =>
    intro p h
    unfold fstM at h
    cases e : dayB V n with
    | none =>
      rw [e] at h
      obtain ⟨h1, h2, h3, h4⟩ := ih p h
      refine ⟨by omega, h2, fun c hc j hj => ?_, h4⟩
      by_cases q : c = n
      · rw [q, e] at hj; cases hj
      · exact h3 c (by omega) j hj
    | some i =>
      rw [e] at h
      dsimp only at h
      cases e2 : fstM V n with
      | none =>
        rw [e2] at h
        cases h
        have nn := fstM_none n e2
        refine ⟨Nat.lt_succ_self n, e, fun c hc j hj => ?_, fun c hc j hj => ?_⟩
        · by_cases q : c = n
          · rw [q, e] at hj; cases hj; exact Nat.le_refl _
          · rw [nn c (by omega)] at hj; cases hj
        · rw [nn c hc] at hj; cases hj
      | some p' =>
        rw [e2] at h
        dsimp only at h
        obtain ⟨h1, h2, h3, h4⟩ := ih p' e2
        split at h
        · rename_i le
          cases h
          refine ⟨by omega, h2, fun c hc j hj => ?_, h4⟩
          by_cases q : c = n
          · rw [q, e] at hj; cases hj; exact le
          · exact h3 c (by omega) j hj
        · rename_i le
          cases h
          refine ⟨Nat.lt_succ_self n, e, fun c hc j hj => ?_, fun c hc j hj => ?_⟩
          · by_cases q : c = n
            · rw [q, e] at hj; cases hj; exact Nat.le_refl _
            · have := h3 c (by omega) j hj
              show i ≤ j
              omega
          · have := h3 c hc j hj
            show i < j
            omega
theorem goneB_day {b i : Nat} (hi : i < 60) : goneB V (i + 1) b = true ↔ ∃ j, j ≤ i ∧ dayB V b = some j := by
  unfold goneB dayB
  rw [Bool.and_eq_true, decide_eq_true_eq, decide_eq_true_eq]
  constructor
  · rintro ⟨h1, h2⟩
    rw [if_pos h1]
    cases e : dayG V b with
    | none =>
      have := fst1_none.mp e i hi
      exact absurd h2 (of_decide_eq_false this)
    | some j =>
      obtain ⟨q1, q2, q3⟩ := fst1_some e
      refine ⟨j, ?_, rfl⟩
      apply Classical.byContradiction
      intro c
      exact absurd h2 (of_decide_eq_false (q3 i (by omega)))
  · rintro ⟨j, hj, e⟩
    by_cases h1 : V 34 b = 0
    · rw [if_pos h1] at e
      obtain ⟨q1, q2, q3⟩ := fst1_some e
      exact ⟨h1, holdF_z (of_decide_eq_true q2) (i + 1) (by omega)⟩
    · rw [if_neg h1] at e; cases e
theorem sp_first_M {what : Int32} : sp_first V nB what = if isIn what 0 1 = false then -1 else match fstM V nB with
    | none => -1
    | some p => if what = 0 then nI p.1 else nI (p.2 + 1) := by
  unfold sp_first
  by_cases hw : isIn what 0 1 = false
  · rw [if_pos hw, if_pos hw]
  · rw [if_neg hw, if_neg hw]
    cases e : fstM V nB with
    | none =>
      have nn := fstM_none nB e
      have : fst1 (fun i => (fst1 (goneB V (i + 1)) nB).isSome) 60 = none := by
        rw [fst1_none]
        intro i hi
        have : fst1 (goneB V (i + 1)) nB = none := by
          rw [fst1_none]
          intro b hb
          apply Bool.eq_false_iff.mpr
          intro g
          obtain ⟨j, -, hj⟩ := (goneB_day hi).mp g
          rw [nn b hb] at hj; cases hj
        rw [this]; rfl
      rw [this]
    | some p =>
      obtain ⟨h1, h2, h3, h4⟩ := fstM_some nB p e
      have p60 : p.2 < 60 := by
        unfold dayB at h2
        by_cases h0 : V 34 p.1 = 0
        · rw [if_pos h0] at h2
          exact (fst1_some h2).1
        · rw [if_neg h0] at h2; cases h2
      have e1 : fst1 (goneB V (p.2 + 1)) nB = some p.1 := fst1_of h1 ((goneB_day p60).mpr ⟨p.2, Nat.le_refl _, h2⟩) (fun c hc => by
        apply Bool.eq_false_iff.mpr
        intro g
        obtain ⟨j, hj, hj2⟩ := (goneB_day p60).mp g
        have := h4 c hc j hj2
        omega)
      have e2 : fst1 (fun i => (fst1 (goneB V (i + 1)) nB).isSome) 60 = some p.2 := fst1_of p60 (by rw [e1]; rfl) (fun c hc => by
        have : fst1 (goneB V (c + 1)) nB = none := by
          rw [fst1_none]
          intro b hb
          apply Bool.eq_false_iff.mpr
          intro g
          obtain ⟨j, hj, hj2⟩ := (goneB_day (by omega)).mp g
          have := h3 b hb j hj2
          omega
        rw [this]; rfl)
      rw [e2]
      dsimp only
      rw [e1]
      rfl
def fsB (o : Option (Nat × Nat)) : Int32 := match o with
  | none => -1
  | some p => nI p.1
def fsD (o : Option (Nat × Nat)) : Int32 := match o with
  | none => 1000000
  | some p => nI (p.2 + 1)
theorem dayB_60 {b i : Nat} (e : dayB V b = some i) : i < 60 := by
  unfold dayB at e
  by_cases h0 : V 34 b = 0
  · rw [if_pos h0] at e
    exact (fst1_some e).1
  · rw [if_neg h0] at e; cases e
theorem fstM_60 {n : Nat} {p : Nat × Nat} (e : fstM V n = some p) : p.2 < 60 := dayB_60 (fstM_some n p e).2.1
theorem fstM_s {n : Nat} (hn : n < 20) : (dayI (dayB V n) < fsD (fstM V n) → fsB (fstM V (n + 1)) = nI n ∧ fsD (fstM V (n + 1)) = dayI (dayB V n)) ∧ (¬ dayI (dayB V n) < fsD (fstM V n) → fstM V (n + 1) = fstM V n) := by
  have big : ∀ i, i < 60 → nI (i + 1) < 1000000 := fun i hi => nI_lt (b := 1000000) (by omega) (by omega)
  have nlt : ¬ (1000000 : Int32) < 1000000 := by decide
  have nle : ∀ i, i < 60 → ¬ (1000000 : Int32) < nI (i + 1) := fun i hi => nI_nlt (a := 1000000) (by omega) (by omega)
  rw [fstM_succ]
  cases e : dayB V n with
  | none =>
    refine ⟨fun z => ?_, fun _ => rfl⟩
    exfalso
    cases e2 : fstM V n with
    | none => rw [e2] at z; exact nlt z
    | some p => rw [e2] at z; exact nle _ (fstM_60 e2) z
  | some i =>
    have hi := dayB_60 e
    cases e2 : fstM V n with
    | none => exact ⟨fun _ => ⟨rfl, rfl⟩, fun z => absurd (big i hi) z⟩
    | some p =>
      have hp := fstM_60 e2
      dsimp only
      have q : nI (i + 1) < nI (p.2 + 1) ↔ i + 1 < p.2 + 1 := nI_ltI (by omega) (by omega)
      by_cases c : p.2 ≤ i
      · rw [if_pos c]
        exact ⟨fun z => absurd (q.mp z) (by omega), fun _ => rfl⟩
      · rw [if_neg c]
        exact ⟨fun _ => ⟨rfl, rfl⟩, fun z => absurd (q.mpr (by omega)) z⟩
theorem m_first (hW : MW h m) (hB : WB V nM nD nB) {what : Int32} (hk : ∀ W, Eqv V W → k (sp_first V nB what) (mh h m W)) : Rn (d + 4) n_X9_first 0 [am_r m, am_i what, am_u, am_u, am_u, am_u] [] (mh h m V) (kI k) := by
  have hB' := hB
  obtain ⟨⟨fM, fM6, fD, fD6, fB, fB10⟩, -⟩ := hB'
  rw [sp_first_M] at hk
  refine rw_iload f_X9_first_0 rfl ?_
  refine rw_const f_X9_first_1 ?_
  refine rw_const f_X9_first_2 ?_
  refine rw_callS f_X9_first_3 rfl rfl rfl (rn_ki (M_isIn ?_))
  first | refine rw_ne0B f_X9_first_6 (fun c1 => ?_) (fun c1 => ?_) | refine rw_ne0 f_X9_first_6 (fun c1 => ?_) (fun c1 => ?_)
  rotate_left
  · refine rw_const f_X9_first_9 ?_
    refine rw_iret f_X9_first_10 ?_
    exact Eq.mp (by simp [c1]) (hk V .refl)
  refine rw_const f_X9_first_11 ?_
  refine rw_istore f_X9_first_12 rfl rfl ?_
  refine rw_const f_X9_first_13 ?_
  refine rw_istore f_X9_first_16 rfl rfl ?_
  refine rw_const f_X9_first_17 ?_
  refine rw_istore f_X9_first_18 rfl rfl ?_
  skip
  rw [if_neg (by rw [c1]; decide)] at hk
  refine rn_inv (N := nB) (fun b ls hh => ∃ W y, hh = mh h m W ∧ Wr V W ∧ ls = [am_r m, am_i what, am_i (fsB (fstM V b)), am_i (fsD (fstM V b)), am_i (nI b), y]) (fun b hb ls hh hI ih => ?_) (fun ls hh hI => ?_) ⟨V, am_u, rfl, .refl, rfl⟩
  · obtain ⟨W, y, rfl, wr, rfl⟩ := hI
    have rB : W 0 58 = nI nB := by rw [wr _ (by decide) (by decide)]; exact fB
    have rN : W 34 b = V 34 b := by rw [wr _ (by decide) (by decide)]
    obtain ⟨s1, s2⟩ := fstM_s (V := V) (n := b) (by omega)
    have gen : ∀ X, Wr V X → Rn (d + 4) n_X9_first 50 [am_r m, am_i what, am_i (fsB (fstM V b)), am_i (fsD (fstM V b)), am_i (nI b), y] [am_i (dayI (dayB V b))] (mh h m X) (kI k) := by
      intro X wx
      refine rw_istore f_X9_first_50 rfl rfl ?_
      refine rw_iload f_X9_first_52 rfl ?_
      refine rw_iload f_X9_first_54 rfl ?_
      refine rw_lt f_X9_first_55 (fun c1 => ?_) (fun c1 => ?_)
      · refine rw_iload f_X9_first_61 rfl ?_
        refine rw_istore f_X9_first_63 rfl rfl ?_
        refine rw_iload f_X9_first_64 rfl ?_
        refine rw_istore f_X9_first_66 rfl rfl ?_
        refine rw_iinc f_X9_first_67 rfl rfl ?_
        refine rw_goto f_X9_first_70 ?_
        rw [nI_1']
        first | (obtain ⟨t1, t2⟩ := s1 c1; refine ih _ _ ⟨X, am_i (dayI (dayB V b)), rfl, wx, ?_⟩; rw [t1, t2]; rfl) | (refine ih _ _ ⟨X, am_i (dayI (dayB V b)), rfl, wx, ?_⟩; rw [s2 c1]; rfl)
      · refine rw_goto f_X9_first_58 ?_
        refine rw_iinc f_X9_first_67 rfl rfl ?_
        refine rw_goto f_X9_first_70 ?_
        rw [nI_1']
        first | (obtain ⟨t1, t2⟩ := s1 c1; refine ih _ _ ⟨X, am_i (dayI (dayB V b)), rfl, wx, ?_⟩; rw [t1, t2]; rfl) | (refine ih _ _ ⟨X, am_i (dayI (dayB V b)), rfl, wx, ?_⟩; rw [s2 c1]; rfl)
    refine rw_iload f_X9_first_20 rfl ?_
    refine rw_aload f_X9_first_22 rfl ?_
    refine rm_getI f_X9_first_23 hW ?_
    rw [rB]
    refine rw_icmpF f_X9_first_26 (decide_eq_false (nI_ge hb (by omega))) ?_
    refine rw_aload f_X9_first_29 rfl ?_
    refine rw_iload f_X9_first_30 rfl ?_
    refine rw_callV f_X9_first_32 rfl hW.1 hW.2.1 rfl rfl rfl rfl (rn_ki (m_isOn hW (by omega) ?_))
    rw [rN]
    first | refine rw_eq0B f_X9_first_35 (fun c1 => ?_) (fun c1 => ?_) | refine rw_eq0 f_X9_first_35 (fun c1 => ?_) (fun c1 => ?_)
    · refine rw_const f_X9_first_47 ?_
      first | (have e : dayB V b = none := by unfold dayB; exact if_neg (of_decide_eq_false c1)); (have z := gen W wr; rw [e] at z; exact z) | (have e : dayB V b = dayG V b := by unfold dayB; exact if_pos (of_decide_eq_true c1)); (have z := gen X (wr.tr wx); rw [e] at z; have e2 : dayG W b = dayG V b := dayG_V wr.reg (fun j => by rw [wr _ (by decide) (by decide)]) b; rw [e2]; exact z)
    · refine rw_aload f_X9_first_38 rfl ?_
      refine rw_iload f_X9_first_39 rfl ?_
      refine rw_callV f_X9_first_41 rfl hW.1 hW.2.1 rfl rfl rfl rfl (rn_ki (m_daysOf hW (WB_V wr.reg hB) hb (fun X wx => ?_)))
      refine rw_goto f_X9_first_44 ?_
      first | (have e : dayB V b = none := by unfold dayB; exact if_neg (of_decide_eq_false c1)); (have z := gen W wr; rw [e] at z; exact z) | (have e : dayB V b = dayG V b := by unfold dayB; exact if_pos (of_decide_eq_true c1)); (have z := gen X (wr.tr wx); rw [e] at z; have e2 : dayG W b = dayG V b := dayG_V wr.reg (fun j => by rw [wr _ (by decide) (by decide)]) b; rw [e2]; exact z)
  · obtain ⟨W, y, rfl, wr, rfl⟩ := hI
    have rB : W 0 58 = nI nB := by rw [wr _ (by decide) (by decide)]; exact fB
    have hk' := hk W wr.eqv
    cases e : fstM V nB with
    | none =>
      rw [e] at hk'
      refine rw_iload f_X9_first_20 rfl ?_
      refine rw_aload f_X9_first_22 rfl ?_
      refine rm_getI f_X9_first_23 hW ?_
      rw [rB]
      refine rw_icmpT f_X9_first_26 (decide_eq_true (Int32.le_refl _)) ?_
      refine rw_iload f_X9_first_73 rfl ?_
      refine rw_ifF f_X9_first_74 (by decide) ?_
      refine rw_const f_X9_first_77 ?_
      refine rw_goto f_X9_first_78 ?_
      refine rw_iret f_X9_first_90 ?_
      exact hk'
    | some p =>
      have h20 := (fstM_some nB p e).1
      rw [e] at hk'
      refine rw_iload f_X9_first_20 rfl ?_
      refine rw_aload f_X9_first_22 rfl ?_
      refine rm_getI f_X9_first_23 hW ?_
      rw [rB]
      refine rw_icmpT f_X9_first_26 (decide_eq_true (Int32.le_refl _)) ?_
      refine rw_iload f_X9_first_73 rfl ?_
      refine rw_ifT f_X9_first_74 (decide_eq_true (nI_pos' (by omega))) ?_
      refine rw_iload f_X9_first_81 rfl ?_
      first | refine rw_ne0B f_X9_first_82 (fun c1 => ?_) (fun c1 => ?_) | refine rw_ne0 f_X9_first_82 (fun c1 => ?_) (fun c1 => ?_)
      · refine rw_iload f_X9_first_89 rfl ?_
        refine rw_iret f_X9_first_90 ?_
        exact Eq.mp (by simp [c1, fsB, fsD]) hk'
      · refine rw_iload f_X9_first_85 rfl ?_
        refine rw_goto f_X9_first_86 ?_
        refine rw_iret f_X9_first_90 ?_
        exact Eq.mp (by simp [c1, fsB, fsD]) hk'
theorem m_leaving (hW : MW h m) (hB : WB V nM nD nB) {man deed : Int32} (hk : k (sp_lset V nB man deed) (mh h m V)) : Rn (d + 1) n_X9_leaving 0 [am_r m, am_i man, am_i deed, am_u, am_u] [] (mh h m V) (kI k) := by
  obtain ⟨⟨fM, fM6, fD, fD6, fB, fB10⟩, fO, -⟩ := hB
  unfold sp_lset at hk
  have down : ∀ n, n ≤ nB → ∀ s, k (lvd V n s) (mh h m V) → Rn (d + 1) n_X9_leaving 100 [am_r m, am_i man, am_i deed, am_i s, am_i (nI n - 1)] [] (mh h m V) (kI k) := by
    intro n
    induction n with
    | zero =>
      intro _ s hk
      refine rw_iload f_X9_leaving_100 rfl ?_
      refine rw_ifT f_X9_leaving_102 (by decide) ?_
      refine rw_iload f_X9_leaving_157 rfl ?_
      refine rw_iret f_X9_leaving_158 ?_
      exact hk
    | succ n ih =>
      intro hn s hk
      rw [nI_pred]
      simp only [lvd] at hk
      rcases (fO n (by omega)).2.2.2.2.1 with ea | ⟨a, ha, ea⟩
      · have z : onB V (V 31 n) = false := by unfold onB isIn; rw [ea, decide_eq_false (by decide), Bool.false_and, Bool.false_and]
        rw [z, if_neg (fun q => by cases q.2)] at hk
        refine rw_iload f_X9_leaving_100 rfl ?_
        refine rw_ifF f_X9_leaving_102 (decide_eq_false (nI_pos (by omega))) ?_
        refine rw_iload f_X9_leaving_105 rfl ?_
        refine rw_iload f_X9_leaving_106 rfl ?_
        refine rw_ishr f_X9_leaving_108 ?_
        refine rw_const f_X9_leaving_109 ?_
        refine rw_iand f_X9_leaving_110 ?_
        refine rw_const f_X9_leaving_111 ?_
        refine rw_ne f_X9_leaving_112 (fun c1 => ?_) (fun c1 => ?_)
        · refine rw_iinc f_X9_leaving_151 rfl rfl ?_
          refine rw_goto f_X9_leaving_154 ?_
          rw [← Int32.sub_eq_add_neg]
          exact ih (by omega) _ hk
        · refine rw_aload f_X9_leaving_115 rfl ?_
          refine rm_getR f_X9_leaving_116 hW rfl ?_
          refine rw_iload f_X9_leaving_119 rfl ?_
          refine rm_xald f_X9_leaving_121 hW (by exact rfl) rfl (by omega) ?_
          rw [ea]
          refine rw_ifT f_X9_leaving_122 (by decide) ?_
          refine rw_iinc f_X9_leaving_151 rfl rfl ?_
          refine rw_goto f_X9_leaving_154 ?_
          rw [← Int32.sub_eq_add_neg]
          exact ih (by omega) _ hk
      · have z : onB V (V 31 n) = decide (V 34 a = 0) := by unfold onB; rw [ea, fB, isIn_of (by omega) (by omega), Bool.true_and, nI_clamp (by omega)]
        rw [z] at hk
        refine rw_iload f_X9_leaving_100 rfl ?_
        refine rw_ifF f_X9_leaving_102 (decide_eq_false (nI_pos (by omega))) ?_
        refine rw_iload f_X9_leaving_105 rfl ?_
        refine rw_iload f_X9_leaving_106 rfl ?_
        refine rw_ishr f_X9_leaving_108 ?_
        refine rw_const f_X9_leaving_109 ?_
        refine rw_iand f_X9_leaving_110 ?_
        refine rw_const f_X9_leaving_111 ?_
        refine rw_ne f_X9_leaving_112 (fun c1 => ?_) (fun c1 => ?_)
        · refine rw_iinc f_X9_leaving_151 rfl rfl ?_
          refine rw_goto f_X9_leaving_154 ?_
          rw [← Int32.sub_eq_add_neg]
          refine ih (by omega) _ ?_
          simpa [hasB, c1] using hk
        · refine rw_aload f_X9_leaving_115 rfl ?_
          refine rm_getR f_X9_leaving_116 hW rfl ?_
          refine rw_iload f_X9_leaving_119 rfl ?_
          refine rm_xald f_X9_leaving_121 hW (by exact rfl) rfl (by omega) ?_
          rw [ea]
          refine rw_ifF f_X9_leaving_122 (decide_eq_false (nI_pos (by omega))) ?_
          refine rw_aload f_X9_leaving_125 rfl ?_
          refine rw_aload f_X9_leaving_126 rfl ?_
          refine rm_getR f_X9_leaving_127 hW rfl ?_
          refine rw_iload f_X9_leaving_130 rfl ?_
          refine rm_xald f_X9_leaving_132 hW (by exact rfl) rfl (by omega) ?_
          rw [ea]
          refine rw_callV f_X9_leaving_133 rfl hW.1 hW.2.1 rfl rfl rfl rfl (rn_ki (m_isOn hW (by omega) ?_))
          first | refine rw_eq0B f_X9_leaving_136 (fun c2 => ?_) (fun c2 => ?_) | refine rw_eq0 f_X9_leaving_136 (fun c2 => ?_) (fun c2 => ?_)
          · refine rw_iinc f_X9_leaving_151 rfl rfl ?_
            refine rw_goto f_X9_leaving_154 ?_
            rw [← Int32.sub_eq_add_neg]
            refine ih (by omega) _ ?_
            simpa [hasB, c1, c2] using hk
          · refine rw_iload f_X9_leaving_139 rfl ?_
            refine rw_const f_X9_leaving_140 ?_
            refine rw_aload f_X9_leaving_141 rfl ?_
            refine rm_getR f_X9_leaving_142 hW rfl ?_
            refine rw_iload f_X9_leaving_145 rfl ?_
            refine rm_xald f_X9_leaving_147 hW (by exact rfl) rfl (by omega) ?_
            refine rw_ishl f_X9_leaving_148 ?_
            refine rw_ior f_X9_leaving_149 ?_
            refine rw_istore f_X9_leaving_150 rfl rfl ?_
            refine rw_iinc f_X9_leaving_151 rfl rfl ?_
            refine rw_goto f_X9_leaving_154 ?_
            rw [← Int32.sub_eq_add_neg]
            refine ih (by omega) _ ?_
            simpa [hasB, c1, c2] using hk
  refine rw_const f_X9_leaving_0 ?_
  refine rw_istore f_X9_leaving_1 rfl rfl ?_
  refine rw_const f_X9_leaving_2 ?_
  refine rw_istore f_X9_leaving_3 rfl rfl ?_
  refine rn_for (N := nB) (fun b => [am_r m, am_i man, am_i deed, am_i (bs (pr_leave V man deed) b), am_i (nI b)]) (fun _ => mh h m V) (fun b hb ih => ?_) ?_
  · refine rw_iload f_X9_leaving_5 rfl ?_
    refine rw_aload f_X9_leaving_7 rfl ?_
    refine rm_getI f_X9_leaving_8 hW ?_
    rw [fB]
    refine rw_icmpF f_X9_leaving_11 (decide_eq_false (nI_ge hb (by omega))) ?_
    refine rw_iload f_X9_leaving_14 rfl ?_
    refine rw_aload f_X9_leaving_15 rfl ?_
    refine rw_iload f_X9_leaving_16 rfl ?_
    refine rw_callV f_X9_leaving_18 rfl hW.1 hW.2.1 rfl rfl rfl rfl (rn_ki (m_isOn hW (by omega) ?_))
    first | refine rw_eq0B f_X9_leaving_21 (fun c1 => ?_) (fun c1 => ?_) | refine rw_eq0 f_X9_leaving_21 (fun c1 => ?_) (fun c1 => ?_)
    · refine rw_const f_X9_leaving_77 ?_
      refine rw_callS f_X9_leaving_78 rfl rfl rfl (rn_ki (M_truthX (by first | exact Or.inl rfl | exact Or.inr rfl | exact bI_01 _) ?_))
      refine rw_iload f_X9_leaving_81 rfl ?_
      refine rw_ishl f_X9_leaving_83 ?_
      refine rw_ior f_X9_leaving_84 ?_
      refine rw_istore f_X9_leaving_85 rfl rfl ?_
      refine rw_iinc f_X9_leaving_86 rfl rfl ?_
      refine rw_goto f_X9_leaving_89 ?_
      rw [nI_1']
      simp only [decide_eq_true_eq, decide_eq_false_iff_not] at c1
      rw [bs_step (by simp [pr_leave, c1, bI])]
      exact ih
    · refine rw_aload f_X9_leaving_24 rfl ?_
      refine rm_getR f_X9_leaving_25 hW rfl ?_
      refine rw_iload f_X9_leaving_28 rfl ?_
      refine rm_xald f_X9_leaving_30 hW (by exact rfl) rfl (by omega) ?_
      refine rw_iload f_X9_leaving_31 rfl ?_
      refine rw_ne f_X9_leaving_32 (fun c2 => ?_) (fun c2 => ?_)
      · refine rw_const f_X9_leaving_77 ?_
        refine rw_callS f_X9_leaving_78 rfl rfl rfl (rn_ki (M_truthX (by first | exact Or.inl rfl | exact Or.inr rfl | exact bI_01 _) ?_))
        refine rw_iload f_X9_leaving_81 rfl ?_
        refine rw_ishl f_X9_leaving_83 ?_
        refine rw_ior f_X9_leaving_84 ?_
        refine rw_istore f_X9_leaving_85 rfl rfl ?_
        refine rw_iinc f_X9_leaving_86 rfl rfl ?_
        refine rw_goto f_X9_leaving_89 ?_
        rw [nI_1']
        simp only [decide_eq_true_eq, decide_eq_false_iff_not] at c1
        rw [bs_step (by simp [pr_leave, c1, c2, bI])]
        exact ih
      · refine rw_aload f_X9_leaving_35 rfl ?_
        refine rm_getR f_X9_leaving_36 hW rfl ?_
        refine rw_iload f_X9_leaving_39 rfl ?_
        refine rm_xald f_X9_leaving_41 hW (by exact rfl) rfl (by omega) ?_
        refine rw_iload f_X9_leaving_42 rfl ?_
        refine rw_ne f_X9_leaving_43 (fun c3 => ?_) (fun c3 => ?_)
        · refine rw_const f_X9_leaving_77 ?_
          refine rw_callS f_X9_leaving_78 rfl rfl rfl (rn_ki (M_truthX (by first | exact Or.inl rfl | exact Or.inr rfl | exact bI_01 _) ?_))
          refine rw_iload f_X9_leaving_81 rfl ?_
          refine rw_ishl f_X9_leaving_83 ?_
          refine rw_ior f_X9_leaving_84 ?_
          refine rw_istore f_X9_leaving_85 rfl rfl ?_
          refine rw_iinc f_X9_leaving_86 rfl rfl ?_
          refine rw_goto f_X9_leaving_89 ?_
          rw [nI_1']
          simp only [decide_eq_true_eq, decide_eq_false_iff_not] at c1
          rw [bs_step (by simp [pr_leave, c1, c2, c3, bI])]
          exact ih
        · refine rw_aload f_X9_leaving_46 rfl ?_
          refine rm_getR f_X9_leaving_47 hW rfl ?_
          refine rw_iload f_X9_leaving_50 rfl ?_
          refine rm_xald f_X9_leaving_52 hW (by exact rfl) rfl (by omega) ?_
          first | refine rw_ne0B f_X9_leaving_53 (fun c4 => ?_) (fun c4 => ?_) | refine rw_ne0 f_X9_leaving_53 (fun c4 => ?_) (fun c4 => ?_)
          · refine rw_const f_X9_leaving_77 ?_
            refine rw_callS f_X9_leaving_78 rfl rfl rfl (rn_ki (M_truthX (by first | exact Or.inl rfl | exact Or.inr rfl | exact bI_01 _) ?_))
            refine rw_iload f_X9_leaving_81 rfl ?_
            refine rw_ishl f_X9_leaving_83 ?_
            refine rw_ior f_X9_leaving_84 ?_
            refine rw_istore f_X9_leaving_85 rfl rfl ?_
            refine rw_iinc f_X9_leaving_86 rfl rfl ?_
            refine rw_goto f_X9_leaving_89 ?_
            rw [nI_1']
            simp only [decide_eq_true_eq, decide_eq_false_iff_not] at c1
            rw [bs_step (by simp [pr_leave, c1, c2, c3, c4, bI])]
            exact ih
          · refine rw_aload f_X9_leaving_56 rfl ?_
            refine rm_getR f_X9_leaving_57 hW rfl ?_
            refine rw_iload f_X9_leaving_60 rfl ?_
            refine rm_xald f_X9_leaving_62 hW (by exact rfl) rfl (by omega) ?_
            refine rw_aload f_X9_leaving_63 rfl ?_
            refine rm_getR f_X9_leaving_64 hW rfl ?_
            refine rw_const f_X9_leaving_67 ?_
            refine rm_xald (j := 20) f_X9_leaving_69 hW (by exact rfl) (by first | rfl | exact nI_addl _ _ | (simp only [nI, Int32.ofNat_add, Int32.ofNat_mul]; rfl) | (simp only [nI_addl, nI_mull, nI_lit, nI_1']; done) | (simp only [nI_1, nI_0, nI_addl, nI_mull, ← nI_succ]; rfl)) (by omega) ?_
            refine rw_lt f_X9_leaving_70 (fun c5 => ?_) (fun c5 => ?_)
            · refine rw_const f_X9_leaving_77 ?_
              refine rw_callS f_X9_leaving_78 rfl rfl rfl (rn_ki (M_truthX (by first | exact Or.inl rfl | exact Or.inr rfl | exact bI_01 _) ?_))
              refine rw_iload f_X9_leaving_81 rfl ?_
              refine rw_ishl f_X9_leaving_83 ?_
              refine rw_ior f_X9_leaving_84 ?_
              refine rw_istore f_X9_leaving_85 rfl rfl ?_
              refine rw_iinc f_X9_leaving_86 rfl rfl ?_
              refine rw_goto f_X9_leaving_89 ?_
              rw [nI_1']
              simp only [decide_eq_true_eq, decide_eq_false_iff_not] at c1
              rw [bs_step (by simp [pr_leave, c1, c2, c3, c4, c5, bI])]
              exact ih
            · refine rw_const f_X9_leaving_73 ?_
              refine rw_goto f_X9_leaving_74 ?_
              refine rw_callS f_X9_leaving_78 rfl rfl rfl (rn_ki (M_truthX (by first | exact Or.inl rfl | exact Or.inr rfl | exact bI_01 _) ?_))
              refine rw_iload f_X9_leaving_81 rfl ?_
              refine rw_ishl f_X9_leaving_83 ?_
              refine rw_ior f_X9_leaving_84 ?_
              refine rw_istore f_X9_leaving_85 rfl rfl ?_
              refine rw_iinc f_X9_leaving_86 rfl rfl ?_
              refine rw_goto f_X9_leaving_89 ?_
              rw [nI_1']
              simp only [decide_eq_true_eq, decide_eq_false_iff_not] at c1
              rw [bs_step (by simp [pr_leave, c1, c2, c3, c4, c5, bI])]
              exact ih
  · refine rw_iload f_X9_leaving_5 rfl ?_
    refine rw_aload f_X9_leaving_7 rfl ?_
    refine rm_getI f_X9_leaving_8 hW ?_
    rw [fB]
    refine rw_icmpT f_X9_leaving_11 (decide_eq_true (Int32.le_refl _)) ?_
    refine rw_aload f_X9_leaving_92 rfl ?_
    refine rm_getI f_X9_leaving_93 hW ?_
    rw [fB]
    refine rw_const f_X9_leaving_96 ?_
    refine rw_isub f_X9_leaving_97 ?_
    refine rw_istore f_X9_leaving_98 rfl rfl ?_
    exact down nB (Nat.le_refl _) _ hk
theorem m_asked2 (hW : MW h m) (hB : WB V nM nD nB) {man deed : Int32} (hk : k (sp_asked V nB man deed) (mh h m V)) : Rn (d + 2) n_X9_asked_2 0 [am_r m, am_i man, am_i deed, am_u, am_u, am_u] [] (mh h m V) (kI k) := by
  have hB' := hB
  obtain ⟨⟨fM, fM6, fD, fD6, fB, fB10⟩, fO, -⟩ := hB'
  unfold sp_asked at hk
  have loop : ∀ s, k (orS (fun b => hasB s (nI b)) (V 27) nB) (mh h m V) → Rn (d + 2) n_X9_asked_2 31 [am_r m, am_i man, am_i deed, am_i s, am_i 0, am_i 0] [] (mh h m V) (kI k) := by
    intro s hk
    refine rn_for (N := nB) (fun b => [am_r m, am_i man, am_i deed, am_i s, am_i (orS (fun b => hasB s (nI b)) (V 27) b), am_i (nI b)]) (fun _ => mh h m V) (fun b hb ih => ?_) ?_
    · simp only [orS] at ih
      refine rw_iload f_X9_asked_2_31 rfl ?_
      refine rw_aload f_X9_asked_2_33 rfl ?_
      refine rm_getI f_X9_asked_2_34 hW ?_
      rw [fB]
      refine rw_icmpF f_X9_asked_2_37 (decide_eq_false (nI_ge hb (by omega))) ?_
      refine rw_iload f_X9_asked_2_40 rfl ?_
      refine rw_iload f_X9_asked_2_41 rfl ?_
      refine rw_ishr f_X9_asked_2_43 ?_
      refine rw_const f_X9_asked_2_44 ?_
      refine rw_iand f_X9_asked_2_45 ?_
      refine rw_const f_X9_asked_2_46 ?_
      refine rw_ne f_X9_asked_2_47 (fun c1 => ?_) (fun c1 => ?_)
      · refine rw_iinc f_X9_asked_2_64 rfl rfl ?_
        refine rw_goto f_X9_asked_2_67 ?_
        rw [nI_1']
        simpa [hasB, c1, am_put, am_kill] using ih
      · refine rw_iload f_X9_asked_2_50 rfl ?_
        refine rw_const f_X9_asked_2_52 ?_
        refine rw_aload f_X9_asked_2_53 rfl ?_
        refine rm_getR f_X9_asked_2_54 hW rfl ?_
        refine rw_iload f_X9_asked_2_57 rfl ?_
        refine rm_xald f_X9_asked_2_59 hW (by exact rfl) rfl (by omega) ?_
        refine rw_ishl f_X9_asked_2_60 ?_
        refine rw_ior f_X9_asked_2_61 ?_
        refine rw_istore f_X9_asked_2_62 rfl rfl ?_
        refine rw_iinc f_X9_asked_2_64 rfl rfl ?_
        refine rw_goto f_X9_asked_2_67 ?_
        rw [nI_1']
        simpa [hasB, c1, am_put, am_kill] using ih
    · refine rw_iload f_X9_asked_2_31 rfl ?_
      refine rw_aload f_X9_asked_2_33 rfl ?_
      refine rm_getI f_X9_asked_2_34 hW ?_
      rw [fB]
      refine rw_icmpT f_X9_asked_2_37 (decide_eq_true (Int32.le_refl _)) ?_
      refine rw_iload f_X9_asked_2_70 rfl ?_
      refine rw_iret f_X9_asked_2_72 ?_
      exact hk
  refine rw_aload f_X9_asked_2_0 rfl ?_
  refine rw_iload f_X9_asked_2_1 rfl ?_
  refine rw_callV f_X9_asked_2_2 rfl hW.1 hW.2.1 rfl rfl rfl rfl (rn_ki (m_isMan hW ?_))
  first | refine rw_eq0B f_X9_asked_2_5 (fun c1 => ?_) (fun c1 => ?_) | refine rw_eq0 f_X9_asked_2_5 (fun c1 => ?_) (fun c1 => ?_)
  · refine rw_const f_X9_asked_2_16 ?_
    refine rw_iret f_X9_asked_2_17 ?_
    simpa [c1] using hk
  · refine rw_aload f_X9_asked_2_8 rfl ?_
    refine rw_iload f_X9_asked_2_9 rfl ?_
    refine rw_callV f_X9_asked_2_10 rfl hW.1 hW.2.1 rfl rfl rfl rfl (rn_ki (m_isDeed hW ?_))
    first | refine rw_ne0B f_X9_asked_2_13 (fun c2 => ?_) (fun c2 => ?_) | refine rw_ne0 f_X9_asked_2_13 (fun c2 => ?_) (fun c2 => ?_)
    · refine rw_aload f_X9_asked_2_18 rfl ?_
      refine rw_iload f_X9_asked_2_19 rfl ?_
      refine rw_iload f_X9_asked_2_20 rfl ?_
      refine rw_callV f_X9_asked_2_21 rfl hW.1 hW.2.1 rfl rfl rfl rfl (rn_ki (m_leaving hW hB ?_))
      refine rw_istore f_X9_asked_2_24 rfl rfl ?_
      refine rw_const f_X9_asked_2_25 ?_
      refine rw_istore f_X9_asked_2_26 rfl rfl ?_
      refine rw_const f_X9_asked_2_28 ?_
      refine rw_istore f_X9_asked_2_29 rfl rfl ?_
      exact loop _ (by simpa [c1, c2] using hk)
    · refine rw_const f_X9_asked_2_16 ?_
      refine rw_iret f_X9_asked_2_17 ?_
      simpa [c1, c2] using hk
theorem show_0 {f : Nat → Int32} : am_up V 0 85 0 = showV V f 0 := by
  funext a j
  unfold am_up showV
  by_cases e : a = 0 ∧ j = 85
  · rw [if_pos e, if_pos e]; rfl
  · rw [if_neg e, if_neg e, if_neg (by omega)]
theorem show_add {l : List Nat} {b : Nat} : am_up (am_up (showV V (rowF l) l.length) 42 l.length (nI b)) 0 85 (nI (l.length + 1)) = showV V (rowF (l ++ [b])) (l ++ [b]).length := by
  have e0 : (l ++ [b]).length = l.length + 1 := by simp
  rw [e0]
  funext a j
  unfold am_up showV
  by_cases e : a = 0 ∧ j = 85
  · rw [if_pos e, if_pos e]
  · rw [if_neg e]
    by_cases e2 : a = 42 ∧ j = l.length
    · rw [if_pos e2, if_neg e, if_pos (show a = 42 ∧ j < l.length + 1 by omega), e2.2]
      unfold rowF
      simp
    · rw [if_neg e2, if_neg e, if_neg e]
      by_cases e3 : a = 42 ∧ j < l.length
      · rw [if_pos e3, if_pos (show a = 42 ∧ j < l.length + 1 by omega)]
        unfold rowF
        rw [List.getD_eq_getElem?_getD, List.getD_eq_getElem?_getD, List.getElem?_append_left e3.2]
      · rw [if_neg e3, if_neg (show ¬ (a = 42 ∧ j < l.length + 1) from fun z => by by_cases q : j = l.length; exact e2 ⟨z.1, q⟩; exact e3 ⟨z.1, by omega⟩)]
theorem m_leave (hW : MW h m) (hB : WB V nM nD nB) {man deed : Int32} (hk0 : ok_leave V man deed = false → k (-1) (mh h m (showV V (fun _ => 0) 0))) (hk1 : ok_leave V man deed = true → k (nI (setL (sp_lset V nB man deed) nB).length) (mh h m (showV V (rowF (setL (sp_lset V nB man deed) nB)) (setL (sp_lset V nB man deed) nB).length))) : Rn (d + 2) n_X9_leave 0 [am_r m, am_i man, am_i deed, am_u, am_u] [] (mh h m V) (kI k) := by
  have reg : ∀ f n a j, regA a j = true → showV V f n a j = V a j := fun f n a j e => showV_o (by rintro rfl; cases e) (by rintro ⟨rfl, rfl⟩; cases e)
  have hB1 : WB (showV V (fun _ => 0) 0) nM nD nB := WB_V (reg _ _) hB
  obtain ⟨⟨fM, fM6, fD, fD6, fB, fB10⟩, fO, -⟩ := hB
  have loop : ∀ s, k (nI (setL s nB).length) (mh h m (showV V (rowF (setL s nB)) (setL s nB).length)) → Rn (d + 2) n_X9_leave 33 [am_r m, am_i man, am_i deed, am_i s, am_i 0] [] (mh h m (showV V (rowF []) 0)) (kI k) := by
    intro s hk
    refine rn_for (N := nB) (fun b => [am_r m, am_i man, am_i deed, am_i s, am_i (nI b)]) (fun b => mh h m (showV V (rowF (setL s b)) (setL s b).length)) (fun b hb ih => ?_) ?_
    · have lb := setL_len s b
      have eL : ∀ l : List Nat, showV V (rowF l) l.length 0 85 = nI l.length := fun l => if_pos ⟨rfl, rfl⟩
      simp only [setL] at ih
      cases hs : hasB s (nI b) with
      | false =>
        rw [hs, if_neg (by decide)] at ih
        refine rw_iload f_X9_leave_33 rfl ?_
        refine rw_aload f_X9_leave_35 rfl ?_
        refine rm_getI f_X9_leave_36 hW ?_
        rw [reg _ _ _ _ rfl, fB]
        refine rw_icmpF f_X9_leave_39 (decide_eq_false (nI_ge hb (by omega))) ?_
        refine rw_iload f_X9_leave_42 rfl ?_
        refine rw_iload f_X9_leave_43 rfl ?_
        refine rw_ishr f_X9_leave_45 ?_
        refine rw_const f_X9_leave_46 ?_
        refine rw_iand f_X9_leave_47 ?_
        rw [hasB_bI (by omega), hs]
        refine rw_ifF f_X9_leave_48 (by decide) ?_
        refine rw_goto f_X9_leave_51 ?_
        refine rw_iinc f_X9_leave_75 rfl rfl ?_
        refine rw_goto f_X9_leave_78 ?_
        rw [nI_1']
        exact ih
      | true =>
        rw [hs, if_pos rfl] at ih
        refine rw_iload f_X9_leave_33 rfl ?_
        refine rw_aload f_X9_leave_35 rfl ?_
        refine rm_getI f_X9_leave_36 hW ?_
        rw [reg _ _ _ _ rfl, fB]
        refine rw_icmpF f_X9_leave_39 (decide_eq_false (nI_ge hb (by omega))) ?_
        refine rw_iload f_X9_leave_42 rfl ?_
        refine rw_iload f_X9_leave_43 rfl ?_
        refine rw_ishr f_X9_leave_45 ?_
        refine rw_const f_X9_leave_46 ?_
        refine rw_iand f_X9_leave_47 ?_
        rw [hasB_bI (by omega), hs]
        refine rw_ifT f_X9_leave_48 (by decide) ?_
        refine rw_aload f_X9_leave_54 rfl ?_
        refine rm_getR f_X9_leave_55 hW rfl ?_
        refine rw_aload f_X9_leave_58 rfl ?_
        refine rm_getI f_X9_leave_59 hW ?_
        rw [eL]
        refine rw_iload f_X9_leave_62 rfl ?_
        refine rm_iast (j := (setL s b).length) f_X9_leave_64 hW (by exact rfl) (by first | rfl | exact nI_addl _ _ | (simp only [nI, Int32.ofNat_add, Int32.ofNat_mul]; rfl) | (simp only [nI_addl, nI_mull, nI_lit, nI_1']; done) | (simp only [nI_1, nI_0, nI_addl, nI_mull, ← nI_succ]; rfl)) (by omega) ?_
        refine rw_aload f_X9_leave_65 rfl ?_
        first | refine rw_dupr f_X9_leave_66 ?_ | refine rw_dupi f_X9_leave_66 ?_
        refine rm_getI f_X9_leave_67 hW ?_
        rw [up_row (by decide), eL]
        refine rw_const f_X9_leave_70 ?_
        refine rw_iadd f_X9_leave_71 ?_
        rw [nI_1']
        refine rm_putI f_X9_leave_72 hW ?_
        refine rw_iinc f_X9_leave_75 rfl rfl ?_
        refine rw_goto f_X9_leave_78 ?_
        rw [nI_1', show_add]
        exact ih
    · refine rw_iload f_X9_leave_33 rfl ?_
      refine rw_aload f_X9_leave_35 rfl ?_
      refine rm_getI f_X9_leave_36 hW ?_
      rw [reg _ _ _ _ rfl, fB]
      refine rw_icmpT f_X9_leave_39 (decide_eq_true (Int32.le_refl _)) ?_
      refine rw_aload f_X9_leave_81 rfl ?_
      refine rm_getI f_X9_leave_82 hW ?_
      rw [show showV V (rowF (setL s nB)) (setL s nB).length 0 85 = nI (setL s nB).length from if_pos ⟨rfl, rfl⟩]
      refine rw_iret f_X9_leave_85 ?_
      exact hk
  unfold ok_leave at hk0 hk1
  refine rw_aload f_X9_leave_0 rfl ?_
  refine rw_const f_X9_leave_1 ?_
  refine rm_putI f_X9_leave_2 hW ?_
  rw [show_0 (f := fun _ => 0)]
  refine rw_aload f_X9_leave_5 rfl ?_
  refine rw_iload f_X9_leave_6 rfl ?_
  refine rw_callV f_X9_leave_7 rfl hW.1 hW.2.1 rfl rfl rfl rfl (rn_ki (m_isMan hW ?_))
  first | refine rw_eq0B f_X9_leave_10 (fun c1 => ?_) (fun c1 => ?_) | refine rw_eq0 f_X9_leave_10 (fun c1 => ?_) (fun c1 => ?_)
  · refine rw_const f_X9_leave_21 ?_
    refine rw_iret f_X9_leave_22 ?_
    rw [reg _ _ _ _ rfl] at c1
    first | (rw [reg _ _ _ _ rfl] at c2; exact hk0 (by simp [c1])) | exact hk0 (by simp [c1])
  · refine rw_aload f_X9_leave_13 rfl ?_
    refine rw_iload f_X9_leave_14 rfl ?_
    refine rw_callV f_X9_leave_15 rfl hW.1 hW.2.1 rfl rfl rfl rfl (rn_ki (m_isDeed hW ?_))
    first | refine rw_ne0B f_X9_leave_18 (fun c2 => ?_) (fun c2 => ?_) | refine rw_ne0 f_X9_leave_18 (fun c2 => ?_) (fun c2 => ?_)
    · refine rw_aload f_X9_leave_23 rfl ?_
      refine rw_iload f_X9_leave_24 rfl ?_
      refine rw_iload f_X9_leave_25 rfl ?_
      refine rw_callV f_X9_leave_26 rfl hW.1 hW.2.1 rfl rfl rfl rfl (rn_ki (m_leaving hW hB1 ?_))
      refine rw_istore f_X9_leave_29 rfl rfl ?_
      refine rw_const f_X9_leave_30 ?_
      refine rw_istore f_X9_leave_31 rfl rfl ?_
      rw [reg _ _ _ _ rfl] at c1 c2
      rw [lset_V (reg _ _) (fun j => showV_o (by decide) (by omega)), ← show_0 (V := V) (f := fun _ => 0), show_0 (V := V) (f := rowF [])]
      exact loop _ (hk1 (by simp [c1, c2]))
    · refine rw_const f_X9_leave_21 ?_
      refine rw_iret f_X9_leave_22 ?_
      rw [reg _ _ _ _ rfl] at c1
      first | (rw [reg _ _ _ _ rfl] at c2; exact hk0 (by simp [c1, c2])) | exact hk0 (by simp [c1, c2])
end MThread
