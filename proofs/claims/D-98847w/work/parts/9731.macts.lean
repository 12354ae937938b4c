/-! THE MODEL: acts, over its memory V -/
/-- places that tell something -/
def relV (a j : Nat) : Bool := ([1, 5, 6, 15, 16, 17, 18, 19, 26, 27, 28, 29, 30, 31, 33, 34, 35, 42, 45, 46, 47, 48, 49, 50, 51] : List Nat).contains a || (Nat.beq a 0 && ([1, 2, 3, 18, 21, 56, 57, 58, 59, 60, 61, 66, 69, 70, 85, 93, 94] : List Nat).contains j)
def Eqv (V V' : am_M) : Prop := ∀ a j, relV a j = true → V' a j = V a j
theorem Eqv.refl {V : am_M} : Eqv V V := fun _ _ _ => rfl
theorem Eqv.tr {V V1 V2 : am_M} (p : Eqv V V1) (q : Eqv V1 V2) : Eqv V V2 := fun a j e => (q a j e).trans (p a j e)
theorem Eqv.up {V V1 : am_M} {a k : Nat} {v : Int32} (p : Eqv V V1) (e : relV a k = false) : Eqv V (am_up V1 a k v) := fun b j r => by
  rw [up_ne (fun z => by rw [z.1, z.2, e] at r; cases r)]
  exact p b j r
theorem reg_rel : ∀ a j, regA a j = true → relV a j = true := by
  intro a j
  unfold regA relV
  simp only [List.contains_cons, List.contains_nil, Bool.or_eq_true, Bool.and_eq_true, beq_iff_eq, Nat.beq_eq, Bool.or_false, Bool.false_eq_true, or_false]
  intro e
  omega
theorem rel_51 {a j : Nat} (e : relV a j = true) : a ≤ 51 := by
  revert e
  unfold relV
  simp only [List.contains_cons, List.contains_nil, Bool.or_eq_true, Bool.and_eq_true, beq_iff_eq, Nat.beq_eq, Bool.or_false, Bool.false_eq_true, or_false]
  intro e
  omega
theorem Eqv.reg {V V' : am_M} (q : Eqv V V') : ∀ a j, regA a j = true → V' a j = V a j := fun a j e => q a j (reg_rel a j e)
/-- what wear rests on -/
theorem wrV_V {V V' : am_M} (e : ∀ a j, regA a j = true → V' a j = V a j) (th ho st dy : Int32) : wrV V' th ho st dy = wrV V th ho st dy := by
  unfold wrV codeV
  rw [e 0 66 rfl, e 0 18 rfl, stepsOf_V e]
theorem hoV_V {V V' : am_M} (e : ∀ a j, regA a j = true → V' a j = V a j) (b : Nat) : hoV V' b = hoV V b := by
  unfold hoV
  rw [e 27 b rfl, e 16 _ rfl]
theorem okWear_V {V V' : am_M} (e : ∀ a j, regA a j = true → V' a j = V a j) (q : okWear V) : okWear V' := by
  unfold okWear at q ⊢
  rw [e 0 66 rfl, e 0 18 rfl]
  rcases q with q | ⟨q, n, q1, q2, q3, q4⟩
  · exact Or.inl q
  · exact Or.inr ⟨q, n, q1, q2, by rw [stepsOf_V e]; exact q3, by rw [stepsOf_V e]; exact q4⟩
theorem reg_51 {a j : Nat} (e : regA a j = true) : a ≤ 51 := rel_51 (reg_rel a j e)
theorem vw_reg {h : am_H} {m : Nat} {V : am_M} : ∀ a j, regA a j = true → vw (mh h m V) m a j = V a j := fun a j e => by
  show hp_I (mh h m V) (m + a) j = _
  rw [mh_Ia (reg_51 e)]
section MActs
variable {d : Nat} {h : am_H} {m : Nat} {V : am_M} {k : Int32 → am_H → Prop} {nM nD nB nA nU nT nL : Nat}
theorem m_wearOf (hW : MW h m) (hw : okWear V) {th ho st dy : Int32} (hk : ∀ W, (∀ a, ¬ a = 8 → ¬ a = 9 → W a = V a) → k (wrV V th ho st dy) (mh h m W)) : Rn (d + 2) n_X9_wearOf 0 [am_r m, am_i th, am_i ho, am_i st, am_i dy, am_u, am_u] [] (mh h m V) (kI k) :=
  M_wearOf (h := mh h m V) hW (okWear_V vw_reg hw) (fun h' on => by
    rw [wrV_V vw_reg]
    have e : h' = mh h m (fun a => if a = 8 ∨ a = 9 then nV h' m a else V a) := by
      refine (mh_of (m := m) (h := mh h m V) (h' := h') (on.w (fun b w => by have w' : b = (m + 9) ∨ b = (m + 8) := w; omega))).trans ?_
      rw [mh_mh]
      refine mh_ext (fun a j ha => ?_)
      by_cases e : a = 8 ∨ a = 9
      · rw [if_pos e]
      · rw [if_neg e]
        unfold nV
        rw [if_pos ha, on.I (b := m + a) (fun w => by have w' : m + a = (m + 9) ∨ m + a = (m + 8) := w; omega), mh_Ia ha]
    rw [e]
    exact hk _ (fun a h8 h9 => if_neg (by omega)))
def act1V (V : am_M) (n : Nat) : am_M := am_up (am_up (am_cpy V 34 0 35 (24 * n) 23) 0 69 (nI (n + 1))) 0 70 0
theorem m_act1 (hW : MW h m) {n : Nat} (hA : V 0 69 = nI n) (hn : n < 40) {x : am_V} {k : am_H → Prop} (hk : k (mh h m (act1V V n))) : Rn d n_X9_act 49 [am_r m, x] [] (mh h m V) (kV k) := by
  refine rw_const f_X9_act_49 ?_
  refine rw_istore f_X9_act_50 rfl rfl ?_
  have e0 : mh h m V = mh h m (am_cpy V 34 0 35 (24 * n) 0) := by rw [cpy_0]
  rw [e0]
  refine rn_for (N := 23) (fun b => [am_r m, am_i (nI b)]) (fun b => mh h m (am_cpy V 34 0 35 (24 * n) b)) (fun b hb ih => ?_) ?_
  · refine rw_iload f_X9_act_51 rfl ?_
    refine rw_const f_X9_act_52 ?_
    refine rw_icmpF f_X9_act_54 (decide_eq_false (by rw [show (23 : Int32) = nI 23 from rfl]; exact nI_ge hb (by omega))) ?_
    refine rw_aload f_X9_act_57 rfl ?_
    refine rm_getR f_X9_act_58 hW rfl ?_
    refine rw_const f_X9_act_61 ?_
    refine rw_aload f_X9_act_63 rfl ?_
    refine rm_getI f_X9_act_64 hW ?_
    rw [cpy_row (by decide), hA]
    refine rw_imul f_X9_act_67 ?_
    refine rw_iload f_X9_act_68 rfl ?_
    refine rw_iadd f_X9_act_69 ?_
    refine rw_aload f_X9_act_70 rfl ?_
    refine rm_getR f_X9_act_71 hW rfl ?_
    refine rw_iload f_X9_act_74 rfl ?_
    refine rm_xald (j := b) f_X9_act_75 hW (by exact rfl) (by first | rfl | exact nI_addl _ _ | (simp only [nI, Int32.ofNat_add, Int32.ofNat_mul]; rfl) | (simp only [nI_addl, nI_mull, nI_lit, nI_1']; done) | (simp only [nI_1, nI_0, nI_addl, nI_mull, ← nI_succ]; rfl)) (by omega) ?_
    refine rm_iast (j := 24 * n + b) f_X9_act_76 hW (by exact rfl) (by first | rfl | exact nI_addl _ _ | (simp only [nI, Int32.ofNat_add, Int32.ofNat_mul]; rfl) | (simp only [nI_addl, nI_mull, nI_lit, nI_1']; done) | (simp only [nI_1, nI_0, nI_addl, nI_mull, ← nI_succ]; rfl)) (by omega) ?_
    refine rw_iinc f_X9_act_77 rfl rfl ?_
    refine rw_goto f_X9_act_80 ?_
    rw [nI_1', cpy_up (Or.inl (by decide)) rfl (by rw [Nat.zero_add])]
    exact ih
  · refine rw_iload f_X9_act_51 rfl ?_
    refine rw_const f_X9_act_52 ?_
    refine rw_icmpT f_X9_act_54 (by decide) ?_
    refine rw_aload f_X9_act_83 rfl ?_
    first | refine rw_dupr f_X9_act_84 ?_ | refine rw_dupi f_X9_act_84 ?_
    refine rm_getI f_X9_act_85 hW ?_
    rw [cpy_row (by decide), hA]
    refine rw_const f_X9_act_88 ?_
    refine rw_iadd f_X9_act_89 ?_
    refine rm_putI f_X9_act_90 hW ?_
    refine rw_aload f_X9_act_93 rfl ?_
    refine rw_const f_X9_act_94 ?_
    refine rm_putI f_X9_act_95 hW ?_
    refine rw_vret f_X9_act_98 ?_
    rw [nI_1']
    exact hk
theorem act1V_eq {n : Nat} (hn : n < 40) : act1V V n = actV V n := by
  unfold act1V actV
  funext a j
  unfold am_up am_cpy
  by_cases e1 : a = 0 ∧ j = 70
  · rw [if_pos e1, if_neg (by omega), if_pos e1]
  · rw [if_neg e1]
    by_cases e2 : a = 0 ∧ j = 69
    · rw [if_pos e2, if_pos e2, if_neg (by omega)]
    · rw [if_neg e2, if_neg e2, if_neg e1, if_neg (show ¬ n = 40 by omega)]
      by_cases e3 : a = 35
      · rw [if_pos e3]
        by_cases e4 : 24 * n ≤ j ∧ j < 24 * n + 23
        · rw [if_pos ⟨e3, e4⟩, if_pos e4, Nat.zero_add]
        · rw [if_neg (fun z => e4 z.2), if_neg e4, e3]
      · rw [if_neg e3, if_neg (fun z => e3 z.1)]
theorem act40_eq : am_up (am_cpy V 35 24 35 0 936) 0 69 (nI 39) = shV V := by
  unfold shV
  funext a j
  unfold am_up am_cpy
  by_cases e2 : a = 0 ∧ j = 69
  · rw [if_pos e2, if_pos e2]
  · rw [if_neg e2, if_neg e2]
    by_cases e3 : a = 35
    · rw [if_pos e3]
      by_cases e4 : j < 936
      · rw [if_pos ⟨e3, by omega, by omega⟩, if_pos e4, Nat.sub_zero]
      · rw [if_neg (by omega), if_neg e4, e3]
    · rw [if_neg e3, if_neg (fun z => e3 z.1)]
theorem m_act (hW : MW h m) (hA : V 0 69 = nI nA) (hA40 : nA ≤ 40) {k : am_H → Prop} (hk : k (mh h m (actV V nA))) : Rn d n_X9_act 0 [am_r m, am_u] [] (mh h m V) (kV k) := by
  by_cases e : nA = 40
  · subst e
    have e0 : mh h m V = mh h m (am_cpy V 35 24 35 0 0) := by rw [cpy_0]
    refine rw_aload f_X9_act_0 rfl ?_
    refine rm_getI f_X9_act_1 hW ?_
    refine rw_const f_X9_act_4 ?_
    rw [hA]
    refine rw_icmpF f_X9_act_6 (by decide) ?_
    refine rw_const f_X9_act_9 ?_
    refine rw_istore f_X9_act_10 rfl rfl ?_
    rw [e0]
    refine rn_for (N := 936) (fun b => [am_r m, am_i (nI b)]) (fun b => mh h m (am_cpy V 35 24 35 0 b)) (fun b hb ih => ?_) ?_
    · refine rw_iload f_X9_act_11 rfl ?_
      refine rw_const f_X9_act_12 ?_
      refine rw_icmpF f_X9_act_15 (decide_eq_false (by rw [show (936 : Int32) = nI 936 from rfl]; exact nI_ge hb (by omega))) ?_
      refine rw_aload f_X9_act_18 rfl ?_
      refine rm_getR f_X9_act_19 hW rfl ?_
      refine rw_iload f_X9_act_22 rfl ?_
      refine rw_aload f_X9_act_23 rfl ?_
      refine rm_getR f_X9_act_24 hW rfl ?_
      refine rw_const f_X9_act_27 ?_
      refine rw_iload f_X9_act_29 rfl ?_
      refine rw_iadd f_X9_act_30 ?_
      refine rm_xald (j := 24 + b) f_X9_act_31 hW (by exact rfl) (by first | rfl | exact nI_addl _ _ | (simp only [nI, Int32.ofNat_add, Int32.ofNat_mul]; rfl) | (simp only [nI_addl, nI_mull, nI_lit, nI_1']; done) | (simp only [nI_1, nI_0, nI_addl, nI_mull, ← nI_succ]; rfl)) (by omega) ?_
      refine rm_iast (j := b) f_X9_act_32 hW (by exact rfl) (by first | rfl | exact nI_addl _ _ | (simp only [nI, Int32.ofNat_add, Int32.ofNat_mul]; rfl) | (simp only [nI_addl, nI_mull, nI_lit, nI_1']; done) | (simp only [nI_1, nI_0, nI_addl, nI_mull, ← nI_succ]; rfl)) (by omega) ?_
      refine rw_iinc f_X9_act_33 rfl rfl ?_
      refine rw_goto f_X9_act_36 ?_
      rw [nI_1', cpy_up (Or.inr (by omega)) (by rw [Nat.zero_add]) rfl]
      exact ih
    · refine rw_iload f_X9_act_11 rfl ?_
      refine rw_const f_X9_act_12 ?_
      refine rw_icmpT f_X9_act_15 (by decide) ?_
      refine rw_aload f_X9_act_39 rfl ?_
      first | refine rw_dupr f_X9_act_40 ?_ | refine rw_dupi f_X9_act_40 ?_
      refine rm_getI f_X9_act_41 hW ?_
      rw [cpy_row (by decide), hA]
      refine rw_const f_X9_act_44 ?_
      refine rw_isub f_X9_act_45 ?_
      refine rm_putI f_X9_act_46 hW ?_
      rw [show nI 40 - 1 = nI 39 from rfl, act40_eq]
      refine m_act1 hW (n := 39) ?_ (by omega) ?_
      (unfold shV; rw [if_pos ⟨rfl, rfl⟩])
      rw [act1V_eq (by omega), shV_act]
      exact hk
  · refine rw_aload f_X9_act_0 rfl ?_
    refine rm_getI f_X9_act_1 hW ?_
    rw [hA]
    refine rw_const f_X9_act_4 ?_
    refine rw_icmpT f_X9_act_6 (decide_eq_true (fun z => e (nI_inj (by omega) (by omega) z))) ?_
    refine m_act1 hW hA (by omega) ?_
    rw [act1V_eq (by omega)]
    exact hk
theorem nowV_up {f : Nat → Int32} {i : Nat} {v : Int32} : am_up (nowV V f) 34 i v = nowV V (fup f i v) := by
  funext a j
  unfold am_up nowV fup
  by_cases e : a = 34
  · by_cases e2 : j = i
    · rw [if_pos ⟨e, e2⟩, if_pos e, if_pos e2]
    · rw [if_neg (fun z => e2 z.2), if_pos e, if_pos e, if_neg e2]
  · rw [if_neg e, if_neg (fun z => e z.1), if_neg e]
theorem nowV_id {f : Nat → Int32} (e : f = V 34) : nowV V f = V := by
  funext a j
  unfold nowV
  by_cases q : a = 34
  · rw [if_pos q, q, e]
  · rw [if_neg q]
theorem act_now : actV V nA = nowV (actV V nA) (V 34) := (nowV_id actV_nowf.symm).symm
theorem m_does_loop (hW : MW h m) (hB : WB V nM nD nB) {man deed : Int32} (hk : k (doN V man deed nB) (mh h m (nowV (actV V nA) (doF V man deed nB)))) : Rn (d + 1) n_X9_does 30 [am_r m, am_i man, am_i deed, am_i 0, am_i 0, am_i 0] [] (mh h m (actV V nA)) (kI k) := by
  obtain ⟨⟨fM, fM6, fD, fD6, fB, fB10⟩, fO, -⟩ := hB
  have o : ∀ f a j, ¬ a = 34 → ¬ a = 35 → ¬ a = 0 → nowV (actV V nA) f a j = V a j := fun f a j h1 h2 h3 => nowV_act h1 h2 (by omega)
  have o0 : ∀ f j, ¬ j = 69 → ¬ j = 70 → nowV (actV V nA) f 0 j = V 0 j := fun f j h1 h2 => nowV_act (by decide) (by decide) (by omega)
  have e0 : mh h m (actV V nA) = mh h m (nowV (actV V nA) (doF V man deed 0)) := by
    rw [nowV_id]
    rw [actV_nowf]
    funext j
    unfold doF
    rw [if_neg (by omega)]
  rw [e0]
  refine rn_for (N := nB) (fun b => [am_r m, am_i man, am_i deed, am_i (cntB (fun b => doB V man deed b && !decide (V 33 b = 0)) b), am_i (cntB (fun b => doB V man deed b && decide (V 33 b = 0)) b), am_i (nI b)]) (fun b => mh h m (nowV (actV V nA) (doF V man deed b))) (fun b hb ih => ?_) ?_
  · have eP := (fO b hb).2.2.2.2.2
    have n0 : nowV (actV V nA) (doF V man deed b) 34 b = V 34 b := by rw [nowV_n, doF_at]
    refine rw_iload f_X9_does_30 rfl ?_
    refine rw_aload f_X9_does_32 rfl ?_
    refine rm_getI f_X9_does_33 hW ?_
    rw [o0 _ _ (by decide) (by decide), fB]
    refine rw_icmpF f_X9_does_36 (decide_eq_false (nI_ge hb (by omega))) ?_
    refine rw_aload f_X9_does_39 rfl ?_
    refine rw_iload f_X9_does_40 rfl ?_
    refine rw_callV f_X9_does_42 rfl hW.1 hW.2.1 rfl rfl rfl rfl (rn_ki (m_isOn hW (by omega) ?_))
    rw [n0]
    first | refine rw_eq0B f_X9_does_45 (fun c1 => ?_) (fun c1 => ?_) | refine rw_eq0 f_X9_does_45 (fun c1 => ?_) (fun c1 => ?_)
    · refine rw_iinc f_X9_does_131 rfl rfl ?_
      refine rw_goto f_X9_does_134 ?_
      rw [nI_1']
      first | (have hd : doB V man deed b = false := by simp [doB, c1]); (rw [doF_no hd] at ih); (simpa [cntB, hd, bI, am_put, am_kill] using ih) | (have hd : doB V man deed b = true := by simp [doB, c1]); (rw [doF_yes hd] at ih); (rcases eP with ep | ep <;> first | (exfalso; simp [ep] at *; done) | (simpa [cntB, hd, ep, bI, am_put, am_kill] using ih))
    · refine rw_aload f_X9_does_48 rfl ?_
      refine rm_getR f_X9_does_49 hW rfl ?_
      refine rw_iload f_X9_does_52 rfl ?_
      refine rm_xald f_X9_does_54 hW (by exact rfl) rfl (by omega) ?_
      rw [o _ _ _ (by decide) (by decide) (by decide)]
      refine rw_iload f_X9_does_55 rfl ?_
      refine rw_ne f_X9_does_56 (fun c2 => ?_) (fun c2 => ?_)
      · refine rw_iinc f_X9_does_131 rfl rfl ?_
        refine rw_goto f_X9_does_134 ?_
        rw [nI_1']
        first | (have hd : doB V man deed b = false := by simp [doB, c1, c2]); (rw [doF_no hd] at ih); (simpa [cntB, hd, bI, am_put, am_kill] using ih) | (have hd : doB V man deed b = true := by simp [doB, c1, c2]); (rw [doF_yes hd] at ih); (rcases eP with ep | ep <;> first | (exfalso; simp [ep] at *; done) | (simpa [cntB, hd, ep, bI, am_put, am_kill] using ih))
      · refine rw_aload f_X9_does_59 rfl ?_
        refine rm_getR f_X9_does_60 hW rfl ?_
        refine rw_iload f_X9_does_63 rfl ?_
        refine rm_xald f_X9_does_65 hW (by exact rfl) rfl (by omega) ?_
        rw [o _ _ _ (by decide) (by decide) (by decide)]
        refine rw_iload f_X9_does_66 rfl ?_
        refine rw_eq f_X9_does_67 (fun c3 => ?_) (fun c3 => ?_)
        · refine rw_aload f_X9_does_73 rfl ?_
          refine rm_getR f_X9_does_74 hW rfl ?_
          refine rw_iload f_X9_does_77 rfl ?_
          refine rw_aload f_X9_does_79 rfl ?_
          refine rm_getR f_X9_does_80 hW rfl ?_
          refine rw_iload f_X9_does_83 rfl ?_
          refine rm_xald f_X9_does_85 hW (by exact rfl) rfl (by omega) ?_
          rw [o _ _ _ (by decide) (by decide) (by decide)]
          first | refine rw_eq0B f_X9_does_86 (fun c4 => ?_) (fun c4 => ?_) | refine rw_eq0 f_X9_does_86 (fun c4 => ?_) (fun c4 => ?_)
          · refine rw_const f_X9_does_93 ?_
            refine rm_iast f_X9_does_94 hW (by exact rfl) rfl (by omega) ?_
            rw [nowV_up]
            refine rw_iload f_X9_does_95 rfl ?_
            refine rw_aload f_X9_does_96 rfl ?_
            refine rm_getR f_X9_does_97 hW rfl ?_
            refine rw_iload f_X9_does_100 rfl ?_
            refine rm_xald f_X9_does_102 hW (by exact rfl) rfl (by omega) ?_
            rw [o _ _ _ (by decide) (by decide) (by decide)]
            refine rw_callS f_X9_does_103 rfl rfl rfl (rn_ki (M_truthX (by first | exact Or.inl rfl | exact Or.inr rfl | exact eP | exact bI_01 _) ?_))
            refine rw_iadd f_X9_does_106 ?_
            refine rw_istore f_X9_does_107 rfl rfl ?_
            refine rw_iload f_X9_does_108 rfl ?_
            refine rw_aload f_X9_does_110 rfl ?_
            refine rm_getR f_X9_does_111 hW rfl ?_
            refine rw_iload f_X9_does_114 rfl ?_
            refine rm_xald f_X9_does_116 hW (by exact rfl) rfl (by omega) ?_
            rw [o _ _ _ (by decide) (by decide) (by decide)]
            first | refine rw_ne0B f_X9_does_117 (fun c5 => ?_) (fun c5 => ?_) | refine rw_ne0 f_X9_does_117 (fun c5 => ?_) (fun c5 => ?_)
            · refine rw_const f_X9_does_124 ?_
              refine rw_callS f_X9_does_125 rfl rfl rfl (rn_ki (M_truthX (by first | exact Or.inl rfl | exact Or.inr rfl | exact bI_01 _) ?_))
              refine rw_iadd f_X9_does_128 ?_
              refine rw_istore f_X9_does_129 rfl rfl ?_
              refine rw_iinc f_X9_does_131 rfl rfl ?_
              refine rw_goto f_X9_does_134 ?_
              rw [nI_1']
              first | (have hd : doB V man deed b = false := by simp [doB, c1, c2, c3, c4, c5]); (rw [doF_no hd] at ih); (simpa [cntB, hd, bI, am_put, am_kill] using ih) | (have hd : doB V man deed b = true := by simp [doB, c1, c2, c3, c4, c5]); (rw [doF_yes hd] at ih); (rcases eP with ep | ep <;> first | (exfalso; simp [ep] at *; done) | (simpa [cntB, hd, ep, bI, am_put, am_kill] using ih))
            · refine rw_const f_X9_does_120 ?_
              refine rw_goto f_X9_does_121 ?_
              refine rw_callS f_X9_does_125 rfl rfl rfl (rn_ki (M_truthX (by first | exact Or.inl rfl | exact Or.inr rfl | exact bI_01 _) ?_))
              refine rw_iadd f_X9_does_128 ?_
              refine rw_istore f_X9_does_129 rfl rfl ?_
              refine rw_iinc f_X9_does_131 rfl rfl ?_
              refine rw_goto f_X9_does_134 ?_
              rw [nI_1']
              first | (have hd : doB V man deed b = false := by simp [doB, c1, c2, c3, c4, c5]); (rw [doF_no hd] at ih); (simpa [cntB, hd, bI, am_put, am_kill] using ih) | (have hd : doB V man deed b = true := by simp [doB, c1, c2, c3, c4, c5]); (rw [doF_yes hd] at ih); (rcases eP with ep | ep <;> first | (exfalso; simp [ep] at *; done) | (simpa [cntB, hd, ep, bI, am_put, am_kill] using ih))
          · refine rw_const f_X9_does_89 ?_
            refine rw_goto f_X9_does_90 ?_
            refine rm_iast f_X9_does_94 hW (by exact rfl) rfl (by omega) ?_
            rw [nowV_up]
            refine rw_iload f_X9_does_95 rfl ?_
            refine rw_aload f_X9_does_96 rfl ?_
            refine rm_getR f_X9_does_97 hW rfl ?_
            refine rw_iload f_X9_does_100 rfl ?_
            refine rm_xald f_X9_does_102 hW (by exact rfl) rfl (by omega) ?_
            rw [o _ _ _ (by decide) (by decide) (by decide)]
            refine rw_callS f_X9_does_103 rfl rfl rfl (rn_ki (M_truthX (by first | exact Or.inl rfl | exact Or.inr rfl | exact eP | exact bI_01 _) ?_))
            refine rw_iadd f_X9_does_106 ?_
            refine rw_istore f_X9_does_107 rfl rfl ?_
            refine rw_iload f_X9_does_108 rfl ?_
            refine rw_aload f_X9_does_110 rfl ?_
            refine rm_getR f_X9_does_111 hW rfl ?_
            refine rw_iload f_X9_does_114 rfl ?_
            refine rm_xald f_X9_does_116 hW (by exact rfl) rfl (by omega) ?_
            rw [o _ _ _ (by decide) (by decide) (by decide)]
            first | refine rw_ne0B f_X9_does_117 (fun c6 => ?_) (fun c6 => ?_) | refine rw_ne0 f_X9_does_117 (fun c6 => ?_) (fun c6 => ?_)
            · refine rw_const f_X9_does_124 ?_
              refine rw_callS f_X9_does_125 rfl rfl rfl (rn_ki (M_truthX (by first | exact Or.inl rfl | exact Or.inr rfl | exact bI_01 _) ?_))
              refine rw_iadd f_X9_does_128 ?_
              refine rw_istore f_X9_does_129 rfl rfl ?_
              refine rw_iinc f_X9_does_131 rfl rfl ?_
              refine rw_goto f_X9_does_134 ?_
              rw [nI_1']
              first | (have hd : doB V man deed b = false := by simp [doB, c1, c2, c3, c4, c6]); (rw [doF_no hd] at ih); (simpa [cntB, hd, bI, am_put, am_kill] using ih) | (have hd : doB V man deed b = true := by simp [doB, c1, c2, c3, c4, c6]); (rw [doF_yes hd] at ih); (rcases eP with ep | ep <;> first | (exfalso; simp [ep] at *; done) | (simpa [cntB, hd, ep, bI, am_put, am_kill] using ih))
            · refine rw_const f_X9_does_120 ?_
              refine rw_goto f_X9_does_121 ?_
              refine rw_callS f_X9_does_125 rfl rfl rfl (rn_ki (M_truthX (by first | exact Or.inl rfl | exact Or.inr rfl | exact bI_01 _) ?_))
              refine rw_iadd f_X9_does_128 ?_
              refine rw_istore f_X9_does_129 rfl rfl ?_
              refine rw_iinc f_X9_does_131 rfl rfl ?_
              refine rw_goto f_X9_does_134 ?_
              rw [nI_1']
              first | (have hd : doB V man deed b = false := by simp [doB, c1, c2, c3, c4, c6]); (rw [doF_no hd] at ih); (simpa [cntB, hd, bI, am_put, am_kill] using ih) | (have hd : doB V man deed b = true := by simp [doB, c1, c2, c3, c4, c6]); (rw [doF_yes hd] at ih); (rcases eP with ep | ep <;> first | (exfalso; simp [ep] at *; done) | (simpa [cntB, hd, ep, bI, am_put, am_kill] using ih))
        · refine rw_goto f_X9_does_70 ?_
          refine rw_iinc f_X9_does_131 rfl rfl ?_
          refine rw_goto f_X9_does_134 ?_
          rw [nI_1']
          first | (have hd : doB V man deed b = false := by simp [doB, c1, c2, c3]); (rw [doF_no hd] at ih); (simpa [cntB, hd, bI, am_put, am_kill] using ih) | (have hd : doB V man deed b = true := by simp [doB, c1, c2, c3]); (rw [doF_yes hd] at ih); (rcases eP with ep | ep <;> first | (exfalso; simp [ep] at *; done) | (simpa [cntB, hd, ep, bI, am_put, am_kill] using ih))
  · refine rw_iload f_X9_does_30 rfl ?_
    refine rw_aload f_X9_does_32 rfl ?_
    refine rm_getI f_X9_does_33 hW ?_
    rw [o0 _ _ (by decide) (by decide), fB]
    refine rw_icmpT f_X9_does_36 (decide_eq_true (Int32.le_refl _)) ?_
    refine rw_const f_X9_does_137 ?_
    refine rw_iload f_X9_does_139 rfl ?_
    refine rw_imul f_X9_does_140 ?_
    refine rw_iload f_X9_does_141 rfl ?_
    refine rw_iadd f_X9_does_143 ?_
    refine rw_iret f_X9_does_144 ?_
    exact hk
theorem m_does (hW : MW h m) (hB : WB V nM nD nB) (hA : V 0 69 = nI nA) (hA40 : nA ≤ 40) {man deed : Int32} (hk0 : ok_does V man deed = false → k (-1) (mh h m V)) (hk1 : ok_does V man deed = true → k (doN V man deed nB) (mh h m (nowV (actV V nA) (doF V man deed nB)))) : Rn (d + 2) n_X9_does 0 [am_r m, am_i man, am_i deed, am_u, am_u, am_u] [] (mh h m V) (kI k) := by
  refine rw_aload f_X9_does_0 rfl ?_
  refine rw_iload f_X9_does_1 rfl ?_
  refine rw_callV f_X9_does_2 rfl hW.1 hW.2.1 rfl rfl rfl rfl (rn_ki (m_isMan hW ?_))
  first | refine rw_eq0B f_X9_does_5 (fun c1 => ?_) (fun c1 => ?_) | refine rw_eq0 f_X9_does_5 (fun c1 => ?_) (fun c1 => ?_)
  · refine rw_const f_X9_does_16 ?_
    refine rw_iret f_X9_does_17 ?_
    exact hk0 (by simp [ok_does, c1])
  · refine rw_aload f_X9_does_8 rfl ?_
    refine rw_iload f_X9_does_9 rfl ?_
    refine rw_callV f_X9_does_10 rfl hW.1 hW.2.1 rfl rfl rfl rfl (rn_ki (m_isDeed hW ?_))
    first | refine rw_ne0B f_X9_does_13 (fun c2 => ?_) (fun c2 => ?_) | refine rw_ne0 f_X9_does_13 (fun c2 => ?_) (fun c2 => ?_)
    · refine rw_aload f_X9_does_18 rfl ?_
      refine rw_callV f_X9_does_19 rfl hW.1 hW.2.1 rfl rfl rfl rfl (rn_kv (m_act hW hA hA40 ?_))
      refine rw_const f_X9_does_22 ?_
      refine rw_istore f_X9_does_23 rfl rfl ?_
      refine rw_const f_X9_does_24 ?_
      refine rw_istore f_X9_does_25 rfl rfl ?_
      refine rw_const f_X9_does_27 ?_
      refine rw_istore f_X9_does_28 rfl rfl ?_
      exact m_does_loop hW hB (hk1 (by simp [ok_does, c1, c2]))
    · refine rw_const f_X9_does_16 ?_
      refine rw_iret f_X9_does_17 ?_
      exact hk0 (by simp [ok_does, c1, c2])
theorem m_undoes (hW : MW h m) (hB : WB V nM nD nB) (hA : V 0 69 = nI nA) (hA40 : nA ≤ 40) {b : Int32} (hk0 : ok_undoes V b = false → k 0 (mh h m V)) (hk1 : ok_undoes V b = true → k 1 (mh h m (nowV (actV V nA) (fup (V 34) b.toNatClampNeg 2)))) : Rn (d + 2) n_X9_undoes 0 [am_r m, am_i b] [] (mh h m V) (kI k) := by
  obtain ⟨⟨fM, fM6, fD, fD6, fB, fB10⟩, fO, -⟩ := hB
  cases hb : isIn b 0 (V 0 58 - 1) with
  | false =>
    refine rw_aload f_X9_undoes_0 rfl ?_
    refine rw_iload f_X9_undoes_1 rfl ?_
    refine rw_callV f_X9_undoes_2 rfl hW.1 hW.2.1 rfl rfl rfl rfl (rn_ki (m_isButton hW ?_))
    refine rw_ifT f_X9_undoes_5 (by rw [hb]; rfl) ?_
    refine rw_const f_X9_undoes_38 ?_
    refine rw_zret f_X9_undoes_39 (by first | exact Or.inl rfl | exact Or.inr rfl | exact bI_01 _ | assumption) ?_
    exact hk0 (by simp [ok_undoes, onB, hb])
  | true =>
    obtain ⟨j, rfl, hj⟩ := isIn_nat (n := nB) (by omega) (by rw [← fB]; exact hb)
    unfold ok_undoes onB at hk0 hk1
    rw [nI_clamp (by omega), hb] at hk0 hk1
    rcases (fO j hj).2.2.2.2.1 with ea | ⟨a, ha, ea⟩
    · have z : isIn (-1) 0 (V 0 58 - 1) = false := by unfold isIn; rw [decide_eq_false (by decide), Bool.false_and]
      rw [ea, z] at hk0 hk1
      refine rw_aload f_X9_undoes_0 rfl ?_
      refine rw_iload f_X9_undoes_1 rfl ?_
      refine rw_callV f_X9_undoes_2 rfl hW.1 hW.2.1 rfl rfl rfl rfl (rn_ki (m_isButton hW ?_))
      refine rw_ifF f_X9_undoes_5 (by rw [hb]; rfl) ?_
      refine rw_aload f_X9_undoes_8 rfl ?_
      refine rw_iload f_X9_undoes_9 rfl ?_
      refine rw_callV f_X9_undoes_10 rfl hW.1 hW.2.1 rfl rfl rfl rfl (rn_ki (m_isOn hW (by omega) ?_))
      first | refine rw_eq0B f_X9_undoes_13 (fun c1 => ?_) (fun c1 => ?_) | refine rw_eq0 f_X9_undoes_13 (fun c1 => ?_) (fun c1 => ?_)
      · refine rw_const f_X9_undoes_38 ?_
        refine rw_zret f_X9_undoes_39 (by first | exact Or.inl rfl | exact Or.inr rfl | exact bI_01 _ | assumption) ?_
        first | exact hk1 (by simp [c1]) | exact hk0 (by simp [c1])
      · refine rw_aload f_X9_undoes_16 rfl ?_
        refine rm_getR f_X9_undoes_17 hW rfl ?_
        refine rw_iload f_X9_undoes_20 rfl ?_
        refine rm_xald f_X9_undoes_21 hW (by exact rfl) rfl (by omega) ?_
        rw [ea]
        refine rw_ifT f_X9_undoes_22 (by decide) ?_
        refine rw_aload f_X9_undoes_40 rfl ?_
        refine rw_callV f_X9_undoes_41 rfl hW.1 hW.2.1 rfl rfl rfl rfl (rn_kv (m_act hW hA hA40 ?_))
        refine rw_aload f_X9_undoes_44 rfl ?_
        refine rm_getR f_X9_undoes_45 hW rfl ?_
        refine rw_iload f_X9_undoes_48 rfl ?_
        refine rw_const f_X9_undoes_49 ?_
        refine rm_iast f_X9_undoes_50 hW (by exact rfl) rfl (by omega) ?_
        rw [act_now, nowV_up]
        refine rw_const f_X9_undoes_51 ?_
        refine rw_zret f_X9_undoes_52 (by first | exact Or.inl rfl | exact Or.inr rfl | exact bI_01 _ | assumption) ?_
        first | exact hk1 (by simp [c1]) | exact hk0 (by simp [c1])
    · have z : isIn (nI a) 0 (V 0 58 - 1) = true := by rw [fB]; exact isIn_of (by omega) (by omega)
      rw [ea, z, nI_clamp (by omega)] at hk0 hk1
      refine rw_aload f_X9_undoes_0 rfl ?_
      refine rw_iload f_X9_undoes_1 rfl ?_
      refine rw_callV f_X9_undoes_2 rfl hW.1 hW.2.1 rfl rfl rfl rfl (rn_ki (m_isButton hW ?_))
      refine rw_ifF f_X9_undoes_5 (by rw [hb]; rfl) ?_
      refine rw_aload f_X9_undoes_8 rfl ?_
      refine rw_iload f_X9_undoes_9 rfl ?_
      refine rw_callV f_X9_undoes_10 rfl hW.1 hW.2.1 rfl rfl rfl rfl (rn_ki (m_isOn hW (by omega) ?_))
      first | refine rw_eq0B f_X9_undoes_13 (fun c1 => ?_) (fun c1 => ?_) | refine rw_eq0 f_X9_undoes_13 (fun c1 => ?_) (fun c1 => ?_)
      · refine rw_const f_X9_undoes_38 ?_
        refine rw_zret f_X9_undoes_39 (by first | exact Or.inl rfl | exact Or.inr rfl | exact bI_01 _ | assumption) ?_
        first | exact hk1 (by simp [c1]) | exact hk0 (by simp [c1])
      · refine rw_aload f_X9_undoes_16 rfl ?_
        refine rm_getR f_X9_undoes_17 hW rfl ?_
        refine rw_iload f_X9_undoes_20 rfl ?_
        refine rm_xald f_X9_undoes_21 hW (by exact rfl) rfl (by omega) ?_
        rw [ea]
        refine rw_ifF f_X9_undoes_22 (decide_eq_false (nI_pos (by omega))) ?_
        refine rw_aload f_X9_undoes_25 rfl ?_
        refine rw_aload f_X9_undoes_26 rfl ?_
        refine rm_getR f_X9_undoes_27 hW rfl ?_
        refine rw_iload f_X9_undoes_30 rfl ?_
        refine rm_xald f_X9_undoes_31 hW (by exact rfl) rfl (by omega) ?_
        rw [ea]
        refine rw_callV f_X9_undoes_32 rfl hW.1 hW.2.1 rfl rfl rfl rfl (rn_ki (m_isOn hW (by omega) ?_))
        first | refine rw_eq0B f_X9_undoes_35 (fun c2 => ?_) (fun c2 => ?_) | refine rw_eq0 f_X9_undoes_35 (fun c2 => ?_) (fun c2 => ?_)
        · refine rw_aload f_X9_undoes_40 rfl ?_
          refine rw_callV f_X9_undoes_41 rfl hW.1 hW.2.1 rfl rfl rfl rfl (rn_kv (m_act hW hA hA40 ?_))
          refine rw_aload f_X9_undoes_44 rfl ?_
          refine rm_getR f_X9_undoes_45 hW rfl ?_
          refine rw_iload f_X9_undoes_48 rfl ?_
          refine rw_const f_X9_undoes_49 ?_
          refine rm_iast f_X9_undoes_50 hW (by exact rfl) rfl (by omega) ?_
          rw [act_now, nowV_up]
          refine rw_const f_X9_undoes_51 ?_
          refine rw_zret f_X9_undoes_52 (by first | exact Or.inl rfl | exact Or.inr rfl | exact bI_01 _ | assumption) ?_
          first | exact hk1 (by simp [c1, c2]) | exact hk0 (by simp [c1, c2])
        · refine rw_const f_X9_undoes_38 ?_
          refine rw_zret f_X9_undoes_39 (by first | exact Or.inl rfl | exact Or.inr rfl | exact bI_01 _ | assumption) ?_
          first | exact hk1 (by simp [c1, c2]) | exact hk0 (by simp [c1, c2])
theorem m_cut (hW : MW h m) (hB : WB V nM nD nB) (hA : V 0 69 = nI nA) (hA40 : nA ≤ 40) {b : Int32} (hk0 : ok_cut V b = false → k (-1) (mh h m V)) (hk1 : ok_cut V b = true → k (V 34 22 + 1) (mh h m (nowV (actV V nA) (fup (fup (V 34) b.toNatClampNeg 2) 22 (V 34 22 + 1))))) : Rn (d + 2) n_X9_cut 0 [am_r m, am_i b] [] (mh h m V) (kI k) := by
  obtain ⟨⟨fM, fM6, fD, fD6, fB, fB10⟩, -⟩ := hB
  unfold ok_cut onB at hk0 hk1
  cases hb : isIn b 0 (V 0 58 - 1) with
  | false =>
    refine rw_aload f_X9_cut_0 rfl ?_
    refine rw_iload f_X9_cut_1 rfl ?_
    refine rw_callV f_X9_cut_2 rfl hW.1 hW.2.1 rfl rfl rfl rfl (rn_ki (m_isButton hW ?_))
    refine rw_ifT f_X9_cut_5 (by rw [hb]; rfl) ?_
    refine rw_const f_X9_cut_27 ?_
    refine rw_iret f_X9_cut_28 ?_
    exact hk0 (by simp [hb])
  | true =>
    obtain ⟨j, rfl, hj⟩ := isIn_nat (n := nB) (by omega) (by rw [← fB]; exact hb)
    rw [nI_clamp (by omega), hb] at hk0 hk1
    have e22 : fup (V 34) j 2 22 = V 34 22 := fup_n (by omega)
    refine rw_aload f_X9_cut_0 rfl ?_
    refine rw_iload f_X9_cut_1 rfl ?_
    refine rw_callV f_X9_cut_2 rfl hW.1 hW.2.1 rfl rfl rfl rfl (rn_ki (m_isButton hW ?_))
    refine rw_ifF f_X9_cut_5 (by rw [hb]; rfl) ?_
    refine rw_aload f_X9_cut_8 rfl ?_
    refine rw_iload f_X9_cut_9 rfl ?_
    refine rw_callV f_X9_cut_10 rfl hW.1 hW.2.1 rfl rfl rfl rfl (rn_ki (m_isOn hW (by omega) ?_))
    first | refine rw_eq0B f_X9_cut_13 (fun c1 => ?_) (fun c1 => ?_) | refine rw_eq0 f_X9_cut_13 (fun c1 => ?_) (fun c1 => ?_)
    · refine rw_const f_X9_cut_27 ?_
      refine rw_iret f_X9_cut_28 ?_
      first | exact hk1 (by simp [c1]) | exact hk0 (by simp [c1])
    · refine rw_aload f_X9_cut_16 rfl ?_
      refine rm_getR f_X9_cut_17 hW rfl ?_
      refine rw_const f_X9_cut_20 ?_
      refine rm_xald (j := 22) f_X9_cut_22 hW (by exact rfl) (by first | rfl | exact nI_addl _ _ | (simp only [nI, Int32.ofNat_add, Int32.ofNat_mul]; rfl) | (simp only [nI_addl, nI_mull, nI_lit, nI_1']; done) | (simp only [nI_1, nI_0, nI_addl, nI_mull, ← nI_succ]; rfl)) (by omega) ?_
      refine rw_const f_X9_cut_23 ?_
      refine rw_ne f_X9_cut_24 (fun c2 => ?_) (fun c2 => ?_)
      · refine rw_aload f_X9_cut_29 rfl ?_
        refine rw_callV f_X9_cut_30 rfl hW.1 hW.2.1 rfl rfl rfl rfl (rn_kv (m_act hW hA hA40 ?_))
        refine rw_aload f_X9_cut_33 rfl ?_
        refine rm_getR f_X9_cut_34 hW rfl ?_
        refine rw_iload f_X9_cut_37 rfl ?_
        refine rw_const f_X9_cut_38 ?_
        refine rm_iast f_X9_cut_39 hW (by exact rfl) rfl (by omega) ?_
        rw [act_now, nowV_up]
        refine rw_aload f_X9_cut_40 rfl ?_
        refine rm_getR f_X9_cut_41 hW rfl ?_
        refine rw_const f_X9_cut_44 ?_
        refine rw_dup2 f_X9_cut_46 ?_
        refine rm_xald (j := 22) f_X9_cut_47 hW (by exact rfl) (by first | rfl | exact nI_addl _ _ | (simp only [nI, Int32.ofNat_add, Int32.ofNat_mul]; rfl) | (simp only [nI_addl, nI_mull, nI_lit, nI_1']; done) | (simp only [nI_1, nI_0, nI_addl, nI_mull, ← nI_succ]; rfl)) (by omega) ?_
        rw [nowV_n, e22]
        refine rw_const f_X9_cut_48 ?_
        refine rw_iadd f_X9_cut_49 ?_
        refine rm_iast (j := 22) f_X9_cut_50 hW (by exact rfl) (by first | rfl | exact nI_addl _ _ | (simp only [nI, Int32.ofNat_add, Int32.ofNat_mul]; rfl) | (simp only [nI_addl, nI_mull, nI_lit, nI_1']; done) | (simp only [nI_1, nI_0, nI_addl, nI_mull, ← nI_succ]; rfl)) (by omega) ?_
        rw [nowV_up]
        refine rw_aload f_X9_cut_51 rfl ?_
        refine rm_getR f_X9_cut_52 hW rfl ?_
        refine rw_const f_X9_cut_55 ?_
        refine rm_xald (j := 22) f_X9_cut_57 hW (by exact rfl) (by first | rfl | exact nI_addl _ _ | (simp only [nI, Int32.ofNat_add, Int32.ofNat_mul]; rfl) | (simp only [nI_addl, nI_mull, nI_lit, nI_1']; done) | (simp only [nI_1, nI_0, nI_addl, nI_mull, ← nI_succ]; rfl)) (by omega) ?_
        rw [nowV_n, fup_s]
        refine rw_iret f_X9_cut_58 ?_
        first | exact hk1 (by simp [c1, c2]) | exact hk0 (by simp [c1, c2])
      · refine rw_const f_X9_cut_27 ?_
        refine rw_iret f_X9_cut_28 ?_
        first | exact hk1 (by simp [c1, c2]) | exact hk0 (by simp [c1, c2])
theorem m_sew (hW : MW h m) (hB : WB V nM nD nB) (hA : V 0 69 = nI nA) (hA40 : nA ≤ 40) {b : Int32} (hk0 : ok_sew V b = false → k (-1) (mh h m V)) (hk1 : ok_sew V b = true → k (V 34 (10 + b.toNatClampNeg)) (mh h m (nowV (actV V nA) (fup (fup (V 34) b.toNatClampNeg 0) (10 + b.toNatClampNeg) (V 30 b.toNatClampNeg))))) : Rn (d + 2) n_X9_sew 0 [am_r m, am_i b, am_u] [] (mh h m V) (kI k) := by
  obtain ⟨⟨fM, fM6, fD, fD6, fB, fB10⟩, -⟩ := hB
  unfold ok_sew at hk0 hk1
  cases hb : isIn b 0 (V 0 58 - 1) with
  | false =>
    refine rw_aload f_X9_sew_0 rfl ?_
    refine rw_iload f_X9_sew_1 rfl ?_
    refine rw_callV f_X9_sew_2 rfl hW.1 hW.2.1 rfl rfl rfl rfl (rn_ki (m_isButton hW ?_))
    refine rw_ifT f_X9_sew_5 (by rw [hb]; rfl) ?_
    refine rw_const f_X9_sew_26 ?_
    refine rw_iret f_X9_sew_27 ?_
    exact hk0 (by simp [hb])
  | true =>
    obtain ⟨j, rfl, hj⟩ := isIn_nat (n := nB) (by omega) (by rw [← fB]; exact hb)
    rw [nI_clamp (by omega), hb] at hk0 hk1
    have et : nowV (actV V nA) (fup (V 34) j 0) 30 j = V 30 j := nowV_act (by decide) (by decide) (by omega)
    refine rw_aload f_X9_sew_0 rfl ?_
    refine rw_iload f_X9_sew_1 rfl ?_
    refine rw_callV f_X9_sew_2 rfl hW.1 hW.2.1 rfl rfl rfl rfl (rn_ki (m_isButton hW ?_))
    refine rw_ifF f_X9_sew_5 (by rw [hb]; rfl) ?_
    refine rw_aload f_X9_sew_8 rfl ?_
    refine rw_iload f_X9_sew_9 rfl ?_
    refine rw_callV f_X9_sew_10 rfl hW.1 hW.2.1 rfl rfl rfl rfl (rn_ki (m_isOn hW (by omega) ?_))
    first | refine rw_ne0B f_X9_sew_13 (fun c1 => ?_) (fun c1 => ?_) | refine rw_ne0 f_X9_sew_13 (fun c1 => ?_) (fun c1 => ?_)
    · refine rw_aload f_X9_sew_28 rfl ?_
      refine rw_callV f_X9_sew_29 rfl hW.1 hW.2.1 rfl rfl rfl rfl (rn_kv (m_act hW hA hA40 ?_))
      refine rw_aload f_X9_sew_32 rfl ?_
      refine rm_getR f_X9_sew_33 hW rfl ?_
      refine rw_const f_X9_sew_36 ?_
      refine rw_iload f_X9_sew_38 rfl ?_
      refine rw_iadd f_X9_sew_39 ?_
      refine rm_xald (j := 10 + j) f_X9_sew_40 hW (by exact rfl) (by first | rfl | exact nI_addl _ _ | (simp only [nI, Int32.ofNat_add, Int32.ofNat_mul]; rfl) | (simp only [nI_addl, nI_mull, nI_lit, nI_1']; done) | (simp only [nI_1, nI_0, nI_addl, nI_mull, ← nI_succ]; rfl)) (by omega) ?_
      rw [actV_now]
      refine rw_istore f_X9_sew_41 rfl rfl ?_
      refine rw_aload f_X9_sew_42 rfl ?_
      refine rm_getR f_X9_sew_43 hW rfl ?_
      refine rw_iload f_X9_sew_46 rfl ?_
      refine rw_const f_X9_sew_47 ?_
      refine rm_iast f_X9_sew_48 hW (by exact rfl) rfl (by omega) ?_
      rw [act_now, nowV_up]
      refine rw_aload f_X9_sew_49 rfl ?_
      refine rm_getR f_X9_sew_50 hW rfl ?_
      refine rw_const f_X9_sew_53 ?_
      refine rw_iload f_X9_sew_55 rfl ?_
      refine rw_iadd f_X9_sew_56 ?_
      refine rw_aload f_X9_sew_57 rfl ?_
      refine rm_getR f_X9_sew_58 hW rfl ?_
      refine rw_iload f_X9_sew_61 rfl ?_
      refine rm_xald f_X9_sew_62 hW (by exact rfl) rfl (by omega) ?_
      rw [et]
      refine rm_iast (j := 10 + j) f_X9_sew_63 hW (by exact rfl) (by first | rfl | exact nI_addl _ _ | (simp only [nI, Int32.ofNat_add, Int32.ofNat_mul]; rfl) | (simp only [nI_addl, nI_mull, nI_lit, nI_1']; done) | (simp only [nI_1, nI_0, nI_addl, nI_mull, ← nI_succ]; rfl)) (by omega) ?_
      rw [nowV_up]
      refine rw_iload f_X9_sew_64 rfl ?_
      refine rw_iret f_X9_sew_65 ?_
      first | exact hk1 (by simp [c1]) | exact hk0 (by simp [c1])
    · refine rw_aload f_X9_sew_16 rfl ?_
      refine rm_getR f_X9_sew_17 hW rfl ?_
      refine rw_iload f_X9_sew_20 rfl ?_
      refine rm_xald f_X9_sew_21 hW (by exact rfl) rfl (by omega) ?_
      refine rw_const f_X9_sew_22 ?_
      refine rw_eq f_X9_sew_23 (fun c2 => ?_) (fun c2 => ?_)
      · refine rw_aload f_X9_sew_28 rfl ?_
        refine rw_callV f_X9_sew_29 rfl hW.1 hW.2.1 rfl rfl rfl rfl (rn_kv (m_act hW hA hA40 ?_))
        refine rw_aload f_X9_sew_32 rfl ?_
        refine rm_getR f_X9_sew_33 hW rfl ?_
        refine rw_const f_X9_sew_36 ?_
        refine rw_iload f_X9_sew_38 rfl ?_
        refine rw_iadd f_X9_sew_39 ?_
        refine rm_xald (j := 10 + j) f_X9_sew_40 hW (by exact rfl) (by first | rfl | exact nI_addl _ _ | (simp only [nI, Int32.ofNat_add, Int32.ofNat_mul]; rfl) | (simp only [nI_addl, nI_mull, nI_lit, nI_1']; done) | (simp only [nI_1, nI_0, nI_addl, nI_mull, ← nI_succ]; rfl)) (by omega) ?_
        rw [actV_now]
        refine rw_istore f_X9_sew_41 rfl rfl ?_
        refine rw_aload f_X9_sew_42 rfl ?_
        refine rm_getR f_X9_sew_43 hW rfl ?_
        refine rw_iload f_X9_sew_46 rfl ?_
        refine rw_const f_X9_sew_47 ?_
        refine rm_iast f_X9_sew_48 hW (by exact rfl) rfl (by omega) ?_
        rw [act_now, nowV_up]
        refine rw_aload f_X9_sew_49 rfl ?_
        refine rm_getR f_X9_sew_50 hW rfl ?_
        refine rw_const f_X9_sew_53 ?_
        refine rw_iload f_X9_sew_55 rfl ?_
        refine rw_iadd f_X9_sew_56 ?_
        refine rw_aload f_X9_sew_57 rfl ?_
        refine rm_getR f_X9_sew_58 hW rfl ?_
        refine rw_iload f_X9_sew_61 rfl ?_
        refine rm_xald f_X9_sew_62 hW (by exact rfl) rfl (by omega) ?_
        rw [et]
        refine rm_iast (j := 10 + j) f_X9_sew_63 hW (by exact rfl) (by first | rfl | exact nI_addl _ _ | (simp only [nI, Int32.ofNat_add, Int32.ofNat_mul]; rfl) | (simp only [nI_addl, nI_mull, nI_lit, nI_1']; done) | (simp only [nI_1, nI_0, nI_addl, nI_mull, ← nI_succ]; rfl)) (by omega) ?_
        rw [nowV_up]
        refine rw_iload f_X9_sew_64 rfl ?_
        refine rw_iret f_X9_sew_65 ?_
        first | exact hk1 (by simp [c1, c2]) | exact hk0 (by simp [c1, c2])
      · refine rw_const f_X9_sew_26 ?_
        refine rw_iret f_X9_sew_27 ?_
        first | exact hk1 (by simp [c1, c2]) | exact hk0 (by simp [c1, c2])
end MActs
