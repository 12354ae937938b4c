/-! THE MODEL: the whole formula -/
section MFormula
variable {d : Nat} {h h' : am_H} {m : Nat} {V W : am_M} {T : tx} {N p : Nat}
theorem popT_len {r : Nat} : ∀ (k : List Int32) (c : am_S), (popT r k c).1.length + (popT r k c).2.length = k.length + c.length ∧ dpt (popT r k c).1 ≤ dpt k ∧ (popT r k c).1.length + dpt k ≤ k.length + dpt (popT r k c).1
  | [], c => ⟨rfl, Nat.le_refl _, Nat.le_refl _⟩
  | s :: k, c => by
    rw [popT_c]
    by_cases c1 : s = 20
    · rw [if_pos c1]; exact ⟨rfl, Nat.le_refl _, Nat.le_refl _⟩
    · rw [if_neg c1]
      by_cases c2 : r ≤ tgt s
      · rw [if_pos c2]
        have := popT_len (r := r) k (c ++ [stp s])
        rw [List.length_append, List.length_singleton] at this
        rw [dpt_c, List.length_cons]
        by_cases c3 : s = 20 ∨ s = 21
        · rw [if_pos c3]; omega
        · rw [if_neg c3]; omega
      · rw [if_neg c2]; exact ⟨rfl, Nat.le_refl _, Nat.le_refl _⟩
theorem popT_br : ∀ (k : List Int32) (c : am_S), hasBr k = true → ∃ t, (popT 0 k c).1 = 20 :: t
  | [], c, e => by cases e
  | s :: k, c, e => by
    rw [popT_c]
    by_cases c1 : s = 20
    · rw [if_pos c1]; exact ⟨k, by rw [c1]⟩
    · rw [if_neg c1, if_pos (Nat.zero_le _)]
      refine popT_br k _ ?_
      unfold hasBr at e
      rw [decide_eq_false c1, Bool.or_false] at e
      exact e
theorem sgn_v : sgn T N p = 0 ∨ ((tkD T N p = 1 ∨ tkD T N p = 3) ∧ ¬ sgn T N p = 20 ∧ ¬ sgn T N p = 21) := by
  unfold sgn
  split
  · rename_i e; exact Or.inr ⟨Or.inl (isV_1 e), by decide, by decide⟩
  · split
    · rename_i e; exact Or.inr ⟨Or.inl (isV_1 e), by decide, by decide⟩
    · split
      · rename_i e
        refine Or.inr ?_
        rcases e with e | e | e | e | e | e | e | e <;> (rw [(isSH_3 e).2]; exact ⟨Or.inr (isSH_3 e).1, by decide, by decide⟩)
      · exact Or.inl rfl
theorem CP_push {k : List Int32} {c : am_S} {s : Int32} (cp : CP V k c) (hs : ¬ s = 20 ∧ ¬ s = 21) : CP (am_up (am_up V 7 k.length s) 0 19 (nI (k.length + 1))) (s :: k) c := by
  obtain ⟨q1, q2, q3, q4, q5⟩ := cp
  refine ⟨?_, up_same, ?_, ⟨?_, ?_⟩, fun i x hx => ?_⟩
  · rw [up_ne (by omega), up_ne (by omega)]; exact q1
  · rw [dpt_c, if_neg (fun z => z.elim hs.1 hs.2), Nat.zero_add, up_ne (by omega), up_ne (by omega)]; exact q3
  · rw [up_ne (by omega)]; exact up_same
  · exact KS_fr (fun j hj => by rw [up_ne (by omega), up_ne (by omega)]) q4
  · rw [up_ne (by omega), up_ne (by omega), up_ne (by omega), up_ne (by omega)]; exact q5 i x hx
theorem Cf.ok (q : Cf V W) (ok : OK h m V T N p) : OK h m W T N p := by
  obtain ⟨⟨t1, t2, t3⟩, f, q1, q2, q3, q4, q5, q6⟩ := ok
  refine ⟨⟨by rw [q _ _ (by omega)]; exact t1, t2, fun j hj => by rw [q _ _ (by omega)]; exact t3 j hj⟩, by rw [q _ _ (by omega)]; exact f, q1, by rw [q _ _ (by omega)]; exact q2, by rw [q _ _ (by omega)]; exact q3, fun z => by rw [q _ _ (by omega)]; exact q4 z, q5, fun z => by rw [q _ _ (by omega)]; exact q6 z⟩
theorem m_wearLoop {kk : am_H → Prop} : ∀ (b n : Nat) (k : List Int32) (c : am_S) (p u : Nat) (h : am_H) (W : am_M) (y : am_V), n < b → MW h m → MS h m W T N k c p u → Jf k c u → N + 2 ≤ n + p → (∀ h' X r, mRun T N n false k c p u = .inl r → Lw m h h' → Wf W X → OK h' m X T N r.2.1 → X 0 17 = nI r.1.length → CS X r.1 → X 0 20 = nI r.2.2 → kk (mh h' m X)) → (∀ h' X e, mRun T N n false k c p u = .inr e → Lw m h h' → We W X → ER X e → kk (mh h' m X)) → Rn (d + 4) n_X9_readWear 30 [am_r m, am_i 1, y] [] (mh h m W) (kV kk) := by
  intro b
  induction b with
  | zero => intro n k c p u h W y hb; omega
  | succ b ih =>
  intro n k c p u h W y hb hW ms jf hf h1 h2
  cases n with
  | zero => have := ms.1.le; omega
  | succ n =>
  rw [mRun_f] at h1 h2
  obtain ⟨ok, cp, u1, u2⟩ := ms
  obtain ⟨j1, j2, j3, j4⟩ := jf
  have kl : k.length < 160 := by omega
  have e41 := srt_sg (T := T) (N := N) (p := p) (c := 41) (by decide)
  by_cases cA : isSH T N p 41 = true ∧ hasBr k = true
  · rw [if_pos cA] at h1 h2
    obtain ⟨cA1, cA2⟩ := cA
    have nb : ¬ tkD T N p = 4 := fun z => by have := (isSH_3 cA1).1; rw [z] at this; exact absurd this (by decide)
    have pr := tkD_N (T := T) (N := N) (p := p) (fun z => by have := (isSH_3 cA1).1; rw [z] at this; exact absurd this (by decide))
    obtain ⟨t, ht⟩ := popT_br k c cA2
    have pl := popT_len (r := 0) k c
    rw [ht] at h1 h2 pl
    rw [List.tail_cons] at h1 h2
    rw [List.length_cons, dpt_c, if_pos (Or.inl rfl)] at pl
    refine rw_iload f_X9_readWear_30 rfl ?_
    refine rw_ifF f_X9_readWear_31 (by decide) ?_
    refine rw_aload f_X9_readWear_34 rfl ?_
    refine rm_getI f_X9_readWear_35 hW ?_
    rw [ok.f]
    refine rw_ifF f_X9_readWear_38 (by decide) ?_
    refine rw_aload f_X9_readWear_41 rfl ?_
    refine rw_callV f_X9_readWear_42 rfl hW.1 hW.2.1 rfl rfl rfl rfl (rn_ki (m_sign hW ok ?_))
    refine rw_istore f_X9_readWear_45 rfl rfl ?_
    refine rw_aload f_X9_readWear_46 rfl ?_
    refine rm_getI f_X9_readWear_47 hW ?_
    rw [ok.s]
    refine rw_const f_X9_readWear_50 ?_
    refine rw_icmpF f_X9_readWear_52 (decide_eq_false (fun z => z (e41.mpr cA1))) ?_
    refine rw_aload f_X9_readWear_55 rfl ?_
    refine rw_callV f_X9_readWear_56 rfl hW.1 hW.2.1 rfl rfl rfl rfl (rn_ki (m_hasBracket hW cp kl ?_))
    rw [cA2]
    refine rw_ifF f_X9_readWear_59 (by decide) ?_
    refine rw_aload f_X9_readWear_62 rfl ?_
    refine rw_const f_X9_readWear_63 ?_
    refine rw_callV f_X9_readWear_64 rfl hW.1 hW.2.1 rfl rfl rfl rfl (rn_kv (m_close hW (r := 0) (by omega) k c W cp (by omega) kl (fun X cx cf => ?_)))
    skip
    rw [ht] at cx
    generalize (popT 0 k c).2 = c2 at cx pl h1 h2
    obtain ⟨q1, q2, q3, ⟨q4, q4'⟩, q5⟩ := cx
    rw [List.length_cons] at q2
    rw [dpt_c, if_pos (Or.inl rfl), Nat.add_comm] at q3
    have x1 : am_up X 0 19 (nI t.length) 0 23 = nI (dpt t + 1) := by rw [up_ne (by omega)]; exact q3
    have ok2 : OK h m (am_up (am_up X 0 19 (nI t.length)) 0 23 (nI (dpt t))) T N p := ((cf.ok ok).up (by unfold fks tks; omega)).up (by unfold fks tks; omega)
    have cp2 : CP (am_up (am_up X 0 19 (nI t.length)) 0 23 (nI (dpt t))) t c2 := by
      refine ⟨?_, ?_, up_same, ?_, fun i x hx => ?_⟩
      · rw [up_ne (by omega), up_ne (by omega)]; exact q1
      · rw [up_ne (by omega)]; exact up_same
      · exact KS_fr (fun j _ => by rw [up_ne (by omega), up_ne (by omega)]) q4'
      · rw [up_ne (by omega), up_ne (by omega), up_ne (by omega), up_ne (by omega)]; exact q5 i x hx
    have wx : Wf W (am_up (am_up X 0 19 (nI t.length)) 0 23 (nI (dpt t))) := (cf.wf.up (by unfold wsc; omega)).up (by unfold wsc; omega)
    have v1 : ∀ j, (j = 20 ∨ j = 22) → am_up (am_up X 0 19 (nI t.length)) 0 23 (nI (dpt t)) 0 j = W 0 j := fun j hj => by rw [up_ne (by omega), up_ne (by omega), cf _ _ (by omega)]
    refine rw_aload f_X9_readWear_67 rfl ?_
    first | refine rw_dupr f_X9_readWear_68 ?_ | refine rw_dupi f_X9_readWear_68 ?_
    refine rm_getI f_X9_readWear_69 hW ?_
    rw [q2]
    refine rw_const f_X9_readWear_72 ?_
    refine rw_isub f_X9_readWear_73 ?_
    rw [nI_s1]
    refine rm_putI f_X9_readWear_74 hW ?_
    refine rw_aload f_X9_readWear_77 rfl ?_
    first | refine rw_dupr f_X9_readWear_78 ?_ | refine rw_dupi f_X9_readWear_78 ?_
    refine rm_getI f_X9_readWear_79 hW ?_
    rw [x1]
    refine rw_const f_X9_readWear_82 ?_
    refine rw_isub f_X9_readWear_83 ?_
    rw [nI_s1]
    refine rm_putI f_X9_readWear_84 hW ?_
    refine rw_aload f_X9_readWear_87 rfl ?_
    refine rw_callV f_X9_readWear_88 rfl hW.1 hW.2.1 rfl rfl rfl rfl (rn_kv (m_next hW ok2 nb (fun h3 Y lw tk ok3 => ?_)))
    refine rw_goto f_X9_readWear_91 ?_
    refine rw_goto f_X9_readWear_154 ?_
    skip
    refine ih n t c2 (tkX T N p) u h3 Y _ (by omega) (lw.mw hW) ⟨ok3, tk.cp cp2, ?_, ?_⟩ ⟨by omega, by omega, by omega, j4⟩ (by omega) (fun h4 Z r e l4 w4 o4 n4 s4 v4 => h1 h4 Z r e (lw.tr l4) ((wx.tr tk.wf).tr w4) o4 n4 s4 v4) (fun h4 Z e e1 l4 w4 r4 => h2 h4 Z e e1 (lw.tr l4) ((wx.tr tk.wf).we.tr w4) r4)
    · rw [tk _ _ (by unfold tks; omega), v1 _ (by omega)]; exact u1
    · rw [tk _ _ (by unfold tks; omega), v1 _ (by omega)]; exact u2
  rw [if_neg cA] at h1 h2
  have to94 : Rn (d + 4) n_X9_readWear 94 [am_r m, am_i 1, am_i (sgn T N p)] [] (mh h m W) (kV kk) → Rn (d + 4) n_X9_readWear 30 [am_r m, am_i 1, y] [] (mh h m W) (kV kk) := by
    intro go
    cases c1 : isSH T N p 41 with
    | true =>
      have c2 : hasBr k = false := by
        cases e : hasBr k with
        | false => rfl
        | true => exact absurd ⟨c1, e⟩ cA
      refine rw_iload f_X9_readWear_30 rfl ?_
      refine rw_ifF f_X9_readWear_31 (by decide) ?_
      refine rw_aload f_X9_readWear_34 rfl ?_
      refine rm_getI f_X9_readWear_35 hW ?_
      rw [ok.f]
      refine rw_ifF f_X9_readWear_38 (by decide) ?_
      refine rw_aload f_X9_readWear_41 rfl ?_
      refine rw_callV f_X9_readWear_42 rfl hW.1 hW.2.1 rfl rfl rfl rfl (rn_ki (m_sign hW ok ?_))
      refine rw_istore f_X9_readWear_45 rfl rfl ?_
      refine rw_aload f_X9_readWear_46 rfl ?_
      refine rm_getI f_X9_readWear_47 hW ?_
      rw [ok.s]
      refine rw_const f_X9_readWear_50 ?_
      refine rw_icmpF f_X9_readWear_52 (decide_eq_false (fun z => z (e41.mpr c1))) ?_
      refine rw_aload f_X9_readWear_55 rfl ?_
      refine rw_callV f_X9_readWear_56 rfl hW.1 hW.2.1 rfl rfl rfl rfl (rn_ki (m_hasBracket hW cp kl ?_))
      rw [c2]
      refine rw_ifT f_X9_readWear_59 (by decide) ?_
      exact go
    | false =>
      refine rw_iload f_X9_readWear_30 rfl ?_
      refine rw_ifF f_X9_readWear_31 (by decide) ?_
      refine rw_aload f_X9_readWear_34 rfl ?_
      refine rm_getI f_X9_readWear_35 hW ?_
      rw [ok.f]
      refine rw_ifF f_X9_readWear_38 (by decide) ?_
      refine rw_aload f_X9_readWear_41 rfl ?_
      refine rw_callV f_X9_readWear_42 rfl hW.1 hW.2.1 rfl rfl rfl rfl (rn_ki (m_sign hW ok ?_))
      refine rw_istore f_X9_readWear_45 rfl rfl ?_
      refine rw_aload f_X9_readWear_46 rfl ?_
      refine rm_getI f_X9_readWear_47 hW ?_
      rw [ok.s]
      refine rw_const f_X9_readWear_50 ?_
      refine rw_icmpT f_X9_readWear_52 (decide_eq_true (fun z => by rw [e41.mp z] at c1; cases c1)) ?_
      exact go
  refine to94 ?_
  clear to94
  have sv := sgn_v (T := T) (N := N) (p := p)
  generalize sgn T N p = s at sv h1 h2
  have t6 := tgt_6 (s := s)
  have t4 : nI (tgt s) = 4 ↔ tgt s = 4 := ⟨fun z => nI_inj (b := 4) (by omega) (by omega) z, fun z => by rw [z]; rfl⟩
  by_cases cB : ¬ s = 0 ∧ ¬ (tgt s = 4 ∧ hasRel k = true)
  · rw [if_pos cB] at h1 h2
    obtain ⟨sd, sn⟩ := sv.resolve_left cB.1
    have nb : ¬ tkD T N p = 4 := fun z => by rw [z] at sd; exact absurd sd (by decide)
    have pr := tkD_N (T := T) (N := N) (p := p) (fun z => by rw [z] at sd; exact absurd sd (by decide))
    have at113 : Rn (d + 4) n_X9_readWear 113 [am_r m, am_i 1, am_i s] [] (mh h m W) (kV kk) := by
      have pl := popT_len (r := tgt s) k c
      refine rw_aload f_X9_readWear_113 rfl ?_
      refine rw_iload f_X9_readWear_114 rfl ?_
      refine rw_callS f_X9_readWear_115 rfl rfl rfl (rn_ki (m_tight ?_))
      refine rw_callV f_X9_readWear_118 rfl hW.1 hW.2.1 rfl rfl rfl rfl (rn_kv (m_close hW (r := tgt s) (by omega) k c W cp (by omega) kl (fun X cx cf => ?_)))
      skip
      generalize (popT (tgt s) k c).1 = k2 at cx pl h1 h2
      generalize (popT (tgt s) k c).2 = c2 at cx pl h1 h2
      have cp2 := CP_push cx sn
      have ok2 : OK h m (am_up (am_up X 7 k2.length s) 0 19 (nI (k2.length + 1))) T N p := ((cf.ok ok).up (by unfold fks tks; omega)).up (by unfold fks tks; omega)
      have wx : Wf W (am_up (am_up X 7 k2.length s) 0 19 (nI (k2.length + 1))) := (cf.wf.up (by unfold wsc; omega)).up (by unfold wsc; omega)
      have v1 : ∀ j, (j = 20 ∨ j = 22) → am_up (am_up X 7 k2.length s) 0 19 (nI (k2.length + 1)) 0 j = W 0 j := fun j hj => by rw [up_ne (by omega), up_ne (by omega), cf _ _ (by omega)]
      have o2 := cx.2.1
      have o3 : am_up X 7 k2.length s 0 19 = nI k2.length := by rw [up_ne (by omega)]; exact o2
      refine rw_aload f_X9_readWear_121 rfl ?_
      refine rm_getR f_X9_readWear_122 hW rfl ?_
      refine rw_aload f_X9_readWear_125 rfl ?_
      refine rm_getI f_X9_readWear_126 hW ?_
      rw [o2]
      refine rw_iload f_X9_readWear_129 rfl ?_
      refine rm_iast (j := k2.length) f_X9_readWear_130 hW (by exact rfl) (by first | rfl | exact nI_addl _ _ | (simp only [nI, Int32.ofNat_add, Int32.ofNat_mul]; rfl) | (simp only [nI_addl, nI_mull, nI_lit, nI_1']; done) | (simp only [nI_1, nI_0, nI_addl, nI_mull, ← nI_succ]; rfl)) (by omega) ?_
      refine rw_aload f_X9_readWear_131 rfl ?_
      first | refine rw_dupr f_X9_readWear_132 ?_ | refine rw_dupi f_X9_readWear_132 ?_
      refine rm_getI f_X9_readWear_133 hW ?_
      rw [o3]
      refine rw_const f_X9_readWear_136 ?_
      refine rw_iadd f_X9_readWear_137 ?_
      rw [nI_1']
      refine rm_putI f_X9_readWear_138 hW ?_
      refine rw_aload f_X9_readWear_141 rfl ?_
      refine rw_callV f_X9_readWear_142 rfl hW.1 hW.2.1 rfl rfl rfl rfl (rn_kv (m_next hW ok2 nb (fun h3 Y lw tk ok3 => ?_)))
      skip
      have hW3 := lw.mw hW
      have hW := hW3
      have e1 : dpt (s :: k2) = dpt k2 := by rw [dpt_c, if_neg (fun z => z.elim sn.1 sn.2), Nat.zero_add]
      have unit : Rn (d + 3) n_X9_unit 0 [am_r m, am_u, am_u] [] (mh h3 m Y) (kV (fun hh => Rn (d + 4) n_X9_readWear 149 [am_r m, am_i 1, am_i s] [] hh (kV kk))) := by
        refine rw_const f_X9_unit_0 ?_
        refine rw_istore f_X9_unit_1 rfl rfl ?_
        refine m_unit (m := m) (T := T) (N := N) n (s :: k2) c2 (tkX T N p) u h3 Y hW ⟨ok3, tk.cp cp2, ?_, ?_⟩ ⟨by rw [List.length_cons, e1]; omega, by rw [List.length_cons, e1]; omega, by rw [e1]; omega, j4⟩ (by omega) (fun h4 Z n' k' c' p' u' e l4 w4 s4 f4 g4 i4 => ?_) (fun h4 Z e e1 l4 w4 r4 => ?_)
        · rw [tk _ _ (by unfold tks; omega), v1 _ (by omega)]; exact u1
        · rw [tk _ _ (by unfold tks; omega), v1 _ (by omega)]; exact u2
        · rw [e] at h1 h2
          refine rw_goto f_X9_readWear_149 ?_
          refine rw_goto f_X9_readWear_154 ?_
          exact ih n' k' c' p' u' h4 Z _ (by omega) (l4.mw hW) s4 f4 g4 (fun h5 Q r e l5 w5 o5 n5 s5 v5 => h1 h5 Q r e ((lw.tr l4).tr l5) (((wx.tr tk.wf).tr w4).tr w5) o5 n5 s5 v5) (fun h5 Q e e1 l5 w5 r5 => h2 h5 Q e e1 ((lw.tr l4).tr l5) (((wx.tr tk.wf).tr w4).we.tr w5) r5)
        · have hW := l4.mw hW
          refine rw_goto f_X9_readWear_149 ?_
          refine rw_goto f_X9_readWear_154 ?_
          refine rw_iload f_X9_readWear_30 rfl ?_
          refine rw_ifF f_X9_readWear_31 (by decide) ?_
          refine rw_aload f_X9_readWear_34 rfl ?_
          refine rm_getI f_X9_readWear_35 hW ?_
          refine rw_ifT f_X9_readWear_38 (decide_eq_true r4.ne) ?_
          refine rw_aload f_X9_readWear_157 rfl ?_
          refine rm_getI f_X9_readWear_158 hW ?_
          refine rw_ifT f_X9_readWear_161 (decide_eq_true r4.ne) ?_
          refine rw_aload f_X9_readWear_176 rfl ?_
          refine rm_getI f_X9_readWear_177 hW ?_
          refine rw_ifT f_X9_readWear_180 (decide_eq_true r4.ne) ?_
          refine rw_vret f_X9_readWear_188 ?_
          exact h2 h4 Z e e1 (lw.tr l4) ((wx.tr tk.wf).we.tr w4) r4
      refine rw_aload f_X9_readWear_145 rfl ?_
      exact rw_callV f_X9_readWear_146 rfl hW.1 hW.2.1 rfl rfl rfl rfl (rn_kv unit)
    by_cases c4 : tgt s = 4
    · have cR : hasRel k = false := by
        cases e : hasRel k with
        | false => rfl
        | true => exact absurd ⟨c4, e⟩ cB.2
      refine rw_iload f_X9_readWear_94 rfl ?_
      refine rw_ifF f_X9_readWear_95 (decide_eq_false cB.1) ?_
      refine rw_iload f_X9_readWear_98 rfl ?_
      refine rw_callS f_X9_readWear_99 rfl rfl rfl (rn_ki (m_tight ?_))
      refine rw_const f_X9_readWear_102 ?_
      refine rw_icmpF f_X9_readWear_103 (decide_eq_false (fun z => z (t4.mpr c4))) ?_
      refine rw_aload f_X9_readWear_106 rfl ?_
      refine rw_callV f_X9_readWear_107 rfl hW.1 hW.2.1 rfl rfl rfl rfl (rn_ki (m_hasRelation hW cp kl ?_))
      rw [cR]
      refine rw_ifF f_X9_readWear_110 (by decide) ?_
      exact at113
    · refine rw_iload f_X9_readWear_94 rfl ?_
      refine rw_ifF f_X9_readWear_95 (decide_eq_false cB.1) ?_
      refine rw_iload f_X9_readWear_98 rfl ?_
      refine rw_callS f_X9_readWear_99 rfl rfl rfl (rn_ki (m_tight ?_))
      refine rw_const f_X9_readWear_102 ?_
      refine rw_icmpT f_X9_readWear_103 (decide_eq_true (fun z => c4 (t4.mp z))) ?_
      exact at113
  rw [if_neg cB] at h1 h2
  -- the end
  have at152 : Rn (d + 4) n_X9_readWear 152 [am_r m, am_i 1, am_i s] [] (mh h m W) (kV kk) := by
    cases cb : hasBr k with
    | true =>
      rw [cb, if_pos rfl] at h2
      refine rw_const f_X9_readWear_152 ?_
      refine rw_istore f_X9_readWear_153 rfl rfl ?_
      refine rw_goto f_X9_readWear_154 ?_
      refine rw_iload f_X9_readWear_30 rfl ?_
      refine rw_ifT f_X9_readWear_31 (by decide) ?_
      refine rw_aload f_X9_readWear_157 rfl ?_
      refine rm_getI f_X9_readWear_158 hW ?_
      rw [ok.f]
      refine rw_ifF f_X9_readWear_161 (by decide) ?_
      refine rw_aload f_X9_readWear_164 rfl ?_
      refine rw_callV f_X9_readWear_165 rfl hW.1 hW.2.1 rfl rfl rfl rfl (rn_ki (m_hasBracket hW cp kl ?_))
      rw [cb]
      refine rw_ifF f_X9_readWear_168 (by decide) ?_
      refine rw_aload f_X9_readWear_171 rfl ?_
      refine rw_const f_X9_readWear_172 ?_
      refine rw_callV f_X9_readWear_173 rfl hW.1 hW.2.1 rfl rfl rfl rfl (rn_kv (m_wrong2 hW ok (fun X fk er => ?_)))
      refine rw_aload f_X9_readWear_176 rfl ?_
      refine rm_getI f_X9_readWear_177 hW ?_
      refine rw_ifT f_X9_readWear_180 (decide_eq_true er.ne) ?_
      refine rw_vret f_X9_readWear_188 ?_
      exact h2 h X _ rfl .refl fk.we er
    | false =>
      rw [cb, if_neg (by decide)] at h1
      refine rw_const f_X9_readWear_152 ?_
      refine rw_istore f_X9_readWear_153 rfl rfl ?_
      refine rw_goto f_X9_readWear_154 ?_
      refine rw_iload f_X9_readWear_30 rfl ?_
      refine rw_ifT f_X9_readWear_31 (by decide) ?_
      refine rw_aload f_X9_readWear_157 rfl ?_
      refine rm_getI f_X9_readWear_158 hW ?_
      rw [ok.f]
      refine rw_ifF f_X9_readWear_161 (by decide) ?_
      refine rw_aload f_X9_readWear_164 rfl ?_
      refine rw_callV f_X9_readWear_165 rfl hW.1 hW.2.1 rfl rfl rfl rfl (rn_ki (m_hasBracket hW cp kl ?_))
      rw [cb]
      refine rw_ifT f_X9_readWear_168 (by decide) ?_
      refine rw_aload f_X9_readWear_176 rfl ?_
      refine rm_getI f_X9_readWear_177 hW ?_
      rw [ok.f]
      refine rw_ifF f_X9_readWear_180 (by decide) ?_
      refine rw_aload f_X9_readWear_183 rfl ?_
      refine rw_const f_X9_readWear_184 ?_
      refine rw_callV f_X9_readWear_185 rfl hW.1 hW.2.1 rfl rfl rfl rfl (rn_kv (m_close hW (r := 0) (by omega) k c W cp (by omega) kl (fun X cx cf => ?_)))
      refine rw_vret f_X9_readWear_188 ?_
      exact h1 h X _ rfl .refl cf.wf (cf.ok ok) cx.1 cx.2.2.2.2 (by rw [cf _ _ (by omega)]; exact u1)
  by_cases s0 : s = 0
  · refine rw_iload f_X9_readWear_94 rfl ?_
    refine rw_ifT f_X9_readWear_95 (decide_eq_true s0) ?_
    exact at152
  · have cR : tgt s = 4 ∧ hasRel k = true := Classical.byContradiction (fun z => cB ⟨s0, z⟩)
    refine rw_iload f_X9_readWear_94 rfl ?_
    refine rw_ifF f_X9_readWear_95 (decide_eq_false s0) ?_
    refine rw_iload f_X9_readWear_98 rfl ?_
    refine rw_callS f_X9_readWear_99 rfl rfl rfl (rn_ki (m_tight ?_))
    refine rw_const f_X9_readWear_102 ?_
    refine rw_icmpF f_X9_readWear_103 (decide_eq_false (fun z => z (t4.mpr cR.1))) ?_
    refine rw_aload f_X9_readWear_106 rfl ?_
    refine rw_callV f_X9_readWear_107 rfl hW.1 hW.2.1 rfl rfl rfl rfl (rn_ki (m_hasRelation hW cp kl ?_))
    rw [cR.2]
    refine rw_ifT f_X9_readWear_110 (by decide) ?_
    exact at152
theorem m_readWear (hW : MW h m) (ok : OK h m V T N p) (kw : tkD T N p = 1) (hu : V 0 20 = nI 0) {kk : am_H → Prop} (h1 : ∀ h' X r, (lv T N 7).1 (tkX T N p) 0 = .inl r → Lw m h h' → Wf V X → OK h' m X T N r.2.1 → X 0 17 = nI r.1.length → CS X r.1 → X 0 20 = nI r.2.2 → kk (mh h' m X)) (h2 : ∀ h' X e, (lv T N 7).1 (tkX T N p) 0 = .inr e → Lw m h h' → We V X → ER X e → kk (mh h' m X)) : Rn (d + 4) n_X9_readWear 0 [am_r m, am_u, am_u] [] (mh h m V) (kV kk) := by
  have nb : ¬ tkD T N p = 4 := fun z => by rw [z] at kw; exact absurd kw (by decide)
  refine rw_aload f_X9_readWear_0 rfl ?_
  refine rw_callV f_X9_readWear_1 rfl hW.1 hW.2.1 rfl rfl rfl rfl (rn_kv (m_next hW ok nb (fun h3 W lw tk ok3 => ?_)))
  skip
  have hW0 := hW
  have hW := lw.mw hW
  rw [← mRun_lv ok3.le] at h1 h2
  generalize tkX T N p = q at ok3 h1 h2
  have ok4 : OK h3 m (am_up (am_up (am_up (am_up W 0 17 0) 0 19 0) 0 23 0) 0 22 0) T N q := (((ok3.up (by unfold fks tks; omega)).up (by unfold fks tks; omega)).up (by unfold fks tks; omega)).up (by unfold fks tks; omega)
  have wx : Wf V (am_up (am_up (am_up (am_up W 0 17 0) 0 19 0) 0 23 0) 0 22 0) := (((tk.wf.up (by unfold wsc; omega)).up (by unfold wsc; omega)).up (by unfold wsc; omega)).up (by unfold wsc; omega)
  have ms : MS h3 m (am_up (am_up (am_up (am_up W 0 17 0) 0 19 0) 0 23 0) 0 22 0) T N [] [] q 0 := by
    refine ⟨ok4, ⟨?_, ?_, ?_, trivial, fun i s hs => by cases hs⟩, ?_, up_same⟩
    · rw [up_ne (by omega), up_ne (by omega), up_ne (by omega)]; exact up_same
    · rw [up_ne (by omega), up_ne (by omega)]; exact up_same
    · rw [up_ne (by omega)]; exact up_same
    · rw [up_ne (by omega), up_ne (by omega), up_ne (by omega), up_ne (by omega), tk _ _ (by unfold tks; omega)]; exact hu
  refine rw_aload f_X9_readWear_4 rfl ?_
  refine rw_const f_X9_readWear_5 ?_
  refine rm_putI f_X9_readWear_6 hW ?_
  refine rw_aload f_X9_readWear_9 rfl ?_
  refine rw_const f_X9_readWear_10 ?_
  refine rm_putI f_X9_readWear_11 hW ?_
  refine rw_aload f_X9_readWear_14 rfl ?_
  refine rw_const f_X9_readWear_15 ?_
  refine rm_putI f_X9_readWear_16 hW ?_
  refine rw_aload f_X9_readWear_19 rfl ?_
  refine rw_const f_X9_readWear_20 ?_
  refine rm_putI f_X9_readWear_21 hW ?_
  skip
  generalize am_up (am_up (am_up (am_up W 0 17 0) 0 19 0) 0 23 0) 0 22 0 = W2 at ms wx ⊢
  have unit : Rn (d + 3) n_X9_unit 0 [am_r m, am_u, am_u] [] (mh h3 m W2) (kV (fun hh => Rn (d + 4) n_X9_readWear 28 [am_r m, am_u, am_u] [] hh (kV kk))) := by
    refine rw_const f_X9_unit_0 ?_
    refine rw_istore f_X9_unit_1 rfl rfl ?_
    refine m_unit (m := m) (T := T) (N := N) (N + 2) [] [] q 0 h3 W2 hW ms ⟨by decide, by decide, by decide, by decide⟩ (by omega) (fun h4 Z n' k' c' p' u' e l4 w4 s4 f4 g4 i4 => ?_) (fun h4 Z e e1 l4 w4 r4 => ?_)
    · rw [e] at h1 h2
      refine rw_const f_X9_readWear_28 ?_
      refine rw_istore f_X9_readWear_29 rfl rfl ?_
      exact m_wearLoop (n' + 1) n' k' c' p' u' h4 Z _ (by omega) (l4.mw hW) s4 f4 g4 (fun h5 Q r e l5 w5 o5 n5 s5 v5 => h1 h5 Q r e ((lw.tr l4).tr l5) ((wx.tr w4).tr w5) o5 n5 s5 v5) (fun h5 Q e e1 l5 w5 r5 => h2 h5 Q e e1 ((lw.tr l4).tr l5) ((wx.tr w4).we.tr w5) r5)
    · have hW := l4.mw hW
      refine rw_const f_X9_readWear_28 ?_
      refine rw_istore f_X9_readWear_29 rfl rfl ?_
      refine rw_iload f_X9_readWear_30 rfl ?_
      refine rw_ifF f_X9_readWear_31 (by decide) ?_
      refine rw_aload f_X9_readWear_34 rfl ?_
      refine rm_getI f_X9_readWear_35 hW ?_
      refine rw_ifT f_X9_readWear_38 (decide_eq_true r4.ne) ?_
      refine rw_aload f_X9_readWear_157 rfl ?_
      refine rm_getI f_X9_readWear_158 hW ?_
      refine rw_ifT f_X9_readWear_161 (decide_eq_true r4.ne) ?_
      refine rw_aload f_X9_readWear_176 rfl ?_
      refine rm_getI f_X9_readWear_177 hW ?_
      refine rw_ifT f_X9_readWear_180 (decide_eq_true r4.ne) ?_
      refine rw_vret f_X9_readWear_188 ?_
      exact h2 h4 Z e e1 (lw.tr l4) (wx.we.tr w4) r4
  refine rw_aload f_X9_readWear_24 rfl ?_
  exact rw_callV f_X9_readWear_25 rfl hW.1 hW.2.1 rfl rfl rfl rfl (rn_kv unit)
end MFormula
