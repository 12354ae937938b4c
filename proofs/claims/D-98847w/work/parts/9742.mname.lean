/-! THE MODEL: names; what is read so far -/
section MName
variable {d : Nat} {h : am_H} {m : Nat} {V : am_M} {T : tx} {N p : Nat} {k : Int32 → am_H → Prop}
theorem nI_nn {a : Nat} (h : a < 2147483648) : 0 ≤ nI a := nI_le (a := 0) (Nat.zero_le _) h
theorem tkN_nn (c : tkD T N p = 2) : 0 ≤ tkN T N p := by
  have dig : ∀ c : Int32, isDg c = true → ∃ t, t ≤ 9 ∧ c = nI (48 + t) := by
    intro c hc
    unfold isDg at hc
    have hc2 : 48 ≤ c ∧ c ≤ 57 := by
      split at hc
      · cases hc
      · rename_i z1
        split at hc
        · cases hc
        · rename_i z2
          exact ⟨Int32.not_lt.mp z1, Int32.not_lt.mp z2⟩
    obtain ⟨t, t1, t2, t3⟩ := num_nat (a := 48) (b := 57) (by omega) (by omega) hc2.1 hc2.2
    exact ⟨t - 48, by omega, by rw [t3]; congr 1; omega⟩
  have key : ∀ n, n ≤ 4 → (∀ j, j < n → isDg (T (p + j)) = true) → ∃ t, t < 10 ^ n ∧ nF T p n = nI t := by
    intro n
    induction n with
    | zero => intro _ _; exact ⟨0, by decide, rfl⟩
    | succ n ih =>
      intro hn hd
      obtain ⟨t, t1, t2⟩ := ih (by omega) (fun j hj => hd j (by omega))
      obtain ⟨s, s1, s2⟩ := dig _ (hd n (by omega))
      refine ⟨10 * t + s, by rw [Nat.pow_succ]; omega, ?_⟩
      show (if n < 4 then _ else _) = _
      rw [if_pos (by omega), t2, s2]
      have e1 : (10 : Int32) * nI t = nI (10 * t) := nI_mull 10 t
      have e2 : nI (10 * t) + nI (48 + s) = nI (10 * t + s) + 48 := by
        rw [nI_addl, show (48 : Int32) = nI 48 from rfl, nI_addl]; congr 1; omega
      rw [e1, e2, Int32.add_sub_cancel]
  unfold tkD at c
  split at c
  · exact absurd c (by decide)
  rename_i c0
  split at c
  · split at c <;> exact absurd c (by decide)
  rename_i c1
  split at c
  · rename_i c2
    split at c
    · exact absurd c (by decide)
    rename_i c3
    have eE : tkE T N p = rEnd isDg T N p := by unfold tkE; rw [if_neg c0, if_neg c1, if_pos c2]
    obtain ⟨t, t1, t2⟩ := key (tkE T N p - p) (by omega) (fun j hj => by
      rw [eE] at hj
      exact (rEnd_all (P := isDg) (T := T) (N := N) _ p rfl (p + j) (by omega) (by omega)).2)
    unfold tkN
    rw [t2]
    exact nI_nn (Nat.lt_of_lt_of_le t1 (Nat.le_trans (Nat.pow_le_pow_right (by omega) (show tkE T N p - p ≤ 4 by omega)) (by decide)))
  · split at c <;> exact absurd c (by decide)
/-- names in the model's row, all of them different -/
def NM (h : am_H) (m o : Nat) (l : List Int64) : Prop := (∀ i, i < l.length → hp_L h (m + 2) (o + i) = l.getD i 0) ∧ ∀ i j, i < l.length → j < l.length → l.getD i 0 = l.getD j 0 → i = j
theorem NM.fr {h' : am_H} {o : Nat} {l : List Int64} (q : NM h m o l) (e : ∀ i, i < l.length → hp_L h' (m + 2) (o + i) = hp_L h (m + 2) (o + i)) : NM h' m o l := ⟨fun i hi => (e i hi).trans (q.1 i hi), q.2⟩
def fnd (l : List Int64) (w : Int64) : Int32 := match ixN l w with
  | none => -1
  | some i => nI i
theorem m_find (hW : MW h m) {o : Nat} {l : List Int64} {w : Int64} (nm : NM h m o l) (hl : o + l.length ≤ 22) (hw : hp_L h m 9 = w) (hk : k (fnd l w) (mh h m V)) : Rn d n_X9_find 0 [am_r m, am_i (nI o), am_i (nI l.length), am_u, am_u] [] (mh h m V) (kI k) := by
  have loop : ∀ r j v, j + r = l.length → ((∃ i, i < j ∧ l.getD i 0 = w ∧ v = nI i) ∨ ((∀ i, i < j → ¬ l.getD i 0 = w) ∧ v = -1)) → Rn d n_X9_find 5 [am_r m, am_i (nI o), am_i (nI l.length), am_i v, am_i (nI j)] [] (mh h m V) (kI k) := by
    intro r
    induction r with
    | zero =>
      intro j v hj hv
      have e : v = fnd l w := by
        unfold fnd
        rcases hv with ⟨i, h1, h2, h3⟩ | ⟨h1, h2⟩
        · have : ixN l w = some i := by
            unfold ixN
            refine fst1_of (by omega) (decide_eq_true h2) (fun c hc => decide_eq_false (fun z => ?_))
            have := nm.2 c i (by omega) (by omega) (z.trans h2.symm)
            omega
          rw [this]; exact h3
        · have : ixN l w = none := by
            unfold ixN
            exact fst1_none.mpr (fun b hb => decide_eq_false (h1 b (by omega)))
          rw [this]; exact h2
      rw [e]
      rw [show l.length = j by omega]
      refine rw_iload f_X9_find_5 rfl ?_
      refine rw_iload f_X9_find_7 rfl ?_
      refine rw_icmpT f_X9_find_8 (decide_eq_true (Int32.le_refl _)) ?_
      refine rw_iload f_X9_find_41 rfl ?_
      refine rw_iret f_X9_find_42 ?_
      exact hk
    | succ r ih =>
      intro j v hj hv
      have en := nm.1 j (by omega)
      have no : ¬ l.getD j 0 = w → ((∃ i, i < j + 1 ∧ l.getD i 0 = w ∧ v = nI i) ∨ ((∀ i, i < j + 1 → ¬ l.getD i 0 = w) ∧ v = -1)) := by
        intro c1
        rcases hv with ⟨i, h1, h2, h3⟩ | ⟨h1, h2⟩
        · exact Or.inl ⟨i, by omega, h2, h3⟩
        · refine Or.inr ⟨fun i hi => ?_, h2⟩
          by_cases c : i = j
          · rw [c]; exact c1
          · exact h1 i (by omega)
      refine rw_iload f_X9_find_5 rfl ?_
      refine rw_iload f_X9_find_7 rfl ?_
      refine rw_icmpF f_X9_find_8 (decide_eq_false (nI_ge (by omega) (by omega))) ?_
      refine rw_aload f_X9_find_11 rfl ?_
      refine rm_getR f_X9_find_12 hW rfl ?_
      refine rw_iload f_X9_find_15 rfl ?_
      refine rw_iload f_X9_find_16 rfl ?_
      refine rw_iadd f_X9_find_18 ?_
      refine rm_lald (j := o + j) f_X9_find_19 hW (by exact rfl) (by first | rfl | exact nI_addl _ _ | (simp only [nI, Int32.ofNat_add, Int32.ofNat_mul]; rfl) | (simp only [nI_addl, nI_mull, nI_lit, nI_1']; done) | (simp only [nI_1, nI_0, nI_addl, nI_mull, ← nI_succ]; rfl)) (by omega) ?_
      refine rw_aload f_X9_find_20 rfl ?_
      refine rm_getL f_X9_find_21 hW ?_
      rw [en, hw]
      refine rw_lcmp f_X9_find_24 ?_
      first | refine rw_ne0B f_X9_find_25 (fun c1 => ?_) (fun c1 => ?_) | refine rw_ne0 f_X9_find_25 (fun c1 => ?_) (fun c1 => ?_)
      · refine rw_iload f_X9_find_33 rfl ?_
        refine rw_istore f_X9_find_34 rfl rfl ?_
        refine rw_iinc f_X9_find_35 rfl rfl ?_
        refine rw_goto f_X9_find_38 ?_
        rw [nI_1']
        rw [lgc] at c1
        first | exact ih (j + 1) _ (by omega) (Or.inl ⟨j, by omega, c1, rfl⟩) | exact ih (j + 1) _ (by omega) (no c1)
      · refine rw_iload f_X9_find_28 rfl ?_
        refine rw_goto f_X9_find_30 ?_
        refine rw_istore f_X9_find_34 rfl rfl ?_
        refine rw_iinc f_X9_find_35 rfl rfl ?_
        refine rw_goto f_X9_find_38 ?_
        rw [nI_1']
        rw [lgc] at c1
        first | exact ih (j + 1) _ (by omega) (Or.inl ⟨j, by omega, c1, rfl⟩) | exact ih (j + 1) _ (by omega) (no c1)
  refine rw_const f_X9_find_0 ?_
  refine rw_istore f_X9_find_1 rfl rfl ?_
  refine rw_const f_X9_find_2 ?_
  refine rw_istore f_X9_find_3 rfl rfl ?_
  exact loop l.length 0 (-1) (by omega) (Or.inr ⟨fun i hi => absurd hi (by omega), rfl⟩)
theorem fnd_lt {l : List Int64} {w : Int64} (hl : l.length ≤ 22) : fnd l w < 0 ↔ (ixN l w).isSome = false := by
  unfold fnd
  cases e : ixN l w with
  | none => exact ⟨fun _ => rfl, fun _ => by decide⟩
  | some i =>
    have := ixN_lt e
    exact ⟨fun z => absurd z (Int32.not_lt.mpr (nI_nn (by omega))), fun z => by cases z⟩
/-- only the model's word and names change -/
def Lx (m : Nat) (h h' : am_H) : Prop := h'.1 = h.1 ∧ h'.2.2 = h.2.2 ∧ ∀ a, ¬ a = m → ¬ a = m + 2 → hp_L h' a = hp_L h a
theorem Lx.refl : Lx m h h := ⟨rfl, rfl, fun _ _ _ => rfl⟩
theorem Lx.tr {h1 h2 : am_H} (p : Lx m h h1) (q : Lx m h1 h2) : Lx m h h2 := ⟨q.1.trans p.1, q.2.1.trans p.2.1, fun a ha hb => (q.2.2 a ha hb).trans (p.2.2 a ha hb)⟩
theorem Lw.x {h1 : am_H} (p : Lw m h h1) : Lx m h h1 := ⟨p.1, p.2.1, fun a ha _ => p.2.2 a ha⟩
theorem Lw.nm {h1 : am_H} (p : Lw m h h1) : hp_L h1 (m + 2) = hp_L h (m + 2) := p.2.2 _ (by omega)
theorem Lx.mw {h1 : am_H} (p : Lx m h h1) (hW : MW h m) : MW h1 m := by
  unfold MW hp_K hp_R at hW ⊢
  rw [p.2.1]; exact hW
/-- a new name is told -/
def Ln (m j : Nat) (w : Int64) (h h' : am_H) : Prop := Lx m h h' ∧ ∀ i, hp_L h' (m + 2) i = if i = j then w else hp_L h (m + 2) i
theorem isNm_4 (c : isNm T N p = true) : tkD T N p = 1 := by
  unfold isNm at c
  rw [Bool.and_eq_true, decide_eq_true_eq] at c
  exact c.1
theorem m_newName (hW : MW h m) (ok : OK h m V T N p) (kw : tkD T N p = 1) {o : Nat} {l : List Int64} (nm : NM h m o l) (hl : o + l.length < 22) {k : am_H → Prop} (h1 : ∀ h' W v, pFresh T N l (tkX T N p) = .inl v → Ln m (o + l.length) v.1 h h' → Tk V W → OK h' m W T N v.2 → ixN l v.1 = none → k (mh h' m W)) (h2 : ∀ h' W e, pFresh T N l (tkX T N p) = .inr e → Lw m h h' → Fk V W → ER W e → k (mh h' m W)) : Rn (d + 2) n_X9_newName 0 [am_r m, am_i (nI o), am_i (nI l.length)] [] (mh h m V) (kV k) := by
  have nb : ¬ tkD T N p = 4 := fun z => by rw [z] at kw; exact absurd kw (by decide)
  refine rw_aload f_X9_newName_0 rfl ?_
  refine rw_callV f_X9_newName_1 rfl hW.1 hW.2.1 rfl rfl rfl rfl (rn_kv (m_next hW ok nb (fun h1' W1 lw1 tk1 ok1 => ?_)))
  skip
  have hW0 := hW
  have hW := lw1.mw hW
  generalize tkX T N p = q at ok1 h1 h2
  unfold pFresh at h1 h2
  cases c : isNm T N q with
  | false =>
    rw [c, if_pos rfl] at h2
    refine rw_aload f_X9_newName_4 rfl ?_
    refine rw_callV f_X9_newName_5 rfl hW.1 hW.2.1 rfl rfl rfl rfl (rn_ki (m_isName hW ok1 ?_))
    rw [c]
    refine rw_ifF f_X9_newName_8 (by decide) ?_
    refine rw_aload f_X9_newName_11 rfl ?_
    refine rw_const f_X9_newName_12 ?_
    refine rw_callV f_X9_newName_13 rfl hW.1 hW.2.1 rfl rfl rfl rfl (rn_kv (m_wrong2 hW ok1 (fun W fk er => ?_)))
    refine rw_goto f_X9_newName_16 ?_
    refine rw_aload f_X9_newName_33 rfl ?_
    refine rm_getI f_X9_newName_34 hW ?_
    refine rw_ifF f_X9_newName_37 (decide_eq_false er.nle) ?_
    refine rw_vret f_X9_newName_40 ?_
    exact h2 _ W _ rfl lw1 (tk1.fk.tr fk) er
  | true =>
    rw [c, if_neg (by decide)] at h1 h2
    have k1 := isNm_4 c
    have nb1 : ¬ tkD T N q = 4 := fun z => by rw [z] at k1; exact absurd k1 (by decide)
    have ew := ok1.2.2.2.2.2.2.1 k1
    have nm1 : NM h1' m o l := nm.fr (fun i _ => by rw [lw1.nm])
    have fl := fnd_lt (l := l) (w := tkW T N q) (by omega)
    cases c2 : (ixN l (tkW T N q)).isSome with
    | true =>
      rw [c2, if_pos rfl] at h2
      refine rw_aload f_X9_newName_4 rfl ?_
      refine rw_callV f_X9_newName_5 rfl hW.1 hW.2.1 rfl rfl rfl rfl (rn_ki (m_isName hW ok1 ?_))
      rw [c]
      refine rw_ifT f_X9_newName_8 (by decide) ?_
      refine rw_aload f_X9_newName_19 rfl ?_
      refine rw_iload f_X9_newName_20 rfl ?_
      refine rw_iload f_X9_newName_21 rfl ?_
      refine rw_callV f_X9_newName_22 rfl hW.1 hW.2.1 rfl rfl rfl rfl (rn_ki (m_find hW nm1 (by omega) ew ?_))
      refine rw_ifF f_X9_newName_25 (decide_eq_false (fun z => by rw [fl.mp z] at c2; cases c2)) ?_
      refine rw_aload f_X9_newName_28 rfl ?_
      refine rw_const f_X9_newName_29 ?_
      refine rw_callV f_X9_newName_30 rfl hW.1 hW.2.1 rfl rfl rfl rfl (rn_kv (m_wrongN hW ok1 nb1 (by decide) (fun W fk er => ?_)))
      refine rw_aload f_X9_newName_33 rfl ?_
      refine rm_getI f_X9_newName_34 hW ?_
      refine rw_ifF f_X9_newName_37 (decide_eq_false er.nle) ?_
      refine rw_vret f_X9_newName_40 ?_
      exact h2 _ W _ rfl lw1 (tk1.fk.tr fk) er
    | false =>
      rw [c2, if_neg (by decide)] at h1
      have xn : ixN l (tkW T N q) = none := by
        cases e : ixN l (tkW T N q) with
        | none => rfl
        | some i => rw [e] at c2; cases c2
      refine rw_aload f_X9_newName_4 rfl ?_
      refine rw_callV f_X9_newName_5 rfl hW.1 hW.2.1 rfl rfl rfl rfl (rn_ki (m_isName hW ok1 ?_))
      rw [c]
      refine rw_ifT f_X9_newName_8 (by decide) ?_
      refine rw_aload f_X9_newName_19 rfl ?_
      refine rw_iload f_X9_newName_20 rfl ?_
      refine rw_iload f_X9_newName_21 rfl ?_
      refine rw_callV f_X9_newName_22 rfl hW.1 hW.2.1 rfl rfl rfl rfl (rn_ki (m_find hW nm1 (by omega) ew ?_))
      refine rw_ifT f_X9_newName_25 (decide_eq_true (fl.mpr c2)) ?_
      refine rw_aload f_X9_newName_33 rfl ?_
      refine rm_getI f_X9_newName_34 hW ?_
      rw [ok1.f]
      refine rw_ifT f_X9_newName_37 (by decide) ?_
      refine rw_aload f_X9_newName_41 rfl ?_
      refine rm_getR f_X9_newName_42 hW rfl ?_
      refine rw_iload f_X9_newName_45 rfl ?_
      refine rw_iload f_X9_newName_46 rfl ?_
      refine rw_iadd f_X9_newName_47 ?_
      refine rw_aload f_X9_newName_48 rfl ?_
      refine rm_getL f_X9_newName_49 hW ?_
      rw [ew]
      refine rm_last (j := o + l.length) f_X9_newName_52 hW (by exact rfl) (by first | rfl | exact nI_addl _ _ | (simp only [nI, Int32.ofNat_add, Int32.ofNat_mul]; rfl) | (simp only [nI_addl, nI_mull, nI_lit, nI_1']; done) | (simp only [nI_1, nI_0, nI_addl, nI_mull, ← nI_succ]; rfl)) (by omega) ?_
      skip
      generalize hH : hp_sL h1' (m + 2) (o + l.length) (tkW T N q) = h3
      have ln : Ln m (o + l.length) (tkW T N q) h1' h3 := by
        rw [← hH]
        refine ⟨⟨rfl, rfl, fun a ha hb => funext fun i => if_neg (fun z => hb z.1)⟩, fun i => ?_⟩
        by_cases e : i = o + l.length
        · rw [if_pos e, e]; exact sL_same
        · rw [if_neg e]; exact if_neg (fun z => e z.2)
      have ok3 : OK h3 m W1 T N q := by
        obtain ⟨o1, o2, o3, o4, o5, o6, o7, o8⟩ := ok1
        refine ⟨o1, o2, o3, o4, o5, o6, fun z => ?_, o8⟩
        rw [← o7 z, ← hH]
        exact if_neg (fun z => by omega)
      have hW := ln.1.mw hW
      refine rw_aload f_X9_newName_53 rfl ?_
      refine rw_callV f_X9_newName_54 rfl hW.1 hW.2.1 rfl rfl rfl rfl (rn_kv (m_next hW ok3 nb1 (fun h4 W2 lw2 tk2 ok4 => ?_)))
      refine rw_vret f_X9_newName_57 ?_
      exact h1 h4 W2 _ rfl ⟨lw1.x.tr (ln.1.tr lw2.x), fun i => by rw [lw2.nm, ln.2, lw1.nm]⟩ (tk1.tr tk2) ok4 xn
theorem m_oldName (hW : MW h m) (ok : OK h m V T N p) {o : Nat} {l : List Int64} (nm : NM h m o l) (hl : o + l.length ≤ 22) (h1 : ∀ i, pKnown T N l p = .inl (i, tkX T N p) → i < l.length → tkD T N p = 1 → k (nI i) (mh h m V)) (h2 : ∀ W e, pKnown T N l p = .inr e → Fk V W → ER W e → k 0 (mh h m W)) : Rn (d + 2) n_X9_oldName 0 [am_r m, am_i (nI o), am_i (nI l.length)] [] (mh h m V) (kI k) := by
  unfold pKnown at h1 h2
  cases c : isNm T N p with
  | false =>
    rw [c, if_pos rfl] at h2
    refine rw_aload f_X9_oldName_0 rfl ?_
    refine rm_getI f_X9_oldName_1 hW ?_
    rw [ok.f]
    refine rw_ifT f_X9_oldName_4 (by decide) ?_
    refine rw_aload f_X9_oldName_9 rfl ?_
    refine rw_callV f_X9_oldName_10 rfl hW.1 hW.2.1 rfl rfl rfl rfl (rn_ki (m_isName hW ok ?_))
    rw [c]
    refine rw_ifF f_X9_oldName_13 (by decide) ?_
    refine rw_aload f_X9_oldName_16 rfl ?_
    refine rw_const f_X9_oldName_17 ?_
    refine rw_callV f_X9_oldName_18 rfl hW.1 hW.2.1 rfl rfl rfl rfl (rn_kv (m_wrong2 hW ok (fun W fk er => ?_)))
    refine rw_goto f_X9_oldName_21 ?_
    refine rw_aload f_X9_oldName_38 rfl ?_
    refine rm_getI f_X9_oldName_39 hW ?_
    refine rw_ifF f_X9_oldName_42 (decide_eq_false er.nle) ?_
    refine rw_const f_X9_oldName_45 ?_
    refine rw_goto f_X9_oldName_46 ?_
    refine rw_iret f_X9_oldName_55 ?_
    exact h2 W _ rfl fk er
  | true =>
    rw [c, if_neg (by decide)] at h1 h2
    have k1 := isNm_4 c
    have nb1 : ¬ tkD T N p = 4 := fun z => by rw [z] at k1; exact absurd k1 (by decide)
    have ew := ok.2.2.2.2.2.2.1 k1
    have fl := fnd_lt (l := l) (w := tkW T N p) (by omega)
    cases c2 : ixN l (tkW T N p) with
    | none =>
      rw [c2] at h2
      rw [c2] at fl
      refine rw_aload f_X9_oldName_0 rfl ?_
      refine rm_getI f_X9_oldName_1 hW ?_
      rw [ok.f]
      refine rw_ifT f_X9_oldName_4 (by decide) ?_
      refine rw_aload f_X9_oldName_9 rfl ?_
      refine rw_callV f_X9_oldName_10 rfl hW.1 hW.2.1 rfl rfl rfl rfl (rn_ki (m_isName hW ok ?_))
      rw [c]
      refine rw_ifT f_X9_oldName_13 (by decide) ?_
      refine rw_aload f_X9_oldName_24 rfl ?_
      refine rw_iload f_X9_oldName_25 rfl ?_
      refine rw_iload f_X9_oldName_26 rfl ?_
      refine rw_callV f_X9_oldName_27 rfl hW.1 hW.2.1 rfl rfl rfl rfl (rn_ki (m_find hW nm (by omega) ew ?_))
      refine rw_ifF f_X9_oldName_30 (decide_eq_false (Int32.not_le.mpr (fl.mpr rfl))) ?_
      refine rw_aload f_X9_oldName_33 rfl ?_
      refine rw_const f_X9_oldName_34 ?_
      refine rw_callV f_X9_oldName_35 rfl hW.1 hW.2.1 rfl rfl rfl rfl (rn_kv (m_wrongN hW ok nb1 (by decide) (fun W fk er => ?_)))
      refine rw_aload f_X9_oldName_38 rfl ?_
      refine rm_getI f_X9_oldName_39 hW ?_
      refine rw_ifF f_X9_oldName_42 (decide_eq_false er.nle) ?_
      refine rw_const f_X9_oldName_45 ?_
      refine rw_goto f_X9_oldName_46 ?_
      refine rw_iret f_X9_oldName_55 ?_
      exact h2 W _ rfl fk er
    | some i =>
      rw [c2] at h1
      rw [c2] at fl
      have ef : fnd l (tkW T N p) = nI i := by unfold fnd; rw [c2]
      refine rw_aload f_X9_oldName_0 rfl ?_
      refine rm_getI f_X9_oldName_1 hW ?_
      rw [ok.f]
      refine rw_ifT f_X9_oldName_4 (by decide) ?_
      refine rw_aload f_X9_oldName_9 rfl ?_
      refine rw_callV f_X9_oldName_10 rfl hW.1 hW.2.1 rfl rfl rfl rfl (rn_ki (m_isName hW ok ?_))
      rw [c]
      refine rw_ifT f_X9_oldName_13 (by decide) ?_
      refine rw_aload f_X9_oldName_24 rfl ?_
      refine rw_iload f_X9_oldName_25 rfl ?_
      refine rw_iload f_X9_oldName_26 rfl ?_
      refine rw_callV f_X9_oldName_27 rfl hW.1 hW.2.1 rfl rfl rfl rfl (rn_ki (m_find hW nm (by omega) ew ?_))
      refine rw_ifT f_X9_oldName_30 (decide_eq_true (Int32.not_lt.mp (fun z => by have := fl.mp z; cases this))) ?_
      refine rw_aload f_X9_oldName_38 rfl ?_
      refine rm_getI f_X9_oldName_39 hW ?_
      rw [ok.f]
      refine rw_ifT f_X9_oldName_42 (by decide) ?_
      refine rw_aload f_X9_oldName_49 rfl ?_
      refine rw_iload f_X9_oldName_50 rfl ?_
      refine rw_iload f_X9_oldName_51 rfl ?_
      refine rw_callV f_X9_oldName_52 rfl hW.1 hW.2.1 rfl rfl rfl rfl (rn_ki (m_find hW nm (by omega) ew ?_))
      refine rw_iret f_X9_oldName_55 ?_
      rw [ef]
      exact h1 i rfl (ixN_lt c2) k1
theorem m_oldNameE (hW : MW h m) {e : er} (er : ER V e) {a b : Int32} (hk : k 0 (mh h m V)) : Rn d n_X9_oldName 0 [am_r m, am_i a, am_i b] [] (mh h m V) (kI k) := by
  refine rw_aload f_X9_oldName_0 rfl ?_
  refine rm_getI f_X9_oldName_1 hW ?_
  refine rw_ifF f_X9_oldName_4 (decide_eq_false er.nle) ?_
  refine rw_const f_X9_oldName_7 ?_
  refine rw_iret f_X9_oldName_8 ?_
  exact hk
theorem m_isWordE (hW : MW h m) {w : Int64} (hk : ∀ b, k (bI b) (mh h m V)) : Rn d n_X9_isWord 0 [am_r m, am_l w, am_u] [] (mh h m V) (kI k) := by
  refine rw_aload f_X9_isWord_0 rfl ?_
  refine rm_getI f_X9_isWord_1 hW ?_
  refine rw_const f_X9_isWord_4 ?_
  refine rw_ne f_X9_isWord_5 (fun c1 => ?_) (fun c1 => ?_)
  · refine rw_const f_X9_isWord_21 ?_
    refine rw_zret f_X9_isWord_22 (by first | exact Or.inl rfl | exact Or.inr rfl | exact bI_01 _ | assumption) ?_
    first | exact hk true | exact hk false
  · refine rw_aload f_X9_isWord_8 rfl ?_
    refine rm_getL f_X9_isWord_9 hW ?_
    refine rw_lload f_X9_isWord_12 rfl ?_
    refine rw_lcmp f_X9_isWord_13 ?_
    first | refine rw_ne0B f_X9_isWord_14 (fun c2 => ?_) (fun c2 => ?_) | refine rw_ne0 f_X9_isWord_14 (fun c2 => ?_) (fun c2 => ?_)
    · refine rw_const f_X9_isWord_21 ?_
      refine rw_zret f_X9_isWord_22 (by first | exact Or.inl rfl | exact Or.inr rfl | exact bI_01 _ | assumption) ?_
      first | exact hk true | exact hk false
    · refine rw_const f_X9_isWord_17 ?_
      refine rw_goto f_X9_isWord_18 ?_
      refine rw_zret f_X9_isWord_22 (by first | exact Or.inl rfl | exact Or.inr rfl | exact bI_01 _ | assumption) ?_
      first | exact hk true | exact hk false
end MName
