/-! THE MODEL: what clashes -/
section MClash
variable {d : Nat} {h : am_H} {m : Nat} {V W : am_M} {k : Int32 → am_H → Prop} {nM nD nB nA nU nT nL : Nat} {man bd : Int32}
/-- what can be kept, of those that were met -/
def CK (W : am_M) (L : List ord) : Prop := ∀ j, j < 1024 → W 43 j = bI (L.any (fun o => decide (o.2.2 = nI j)))
theorem CK_up {L : List ord} {o : ord} {j : Nat} (q : CK W L) (e : o.2.2 = nI j) (hj : j < 1024) : CK (am_up W 43 j 1) (L ++ [o]) := by
  intro i hi
  rw [up_at, List.any_append]
  by_cases c : i = j
  · subst c
    rw [if_pos rfl]
    simp [e, bI]
  · rw [if_neg c, q i hi]
    have : decide (o.2.2 = nI i) = false := decide_eq_false (fun z => c (nI_inj (by omega) (by omega) (z.symm.trans e)))
    simp [this]
theorem m_keepLoop (hW : MW h m) (hB : WB V nM nD nB) {y : am_V} {K : am_R → am_H → Prop} : ∀ (L2 : List ord) (P : List ord) (o : ord) (L1 : List ord) (W : am_M) (z : am_V), POs V W nB nD man bd o P → srch V nB nD man bd (o :: P) 0 = L2 → oL V nB nD man bd = ([], 0, 0) :: (L1 ++ L2) → CK W (([], 0, 0) :: L1) → (∀ X, So V X → CK X (oL V nB nD man bd) → Rn (d + 4) n_X9_layCanKeep 71 [am_r m, am_i man, z, y] [] (mh h m X) K) → Rn (d + 4) n_X9_layCanKeep 45 [am_r m, am_i man, z, y] [] (mh h m W) K := by
  have hD6 := hB.1.2.2.2.1
  intro L2
  induction L2 with
  | nil =>
    intro P o L1 W z hp hs ho ck hk
    rw [List.append_nil] at ho
    rw [← ho] at ck
    refine rw_aload f_X9_layCanKeep_45 rfl ?_
    refine rw_iload f_X9_layCanKeep_46 rfl ?_
    refine rw_callV f_X9_layCanKeep_47 rfl hW.1 hW.2.1 rfl rfl rfl rfl (rn_ki (m_nextOrder hW hB hp (fun X op _ => ?_) (fun c Q X op ps e => by rw [hs] at e; cases e)))
    refine rw_ifT f_X9_layCanKeep_50 (by decide) ?_
    exact hk X (hp.1.tr (fun a j r => op a j (fun z => r (by unfold osc; omega)))) (fun j hj => by rw [op _ _ (by omega)]; exact ck j hj)
  | cons c0 L2 ih =>
    intro P o L1 W z hp hs ho ck hk
    refine rw_aload f_X9_layCanKeep_45 rfl ?_
    refine rw_iload f_X9_layCanKeep_46 rfl ?_
    refine rw_callV f_X9_layCanKeep_47 rfl hW.1 hW.2.1 rfl rfl rfl rfl (rn_ki (m_nextOrder hW hB hp (fun X op e => by rw [hs] at e; cases e) (fun c Q X op ps e => ?_)))
    refine rw_ifF f_X9_layCanKeep_50 (by decide) ?_
    skip
    rw [hs] at e
    obtain ⟨rfl, e2⟩ := List.cons.inj e
    obtain ⟨so, pth, po, om, ebd⟩ := ps
    have ln := Pth_len pth
    have s10c : s10 c0.2.2 := (oL_ok (V := V) (nD := nD) (man := man) (bd := bd) hB.1.2.2.2.2.2 c0 (by rw [ho]; exact List.mem_cons_of_mem _ (List.mem_append_right _ List.mem_cons_self))).1
    obtain ⟨j, hj, ej⟩ := s10_nat s10c
    have ck' : CK (am_up X 43 j 1) (([], 0, 0) :: (L1 ++ [c0])) := CK_up (L := ([], 0, 0) :: L1) (fun i hi => by rw [op _ _ (by omega)]; exact ck i hi) ej hj
    refine rw_aload f_X9_layCanKeep_53 rfl ?_
    refine rm_getR f_X9_layCanKeep_54 hW rfl ?_
    refine rw_aload f_X9_layCanKeep_57 rfl ?_
    refine rm_getR f_X9_layCanKeep_58 hW rfl ?_
    refine rw_aload f_X9_layCanKeep_61 rfl ?_
    refine rm_getI f_X9_layCanKeep_62 hW ?_
    rw [om]
    refine rm_xald (j := Q.length) f_X9_layCanKeep_65 hW (by exact rfl) (by first | rfl | exact nI_addl _ _ | (simp only [nI, Int32.ofNat_add, Int32.ofNat_mul]; rfl) | (simp only [nI_addl, nI_mull, nI_lit, nI_1']; done) | (simp only [nI_1, nI_0, nI_addl, nI_mull, ← nI_succ]; rfl)) (by omega) ?_
    rw [po.2.1, ej]
    refine rw_const f_X9_layCanKeep_66 ?_
    refine rm_zast (j := j) f_X9_layCanKeep_67 hW (by exact rfl) (by first | rfl | exact nI_addl _ _ | (simp only [nI, Int32.ofNat_add, Int32.ofNat_mul]; rfl) | (simp only [nI_addl, nI_mull, nI_lit, nI_1']; done) | (simp only [nI_1, nI_0, nI_addl, nI_mull, ← nI_succ]; rfl)) (by omega) (by first | exact Or.inl rfl | exact Or.inr rfl | exact bI_01 _ | assumption) ?_
    refine rw_goto f_X9_layCanKeep_68 ?_
    refine ih Q c0 (L1 ++ [c0]) _ z ⟨so.up (by unfold osc; omega), pth, PO_row (by decide) po, by rw [up_row (by decide)]; exact om, by rw [up_row (by decide)]; exact ebd⟩ e2.symm (by rw [ho, List.append_assoc]; rfl) ck' hk
theorem clD_s {c : Nat → Bool} {n : Nat} : clD c (n + 1) = cls (clD c n) (1023 - n) := rfl
def CD (W : am_M) (c : Nat → Bool) : Prop := ∀ j, j < 1024 → W 43 j = bI (c j)
theorem m_closeLoop (hW : MW h m) {k : am_H → Prop} {c0 : Nat → Bool} (hk : ∀ X, So V X → CD X (clD c0 1023) → k (mh h m X)) : ∀ r n (W : am_M) (y : am_V), n + r = 1023 → So V W → CD W (clD c0 n) → Rn d n_X9_layCanKeep 75 [am_r m, am_i man, am_i (nI (1023 - n)), y] [] (mh h m W) (kV k) := by
  intro r
  induction r with
  | zero =>
    intro n W y hn so cd
    obtain rfl : n = 1023 := by omega
    refine rw_iload f_X9_layCanKeep_75 rfl ?_
    refine rw_ifT f_X9_layCanKeep_76 (by decide) ?_
    refine rw_vret f_X9_layCanKeep_121 ?_
    exact hk W so cd
  | succ r ih =>
    intro n W y hn so cd
    have hs : 1023 - n < 1024 := by omega
    have es := cd (1023 - n) hs
    have ep : nI (1023 - n) + (-1) = nI (1023 - (n + 1)) := by
      rw [← Int32.sub_eq_add_neg, show 1023 - n = (1023 - (n + 1)) + 1 by omega, nI_pred]
    cases hc : clD c0 n (1023 - n) with
    | false =>
      rw [hc] at es
      refine rw_iload f_X9_layCanKeep_75 rfl ?_
      refine rw_ifF f_X9_layCanKeep_76 (decide_eq_false (nI_nle (by omega) (by omega))) ?_
      refine rw_aload f_X9_layCanKeep_79 rfl ?_
      refine rm_getR f_X9_layCanKeep_80 hW rfl ?_
      refine rw_iload f_X9_layCanKeep_83 rfl ?_
      refine rm_xald (j := 1023 - n) f_X9_layCanKeep_84 hW (by exact rfl) (by first | rfl | exact nI_addl _ _ | (simp only [nI, Int32.ofNat_add, Int32.ofNat_mul]; rfl) | (simp only [nI_addl, nI_mull, nI_lit, nI_1']; done) | (simp only [nI_1, nI_0, nI_addl, nI_mull, ← nI_succ]; rfl)) (by omega) ?_
      rw [es]
      refine rw_ifT f_X9_layCanKeep_85 (by decide) ?_
      refine rw_iinc f_X9_layCanKeep_115 rfl rfl ?_
      refine rw_goto f_X9_layCanKeep_118 ?_
      rw [ep]
      refine ih (n + 1) W y (by omega) so (fun j hj => ?_)
      rw [cd j hj, clD_s]
      unfold cls
      rw [hc, Bool.false_and, Bool.or_false]
    | true =>
      rw [hc] at es
      refine rw_iload f_X9_layCanKeep_75 rfl ?_
      refine rw_ifF f_X9_layCanKeep_76 (decide_eq_false (nI_nle (by omega) (by omega))) ?_
      refine rw_aload f_X9_layCanKeep_79 rfl ?_
      refine rm_getR f_X9_layCanKeep_80 hW rfl ?_
      refine rw_iload f_X9_layCanKeep_83 rfl ?_
      refine rm_xald (j := 1023 - n) f_X9_layCanKeep_84 hW (by exact rfl) (by first | rfl | exact nI_addl _ _ | (simp only [nI, Int32.ofNat_add, Int32.ofNat_mul]; rfl) | (simp only [nI_addl, nI_mull, nI_lit, nI_1']; done) | (simp only [nI_1, nI_0, nI_addl, nI_mull, ← nI_succ]; rfl)) (by omega) ?_
      rw [es]
      refine rw_ifF f_X9_layCanKeep_85 (by decide) ?_
      refine rw_const f_X9_layCanKeep_88 ?_
      refine rw_istore f_X9_layCanKeep_89 rfl rfl ?_
      skip
      refine rn_inv (N := 10) (fun b ls hh => ∃ Y, hh = mh h m Y ∧ ls = [am_r m, am_i man, am_i (nI (1023 - n)), am_i (nI b)] ∧ So V Y ∧ CD Y (fun j => clD c0 n j || anyB (fun b => decide (nI j = clrI (1023 - n) b)) b)) (fun b hb ls hh hI ihb => ?_) (fun ls hh hI => ?_) ⟨W, rfl, rfl, so, fun j hj => by rw [cd j hj]; simp [anyB]⟩
      · obtain ⟨Y, rfl, rfl, sy, cy⟩ := hI
        have s10s : s10 (clrI (1023 - n) b) := fun a ha => by
          by_cases a32 : a < 32
          · rw [tb_clr (by omega) a32, s10_n hs a ha]; rfl
          · exact tb_hi (by omega)
        obtain ⟨i, hi, ei⟩ := s10_nat s10s
        refine rw_iload f_X9_layCanKeep_90 rfl ?_
        refine rw_const f_X9_layCanKeep_91 ?_
        refine rw_icmpF f_X9_layCanKeep_93 (decide_eq_false (by rw [show (10 : Int32) = nI 10 from rfl]; exact nI_ge hb (by omega))) ?_
        refine rw_aload f_X9_layCanKeep_96 rfl ?_
        refine rm_getR f_X9_layCanKeep_97 hW rfl ?_
        refine rw_iload f_X9_layCanKeep_100 rfl ?_
        refine rw_const f_X9_layCanKeep_101 ?_
        refine rw_iload f_X9_layCanKeep_102 rfl ?_
        refine rw_ishl f_X9_layCanKeep_103 ?_
        refine rw_const f_X9_layCanKeep_104 ?_
        refine rw_ixor f_X9_layCanKeep_105 ?_
        refine rw_iand f_X9_layCanKeep_106 ?_
        rw [show nI (1023 - n) &&& (((1 : Int32) <<< (nI b &&& 31)) ^^^ (-1)) = nI i from ei]
        refine rw_const f_X9_layCanKeep_107 ?_
        refine rm_zast (j := i) f_X9_layCanKeep_108 hW (by exact rfl) (by first | rfl | exact nI_addl _ _ | (simp only [nI, Int32.ofNat_add, Int32.ofNat_mul]; rfl) | (simp only [nI_addl, nI_mull, nI_lit, nI_1']; done) | (simp only [nI_1, nI_0, nI_addl, nI_mull, ← nI_succ]; rfl)) (by omega) (by first | exact Or.inl rfl | exact Or.inr rfl | exact bI_01 _ | assumption) ?_
        refine rw_iinc f_X9_layCanKeep_109 rfl rfl ?_
        refine rw_goto f_X9_layCanKeep_112 ?_
        rw [nI_1']
        refine ihb _ _ ⟨_, rfl, rfl, sy.up (by unfold osc; omega), fun j hj => ?_⟩
        rw [up_at]
        (by_cases q : j = i)
        · (rw [if_pos q, q]; simp [anyB, ei, bI])
        · (rw [if_neg q, cy j hj]; have : decide (nI j = clrI (1023 - n) b) = false := decide_eq_false (fun z => q (nI_inj (by omega) (by omega) (z.trans ei))); simp [anyB, this])
      · obtain ⟨Y, rfl, rfl, sy, cy⟩ := hI
        refine rw_iload f_X9_layCanKeep_90 rfl ?_
        refine rw_const f_X9_layCanKeep_91 ?_
        refine rw_icmpT f_X9_layCanKeep_93 (by decide) ?_
        refine rw_iinc f_X9_layCanKeep_115 rfl rfl ?_
        refine rw_goto f_X9_layCanKeep_118 ?_
        rw [ep]
        refine ih (n + 1) Y _ (by omega) sy (fun j hj => ?_)
        rw [cy j hj, clD_s]
        unfold cls
        rw [hc, Bool.true_and]
theorem m_layCanKeep (hW : MW h m) (hB : WB V nM nD nB) {k : am_H → Prop} (hk : ∀ X, So V X → (∀ j, 0 < j → j < 1024 → X 43 j = bI (canK (oL V nB nD man (V 34 20)) (nI j))) → k (mh h m X)) : Rn (d + 4) n_X9_layCanKeep 0 [am_r m, am_i man, am_u, am_u] [] (mh h m V) (kV k) := by
  refine rw_const f_X9_layCanKeep_0 ?_
  refine rw_istore f_X9_layCanKeep_1 rfl rfl ?_
  refine rn_inv (N := 1024) (fun i ls hh => ∃ Y, hh = mh h m Y ∧ ls = [am_r m, am_i man, am_i (nI i), am_u] ∧ So V Y ∧ ∀ j, j < i → Y 43 j = bI (decide (j = 0))) (fun i hi ls hh hI ih => ?_) (fun ls hh hI => ?_) ⟨V, rfl, rfl, .refl, fun j hj => absurd hj (Nat.not_lt_zero j)⟩
  · obtain ⟨Y, rfl, rfl, sy, cy⟩ := hI
    have n0 : nI i = 0 ↔ i = 0 := by rw [← nI_0]; exact nI_eq (by omega) (by omega)
    refine rw_iload f_X9_layCanKeep_2 rfl ?_
    refine rw_const f_X9_layCanKeep_3 ?_
    refine rw_icmpF f_X9_layCanKeep_6 (decide_eq_false (by rw [show (1024 : Int32) = nI 1024 from rfl]; exact nI_ge hi (by omega))) ?_
    refine rw_aload f_X9_layCanKeep_9 rfl ?_
    refine rm_getR f_X9_layCanKeep_10 hW rfl ?_
    refine rw_iload f_X9_layCanKeep_13 rfl ?_
    refine rw_iload f_X9_layCanKeep_14 rfl ?_
    first | refine rw_ne0B f_X9_layCanKeep_15 (fun c1 => ?_) (fun c1 => ?_) | refine rw_ne0 f_X9_layCanKeep_15 (fun c1 => ?_) (fun c1 => ?_)
    · refine rw_const f_X9_layCanKeep_22 ?_
      refine rm_zast (j := i) f_X9_layCanKeep_23 hW (by exact rfl) (by first | rfl | exact nI_addl _ _ | (simp only [nI, Int32.ofNat_add, Int32.ofNat_mul]; rfl) | (simp only [nI_addl, nI_mull, nI_lit, nI_1']; done) | (simp only [nI_1, nI_0, nI_addl, nI_mull, ← nI_succ]; rfl)) (by omega) (by first | exact Or.inl rfl | exact Or.inr rfl | exact bI_01 _ | assumption) ?_
      refine rw_iinc f_X9_layCanKeep_24 rfl rfl ?_
      refine rw_goto f_X9_layCanKeep_27 ?_
      rw [nI_1']
      refine ih _ _ ⟨_, rfl, rfl, sy.up (by unfold osc; omega), fun j hj => ?_⟩
      rw [n0] at c1
      rw [up_at]
      (by_cases q : j = i)
      · (rw [if_pos q, q]; simp [c1, bI])
      · (rw [if_neg q]; exact cy j (by omega))
    · refine rw_const f_X9_layCanKeep_18 ?_
      refine rw_goto f_X9_layCanKeep_19 ?_
      refine rm_zast (j := i) f_X9_layCanKeep_23 hW (by exact rfl) (by first | rfl | exact nI_addl _ _ | (simp only [nI, Int32.ofNat_add, Int32.ofNat_mul]; rfl) | (simp only [nI_addl, nI_mull, nI_lit, nI_1']; done) | (simp only [nI_1, nI_0, nI_addl, nI_mull, ← nI_succ]; rfl)) (by omega) (by first | exact Or.inl rfl | exact Or.inr rfl | exact bI_01 _ | assumption) ?_
      refine rw_iinc f_X9_layCanKeep_24 rfl rfl ?_
      refine rw_goto f_X9_layCanKeep_27 ?_
      rw [nI_1']
      refine ih _ _ ⟨_, rfl, rfl, sy.up (by unfold osc; omega), fun j hj => ?_⟩
      rw [n0] at c1
      rw [up_at]
      (by_cases q : j = i)
      · (rw [if_pos q, q]; simp [c1, bI])
      · (rw [if_neg q]; exact cy j (by omega))
  · obtain ⟨Y, rfl, rfl, sy, cy⟩ := hI
    refine rw_iload f_X9_layCanKeep_2 rfl ?_
    refine rw_const f_X9_layCanKeep_3 ?_
    refine rw_icmpT f_X9_layCanKeep_6 (by decide) ?_
    refine rw_aload f_X9_layCanKeep_30 rfl ?_
    refine rw_aload f_X9_layCanKeep_31 rfl ?_
    refine rm_getR f_X9_layCanKeep_32 hW rfl ?_
    refine rw_const f_X9_layCanKeep_35 ?_
    refine rm_xald (j := 20) f_X9_layCanKeep_37 hW (by exact rfl) (by first | rfl | exact nI_addl _ _ | (simp only [nI, Int32.ofNat_add, Int32.ofNat_mul]; rfl) | (simp only [nI_addl, nI_mull, nI_lit, nI_1']; done) | (simp only [nI_1, nI_0, nI_addl, nI_mull, ← nI_succ]; rfl)) (by omega) ?_
    rw [sy.now]
    refine rm_putI f_X9_layCanKeep_38 hW ?_
    refine rw_aload f_X9_layCanKeep_41 rfl ?_
    refine rw_callV f_X9_layCanKeep_42 rfl hW.1 hW.2.1 rfl rfl rfl rfl (rn_kv (m_beginOrder hW ?_))
    skip
    have ps := POs_0 (nB := nB) (nD := nD) (man := man) (W := am_up Y 0 80 (V 34 20)) (sy.up (by unfold osc; omega)) up_same
    refine m_keepLoop hW hB (srch V nB nD man (V 34 20) [([], 0, 0)] 0) [] ([], 0, 0) [] _ _ ps rfl oL_srch (fun j hj => ?_) (fun X sx cx => ?_)
    · rw [up_row (by decide), up_row (by decide), up_row (by decide), up_row (by decide), cy j hj]
      have e : decide ((0 : Int32) = nI j) = decide (j = 0) := decide_eq_decide.mpr (by rw [← nI_0]; exact ⟨fun z => (nI_inj (by omega) (by omega) z).symm, fun z => by rw [z]⟩)
      simp [e]
    · refine rw_const f_X9_layCanKeep_71 ?_
      refine rw_istore f_X9_layCanKeep_74 rfl rfl ?_
      skip
      refine m_closeLoop hW (V := V) (c0 := fun j => (oL V nB nD man (V 34 20)).any (fun o => decide (o.2.2 = nI j))) (fun Z sz cz => hk Z sz (fun j h0 hj => ?_)) 1023 0 X _ (by omega) sx (fun j hj => cx j hj)
      rw [cz j hj, clD_canK (fun o ho => (oL_ok hB.1.2.2.2.2.2 o ho).1) (fun _ _ => rfl) hj h0]
theorem clF_past {L : List ord} {a n : Nat} (ha : a < 1024) (hn : n < 1024) (h : a < n) : ¬ nI n &&& (nI a ^^^ (-1)) = 0 := by
  intro z
  rw [sub_iff] at z
  have : n = n &&& a := by
    apply Nat.eq_of_testBit_eq
    intro i
    rw [Nat.testBit_and]
    by_cases i32 : i < 32
    · cases e : n.testBit i with
      | false => rfl
      | true =>
        have := z i i32 (by rw [tb_nI i32]; exact e)
        rw [tb_nI i32] at this
        rw [this]; rfl
    · rw [Nat.testBit_lt_two_pow (Nat.lt_of_lt_of_le hn (Nat.le_trans (by decide : 1024 ≤ 2 ^ 10) (Nat.pow_le_pow_right (by decide) (by omega))))]
      rfl
  have := Nat.and_le_right (n := n) (m := a)
  omega
theorem clF_tail {L : List ord} {a : Nat} (ha : a < 1024) : ∀ n, a < n → n ≤ 1024 → clF L (nI a) n = clF L (nI a) (a + 1) := by
  intro n h1
  induction h1 with
  | refl => intro _; rfl
  | @step n h1 ih =>
    intro hn
    have h2 : a < n := h1
    rw [clF, if_neg (by omega), if_pos (clF_past (L := L) ha (by omega) h2), ih (by omega)]
theorem m_clash (hW : MW h m) (hB : WB V nM nD nB) {man what : Int32} (hk : ∀ X, Eqv V X → k (sp_clash V nB nD man what) (mh h m X)) : Rn (d + 5) n_X9_clash 0 [am_r m, am_i man, am_i what, am_u, am_u, am_u] [] (mh h m V) (kI k) := by
  have hB' := hB
  obtain ⟨⟨fM, fM6, fD, fD6, fB, fB10⟩, -⟩ := hB'
  unfold sp_clash at hk
  refine rw_aload f_X9_clash_0 rfl ?_
  refine rw_iload f_X9_clash_1 rfl ?_
  refine rw_callV f_X9_clash_2 rfl hW.1 hW.2.1 rfl rfl rfl rfl (rn_ki (m_isMan hW ?_))
  first | refine rw_eq0B f_X9_clash_5 (fun c1 => ?_) (fun c1 => ?_) | refine rw_eq0 f_X9_clash_5 (fun c1 => ?_) (fun c1 => ?_)
  · refine rw_const f_X9_clash_17 ?_
    refine rw_iret f_X9_clash_18 ?_
    exact Eq.mp (by simp [c1]) (hk V .refl)
  refine rw_iload f_X9_clash_8 rfl ?_
  refine rw_const f_X9_clash_9 ?_
  refine rw_const f_X9_clash_10 ?_
  refine rw_callS f_X9_clash_11 rfl rfl rfl (rn_ki (M_isIn ?_))
  first | refine rw_ne0B f_X9_clash_14 (fun c2 => ?_) (fun c2 => ?_) | refine rw_ne0 f_X9_clash_14 (fun c2 => ?_) (fun c2 => ?_)
  rotate_left
  · refine rw_const f_X9_clash_17 ?_
    refine rw_iret f_X9_clash_18 ?_
    exact Eq.mp (by simp [c1, c2]) (hk V .refl)
  refine rw_aload f_X9_clash_19 rfl ?_
  refine rw_iload f_X9_clash_20 rfl ?_
  refine rw_callV f_X9_clash_21 rfl hW.1 hW.2.1 rfl rfl rfl rfl (rn_kv (m_layCanKeep hW hB (fun X so ck => ?_)))
  refine rw_const f_X9_clash_24 ?_
  refine rw_istore f_X9_clash_25 rfl rfl ?_
  refine rw_const f_X9_clash_26 ?_
  refine rw_istore f_X9_clash_27 rfl rfl ?_
  skip
  rw [if_neg (by rw [c1]; decide), if_neg (by rw [c2]; decide)] at hk
  have rB : X 0 58 = nI nB := by rw [so _ _ (by unfold osc; omega)]; exact fB
  have r1 : ∀ b, X 34 b = V 34 b := so.now
  have r2 : ∀ b, X 26 b = V 26 b := fun b => so _ _ (by unfold osc; omega)
  have r3 : ∀ b, X 33 b = V 33 b := fun b => so _ _ (by unfold osc; omega)
  obtain ⟨a, ha, ea⟩ := s10_nat (s10_bs (p := pr_prom V man) (n := nB) fB10)
  have ha2 : a < 2 ^ nB := by
    apply Nat.lt_pow_two_of_testBit
    intro i hi
    by_cases i32 : i < 32
    · rw [← tb_nI i32, ← ea, tb_bs (by omega), decide_eq_false (by omega), Bool.false_and]
    · exact Nat.testBit_lt_two_pow (Nat.lt_of_lt_of_le ha (Nat.le_trans (by decide : 1024 ≤ 2 ^ 10) (Nat.pow_le_pow_right (by decide) (by omega))))
  have p10 : 2 ^ nB ≤ 2 ^ 10 := Nat.pow_le_pow_right (by decide) fB10
  have p10' : 2 ^ nB ≤ 1024 := p10
  have tail := clF_tail (L := oL V nB nD man (V 34 20)) ha (2 ^ nB) ha2 p10'
  rw [ea, tail] at hk
  have hk' := hk X so.eqv
  refine rn_for (N := nB) (fun b => [am_r m, am_i man, am_i what, am_i (bs (pr_prom V man) b), am_i (nI b), am_u]) (fun _ => mh h m X) (fun b hb ih => ?_) ?_
  · refine rw_iload f_X9_clash_29 rfl ?_
    refine rw_aload f_X9_clash_31 rfl ?_
    refine rm_getI f_X9_clash_32 hW ?_
    rw [rB]
    refine rw_icmpF f_X9_clash_35 (decide_eq_false (nI_ge hb (by omega))) ?_
    refine rw_iload f_X9_clash_38 rfl ?_
    refine rw_aload f_X9_clash_39 rfl ?_
    refine rw_iload f_X9_clash_40 rfl ?_
    refine rw_callV f_X9_clash_42 rfl hW.1 hW.2.1 rfl rfl rfl rfl (rn_ki (m_isOn hW (by omega) ?_))
    rw [r1]
    first | refine rw_eq0B f_X9_clash_45 (fun c1 => ?_) (fun c1 => ?_) | refine rw_eq0 f_X9_clash_45 (fun c1 => ?_) (fun c1 => ?_)
    · refine rw_const f_X9_clash_73 ?_
      refine rw_callS f_X9_clash_74 rfl rfl rfl (rn_ki (M_truthX (by first | exact Or.inl rfl | exact Or.inr rfl | exact bI_01 _) ?_))
      refine rw_iload f_X9_clash_77 rfl ?_
      refine rw_ishl f_X9_clash_79 ?_
      refine rw_ior f_X9_clash_80 ?_
      refine rw_istore f_X9_clash_81 rfl rfl ?_
      refine rw_iinc f_X9_clash_82 rfl rfl ?_
      refine rw_goto f_X9_clash_85 ?_
      rw [nI_1']
      simp only [decide_eq_true_eq, decide_eq_false_iff_not] at c1
      rw [bs_step (by simp [pr_prom, c1, bI])]
      exact ih
    · refine rw_aload f_X9_clash_48 rfl ?_
      refine rm_getR f_X9_clash_49 hW rfl ?_
      refine rw_iload f_X9_clash_52 rfl ?_
      refine rm_xald f_X9_clash_54 hW (by exact rfl) rfl (by omega) ?_
      rw [r2]
      refine rw_iload f_X9_clash_55 rfl ?_
      refine rw_ne f_X9_clash_56 (fun c2 => ?_) (fun c2 => ?_)
      · refine rw_const f_X9_clash_73 ?_
        refine rw_callS f_X9_clash_74 rfl rfl rfl (rn_ki (M_truthX (by first | exact Or.inl rfl | exact Or.inr rfl | exact bI_01 _) ?_))
        refine rw_iload f_X9_clash_77 rfl ?_
        refine rw_ishl f_X9_clash_79 ?_
        refine rw_ior f_X9_clash_80 ?_
        refine rw_istore f_X9_clash_81 rfl rfl ?_
        refine rw_iinc f_X9_clash_82 rfl rfl ?_
        refine rw_goto f_X9_clash_85 ?_
        rw [nI_1']
        simp only [decide_eq_true_eq, decide_eq_false_iff_not] at c1
        rw [bs_step (by simp [pr_prom, c1, c2, bI])]
        exact ih
      · refine rw_aload f_X9_clash_59 rfl ?_
        refine rm_getR f_X9_clash_60 hW rfl ?_
        refine rw_iload f_X9_clash_63 rfl ?_
        refine rm_xald f_X9_clash_65 hW (by exact rfl) rfl (by omega) ?_
        rw [r3]
        first | refine rw_eq0B f_X9_clash_66 (fun c3 => ?_) (fun c3 => ?_) | refine rw_eq0 f_X9_clash_66 (fun c3 => ?_) (fun c3 => ?_)
        · refine rw_const f_X9_clash_73 ?_
          refine rw_callS f_X9_clash_74 rfl rfl rfl (rn_ki (M_truthX (by first | exact Or.inl rfl | exact Or.inr rfl | exact bI_01 _) ?_))
          refine rw_iload f_X9_clash_77 rfl ?_
          refine rw_ishl f_X9_clash_79 ?_
          refine rw_ior f_X9_clash_80 ?_
          refine rw_istore f_X9_clash_81 rfl rfl ?_
          refine rw_iinc f_X9_clash_82 rfl rfl ?_
          refine rw_goto f_X9_clash_85 ?_
          rw [nI_1']
          simp only [decide_eq_true_eq, decide_eq_false_iff_not] at c1
          rw [bs_step (by simp [pr_prom, c1, c2, c3, bI])]
          exact ih
        · refine rw_const f_X9_clash_69 ?_
          refine rw_goto f_X9_clash_70 ?_
          refine rw_callS f_X9_clash_74 rfl rfl rfl (rn_ki (M_truthX (by first | exact Or.inl rfl | exact Or.inr rfl | exact bI_01 _) ?_))
          refine rw_iload f_X9_clash_77 rfl ?_
          refine rw_ishl f_X9_clash_79 ?_
          refine rw_ior f_X9_clash_80 ?_
          refine rw_istore f_X9_clash_81 rfl rfl ?_
          refine rw_iinc f_X9_clash_82 rfl rfl ?_
          refine rw_goto f_X9_clash_85 ?_
          rw [nI_1']
          simp only [decide_eq_true_eq, decide_eq_false_iff_not] at c1
          rw [bs_step (by simp [pr_prom, c1, c2, c3, bI])]
          exact ih
  · refine rw_iload f_X9_clash_29 rfl ?_
    refine rw_aload f_X9_clash_31 rfl ?_
    refine rm_getI f_X9_clash_32 hW ?_
    rw [rB]
    refine rw_icmpT f_X9_clash_35 (decide_eq_true (Int32.le_refl _)) ?_
    refine rw_const f_X9_clash_88 ?_
    refine rw_istore f_X9_clash_89 rfl rfl ?_
    refine rw_const f_X9_clash_91 ?_
    refine rw_istore f_X9_clash_92 rfl rfl ?_
    rw [ea]
    generalize hL : oL V nB nD man (V 34 20) = L at hk' ck
    have go : ∀ r s, s + r = a + 1 → 0 < s → Rn (d + 5) n_X9_clash 94 [am_r m, am_i man, am_i what, am_i (nI a), am_i (clF L (nI a) s), am_i (nI s)] [] (mh h m X) (kI k) := by
      intro r
      induction r with
      | zero =>
        intro s hs h0
        obtain rfl : s = a + 1 := by omega
        have fin : ∀ v, v = (if clF L (nI a) (a + 1) < 0 then -1 else if what = 0 then pc (clF L (nI a) (a + 1)) else clF L (nI a) (a + 1)) → k v (mh h m X) := fun v hv => by rw [hv]; exact hk'
        refine rw_iload f_X9_clash_94 rfl ?_
        refine rw_iload f_X9_clash_96 rfl ?_
        refine rw_icmpT f_X9_clash_97 (decide_eq_true (nI_lt (by omega) (by omega))) ?_
        refine rw_iload f_X9_clash_147 rfl ?_
        refine rw_ge0 f_X9_clash_149 (fun c1 => ?_) (fun c1 => ?_)
        · refine rw_iload f_X9_clash_156 rfl ?_
          first | refine rw_ne0B f_X9_clash_157 (fun c2 => ?_) (fun c2 => ?_) | refine rw_ne0 f_X9_clash_157 (fun c2 => ?_) (fun c2 => ?_)
          · refine rw_iload f_X9_clash_168 rfl ?_
            refine rw_iret f_X9_clash_170 ?_
            first | (have q := Int32.not_lt.mpr c1; exact fin _ (by simp [c1, c2, q])) | (have q := Int32.not_le.mp c1; exact fin _ (by simp [c1, c2, q]))
          · refine rw_iload f_X9_clash_160 rfl ?_
            refine rw_callS f_X9_clash_162 rfl rfl rfl (rn_ki (M_members ?_))
            refine rw_goto f_X9_clash_165 ?_
            refine rw_iret f_X9_clash_170 ?_
            first | (have q := Int32.not_lt.mpr c1; exact fin _ (by simp [c1, c2, q])) | (have q := Int32.not_le.mp c1; exact fin _ (by simp [c1, c2, q]))
        · refine rw_const f_X9_clash_152 ?_
          refine rw_goto f_X9_clash_153 ?_
          refine rw_iret f_X9_clash_170 ?_
          first | (have q := Int32.not_lt.mpr c1; exact fin _ (by simp [c1, q])) | (have q := Int32.not_le.mp c1; exact fin _ (by simp [c1, q]))
      | succ r ih =>
        intro s hs h0
        have ih' := ih (s + 1) (by omega) (by omega)
        unfold clF at ih'
        rw [if_neg (by omega)] at ih'
        have ecK := ck s h0 (by omega)
        obtain ⟨Q, hQ⟩ : ∃ Q, nI s &&& (nI a ^^^ (-1)) = Q := ⟨_, rfl⟩
        rw [hQ] at ih'
        generalize clF L (nI a) s = B at ih' ⊢
        have key : ∀ v, v = (if ¬ Q = 0 then B else if ¬ B < 0 ∧ pc B ≤ pc (nI s) then B else if canK L (nI s) = true then B else nI s) → Rn (d + 5) n_X9_clash 94 [am_r m, am_i man, am_i what, am_i (nI a), am_i v, am_i (nI (s + 1))] [] (mh h m X) (kI k) := fun v hv => by rw [hv]; exact ih'
        clear ih'
        refine rw_iload f_X9_clash_94 rfl ?_
        refine rw_iload f_X9_clash_96 rfl ?_
        refine rw_icmpF f_X9_clash_97 (decide_eq_false (nI_nlt (by omega) (by omega))) ?_
        refine rw_iload f_X9_clash_100 rfl ?_
        refine rw_iload f_X9_clash_102 rfl ?_
        refine rw_const f_X9_clash_103 ?_
        refine rw_ixor f_X9_clash_104 ?_
        refine rw_iand f_X9_clash_105 ?_
        rw [hQ]
        first | refine rw_ne0B f_X9_clash_106 (fun c1 => ?_) (fun c1 => ?_) | refine rw_ne0 f_X9_clash_106 (fun c1 => ?_) (fun c1 => ?_)
        · refine rw_iinc f_X9_clash_141 rfl rfl ?_
          refine rw_goto f_X9_clash_144 ?_
          rw [nI_1']
          exact key _ (by simp [c1])
        · refine rw_aload f_X9_clash_109 rfl ?_
          refine rm_getR f_X9_clash_110 hW rfl ?_
          refine rw_iload f_X9_clash_113 rfl ?_
          refine rm_xald (j := s) f_X9_clash_115 hW (by exact rfl) (by first | rfl | exact nI_addl _ _ | (simp only [nI, Int32.ofNat_add, Int32.ofNat_mul]; rfl) | (simp only [nI_addl, nI_mull, nI_lit, nI_1']; done) | (simp only [nI_1, nI_0, nI_addl, nI_mull, ← nI_succ]; rfl)) (by omega) ?_
          rw [ecK]
          first | refine rw_ne0B f_X9_clash_116 (fun c2 => ?_) (fun c2 => ?_) | refine rw_ne0 f_X9_clash_116 (fun c2 => ?_) (fun c2 => ?_)
          · refine rw_iinc f_X9_clash_141 rfl rfl ?_
            refine rw_goto f_X9_clash_144 ?_
            rw [nI_1']
            exact key _ (by simp [c1, c2])
          · refine rw_iload f_X9_clash_119 rfl ?_
            refine rw_lt0 f_X9_clash_121 (fun c3 => ?_) (fun c3 => ?_)
            · refine rw_iload f_X9_clash_137 rfl ?_
              refine rw_istore f_X9_clash_139 rfl rfl ?_
              refine rw_iinc f_X9_clash_141 rfl rfl ?_
              refine rw_goto f_X9_clash_144 ?_
              rw [nI_1']
              exact key _ (by simp [c1, c2, c3])
            · refine rw_iload f_X9_clash_124 rfl ?_
              refine rw_callS f_X9_clash_126 rfl rfl rfl (rn_ki (M_members ?_))
              refine rw_iload f_X9_clash_129 rfl ?_
              refine rw_callS f_X9_clash_131 rfl rfl rfl (rn_ki (M_members ?_))
              refine rw_ge f_X9_clash_134 (fun c4 => ?_) (fun c4 => ?_)
              · refine rw_iinc f_X9_clash_141 rfl rfl ?_
                refine rw_goto f_X9_clash_144 ?_
                rw [nI_1']
                exact key _ (by simp [c1, c2, c3, c4])
              · refine rw_iload f_X9_clash_137 rfl ?_
                refine rw_istore f_X9_clash_139 rfl rfl ?_
                refine rw_iinc f_X9_clash_141 rfl rfl ?_
                refine rw_goto f_X9_clash_144 ?_
                rw [nI_1']
                exact key _ (by simp [c1, c2, c3, c4])
    have z := go a 1 (by omega) (by omega)
    rw [show clF L (nI a) 1 = -1 from by unfold clF; rw [if_pos rfl]] at z
    exact z
end MClash
