/-! A DAY: the class's second loop, the whole; copies -/
section CDay2
variable {d : Nat} {h : am_H} {V : am_M} {x r nM nD nB : Nat} {k : Int32 → am_H → Prop} {D S T : Nat} {f : Nat → Int32}
def g2I (h : am_H) (V : am_M) (r D S T nB : Nat) (f : Nat → Int32) (b : Nat) (ls : List am_V) (hh : am_H) : Prop := ls = [am_r D, am_r r, am_i (stN (V 0 61) (sdN (f 21))), am_i (cntB (lostN V f) nB), am_i (nI b)] ∧ On (gS D S T (hp_R h r 13)) h hh ∧ (∀ j, j < 10 → hp_I hh S j = (if j < b then s2N V f j else if j < nB then s1N V f j else f j) ∧ hp_I hh T j = (if j < nB then thN V f j else f (10 + j))) ∧ hp_I hh D 2 = f 20 + 1 ∧ hp_I hh D 3 = sdN (f 21) ∧ hp_I hh D 4 = f 22
theorem C_go2 (hB0 : CB h V x r nM nD nB) (hK0 : DK h D S T) {K : am_R → am_H → Prop} (b : Nat) (hb : b < nB) (ls : List am_V) (hh : am_H) (hi : g2I h V r D S T nB f b ls hh) (ih : ∀ ls' hh', g2I h V r D S T nB f (b + 1) ls' hh' → Rn (d + 331) n_X2_goOn 140 ls' [] hh' K) : Rn (d + 331) n_X2_goOn 140 ls [] hh K := by
  obtain ⟨rfl, on, hf, hd2, hd3, hd4⟩ := hi
  have hB : CB hh V x r nM nD nB := CB_gS hB0 hK0 on
  have hK := hK0.on on
  obtain ⟨dK, dS, dT, sK, tK, sT, dz⟩ := hK
  have nDS : ¬ D = S := fun e => by rw [e, sK] at dK; cases dK
  have nDT : ¬ D = T := fun e => by rw [e, tK] at dK; cases dK
  obtain ⟨hW, hr, hG, ⟨fM, fM6, fD, fD6, fB, fB10⟩, fO, ⟨fH, fSt⟩, fHr, fFr, fWr⟩ := hB
  obtain ⟨⟨rK, r0⟩, ⟨hLM, hM⟩, ⟨hLD, hD⟩, ⟨hLO, hO⟩, ⟨⟨hlk, hla⟩, hlike⟩, ⟨htk, hwear⟩, gf, gu, gh, gs⟩ := hG
  have kLM := hLM.1.1; have zLM := hLM.2
  have kLD := hLD.1.1; have zLD := hLD.2
  have kLO := hLO.1.1; have zLO := hLO.2
  obtain ⟨oc, op, oz, o0, o1, o2, o3, o4, o5⟩ := COath.parts hW.al (hO b (by omega))
  have e1 : hp_I hh S b = s1N V f b := by rw [(hf b (by omega)).1, if_neg (by omega), if_pos hb]
  have stay : s2N V f b = s1N V f b → Rn (d + 331) n_X2_goOn 140 [am_r D, am_r r, am_i (stN (V 0 61) (sdN (f 21))), am_i (cntB (lostN V f) nB), am_i (nI (b + 1))] [] hh K := by
    intro es
    refine ih _ hh ⟨rfl, on, fun j hj => ⟨?_, (hf j hj).2⟩, hd2, hd3, hd4⟩
    rw [(hf j hj).1]
    by_cases e : j = b
    · subst e; rw [if_neg (by omega), if_pos hb, if_pos (by omega), es]
    · by_cases e3 : j < b
      · rw [if_pos e3, if_pos (by omega)]
      · rw [if_neg e3, if_neg (show ¬ j < b + 1 by omega)]
  by_cases c0 : s1N V f b = 0
  · by_cases c2 : f 20 + 1 ≤ V 29 b
    · refine rw_iload f_X2_goOn_140 rfl ?_
      refine rw_aload f_X2_goOn_142 rfl ?_
      refine rw_getR f_X2_goOn_143 (by first | assumption | exact hW.k rfl | exact hW.k0) (by first | assumption | exact hW.r0 rfl | exact hW.r rfl | rfl) ?_
      refine rw_callV f_X2_goOn_146 rfl (by first | assumption | exact hW.k rfl | exact hW.k0) (by first | assumption | exact hW.1 | omega | exact Nat.succ_ne_zero _) rfl rfl rfl rfl (rn_ki (J_sizeL (by assumption) ?_))
      refine rw_icmpF f_X2_goOn_149 (decide_eq_false (nI_ge hb (by omega))) ?_
      refine rw_aload f_X2_goOn_152 rfl ?_
      refine rw_getR f_X2_goOn_153 (by first | assumption | exact hW.k rfl | exact hW.k0) (by first | assumption | exact hW.r0 rfl | exact hW.r rfl | rfl) ?_
      refine rw_iload f_X2_goOn_156 rfl ?_
      refine rw_xaldE f_X2_goOn_158 (by first | assumption | exact hW.k rfl | exact hW.k0) rfl (by omega) (by omega) ?_
      rw [e1]
      refine rw_ifF f_X2_goOn_159 (decide_eq_false (fun c => c c0)) ?_
      refine rw_aload f_X2_goOn_162 rfl ?_
      refine rw_getR f_X2_goOn_163 (by first | assumption | exact hW.k rfl | exact hW.k0) (by first | assumption | exact hW.r0 rfl | exact hW.r rfl | rfl) ?_
      refine rw_iload f_X2_goOn_166 rfl ?_
      refine rw_callV f_X2_goOn_168 rfl (by first | assumption | exact hW.k rfl | exact hW.k0) (by first | assumption | exact hW.1 | omega | exact Nat.succ_ne_zero _) rfl rfl rfl rfl (rn_kr (J_getL (by assumption) (by omega) ?_))
      refine rw_castC f_X2_goOn_171 (by assumption) ?_
      refine rw_getIC f_X2_goOn_174 (by assumption) ?_
      rw [o3]
      refine rw_aload f_X2_goOn_177 rfl ?_
      refine rw_getI f_X2_goOn_178 (by first | assumption | exact hW.k rfl | exact hW.k0) ?_
      rw [hd2]
      refine rw_icmpT f_X2_goOn_181 (decide_eq_true c2) ?_
      refine rw_iinc f_X2_goOn_206 rfl rfl ?_
      refine rw_goto f_X2_goOn_209 ?_
      rw [nI_1']
      exact stay (by unfold s2N; rw [if_pos c0, if_pos c2])
    · refine rw_iload f_X2_goOn_140 rfl ?_
      refine rw_aload f_X2_goOn_142 rfl ?_
      refine rw_getR f_X2_goOn_143 (by first | assumption | exact hW.k rfl | exact hW.k0) (by first | assumption | exact hW.r0 rfl | exact hW.r rfl | rfl) ?_
      refine rw_callV f_X2_goOn_146 rfl (by first | assumption | exact hW.k rfl | exact hW.k0) (by first | assumption | exact hW.1 | omega | exact Nat.succ_ne_zero _) rfl rfl rfl rfl (rn_ki (J_sizeL (by assumption) ?_))
      refine rw_icmpF f_X2_goOn_149 (decide_eq_false (nI_ge hb (by omega))) ?_
      refine rw_aload f_X2_goOn_152 rfl ?_
      refine rw_getR f_X2_goOn_153 (by first | assumption | exact hW.k rfl | exact hW.k0) (by first | assumption | exact hW.r0 rfl | exact hW.r rfl | rfl) ?_
      refine rw_iload f_X2_goOn_156 rfl ?_
      refine rw_xaldE f_X2_goOn_158 (by first | assumption | exact hW.k rfl | exact hW.k0) rfl (by omega) (by omega) ?_
      rw [e1]
      refine rw_ifF f_X2_goOn_159 (decide_eq_false (fun c => c c0)) ?_
      refine rw_aload f_X2_goOn_162 rfl ?_
      refine rw_getR f_X2_goOn_163 (by first | assumption | exact hW.k rfl | exact hW.k0) (by first | assumption | exact hW.r0 rfl | exact hW.r rfl | rfl) ?_
      refine rw_iload f_X2_goOn_166 rfl ?_
      refine rw_callV f_X2_goOn_168 rfl (by first | assumption | exact hW.k rfl | exact hW.k0) (by first | assumption | exact hW.1 | omega | exact Nat.succ_ne_zero _) rfl rfl rfl rfl (rn_kr (J_getL (by assumption) (by omega) ?_))
      refine rw_castC f_X2_goOn_171 (by assumption) ?_
      refine rw_getIC f_X2_goOn_174 (by assumption) ?_
      rw [o3]
      refine rw_aload f_X2_goOn_177 rfl ?_
      refine rw_getI f_X2_goOn_178 (by first | assumption | exact hW.k rfl | exact hW.k0) ?_
      rw [hd2]
      refine rw_icmpF f_X2_goOn_181 (decide_eq_false c2) ?_
      refine rw_aload f_X2_goOn_184 rfl ?_
      refine rw_getR f_X2_goOn_185 (by first | assumption | exact hW.k rfl | exact hW.k0) (by first | assumption | exact hW.r0 rfl | exact hW.r rfl | rfl) ?_
      refine rw_iload f_X2_goOn_188 rfl ?_
      refine rw_aload f_X2_goOn_190 rfl ?_
      refine rw_getR f_X2_goOn_191 (by first | assumption | exact hW.k rfl | exact hW.k0) (by first | assumption | exact hW.r0 rfl | exact hW.r rfl | rfl) ?_
      refine rw_iload f_X2_goOn_194 rfl ?_
      refine rw_callV f_X2_goOn_196 rfl (by first | assumption | exact hW.k rfl | exact hW.k0) (by first | assumption | exact hW.1 | omega | exact Nat.succ_ne_zero _) rfl rfl rfl rfl (rn_kr (J_getL (by assumption) (by omega) ?_))
      refine rw_castC f_X2_goOn_199 (by assumption) ?_
      refine rw_byEnd f_X2_goOn_202 op oz rfl ?_
      refine rw_iastE (j := b) f_X2_goOn_205 (by first | assumption | exact hW.k rfl | exact hW.k0) (by first | rfl | exact nI_addl _ _ | (simp only [nI, Int32.ofNat_add, Int32.ofNat_mul]; rfl) | (simp only [nI_addl, nI_mull, nI_lit, nI_1']; done) | (simp only [nI_1, nI_0, nI_addl, nI_mull, ← nI_succ]; rfl)) (by omega) (by omega) ?_
      refine rw_iinc f_X2_goOn_206 rfl rfl ?_
      refine rw_goto f_X2_goOn_209 ?_
      rw [nI_1']
      refine ih _ _ ⟨rfl, on.tr (On_sI (Or.inr (Or.inl rfl))), fun j hj => ⟨?_, ?_⟩, ?_, ?_, ?_⟩
      · by_cases e : j = b
        · subst e; rw [sI_same, if_pos (show j < j + 1 by omega)]; unfold s2N; rw [if_pos c0, if_neg c2]
        · rw [sI_ne (by omega), (hf j hj).1]
          by_cases e3 : j < b
          · rw [if_pos e3, if_pos (by omega)]
          · rw [if_neg e3, if_neg (show ¬ j < b + 1 by omega)]
      · rw [sI_ne (by omega)]; exact (hf j hj).2
      · rw [sI_ne (by omega)]; exact hd2
      · rw [sI_ne (by omega)]; exact hd3
      · rw [sI_ne (by omega)]; exact hd4
  · refine rw_iload f_X2_goOn_140 rfl ?_
    refine rw_aload f_X2_goOn_142 rfl ?_
    refine rw_getR f_X2_goOn_143 (by first | assumption | exact hW.k rfl | exact hW.k0) (by first | assumption | exact hW.r0 rfl | exact hW.r rfl | rfl) ?_
    refine rw_callV f_X2_goOn_146 rfl (by first | assumption | exact hW.k rfl | exact hW.k0) (by first | assumption | exact hW.1 | omega | exact Nat.succ_ne_zero _) rfl rfl rfl rfl (rn_ki (J_sizeL (by assumption) ?_))
    refine rw_icmpF f_X2_goOn_149 (decide_eq_false (nI_ge hb (by omega))) ?_
    refine rw_aload f_X2_goOn_152 rfl ?_
    refine rw_getR f_X2_goOn_153 (by first | assumption | exact hW.k rfl | exact hW.k0) (by first | assumption | exact hW.r0 rfl | exact hW.r rfl | rfl) ?_
    refine rw_iload f_X2_goOn_156 rfl ?_
    refine rw_xaldE f_X2_goOn_158 (by first | assumption | exact hW.k rfl | exact hW.k0) rfl (by omega) (by omega) ?_
    rw [e1]
    refine rw_ifT f_X2_goOn_159 (decide_eq_true c0) ?_
    refine rw_iinc f_X2_goOn_206 rfl rfl ?_
    refine rw_goto f_X2_goOn_209 ?_
    rw [nI_1']
    exact stay (by unfold s2N; rw [if_neg c0])
theorem C_goOn (hB0 : CB h V x r nM nD nB) (hK0 : DK h D S T) (ok : okDay f) (hp : DP h D S T f) (hk : ∀ h', On (gS D S T (hp_R h r 13)) h h' → DP h' D S T (goF V nB f) → k (cntB (lostN V f) nB) h') : Rn (d + 331) n_X2_goOn 0 [am_r D, am_r r, am_u, am_u, am_u] [] h (kI k) := by
  obtain ⟨hf, p2, p3, p4⟩ := hp
  have hB := hB0
  have hK := hK0
  obtain ⟨dK, dS, dT, sK, tK, sT, dz⟩ := hK
  have nDS : ¬ D = S := fun e => by rw [e, sK] at dK; cases dK
  have nDT : ¬ D = T := fun e => by rw [e, tK] at dK; cases dK
  obtain ⟨hW, hr, hG, ⟨fM, fM6, fD, fD6, fB, fB10⟩, fO, ⟨fH, fSt⟩, fHr, fFr, fWr⟩ := hB
  obtain ⟨⟨rK, r0⟩, ⟨hLM, hM⟩, ⟨hLD, hD⟩, ⟨hLO, hO⟩, ⟨⟨hlk, hla⟩, hlike⟩, ⟨htk, hwear⟩, gf, gu, gh, gs⟩ := hG
  have kLM := hLM.1.1; have zLM := hLM.2
  have kLD := hLD.1.1; have zLD := hLD.2
  have kLO := hLO.1.1; have zLO := hLO.2
  have eD : ∀ {j : Nat} {v : Int32}, ¬ j = 3 → hp_I (hp_sI h D 3 v) D j = hp_I h D j := fun hj => sI_ne (by simp [hj])
  have go : Rn (d + 331) n_X2_goOn 44 [am_r D, am_r r, am_i (stN (V 0 61) (sdN (f 21))), am_i 0, am_i 0] [] (hp_sI h D 3 (sdN (f 21))) (kI k) := by
    refine rn_inv (N := nB) (g1I h V r D S T f) (fun b hb ls hh hi ih => C_go1 hB0 hK0 ok b hb ls hh hi ih) (fun ls hh hi => ?_) ⟨rfl, On_sI (Or.inl rfl), fun j hj => ⟨?_, ?_⟩, ?_, sI_same, ?_⟩
    · obtain ⟨rfl, on, hf2, hd2, hd3, hd4⟩ := hi
      have hB : CB hh V x r nM nD nB := CB_gS hB0 hK0 on
      have hK := hK0.on on
      obtain ⟨dK, dS, dT, sK, tK, sT, dz⟩ := hK
      obtain ⟨hW, hr, hG, ⟨fM, fM6, fD, fD6, fB, fB10⟩, fO, ⟨fH, fSt⟩, fHr, fFr, fWr⟩ := hB
      obtain ⟨⟨rK, r0⟩, ⟨hLM, hM⟩, ⟨hLD, hD⟩, ⟨hLO, hO⟩, ⟨⟨hlk, hla⟩, hlike⟩, ⟨htk, hwear⟩, gf, gu, gh, gs⟩ := hG
      have kLM := hLM.1.1; have zLM := hLM.2
      have kLD := hLD.1.1; have zLD := hLD.2
      have kLO := hLO.1.1; have zLO := hLO.2
      refine rw_iload f_X2_goOn_44 rfl ?_
      refine rw_aload f_X2_goOn_46 rfl ?_
      refine rw_getR f_X2_goOn_47 (by first | assumption | exact hW.k rfl | exact hW.k0) (by first | assumption | exact hW.r0 rfl | exact hW.r rfl | rfl) ?_
      refine rw_callV f_X2_goOn_50 rfl (by first | assumption | exact hW.k rfl | exact hW.k0) (by first | assumption | exact hW.1 | omega | exact Nat.succ_ne_zero _) rfl rfl rfl rfl (rn_ki (J_sizeL (by assumption) ?_))
      refine rw_icmpT f_X2_goOn_53 (decide_eq_true (Int32.le_refl _)) ?_
      refine rw_aload f_X2_goOn_127 rfl ?_
      first | refine rw_dupr f_X2_goOn_128 ?_ | refine rw_dupi f_X2_goOn_128 ?_
      refine rw_getI f_X2_goOn_129 (by first | assumption | exact hW.k rfl | exact hW.k0) ?_
      rw [hd2]
      refine rw_const f_X2_goOn_132 ?_
      refine rw_iadd f_X2_goOn_133 ?_
      refine rw_putI f_X2_goOn_134 (by first | assumption | exact hW.k rfl | exact hW.k0) ?_
      refine rw_const f_X2_goOn_137 ?_
      refine rw_istore f_X2_goOn_138 rfl rfl ?_
      refine rn_inv (N := nB) (g2I h V r D S T nB f) (fun b hb ls hh hi ih => C_go2 hB0 hK0 b hb ls hh hi ih) (fun ls hh hi => ?_) ⟨rfl, on.tr (On_sI (Or.inl rfl)), fun j hj => ⟨?_, ?_⟩, sI_same, ?_, ?_⟩
      · obtain ⟨rfl, on, hf2, hd2, hd3, hd4⟩ := hi
        have hB : CB hh V x r nM nD nB := CB_gS hB0 hK0 on
        obtain ⟨hW, hr, hG, ⟨fM, fM6, fD, fD6, fB, fB10⟩, fO, ⟨fH, fSt⟩, fHr, fFr, fWr⟩ := hB
        obtain ⟨⟨rK, r0⟩, ⟨hLM, hM⟩, ⟨hLD, hD⟩, ⟨hLO, hO⟩, ⟨⟨hlk, hla⟩, hlike⟩, ⟨htk, hwear⟩, gf, gu, gh, gs⟩ := hG
        have kLM := hLM.1.1; have zLM := hLM.2
        have kLD := hLD.1.1; have zLD := hLD.2
        have kLO := hLO.1.1; have zLO := hLO.2
        refine rw_iload f_X2_goOn_140 rfl ?_
        refine rw_aload f_X2_goOn_142 rfl ?_
        refine rw_getR f_X2_goOn_143 (by first | assumption | exact hW.k rfl | exact hW.k0) (by first | assumption | exact hW.r0 rfl | exact hW.r rfl | rfl) ?_
        refine rw_callV f_X2_goOn_146 rfl (by first | assumption | exact hW.k rfl | exact hW.k0) (by first | assumption | exact hW.1 | omega | exact Nat.succ_ne_zero _) rfl rfl rfl rfl (rn_ki (J_sizeL (by assumption) ?_))
        refine rw_icmpT f_X2_goOn_149 (decide_eq_true (Int32.le_refl _)) ?_
        refine rw_iload f_X2_goOn_212 rfl ?_
        refine rw_iret f_X2_goOn_213 ?_
        skip
        refine hk hh on ⟨fun j hj => ⟨?_, ?_⟩, ?_, ?_, ?_⟩
        · rw [(hf2 j hj).1]; unfold goF; rw [if_pos hj]
          by_cases e : j < nB
          · rw [if_pos e, if_pos e]
          · rw [if_neg e, if_neg e, if_neg e]
        · rw [(hf2 j hj).2]; unfold goF; rw [if_neg (show ¬ 10 + j < 10 by omega), if_pos (show 10 + j < 20 by omega), show 10 + j - 10 = j by omega]
        · rw [hd2]; rfl
        · rw [hd3]; rfl
        · rw [hd4]; rfl
      · rw [sI_ne (by omega), (hf2 j hj).1, if_neg (Nat.not_lt_zero _)]
      · rw [sI_ne (by omega)]; exact (hf2 j hj).2
      · rw [sI_ne (by omega)]; exact hd3
      · rw [sI_ne (by omega)]; exact hd4
    · rw [sI_ne (by omega), if_neg (Nat.not_lt_zero _)]; exact (hf j hj).1
    · rw [sI_ne (by omega), if_neg (Nat.not_lt_zero _)]; exact (hf j hj).2
    · rw [eD (by decide)]; exact p2
    · rw [eD (by decide)]; exact p4
  have e21 : (137 * hp_I h D 3 + 71) - (137 * hp_I h D 3 + 71) / 1000 * 1000 = sdN (f 21) := by rw [p3]; rfl
  refine rw_aload f_X2_goOn_0 rfl ?_
  refine rw_const f_X2_goOn_1 ?_
  refine rw_aload f_X2_goOn_4 rfl ?_
  refine rw_getI f_X2_goOn_5 (by first | assumption | exact hW.k rfl | exact hW.k0) ?_
  refine rw_imul f_X2_goOn_8 ?_
  refine rw_const f_X2_goOn_9 ?_
  refine rw_iadd f_X2_goOn_11 ?_
  refine rw_const f_X2_goOn_12 ?_
  refine rw_irem f_X2_goOn_15 (by first | assumption | decide) ?_
  rw [e21]
  refine rw_putI f_X2_goOn_16 (by first | assumption | exact hW.k rfl | exact hW.k0) ?_
  refine rw_aload f_X2_goOn_19 rfl ?_
  refine rw_getI f_X2_goOn_20 (by first | assumption | exact hW.k rfl | exact hW.k0) ?_
  rw [sI_same]
  refine rw_const f_X2_goOn_23 ?_
  refine rw_irem f_X2_goOn_25 (by first | assumption | decide) ?_
  refine rw_aload f_X2_goOn_26 rfl ?_
  refine rw_getI f_X2_goOn_27 (by first | assumption | exact hW.k rfl | exact hW.k0) ?_
  rw [show hp_I (hp_sI h D 3 (sdN (f 21))) r 8 = V 0 61 from (sI_ne (fun e => by rw [e.1, dK] at rK; cases rK)).trans gs]
  refine rw_ge f_X2_goOn_30 (fun c1 => ?_) (fun c1 => ?_)
  · refine rw_const f_X2_goOn_37 ?_
    refine rw_istore f_X2_goOn_38 rfl rfl ?_
    refine rw_const f_X2_goOn_39 ?_
    refine rw_istore f_X2_goOn_40 rfl rfl ?_
    refine rw_const f_X2_goOn_41 ?_
    refine rw_istore f_X2_goOn_42 rfl rfl ?_
    first | (rw [show stN (V 0 61) (sdN (f 21)) = 0 from if_pos c1] at go; exact go) | (rw [show stN (V 0 61) (sdN (f 21)) = 1 from if_neg c1] at go; exact go)
  · refine rw_const f_X2_goOn_33 ?_
    refine rw_goto f_X2_goOn_34 ?_
    refine rw_istore f_X2_goOn_38 rfl rfl ?_
    refine rw_const f_X2_goOn_39 ?_
    refine rw_istore f_X2_goOn_40 rfl rfl ?_
    refine rw_const f_X2_goOn_41 ?_
    refine rw_istore f_X2_goOn_42 rfl rfl ?_
    first | (rw [show stN (V 0 61) (sdN (f 21)) = 0 from if_pos c1] at go; exact go) | (rw [show stN (V 0 61) (sdN (f 21)) = 1 from if_neg c1] at go; exact go)
/-- one day is made like another -/
theorem C_dayOf {D' S' T' : Nat} (hK : DK h D S T) (hK' : hp_K h D' = (102, 0) ∧ hp_R h D' 0 = S' ∧ hp_R h D' 1 = T' ∧ hp_K h S' = (1, 10) ∧ hp_K h T' = (1, 10)) (hp : DP h D' S' T' f) (n1 : ¬ T' = S) (n2 : ¬ S' = S ∧ ¬ T' = T ∧ ¬ D' = D) {k : am_H → Prop} (hk : ∀ h', On (fun b => b = D ∨ b = S ∨ b = T) h h' → DP h' D S T f → k h') : Rn d n_X2_of 0 [am_r D, am_r D'] [] h (kV k) := by
  obtain ⟨dK, dS, dT, sK, tK, sT, dz⟩ := hK
  obtain ⟨dK', dS', dT', sK', tK'⟩ := hK'
  obtain ⟨hf, p2, p3, p4⟩ := hp
  have x1 : ¬ D' = S := fun e => by rw [e, sK] at dK'; cases dK'
  have x2 : ¬ D' = T := fun e => by rw [e, tK] at dK'; cases dK'
  have x3 : ¬ D = S := fun e => by rw [e, sK] at dK; cases dK
  have x4 : ¬ D = T := fun e => by rw [e, tK] at dK; cases dK
  have x5 : ¬ D' = D := n2.2.2
  refine rw_aload f_X2_of_0 rfl ?_
  refine rw_getR f_X2_of_1 (by assumption) (by first | assumption | rfl) ?_
  refine rw_const f_X2_of_4 ?_
  refine rw_aload f_X2_of_5 rfl ?_
  refine rw_getR f_X2_of_6 (by assumption) (by first | assumption | rfl) ?_
  refine rw_const f_X2_of_9 ?_
  refine rw_const f_X2_of_10 ?_
  refine rw_acpyI f_X2_of_12 sK' sK (by decide) ?_
  show Rn d n_X2_of 15 _ _ (am_cpy h.1 S' 0 S 0 10, h.2) _
  refine rw_aload f_X2_of_15 rfl ?_
  refine rw_getR f_X2_of_16 (by assumption) (by first | assumption | rfl) ?_
  refine rw_const f_X2_of_19 ?_
  refine rw_aload f_X2_of_20 rfl ?_
  refine rw_getR f_X2_of_21 (by assumption) (by first | assumption | rfl) ?_
  refine rw_const f_X2_of_24 ?_
  refine rw_const f_X2_of_25 ?_
  refine rw_acpyI f_X2_of_27 tK' tK (by decide) ?_
  show Rn d n_X2_of 30 _ _ (am_cpy (am_cpy h.1 S' 0 S 0 10) T' 0 T 0 10, h.2) _
  have rd : ∀ b, ¬ (b = S ∨ b = T) → am_cpy (am_cpy h.1 S' 0 S 0 10) T' 0 T 0 10 b = hp_I h b := by
    intro b hb
    funext j
    unfold am_cpy
    rw [if_neg (by omega), if_neg (by omega)]
  have rdS : ∀ j, j < 10 → am_cpy (am_cpy h.1 S' 0 S 0 10) T' 0 T 0 10 S j = f j := by
    intro j hj
    unfold am_cpy
    rw [if_neg (by omega), if_pos ⟨rfl, by omega, by omega⟩, show 0 + (j - 0) = j by omega]
    exact (hf j hj).1
  have rdT : ∀ j, j < 10 → am_cpy (am_cpy h.1 S' 0 S 0 10) T' 0 T 0 10 T j = f (10 + j) := by
    intro j hj
    unfold am_cpy
    rw [if_pos ⟨rfl, by omega, by omega⟩, if_neg (by omega), show 0 + (j - 0) = j by omega]
    exact (hf j hj).2
  generalize hg : ((am_cpy (am_cpy h.1 S' 0 S 0 10) T' 0 T 0 10, h.2) : am_H) = g
  have on : On (fun b => b = D ∨ b = S ∨ b = T) h g := by
    rw [← hg]; exact ⟨rfl, fun b hb => rd b (fun q => hb (Or.inr q))⟩
  have kD : hp_K g D = (102, 0) := by rw [on.K]; exact dK
  have kD' : hp_K g D' = (102, 0) := by rw [on.K]; exact dK'
  have rD' : hp_I g D' = hp_I h D' := on.I (by omega)
  refine rw_aload f_X2_of_30 rfl ?_
  refine rw_aload f_X2_of_31 rfl ?_
  refine rw_getI f_X2_of_32 (by assumption) ?_
  rw [show hp_I g D' 2 = f 20 by rw [rD']; exact p2]
  refine rw_putI f_X2_of_35 (by assumption) ?_
  refine rw_aload f_X2_of_38 rfl ?_
  refine rw_aload f_X2_of_39 rfl ?_
  refine rw_getI f_X2_of_40 (by assumption) ?_
  rw [show hp_I (hp_sI g D 2 (f 20)) D' 3 = f 21 from (sI_ne (by omega)).trans (by rw [rD']; exact p3)]
  refine rw_putI f_X2_of_43 (by assumption) ?_
  refine rw_aload f_X2_of_46 rfl ?_
  refine rw_aload f_X2_of_47 rfl ?_
  refine rw_getI f_X2_of_48 (by assumption) ?_
  rw [show hp_I (hp_sI (hp_sI g D 2 (f 20)) D 3 (f 21)) D' 4 = f 22 from (sI_ne (by omega)).trans ((sI_ne (by omega)).trans (by rw [rD']; exact p4))]
  refine rw_putI f_X2_of_51 (by assumption) ?_
  refine rw_vret f_X2_of_54 ?_
  skip
  refine hk _ (((on.tr (On_sI (Or.inl rfl))).tr (On_sI (Or.inl rfl))).tr (On_sI (Or.inl rfl))) ⟨fun j hj => ⟨?_, ?_⟩, ?_, ?_, sI_same⟩
  · rw [sI_ne (by omega), sI_ne (by omega), sI_ne (by omega), ← hg]; exact rdS j hj
  · rw [sI_ne (by omega), sI_ne (by omega), sI_ne (by omega), ← hg]; exact rdT j hj
  · rw [sI_ne (by omega), sI_ne (by omega)]; exact sI_same
  · rw [sI_ne (by omega)]; exact sI_same
end CDay2
