/-! A DAY: what both sides make of buttons and threads -/
def sdN (s : Int32) : Int32 := (137 * s + 71) - (137 * s + 71) / 1000 * 1000
def stN (storm sd : Int32) : Int32 := if storm ≤ sd - sd / 100 * 100 then 0 else 1
def thN (V : am_M) (f : Nat → Int32) (b : Nat) : Int32 := if f b = 0 then f (10 + b) - wrV V (f (10 + b)) (hoV V b) (stN (V 0 61) (sdN (f 21))) (f 20) else f (10 + b)
def s1N (V : am_M) (f : Nat → Int32) (b : Nat) : Int32 := if f b = 0 then (if thN V f b ≤ 0 then 4 else f b) else f b
def s2N (V : am_M) (f : Nat → Int32) (b : Nat) : Int32 := if s1N V f b = 0 then (if f 20 + 1 ≤ V 29 b then s1N V f b else (if V 33 b = 0 then 1 else 3)) else s1N V f b
def lostN (V : am_M) (f : Nat → Int32) (b : Nat) : Bool := decide (f b = 0) && decide (thN V f b ≤ 0)
/-- a day's picture, a day later -/
def goF (V : am_M) (nB : Nat) (f : Nat → Int32) (j : Nat) : Int32 := if j < 10 then (if j < nB then s2N V f j else f j) else if j < 20 then (if j - 10 < nB then thN V f (j - 10) else f j) else if j = 20 then f 20 + 1 else if j = 21 then sdN (f 21) else f j
theorem okDay.pos {f : Nat → Int32} (q : okDay f) {b : Nat} (hb : b < 10) : 0 ≤ f (10 + b) := by
  obtain ⟨t, h1, h2⟩ := q b hb
  rw [h2]; exact nI_pos' (by omega)
/-- a number between nought and one below 100 -/
theorem small_of {v w : Int32} {t : Nat} (hw : w = nI t) (ht : t ≤ 99) (h0 : 0 ≤ v) (h1 : v ≤ w) : ∃ t', t' ≤ 99 ∧ w - v = nI t' := by
  have e0 : (0 : Int32).toInt = 0 := rfl
  rw [Int32.le_iff_toInt_le] at h0 h1
  rw [e0] at h0
  rw [hw, nI_toInt (by omega)] at h1
  have e : v = nI v.toInt.toNat := by
    apply Int32.toInt_inj.mp
    rw [nI_toInt (by omega)]; omega
  refine ⟨t - v.toInt.toNat, by omega, ?_⟩
  rw [hw]
  have e2 : nI (t - v.toInt.toNat) + v = nI t := by
    rw [e, nI_addl, nI_toInt (by omega)]
    congr 1
    omega
  rw [← e2, Int32.add_sub_cancel]
theorem okDay.go {V : am_M} {nB : Nat} {f : Nat → Int32} (q : okDay f) : okDay (goF V nB f) := by
  intro b hb
  obtain ⟨t, h1, h2⟩ := q b hb
  unfold goF
  rw [if_neg (by omega), if_pos (by omega), show 10 + b - 10 = b by omega]
  by_cases e : b < nB
  · rw [if_pos e]
    unfold thN
    by_cases e2 : f b = 0
    · rw [if_pos e2]
      have w := wrV_in (V := V) (ho := hoV V b) (st := stN (V 0 61) (sdN (f 21))) (dy := f 20) (q.pos hb)
      exact small_of h2 h1 w.1 w.2
    · rw [if_neg e2]; exact ⟨t, h1, h2⟩
  · rw [if_neg e]; exact ⟨t, h1, h2⟩
theorem rw_byEnd {d i pc nx a : Nat} {ls st : List am_V} {h : am_H} {K : am_R → am_H → Prop} {v : Int32} (f : am_fetch i pc = some (in_callU [(115, n_X14_byEnd), (116, n_X14_byEnd)] 0 nx)) (hp : (hp_K h a = (115, 0) ∧ v = 1) ∨ (hp_K h a = (116, 0) ∧ v = 0)) (h0 : ¬ a = 0) (hn : Nat.ble (am_sum st) 8 = true) (k : Rn (d + 2) i nx ls (am_i (if v = 0 then 1 else 3) :: st) h K) : Rn (d + 2) i pc ls (am_r a :: st) h K := by
  have b : ∀ {k : Int32 → am_H → Prop}, k (if v = 0 then 1 else 3) h → Rn (d + 1) n_X14_byEnd 0 [am_r a] [] h (kI k) := by
    intro k hk
    refine rw_aload f_X14_byEnd_0 rfl ?_
    refine rw_isP f_X14_byEnd_1 hp h0 rfl ?_
    refine rw_eq0 f_X14_byEnd_4 (fun c => ?_) (fun c => ?_)
    · refine rw_const f_X14_byEnd_11 ?_
      rw [if_pos c] at hk
      exact rw_iret f_X14_byEnd_12 hk
    · refine rw_const f_X14_byEnd_7 ?_
      refine rw_goto f_X14_byEnd_8 ?_
      rw [if_neg c] at hk
      exact rw_iret f_X14_byEnd_12 hk
  rcases hp with e | e
  · exact rw_callV f rfl e.1 h0 rfl hn rfl rfl (rn_ki (b k))
  · exact rw_callV f rfl e.1 h0 rfl hn rfl rfl (rn_ki (b k))
theorem rw_byDeed {d i pc nx a : Nat} {ls st : List am_V} {h : am_H} {K : am_R → am_H → Prop} {v : Int32} (f : am_fetch i pc = some (in_callU [(115, n_X14_byDeed), (116, n_X14_byDeed)] 0 nx)) (hp : (hp_K h a = (115, 0) ∧ v = 1) ∨ (hp_K h a = (116, 0) ∧ v = 0)) (h0 : ¬ a = 0) (hn : Nat.ble (am_sum st) 8 = true) (k : Rn (d + 2) i nx ls (am_i (if v = 0 then 3 else 1) :: st) h K) : Rn (d + 2) i pc ls (am_r a :: st) h K := by
  have b : ∀ {k : Int32 → am_H → Prop}, k (if v = 0 then 3 else 1) h → Rn (d + 1) n_X14_byDeed 0 [am_r a] [] h (kI k) := by
    intro k hk
    refine rw_aload f_X14_byDeed_0 rfl ?_
    refine rw_isP f_X14_byDeed_1 hp h0 rfl ?_
    refine rw_eq0 f_X14_byDeed_4 (fun c => ?_) (fun c => ?_)
    · refine rw_const f_X14_byDeed_11 ?_
      rw [if_pos c] at hk
      exact rw_iret f_X14_byDeed_12 hk
    · refine rw_const f_X14_byDeed_7 ?_
      refine rw_goto f_X14_byDeed_8 ?_
      rw [if_neg c] at hk
      exact rw_iret f_X14_byDeed_12 hk
  rcases hp with e | e
  · exact rw_callV f rfl e.1 h0 rfl hn rfl rfl (rn_ki (b k))
  · exact rw_callV f rfl e.1 h0 rfl hn rfl rfl (rn_ki (b k))
section CDayS
variable {d : Nat} {h : am_H} {V : am_M} {x r nM nD nB : Nat} {k : Int32 → am_H → Prop} {D S T : Nat} {f : Nat → Int32}
/-- cells of a day that goes on, and what is told -/
abbrev gS (D S T t : Nat) : Nat → Prop := fun b => b = D ∨ b = S ∨ b = T ∨ b = t
/-- a day at hand: its object, its two rows -/
def DK (h : am_H) (D S T : Nat) : Prop := hp_K h D = (102, 0) ∧ hp_R h D 0 = S ∧ hp_R h D 1 = T ∧ hp_K h S = (1, 10) ∧ hp_K h T = (1, 10) ∧ ¬ S = T ∧ ¬ D = 0
def DP (h : am_H) (D S T : Nat) (f : Nat → Int32) : Prop := (∀ j, j < 10 → hp_I h S j = f j ∧ hp_I h T j = f (10 + j)) ∧ hp_I h D 2 = f 20 ∧ hp_I h D 3 = f 21 ∧ hp_I h D 4 = f 22
theorem CB_gS (hB : CB h V x r nM nD nB) (hK : DK h D S T) {h' : am_H} (q : On (gS D S T (hp_R h r 13)) h h') : CB h' V x r nM nD nB :=
  CB_fr hB q.fr (fun b w => by
    rcases w with e | e | e | e
    · exact nregI (t := 102) (u := 0) hB.2.2.1 (by rw [e]; exact hK.1) (by decide)
    · exact nregI (t := 1) (u := 10) hB.2.2.1 (by rw [e]; exact hK.2.2.2.1) (by decide)
    · exact nregI (t := 1) (u := 10) hB.2.2.1 (by rw [e]; exact hK.2.2.2.2.1) (by decide)
    · exact nregI (t := 1) (u := 4) hB.2.2.1 (by rw [e]; exact hB.2.2.1.2.2.2.2.2.1.1) (by decide))
theorem DK.on (hK : DK h D S T) {P : Nat → Prop} {h' : am_H} (q : On P h h') : DK h' D S T := by
  unfold DK; rw [q.K, q.R]; exact hK
/-- the first loop's head -/
def g1I (h : am_H) (V : am_M) (r D S T : Nat) (f : Nat → Int32) (b : Nat) (ls : List am_V) (hh : am_H) : Prop := ls = [am_r D, am_r r, am_i (stN (V 0 61) (sdN (f 21))), am_i (cntB (lostN V f) b), am_i (nI b)] ∧ On (gS D S T (hp_R h r 13)) h hh ∧ (∀ j, j < 10 → hp_I hh S j = (if j < b then s1N V f j else f j) ∧ hp_I hh T j = (if j < b then thN V f j else f (10 + j))) ∧ hp_I hh D 2 = f 20 ∧ hp_I hh D 3 = sdN (f 21) ∧ hp_I hh D 4 = f 22
theorem C_go1 (hB0 : CB h V x r nM nD nB) (hK0 : DK h D S T) (ok : okDay f) {K : am_R → am_H → Prop} (b : Nat) (hb : b < nB) (ls : List am_V) (hh : am_H) (hi : g1I h V r D S T f b ls hh) (ih : ∀ ls' hh', g1I h V r D S T f (b + 1) ls' hh' → Rn (d + 331) n_X2_goOn 44 ls' [] hh' K) : Rn (d + 331) n_X2_goOn 44 ls [] hh K := by
  obtain ⟨rfl, on, hf, hd2, hd3, hd4⟩ := hi
  have hB : CB hh V x r nM nD nB := CB_gS hB0 hK0 on
  have hBx := hB
  have hK := hK0.on on
  obtain ⟨dK, dS, dT, sK, tK, sT, dz⟩ := hK
  have ht : hp_R hh r 13 = hp_R h r 13 := by rw [on.R]
  have kt := hB.2.2.1.2.2.2.2.2.1.1
  rw [ht] at kt
  have nS : ¬ S = hp_R h r 13 := fun e => by rw [← e, sK] at kt; cases kt
  have nT : ¬ T = hp_R h r 13 := fun e => by rw [← e, tK] at kt; cases kt
  have nD' : ¬ D = hp_R h r 13 := fun e => by rw [← e, dK] at kt; cases kt
  have nDS : ¬ D = S := fun e => by rw [e, sK] at dK; cases dK
  have nDT : ¬ D = T := fun e => by rw [e, tK] at dK; cases dK
  obtain ⟨hW, hr, hG, ⟨fM, fM6, fD, fD6, fB, fB10⟩, fO, ⟨fH, fSt⟩, fHr, fFr, fWr⟩ := hB
  obtain ⟨⟨rK, r0⟩, ⟨hLM, hM⟩, ⟨hLD, hD⟩, ⟨hLO, hO⟩, ⟨⟨hlk, hla⟩, hlike⟩, ⟨htk, hwear⟩, gf, gu, gh, gs⟩ := hG
  have kLM := hLM.1.1; have zLM := hLM.2
  have kLD := hLD.1.1; have zLD := hLD.2
  have kLO := hLO.1.1; have zLO := hLO.2
  have e1 : hp_I hh S b = f b := by rw [(hf b (by omega)).1, if_neg (by omega)]
  have e2 : hp_I hh T b = f (10 + b) := by rw [(hf b (by omega)).2, if_neg (by omega)]
  by_cases c0 : f b = 0
  · refine rw_iload f_X2_goOn_44 rfl ?_
    refine rw_aload f_X2_goOn_46 rfl ?_
    refine rw_getR f_X2_goOn_47 (by first | assumption | exact hW.k rfl | exact hW.k0) (by first | assumption | exact hW.r0 rfl | exact hW.r rfl | rfl) ?_
    refine rw_callV f_X2_goOn_50 rfl (by first | assumption | exact hW.k rfl | exact hW.k0) (by first | assumption | exact hW.1 | omega | exact Nat.succ_ne_zero _) rfl rfl rfl rfl (rn_ki (J_sizeL (by assumption) ?_))
    refine rw_icmpF f_X2_goOn_53 (decide_eq_false (nI_ge hb (by omega))) ?_
    refine rw_aload f_X2_goOn_56 rfl ?_
    refine rw_getR f_X2_goOn_57 (by first | assumption | exact hW.k rfl | exact hW.k0) (by first | assumption | exact hW.r0 rfl | exact hW.r rfl | rfl) ?_
    refine rw_iload f_X2_goOn_60 rfl ?_
    refine rw_xaldE f_X2_goOn_62 (by first | assumption | exact hW.k rfl | exact hW.k0) rfl (by omega) (by omega) ?_
    rw [e1]
    refine rw_ifT f_X2_goOn_63 (decide_eq_true c0) ?_
    refine rw_aload f_X2_goOn_69 rfl ?_
    refine rw_getR f_X2_goOn_70 (by first | assumption | exact hW.k rfl | exact hW.k0) (by first | assumption | exact hW.r0 rfl | exact hW.r rfl | rfl) ?_
    refine rw_iload f_X2_goOn_73 rfl ?_
    refine rw_dup2 f_X2_goOn_75 ?_
    refine rw_xaldE f_X2_goOn_76 (by first | assumption | exact hW.k rfl | exact hW.k0) rfl (by omega) (by omega) ?_
    rw [e2]
    refine rw_aload f_X2_goOn_77 rfl ?_
    refine rw_iload f_X2_goOn_78 rfl ?_
    refine rw_aload f_X2_goOn_80 rfl ?_
    refine rw_getR f_X2_goOn_81 (by first | assumption | exact hW.k rfl | exact hW.k0) (by first | assumption | exact hW.r0 rfl | exact hW.r rfl | rfl) ?_
    refine rw_iload f_X2_goOn_84 rfl ?_
    refine rw_xaldE f_X2_goOn_86 (by first | assumption | exact hW.k rfl | exact hW.k0) rfl (by omega) (by omega) ?_
    rw [e2]
    refine rw_iload f_X2_goOn_87 rfl ?_
    refine rw_aload f_X2_goOn_88 rfl ?_
    refine rw_getI f_X2_goOn_89 (by first | assumption | exact hW.k rfl | exact hW.k0) ?_
    rw [hd2]
    refine rw_callV f_X2_goOn_92 rfl (by first | assumption | exact hW.k rfl | exact hW.k0) (by first | assumption | exact hW.1 | omega | exact Nat.succ_ne_zero _) rfl rfl rfl rfl (rn_ki (C_wears (d := d) hBx hb (ok.pos (by omega)) (fun h2 on2 => ?_)))
    refine rw_isub f_X2_goOn_95 ?_
    skip
    rw [ht] at on2
    have tK2 : hp_K h2 T = (1, 10) := by rw [on2.K]; exact tK
    have sK2 : hp_K h2 S = (1, 10) := by rw [on2.K]; exact sK
    have dK2 : hp_K h2 D = (102, 0) := by rw [on2.K]; exact dK
    have dS2 : hp_R h2 D 0 = S := by rw [on2.R]; exact dS
    have dT2 : hp_R h2 D 1 = T := by rw [on2.R]; exact dT
    have eth : f (10 + b) - wrV V (f (10 + b)) (hoV V b) (stN (V 0 61) (sdN (f 21))) (f 20) = thN V f b := by unfold thN; rw [if_pos c0]
    rw [eth]
    have onA : On (gS D S T (hp_R h r 13)) h (hp_sI h2 T b (thN V f b)) := (on.tr (on2.w (fun b w => Or.inr (Or.inr (Or.inr w))))).tr (On_sI (Or.inr (Or.inr (Or.inl rfl))))
    have iS2 : hp_I h2 S = hp_I hh S := on2.I nS
    have iT2 : hp_I h2 T = hp_I hh T := on2.I nT
    have iD2 : hp_I h2 D = hp_I hh D := on2.I nD'
    have eT : hp_I (hp_sI h2 T b (thN V f b)) T b = thN V f b := sI_same
    by_cases c1 : thN V f b ≤ 0
    · have hI2 := ih _ (hp_sI (hp_sI h2 T b (thN V f b)) S b 4) ⟨rfl, onA.tr (On_sI (Or.inr (Or.inl rfl))), fun j hj => ⟨?_, ?_⟩, ?_, ?_, ?_⟩
      · refine rw_iastE (j := b) f_X2_goOn_96 (by first | assumption | exact hW.k rfl | exact hW.k0) (by first | rfl | exact nI_addl _ _ | (simp only [nI, Int32.ofNat_add, Int32.ofNat_mul]; rfl) | (simp only [nI_addl, nI_mull, nI_lit, nI_1']; done) | (simp only [nI_1, nI_0, nI_addl, nI_mull, ← nI_succ]; rfl)) (by omega) (by omega) ?_
        refine rw_aload f_X2_goOn_97 rfl ?_
        refine rw_getR f_X2_goOn_98 (by first | assumption | exact hW.k rfl | exact hW.k0) (by first | assumption | exact hW.r0 rfl | exact hW.r rfl | rfl) ?_
        refine rw_iload f_X2_goOn_101 rfl ?_
        refine rw_xaldE f_X2_goOn_103 (by first | assumption | exact hW.k rfl | exact hW.k0) rfl (by omega) (by omega) ?_
        rw [eT]
        refine rw_ifT f_X2_goOn_104 (decide_eq_true c1) ?_
        refine rw_aload f_X2_goOn_110 rfl ?_
        refine rw_getR f_X2_goOn_111 (by first | assumption | exact hW.k rfl | exact hW.k0) (by first | assumption | exact hW.r0 rfl | exact hW.r rfl | rfl) ?_
        refine rw_iload f_X2_goOn_114 rfl ?_
        refine rw_const f_X2_goOn_116 ?_
        refine rw_iastE (j := b) f_X2_goOn_117 (by first | assumption | exact hW.k rfl | exact hW.k0) (by first | rfl | exact nI_addl _ _ | (simp only [nI, Int32.ofNat_add, Int32.ofNat_mul]; rfl) | (simp only [nI_addl, nI_mull, nI_lit, nI_1']; done) | (simp only [nI_1, nI_0, nI_addl, nI_mull, ← nI_succ]; rfl)) (by omega) (by omega) ?_
        refine rw_iinc f_X2_goOn_118 rfl rfl ?_
        refine rw_iinc f_X2_goOn_121 rfl rfl ?_
        refine rw_goto f_X2_goOn_124 ?_
        rw [nI_1']
        have e : cntB (lostN V f) (b + 1) = cntB (lostN V f) b + 1 := by (simp only [cntB, lostN, decide_eq_true c0, decide_eq_true c1]; rfl)
        rw [e] at hI2
        exact hI2
      · by_cases e : j = b
        · subst e; rw [sI_same, if_pos (by omega)]; unfold s1N; rw [if_pos c0, if_pos c1]
        · rw [sI_ne (by omega), sI_ne (by omega), iS2, (hf j hj).1]
          by_cases e3 : j < b
          · rw [if_pos e3, if_pos (by omega)]
          · rw [if_neg e3, if_neg (by omega)]
      · rw [sI_ne (by omega)]
        by_cases e : j = b
        · subst e; rw [sI_same, if_pos (by omega)]
        · rw [sI_ne (by omega), iT2, (hf j hj).2]
          by_cases e3 : j < b
          · rw [if_pos e3, if_pos (by omega)]
          · rw [if_neg e3, if_neg (by omega)]
      · rw [sI_ne (by omega), sI_ne (by omega), iD2]; exact hd2
      · rw [sI_ne (by omega), sI_ne (by omega), iD2]; exact hd3
      · rw [sI_ne (by omega), sI_ne (by omega), iD2]; exact hd4
    · have hI2 := ih _ (hp_sI h2 T b (thN V f b)) ⟨rfl, onA, fun j hj => ⟨?_, ?_⟩, ?_, ?_, ?_⟩
      · refine rw_iastE (j := b) f_X2_goOn_96 (by first | assumption | exact hW.k rfl | exact hW.k0) (by first | rfl | exact nI_addl _ _ | (simp only [nI, Int32.ofNat_add, Int32.ofNat_mul]; rfl) | (simp only [nI_addl, nI_mull, nI_lit, nI_1']; done) | (simp only [nI_1, nI_0, nI_addl, nI_mull, ← nI_succ]; rfl)) (by omega) (by omega) ?_
        refine rw_aload f_X2_goOn_97 rfl ?_
        refine rw_getR f_X2_goOn_98 (by first | assumption | exact hW.k rfl | exact hW.k0) (by first | assumption | exact hW.r0 rfl | exact hW.r rfl | rfl) ?_
        refine rw_iload f_X2_goOn_101 rfl ?_
        refine rw_xaldE f_X2_goOn_103 (by first | assumption | exact hW.k rfl | exact hW.k0) rfl (by omega) (by omega) ?_
        rw [eT]
        refine rw_ifF f_X2_goOn_104 (decide_eq_false c1) ?_
        refine rw_goto f_X2_goOn_107 ?_
        refine rw_iinc f_X2_goOn_121 rfl rfl ?_
        refine rw_goto f_X2_goOn_124 ?_
        rw [nI_1']
        have e : cntB (lostN V f) (b + 1) = cntB (lostN V f) b := by (simp only [cntB, lostN, decide_eq_true c0, decide_eq_false c1]; exact Int32.add_zero _)
        rw [e] at hI2
        exact hI2
      · rw [sI_ne (by omega), iS2, (hf j hj).1]
        by_cases e : j = b
        · subst e; rw [if_neg (by omega), if_pos (by omega)]; unfold s1N; rw [if_pos c0, if_neg c1]
        · by_cases e3 : j < b
          · rw [if_pos e3, if_pos (by omega)]
          · rw [if_neg e3, if_neg (by omega)]
      · by_cases e : j = b
        · subst e; rw [sI_same, if_pos (by omega)]
        · rw [sI_ne (by omega), iT2, (hf j hj).2]
          by_cases e3 : j < b
          · rw [if_pos e3, if_pos (by omega)]
          · rw [if_neg e3, if_neg (by omega)]
      · rw [sI_ne (by omega), iD2]; exact hd2
      · rw [sI_ne (by omega), iD2]; exact hd3
      · rw [sI_ne (by omega), iD2]; exact hd4
  · have hI2 := ih _ hh ⟨rfl, on, fun j hj => ⟨?_, ?_⟩, hd2, hd3, hd4⟩
    · refine rw_iload f_X2_goOn_44 rfl ?_
      refine rw_aload f_X2_goOn_46 rfl ?_
      refine rw_getR f_X2_goOn_47 (by first | assumption | exact hW.k rfl | exact hW.k0) (by first | assumption | exact hW.r0 rfl | exact hW.r rfl | rfl) ?_
      refine rw_callV f_X2_goOn_50 rfl (by first | assumption | exact hW.k rfl | exact hW.k0) (by first | assumption | exact hW.1 | omega | exact Nat.succ_ne_zero _) rfl rfl rfl rfl (rn_ki (J_sizeL (by assumption) ?_))
      refine rw_icmpF f_X2_goOn_53 (decide_eq_false (nI_ge hb (by omega))) ?_
      refine rw_aload f_X2_goOn_56 rfl ?_
      refine rw_getR f_X2_goOn_57 (by first | assumption | exact hW.k rfl | exact hW.k0) (by first | assumption | exact hW.r0 rfl | exact hW.r rfl | rfl) ?_
      refine rw_iload f_X2_goOn_60 rfl ?_
      refine rw_xaldE f_X2_goOn_62 (by first | assumption | exact hW.k rfl | exact hW.k0) rfl (by omega) (by omega) ?_
      rw [e1]
      refine rw_ifF f_X2_goOn_63 (decide_eq_false c0) ?_
      refine rw_goto f_X2_goOn_66 ?_
      refine rw_iinc f_X2_goOn_121 rfl rfl ?_
      refine rw_goto f_X2_goOn_124 ?_
      rw [nI_1']
      have e : cntB (lostN V f) (b + 1) = cntB (lostN V f) b := by (simp only [cntB, lostN, decide_eq_false c0]; exact Int32.add_zero _)
      rw [e] at hI2
      exact hI2
    · rw [(hf j hj).1]
      by_cases e : j = b
      · subst e; rw [if_neg (by omega), if_pos (by omega)]; unfold s1N; rw [if_neg c0]
      · by_cases e3 : j < b
        · rw [if_pos e3, if_pos (by omega)]
        · rw [if_neg e3, if_neg (by omega)]
    · rw [(hf j hj).2]
      by_cases e : j = b
      · subst e; rw [if_neg (by omega), if_pos (by omega)]; unfold thN; rw [if_neg c0]
      · by_cases e3 : j < b
        · rw [if_pos e3, if_pos (by omega)]
        · rw [if_neg e3, if_neg (by omega)]
end CDayS
