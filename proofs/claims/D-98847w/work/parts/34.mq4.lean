/-! THE MODEL: button, about, likes, ties -/
section MQ4
variable {d : Nat} {h : am_H} {m : Nat} {k : Int32 → am_H → Prop}
def sp_about (f : Nat → Int32) (w : Int32) : Int32 := if w = 0 then f 0 else if w = 1 then f 1 else if w = 2 then f 2 else if w = 3 then f 3 else if w = 4 then f 4 else if w = 5 then f 5 else if w = 6 then f 6 else if w = 7 then f 7 else if w = 8 then f 8 else if w = 9 then f 9 else if w = 10 then f 10 else if w = 11 then f 11 else if w = 12 then f 12 else if w = 13 then f 13 else if w = 14 then f 14 else -1
/-- what the model's 'about' tells -/
def am_about (h : am_H) (m : Nat) (w : Nat) : Int32 := match w with
  | 0 => hp_I h m 58
  | 1 => hp_I h m 56
  | 2 => hp_I h m 57
  | 3 => hp_I h m 59
  | 4 => hp_I h (m + 34) 20
  | 5 => hp_I h (m + 34) 21
  | 6 => hp_I h (m + 34) 22
  | 7 => hp_I h m 60
  | 8 => hp_I h m 69
  | 9 => hp_I h m 70
  | 10 => hp_I h m 93
  | 11 => hp_I h m 94
  | 12 => hp_I h m 1
  | 13 => hp_I h m 21
  | _ => hp_I h m 85
theorem M_about (hW : MW h m) {w : Int32} (hk : k (sp_about (am_about h m) w) h) : Rn d n_X9_about 0 [am_r m, am_i w] [] h (kI k) := by
  unfold sp_about at hk
  refine rw_iload f_X9_about_0 rfl ?_
  refine rw_switch f_X9_about_1 ?_
  refine rw_sw1 (fun c1 => ?_) (fun c1 => ?_)
  · refine rw_aload f_X9_about_76 rfl ?_
    refine rw_getI f_X9_about_77 hW.1 ?_
    refine rw_iret f_X9_about_80 ?_
    simpa [c1, am_about] using hk
  · refine rw_sw1 (fun c2 => ?_) (fun c2 => ?_)
    · refine rw_aload f_X9_about_81 rfl ?_
      refine rw_getI f_X9_about_82 hW.1 ?_
      refine rw_iret f_X9_about_85 ?_
      simpa [c1, c2, am_about] using hk
    · refine rw_sw1 (fun c3 => ?_) (fun c3 => ?_)
      · refine rw_aload f_X9_about_86 rfl ?_
        refine rw_getI f_X9_about_87 hW.1 ?_
        refine rw_iret f_X9_about_90 ?_
        simpa [c1, c2, c3, am_about] using hk
      · refine rw_sw1 (fun c4 => ?_) (fun c4 => ?_)
        · refine rw_aload f_X9_about_91 rfl ?_
          refine rw_getI f_X9_about_92 hW.1 ?_
          refine rw_iret f_X9_about_95 ?_
          simpa [c1, c2, c3, c4, am_about] using hk
        · refine rw_sw1 (fun c5 => ?_) (fun c5 => ?_)
          · refine rw_aload f_X9_about_96 rfl ?_
            refine rw_getR f_X9_about_97 hW.1 (hW.2.2 67 _ _ _ rfl).1 ?_
            refine rw_const f_X9_about_100 ?_
            refine rw_xaldE (j := 20) f_X9_about_102 (hW.2.2 67 _ _ _ rfl).2 (by first | rfl | exact nI_addl _ _ | (simp only [nI, Int32.ofNat_add, Int32.ofNat_mul]; rfl) | (simp only [nI_addl, nI_mull, nI_lit, nI_1']; done) | (simp only [nI_1, nI_0, nI_addl, nI_mull, ← nI_succ]; rfl)) (by omega) (by omega) ?_
            refine rw_iret f_X9_about_103 ?_
            simpa [c1, c2, c3, c4, c5, am_about] using hk
          · refine rw_sw1 (fun c6 => ?_) (fun c6 => ?_)
            · refine rw_aload f_X9_about_104 rfl ?_
              refine rw_getR f_X9_about_105 hW.1 (hW.2.2 67 _ _ _ rfl).1 ?_
              refine rw_const f_X9_about_108 ?_
              refine rw_xaldE (j := 21) f_X9_about_110 (hW.2.2 67 _ _ _ rfl).2 (by first | rfl | exact nI_addl _ _ | (simp only [nI, Int32.ofNat_add, Int32.ofNat_mul]; rfl) | (simp only [nI_addl, nI_mull, nI_lit, nI_1']; done) | (simp only [nI_1, nI_0, nI_addl, nI_mull, ← nI_succ]; rfl)) (by omega) (by omega) ?_
              refine rw_iret f_X9_about_111 ?_
              simpa [c1, c2, c3, c4, c5, c6, am_about] using hk
            · refine rw_sw1 (fun c7 => ?_) (fun c7 => ?_)
              · refine rw_aload f_X9_about_112 rfl ?_
                refine rw_getR f_X9_about_113 hW.1 (hW.2.2 67 _ _ _ rfl).1 ?_
                refine rw_const f_X9_about_116 ?_
                refine rw_xaldE (j := 22) f_X9_about_118 (hW.2.2 67 _ _ _ rfl).2 (by first | rfl | exact nI_addl _ _ | (simp only [nI, Int32.ofNat_add, Int32.ofNat_mul]; rfl) | (simp only [nI_addl, nI_mull, nI_lit, nI_1']; done) | (simp only [nI_1, nI_0, nI_addl, nI_mull, ← nI_succ]; rfl)) (by omega) (by omega) ?_
                refine rw_iret f_X9_about_119 ?_
                simpa [c1, c2, c3, c4, c5, c6, c7, am_about] using hk
              · refine rw_sw1 (fun c8 => ?_) (fun c8 => ?_)
                · refine rw_aload f_X9_about_120 rfl ?_
                  refine rw_getI f_X9_about_121 hW.1 ?_
                  refine rw_iret f_X9_about_124 ?_
                  simpa [c1, c2, c3, c4, c5, c6, c7, c8, am_about] using hk
                · refine rw_sw1 (fun c9 => ?_) (fun c9 => ?_)
                  · refine rw_aload f_X9_about_125 rfl ?_
                    refine rw_getI f_X9_about_126 hW.1 ?_
                    refine rw_iret f_X9_about_129 ?_
                    simpa [c1, c2, c3, c4, c5, c6, c7, c8, c9, am_about] using hk
                  · refine rw_sw1 (fun c10 => ?_) (fun c10 => ?_)
                    · refine rw_aload f_X9_about_130 rfl ?_
                      refine rw_getI f_X9_about_131 hW.1 ?_
                      refine rw_iret f_X9_about_134 ?_
                      simpa [c1, c2, c3, c4, c5, c6, c7, c8, c9, c10, am_about] using hk
                    · refine rw_sw1 (fun c11 => ?_) (fun c11 => ?_)
                      · refine rw_aload f_X9_about_135 rfl ?_
                        refine rw_getI f_X9_about_136 hW.1 ?_
                        refine rw_iret f_X9_about_139 ?_
                        simpa [c1, c2, c3, c4, c5, c6, c7, c8, c9, c10, c11, am_about] using hk
                      · refine rw_sw1 (fun c12 => ?_) (fun c12 => ?_)
                        · refine rw_aload f_X9_about_140 rfl ?_
                          refine rw_getI f_X9_about_141 hW.1 ?_
                          refine rw_iret f_X9_about_144 ?_
                          simpa [c1, c2, c3, c4, c5, c6, c7, c8, c9, c10, c11, c12, am_about] using hk
                        · refine rw_sw1 (fun c13 => ?_) (fun c13 => ?_)
                          · refine rw_aload f_X9_about_145 rfl ?_
                            refine rw_getI f_X9_about_146 hW.1 ?_
                            refine rw_iret f_X9_about_149 ?_
                            simpa [c1, c2, c3, c4, c5, c6, c7, c8, c9, c10, c11, c12, c13, am_about] using hk
                          · refine rw_sw1 (fun c14 => ?_) (fun c14 => ?_)
                            · refine rw_aload f_X9_about_150 rfl ?_
                              refine rw_getI f_X9_about_151 hW.1 ?_
                              refine rw_iret f_X9_about_154 ?_
                              simpa [c1, c2, c3, c4, c5, c6, c7, c8, c9, c10, c11, c12, c13, c14, am_about] using hk
                            · refine rw_sw1 (fun c15 => ?_) (fun c15 => ?_)
                              · refine rw_aload f_X9_about_155 rfl ?_
                                refine rw_getI f_X9_about_156 hW.1 ?_
                                refine rw_iret f_X9_about_159 ?_
                                simpa [c1, c2, c3, c4, c5, c6, c7, c8, c9, c10, c11, c12, c13, c14, c15, am_about] using hk
                              · refine rw_sw0 ?_
                                refine rw_const f_X9_about_160 ?_
                                refine rw_iret f_X9_about_161 ?_
                                simpa [c1, c2, c3, c4, c5, c6, c7, c8, c9, c10, c11, c12, c13, c14, c15, am_about] using hk
def sp_mark (c ho l : Nat → Int32) (a : Nat) (w : Int32) : Int32 := if w = 0 then c a else if w = 1 then ho a else l a
theorem M_markOf (hW : MW h m) {a : Nat} (ha : a < 6) {w : Int32} (hk : k (sp_mark (hp_I h (m + 15)) (hp_I h (m + 16)) (hp_I h (m + 17)) a w) h) : Rn d n_X9_markOf 0 [am_r m, am_i (nI a), am_i w] [] h (kI k) := by
  unfold sp_mark at hk
  refine rw_iload f_X9_markOf_0 rfl ?_
  first | refine rw_ne0B f_X9_markOf_1 (fun c1 => ?_) (fun c1 => ?_) | refine rw_ne0 f_X9_markOf_1 (fun c1 => ?_) (fun c1 => ?_)
  · refine rw_iload f_X9_markOf_13 rfl ?_
    refine rw_const f_X9_markOf_14 ?_
    refine rw_ne f_X9_markOf_15 (fun c2 => ?_) (fun c2 => ?_)
    · refine rw_aload f_X9_markOf_27 rfl ?_
      refine rw_getR f_X9_markOf_28 hW.1 (hW.2.2 32 _ _ _ rfl).1 ?_
      refine rw_iload f_X9_markOf_31 rfl ?_
      refine rw_xaldE f_X9_markOf_32 (hW.2.2 32 _ _ _ rfl).2 rfl (by omega) (by omega) ?_
      refine rw_iret f_X9_markOf_33 ?_
      simpa [c1, c2] using hk
    · refine rw_aload f_X9_markOf_18 rfl ?_
      refine rw_getR f_X9_markOf_19 hW.1 (hW.2.2 31 _ _ _ rfl).1 ?_
      refine rw_iload f_X9_markOf_22 rfl ?_
      refine rw_xaldE f_X9_markOf_23 (hW.2.2 31 _ _ _ rfl).2 rfl (by omega) (by omega) ?_
      refine rw_goto f_X9_markOf_24 ?_
      refine rw_iret f_X9_markOf_33 ?_
      simpa [c1, c2] using hk
  · refine rw_aload f_X9_markOf_4 rfl ?_
    refine rw_getR f_X9_markOf_5 hW.1 (hW.2.2 30 _ _ _ rfl).1 ?_
    refine rw_iload f_X9_markOf_8 rfl ?_
    refine rw_xaldE f_X9_markOf_9 (hW.2.2 30 _ _ _ rfl).2 rfl (by omega) (by omega) ?_
    refine rw_goto f_X9_markOf_10 ?_
    refine rw_iret f_X9_markOf_33 ?_
    simpa [c1] using hk
def pr_ties (now on by_ : Nat → Int32) (man other : Int32) (b : Nat) : Bool := decide (now b = 0) && decide (on b = man) && decide (by_ b = other)
def sp_ties (nB : Nat) (now on by_ : Nat → Int32) (men man other : Int32) : Int32 := if isIn man 0 (men - 1) = false then -1 else if isIn other 0 (men - 1) = false then -1 else if man = other then -1 else bs (pr_ties now on by_ man other) nB
theorem M_ties_loop (hW : MW h m) {nB : Nat} (hB : hp_I h m 58 = nI nB) (hB10 : nB ≤ 10) {man other : Int32} (hk : k (bs (pr_ties (hp_I h (m + 34)) (hp_I h (m + 26)) (hp_I h (m + 27)) man other) nB) h) : Rn (d + 1) n_X9_ties 28 [am_r m, am_i man, am_i other, am_i 0, am_i 0] [] h (kI k) := by
  refine rn_for (N := nB) (fun b => [am_r m, am_i man, am_i other, am_i (bs (pr_ties (hp_I h (m + 34)) (hp_I h (m + 26)) (hp_I h (m + 27)) man other) b), am_i (nI b)]) (fun _ => h) (fun b hb ih => ?_) ?_
  · refine rw_iload f_X9_ties_28 rfl ?_
    refine rw_aload f_X9_ties_30 rfl ?_
    refine rw_getI f_X9_ties_31 hW.1 ?_
    refine rw_icmpF f_X9_ties_34 (decide_eq_false (by rw [hB]; exact nI_ge hb (by omega))) ?_
    refine rw_iload f_X9_ties_37 rfl ?_
    refine rw_aload f_X9_ties_38 rfl ?_
    refine rw_iload f_X9_ties_39 rfl ?_
    refine rw_callV f_X9_ties_41 rfl hW.1 hW.2.1 rfl rfl rfl rfl (rn_ki (M_isOn hW (by omega) ?_))
    first | refine rw_eq0B f_X9_ties_44 (fun c1 => ?_) (fun c1 => ?_) | refine rw_eq0 f_X9_ties_44 (fun c1 => ?_) (fun c1 => ?_)
    · refine rw_const f_X9_ties_73 ?_
      refine rw_callS f_X9_ties_74 rfl rfl rfl (rn_ki (M_truthX (by first | exact Or.inl rfl | exact Or.inr rfl | exact bI_01 _) ?_))
      refine rw_iload f_X9_ties_77 rfl ?_
      refine rw_ishl f_X9_ties_79 ?_
      refine rw_ior f_X9_ties_80 ?_
      refine rw_istore f_X9_ties_81 rfl rfl ?_
      refine rw_iinc f_X9_ties_82 rfl rfl ?_
      refine rw_goto f_X9_ties_85 ?_
      rw [nI_1']
      rw [bs_step (by simp only [decide_eq_true_eq, decide_eq_false_iff_not] at c1; simp [pr_ties, c1, bI])]
      exact ih
    · refine rw_aload f_X9_ties_47 rfl ?_
      refine rw_getR f_X9_ties_48 hW.1 (hW.2.2 41 _ _ _ rfl).1 ?_
      refine rw_iload f_X9_ties_51 rfl ?_
      refine rw_xaldE f_X9_ties_53 (hW.2.2 41 _ _ _ rfl).2 rfl (by omega) (by omega) ?_
      refine rw_iload f_X9_ties_54 rfl ?_
      refine rw_ne f_X9_ties_55 (fun c2 => ?_) (fun c2 => ?_)
      · refine rw_const f_X9_ties_73 ?_
        refine rw_callS f_X9_ties_74 rfl rfl rfl (rn_ki (M_truthX (by first | exact Or.inl rfl | exact Or.inr rfl | exact bI_01 _) ?_))
        refine rw_iload f_X9_ties_77 rfl ?_
        refine rw_ishl f_X9_ties_79 ?_
        refine rw_ior f_X9_ties_80 ?_
        refine rw_istore f_X9_ties_81 rfl rfl ?_
        refine rw_iinc f_X9_ties_82 rfl rfl ?_
        refine rw_goto f_X9_ties_85 ?_
        rw [nI_1']
        rw [bs_step (by simp only [decide_eq_true_eq, decide_eq_false_iff_not] at c1; simp [pr_ties, c1, c2, bI])]
        exact ih
      · refine rw_aload f_X9_ties_58 rfl ?_
        refine rw_getR f_X9_ties_59 hW.1 (hW.2.2 42 _ _ _ rfl).1 ?_
        refine rw_iload f_X9_ties_62 rfl ?_
        refine rw_xaldE f_X9_ties_64 (hW.2.2 42 _ _ _ rfl).2 rfl (by omega) (by omega) ?_
        refine rw_iload f_X9_ties_65 rfl ?_
        refine rw_ne f_X9_ties_66 (fun c3 => ?_) (fun c3 => ?_)
        · refine rw_const f_X9_ties_73 ?_
          refine rw_callS f_X9_ties_74 rfl rfl rfl (rn_ki (M_truthX (by first | exact Or.inl rfl | exact Or.inr rfl | exact bI_01 _) ?_))
          refine rw_iload f_X9_ties_77 rfl ?_
          refine rw_ishl f_X9_ties_79 ?_
          refine rw_ior f_X9_ties_80 ?_
          refine rw_istore f_X9_ties_81 rfl rfl ?_
          refine rw_iinc f_X9_ties_82 rfl rfl ?_
          refine rw_goto f_X9_ties_85 ?_
          rw [nI_1']
          rw [bs_step (by simp only [decide_eq_true_eq, decide_eq_false_iff_not] at c1; simp [pr_ties, c1, c2, c3, bI])]
          exact ih
        · refine rw_const f_X9_ties_69 ?_
          refine rw_goto f_X9_ties_70 ?_
          refine rw_callS f_X9_ties_74 rfl rfl rfl (rn_ki (M_truthX (by first | exact Or.inl rfl | exact Or.inr rfl | exact bI_01 _) ?_))
          refine rw_iload f_X9_ties_77 rfl ?_
          refine rw_ishl f_X9_ties_79 ?_
          refine rw_ior f_X9_ties_80 ?_
          refine rw_istore f_X9_ties_81 rfl rfl ?_
          refine rw_iinc f_X9_ties_82 rfl rfl ?_
          refine rw_goto f_X9_ties_85 ?_
          rw [nI_1']
          rw [bs_step (by simp only [decide_eq_true_eq, decide_eq_false_iff_not] at c1; simp [pr_ties, c1, c2, c3, bI])]
          exact ih
  · refine rw_iload f_X9_ties_28 rfl ?_
    refine rw_aload f_X9_ties_30 rfl ?_
    refine rw_getI f_X9_ties_31 hW.1 ?_
    refine rw_icmpT f_X9_ties_34 (decide_eq_true (by rw [hB]; exact Int32.le_refl _)) ?_
    refine rw_iload f_X9_ties_88 rfl ?_
    refine rw_iret f_X9_ties_89 ?_
    exact hk
theorem M_ties (hW : MW h m) {nB : Nat} (hB : hp_I h m 58 = nI nB) (hB10 : nB ≤ 10) {man other : Int32} (hk : k (sp_ties nB (hp_I h (m + 34)) (hp_I h (m + 26)) (hp_I h (m + 27)) (hp_I h m 56) man other) h) : Rn (d + 2) n_X9_ties 0 [am_r m, am_i man, am_i other, am_u, am_u] [] h (kI k) := by
  unfold sp_ties at hk
  refine rw_aload f_X9_ties_0 rfl ?_
  refine rw_iload f_X9_ties_1 rfl ?_
  refine rw_callV f_X9_ties_2 rfl hW.1 hW.2.1 rfl rfl rfl rfl (rn_ki (M_isMan hW ?_))
  first | refine rw_eq0B f_X9_ties_5 (fun c1 => ?_) (fun c1 => ?_) | refine rw_eq0 f_X9_ties_5 (fun c1 => ?_) (fun c1 => ?_)
  · refine rw_const f_X9_ties_21 ?_
    refine rw_iret f_X9_ties_22 ?_
    first | (simpa [c1] using hk) | (subst c3; simpa [c1] using hk)
  · refine rw_aload f_X9_ties_8 rfl ?_
    refine rw_iload f_X9_ties_9 rfl ?_
    refine rw_callV f_X9_ties_10 rfl hW.1 hW.2.1 rfl rfl rfl rfl (rn_ki (M_isMan hW ?_))
    first | refine rw_eq0B f_X9_ties_13 (fun c2 => ?_) (fun c2 => ?_) | refine rw_eq0 f_X9_ties_13 (fun c2 => ?_) (fun c2 => ?_)
    · refine rw_const f_X9_ties_21 ?_
      refine rw_iret f_X9_ties_22 ?_
      first | (simpa [c1, c2] using hk) | (subst c3; simpa [c1] using hk)
    · refine rw_iload f_X9_ties_16 rfl ?_
      refine rw_iload f_X9_ties_17 rfl ?_
      refine rw_ne f_X9_ties_18 (fun c3 => ?_) (fun c3 => ?_)
      · refine rw_const f_X9_ties_23 ?_
        refine rw_istore f_X9_ties_24 rfl rfl ?_
        refine rw_const f_X9_ties_25 ?_
        refine rw_istore f_X9_ties_26 rfl rfl ?_
        exact M_ties_loop hW hB hB10 (by simpa [c1, c2, c3] using hk)
      · refine rw_const f_X9_ties_21 ?_
        refine rw_iret f_X9_ties_22 ?_
        first | (simpa [c1, c2, c3] using hk) | (subst c3; simpa [c1] using hk)
end MQ4
