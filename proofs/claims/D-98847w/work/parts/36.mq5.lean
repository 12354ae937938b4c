/-! THE MODEL: button, likes -/
section MQ5
variable {d : Nat} {h : am_H} {m : Nat} {k : Int32 → am_H → Prop}
def sp_likes (f : Nat → Int32) (men a b : Int32) : Int32 := if isIn a 0 (men - 1) = false then -100 else if isIn b 0 (men - 1) = false then -100 else if a = b then -100 else f (6 * a.toNatClampNeg + b.toNatClampNeg)
theorem M_likes (hW : MW h m) {nM : Nat} (hM : hp_I h m 56 = nI nM) (hM6 : nM ≤ 6) {a b : Int32} (hk : k (sp_likes (hp_I h (m + 19)) (hp_I h m 56) a b) h) : Rn (d + 2) n_X9_likes 0 [am_r m, am_i a, am_i b] [] h (kI k) := by
  unfold sp_likes at hk
  refine rw_aload f_X9_likes_0 rfl ?_
  refine rw_iload f_X9_likes_1 rfl ?_
  refine rw_callV f_X9_likes_2 rfl hW.1 hW.2.1 rfl rfl rfl rfl (rn_ki (M_isMan hW ?_))
  first | refine rw_eq0B f_X9_likes_5 (fun c1 => ?_) (fun c1 => ?_) | refine rw_eq0 f_X9_likes_5 (fun c1 => ?_) (fun c1 => ?_)
  · refine rw_const f_X9_likes_35 ?_
    refine rw_iret f_X9_likes_37 ?_
    first | (simpa [c1] using hk) | (rw [nI_clamp (by omega), nI_clamp (by omega)] at hk; exact hk)
  · refine rw_aload f_X9_likes_8 rfl ?_
    refine rw_iload f_X9_likes_9 rfl ?_
    refine rw_callV f_X9_likes_10 rfl hW.1 hW.2.1 rfl rfl rfl rfl (rn_ki (M_isMan hW ?_))
    first | refine rw_eq0B f_X9_likes_13 (fun c2 => ?_) (fun c2 => ?_) | refine rw_eq0 f_X9_likes_13 (fun c2 => ?_) (fun c2 => ?_)
    · refine rw_const f_X9_likes_35 ?_
      refine rw_iret f_X9_likes_37 ?_
      first | (simpa [c1, c2] using hk) | (rw [nI_clamp (by omega), nI_clamp (by omega)] at hk; exact hk)
    · refine rw_iload f_X9_likes_16 rfl ?_
      refine rw_iload f_X9_likes_17 rfl ?_
      refine rw_eq f_X9_likes_18 (fun c3 => ?_) (fun c3 => ?_)
      · refine rw_const f_X9_likes_35 ?_
        refine rw_iret f_X9_likes_37 ?_
        first | (simpa [c1, c2, c3] using hk) | (rw [nI_clamp (by omega), nI_clamp (by omega)] at hk; exact hk)
      · rw [if_neg (by rw [c1]; decide), if_neg (by rw [c2]; decide), if_neg c3] at hk
        obtain ⟨i, rfl, hi⟩ := isIn_nat (n := nM) (by omega) (by rw [← hM]; exact c1)
        obtain ⟨j, rfl, hj⟩ := isIn_nat (n := nM) (by omega) (by rw [← hM]; exact c2)
        refine rw_aload f_X9_likes_21 rfl ?_
        refine rw_getR f_X9_likes_22 hW.1 (hW.2.2 34 _ _ _ rfl).1 ?_
        refine rw_const f_X9_likes_25 ?_
        refine rw_iload f_X9_likes_27 rfl ?_
        refine rw_imul f_X9_likes_28 ?_
        refine rw_iload f_X9_likes_29 rfl ?_
        refine rw_iadd f_X9_likes_30 ?_
        refine rw_xaldE (j := 6 * i + j) f_X9_likes_31 (hW.2.2 34 _ _ _ rfl).2 (by first | rfl | exact nI_addl _ _ | (simp only [nI, Int32.ofNat_add, Int32.ofNat_mul]; rfl) | (simp only [nI_addl, nI_mull, nI_lit, nI_1']; done) | (simp only [nI_1, nI_0, nI_addl, nI_mull, ← nI_succ]; rfl)) (by omega) (by omega) ?_
        refine rw_goto f_X9_likes_32 ?_
        refine rw_iret f_X9_likes_37 ?_
        first | (simpa [c1, c2, c3] using hk) | (rw [nI_clamp (by omega), nI_clamp (by omega)] at hk; exact hk)
def sp_btnW (f : Nat → Int32) (w : Int32) : Int32 := if w = 0 then f 0 else if w = 1 then f 1 else if w = 2 then f 2 else if w = 3 then f 3 else if w = 4 then f 4 else if w = 5 then f 5 else if w = 6 then f 6 else if w = 7 then f 7 else -2
def sp_btn (f : Nat → Nat → Int32) (nB b w : Int32) : Int32 := if isIn b 0 (nB - 1) = false then -2 else sp_btnW (fun q => f q b.toNatClampNeg) w
/-- what the model's 'button' tells of a button -/
def am_btn (h : am_H) (m : Nat) (q b : Nat) : Int32 := match q with
  | 0 => hp_I h (m + 34) b
  | 1 => hp_I h (m + 34) (10 + b)
  | 2 => hp_I h (m + 26) b
  | 3 => hp_I h (m + 27) b
  | 4 => hp_I h (m + 28) b
  | 5 => hp_I h (m + 33) b
  | 6 => hp_I h (m + 29) b
  | _ => hp_I h (m + 31) b
theorem M_button (hW : MW h m) {nB : Nat} (hB : hp_I h m 58 = nI nB) (hB10 : nB ≤ 10) (hP : ∀ j, j < nB → hp_I h (m + 33) j = 0 ∨ hp_I h (m + 33) j = 1) {b w : Int32} (hk : k (sp_btn (am_btn h m) (hp_I h m 58) b w) h) : Rn (d + 2) n_X9_button 0 [am_r m, am_i b, am_i w] [] h (kI k) := by
  unfold sp_btn at hk
  refine rw_aload f_X9_button_0 rfl ?_
  refine rw_iload f_X9_button_1 rfl ?_
  refine rw_callV f_X9_button_2 rfl hW.1 hW.2.1 rfl rfl rfl rfl (rn_ki (M_isButton hW ?_))
  first | refine rw_ne0B f_X9_button_5 (fun c1 => ?_) (fun c1 => ?_) | refine rw_ne0 f_X9_button_5 (fun c1 => ?_) (fun c1 => ?_)
  · rw [if_neg (by rw [c1]; decide)] at hk
    obtain ⟨j, rfl, hj⟩ := isIn_nat (n := nB) (by omega) (by rw [← hB]; exact c1)
    rw [nI_clamp (by omega)] at hk
    unfold sp_btnW at hk
    refine rw_iload f_X9_button_11 rfl ?_
    refine rw_switch f_X9_button_12 ?_
    refine rw_sw1 (fun c2 => ?_) (fun c2 => ?_)
    · refine rw_aload f_X9_button_60 rfl ?_
      refine rw_getR f_X9_button_61 hW.1 (hW.2.2 67 _ _ _ rfl).1 ?_
      refine rw_iload f_X9_button_64 rfl ?_
      refine rw_xaldE f_X9_button_65 (hW.2.2 67 _ _ _ rfl).2 rfl (by omega) (by omega) ?_
      refine rw_iret f_X9_button_66 ?_
      simpa [c1, c2, am_btn] using hk
    · refine rw_sw1 (fun c3 => ?_) (fun c3 => ?_)
      · refine rw_aload f_X9_button_67 rfl ?_
        refine rw_getR f_X9_button_68 hW.1 (hW.2.2 67 _ _ _ rfl).1 ?_
        refine rw_const f_X9_button_71 ?_
        refine rw_iload f_X9_button_73 rfl ?_
        refine rw_iadd f_X9_button_74 ?_
        refine rw_xaldE (j := 10 + j) f_X9_button_75 (hW.2.2 67 _ _ _ rfl).2 (by first | rfl | exact nI_addl _ _ | (simp only [nI, Int32.ofNat_add, Int32.ofNat_mul]; rfl) | (simp only [nI_addl, nI_mull, nI_lit, nI_1']; done) | (simp only [nI_1, nI_0, nI_addl, nI_mull, ← nI_succ]; rfl)) (by omega) (by omega) ?_
        refine rw_iret f_X9_button_76 ?_
        simpa [c1, c2, c3, am_btn] using hk
      · refine rw_sw1 (fun c4 => ?_) (fun c4 => ?_)
        · refine rw_aload f_X9_button_77 rfl ?_
          refine rw_getR f_X9_button_78 hW.1 (hW.2.2 41 _ _ _ rfl).1 ?_
          refine rw_iload f_X9_button_81 rfl ?_
          refine rw_xaldE f_X9_button_82 (hW.2.2 41 _ _ _ rfl).2 rfl (by omega) (by omega) ?_
          refine rw_iret f_X9_button_83 ?_
          simpa [c1, c2, c3, c4, am_btn] using hk
        · refine rw_sw1 (fun c5 => ?_) (fun c5 => ?_)
          · refine rw_aload f_X9_button_84 rfl ?_
            refine rw_getR f_X9_button_85 hW.1 (hW.2.2 42 _ _ _ rfl).1 ?_
            refine rw_iload f_X9_button_88 rfl ?_
            refine rw_xaldE f_X9_button_89 (hW.2.2 42 _ _ _ rfl).2 rfl (by omega) (by omega) ?_
            refine rw_iret f_X9_button_90 ?_
            simpa [c1, c2, c3, c4, c5, am_btn] using hk
          · refine rw_sw1 (fun c6 => ?_) (fun c6 => ?_)
            · refine rw_aload f_X9_button_91 rfl ?_
              refine rw_getR f_X9_button_92 hW.1 (hW.2.2 43 _ _ _ rfl).1 ?_
              refine rw_iload f_X9_button_95 rfl ?_
              refine rw_xaldE f_X9_button_96 (hW.2.2 43 _ _ _ rfl).2 rfl (by omega) (by omega) ?_
              refine rw_iret f_X9_button_97 ?_
              simpa [c1, c2, c3, c4, c5, c6, am_btn] using hk
            · refine rw_sw1 (fun c7 => ?_) (fun c7 => ?_)
              · refine rw_aload f_X9_button_98 rfl ?_
                refine rw_getR f_X9_button_99 hW.1 (hW.2.2 48 _ _ _ rfl).1 ?_
                refine rw_iload f_X9_button_102 rfl ?_
                refine rw_xaldE f_X9_button_103 (hW.2.2 48 _ _ _ rfl).2 rfl (by omega) (by omega) ?_
                refine rw_callS f_X9_button_104 rfl rfl rfl (rn_ki (M_truthX (hP j hj) ?_))
                refine rw_iret f_X9_button_107 ?_
                simpa [c1, c2, c3, c4, c5, c6, c7, am_btn] using hk
              · refine rw_sw1 (fun c8 => ?_) (fun c8 => ?_)
                · refine rw_aload f_X9_button_108 rfl ?_
                  refine rw_getR f_X9_button_109 hW.1 (hW.2.2 44 _ _ _ rfl).1 ?_
                  refine rw_iload f_X9_button_112 rfl ?_
                  refine rw_xaldE f_X9_button_113 (hW.2.2 44 _ _ _ rfl).2 rfl (by omega) (by omega) ?_
                  refine rw_iret f_X9_button_114 ?_
                  simpa [c1, c2, c3, c4, c5, c6, c7, c8, am_btn] using hk
                · refine rw_sw1 (fun c9 => ?_) (fun c9 => ?_)
                  · refine rw_aload f_X9_button_115 rfl ?_
                    refine rw_getR f_X9_button_116 hW.1 (hW.2.2 46 _ _ _ rfl).1 ?_
                    refine rw_iload f_X9_button_119 rfl ?_
                    refine rw_xaldE f_X9_button_120 (hW.2.2 46 _ _ _ rfl).2 rfl (by omega) (by omega) ?_
                    refine rw_iret f_X9_button_121 ?_
                    simpa [c1, c2, c3, c4, c5, c6, c7, c8, c9, am_btn] using hk
                  · refine rw_sw0 ?_
                    refine rw_const f_X9_button_122 ?_
                    refine rw_iret f_X9_button_124 ?_
                    simpa [c1, c2, c3, c4, c5, c6, c7, c8, c9, am_btn] using hk
  · refine rw_const f_X9_button_8 ?_
    refine rw_iret f_X9_button_10 ?_
    simpa [c1, am_btn] using hk
end MQ5
