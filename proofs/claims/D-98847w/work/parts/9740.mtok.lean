/-! THE MODEL: tokens -/
section MTok
variable {d : Nat} {h : am_H} {m : Nat} {V : am_M} {T : tx} {N : Nat} {k : Int32 → am_H → Prop}
theorem m_isLt {h : am_H} {c : Int32} (hk : k (bI (isLt c)) h) : Rn d n_X9_isLetter 0 [am_i c] [] h (kI k) := by
  unfold isLt at hk
  refine rw_iload f_X9_isLetter_0 rfl ?_
  refine rw_const f_X9_isLetter_1 ?_
  refine rw_lt f_X9_isLetter_3 (fun c1 => ?_) (fun c1 => ?_)
  · refine rw_const f_X9_isLetter_16 ?_
    refine rw_zret f_X9_isLetter_17 (by first | exact Or.inl rfl | exact Or.inr rfl | exact bI_01 _ | assumption) ?_
    simpa [bI, c1] using hk
  · refine rw_iload f_X9_isLetter_6 rfl ?_
    refine rw_const f_X9_isLetter_7 ?_
    refine rw_gt f_X9_isLetter_9 (fun c2 => ?_) (fun c2 => ?_)
    · refine rw_const f_X9_isLetter_16 ?_
      refine rw_zret f_X9_isLetter_17 (by first | exact Or.inl rfl | exact Or.inr rfl | exact bI_01 _ | assumption) ?_
      simpa [bI, c1, c2] using hk
    · refine rw_const f_X9_isLetter_12 ?_
      refine rw_goto f_X9_isLetter_13 ?_
      refine rw_zret f_X9_isLetter_17 (by first | exact Or.inl rfl | exact Or.inr rfl | exact bI_01 _ | assumption) ?_
      simpa [bI, c1, c2] using hk
theorem m_isDg {h : am_H} {c : Int32} (hk : k (bI (isDg c)) h) : Rn d n_X9_isDigit 0 [am_i c] [] h (kI k) := by
  unfold isDg at hk
  refine rw_iload f_X9_isDigit_0 rfl ?_
  refine rw_const f_X9_isDigit_1 ?_
  refine rw_lt f_X9_isDigit_3 (fun c1 => ?_) (fun c1 => ?_)
  · refine rw_const f_X9_isDigit_16 ?_
    refine rw_zret f_X9_isDigit_17 (by first | exact Or.inl rfl | exact Or.inr rfl | exact bI_01 _ | assumption) ?_
    simpa [bI, c1] using hk
  · refine rw_iload f_X9_isDigit_6 rfl ?_
    refine rw_const f_X9_isDigit_7 ?_
    refine rw_gt f_X9_isDigit_9 (fun c2 => ?_) (fun c2 => ?_)
    · refine rw_const f_X9_isDigit_16 ?_
      refine rw_zret f_X9_isDigit_17 (by first | exact Or.inl rfl | exact Or.inr rfl | exact bI_01 _ | assumption) ?_
      simpa [bI, c1, c2] using hk
    · refine rw_const f_X9_isDigit_12 ?_
      refine rw_goto f_X9_isDigit_13 ?_
      refine rw_zret f_X9_isDigit_17 (by first | exact Or.inl rfl | exact Or.inr rfl | exact bI_01 _ | assumption) ?_
      simpa [bI, c1, c2] using hk
theorem m_isSg {h : am_H} {c : Int32} (hk : k (bI (isSg c)) h) : Rn d n_X9_isSign 0 [am_i c] [] h (kI k) := by
  unfold isSg at hk
  refine rw_iload f_X9_isSign_0 rfl ?_
  refine rw_const f_X9_isSign_1 ?_
  refine rw_eq f_X9_isSign_3 (fun c1 => ?_) (fun c1 => ?_)
  · refine rw_const f_X9_isSign_66 ?_
    refine rw_goto f_X9_isSign_67 ?_
    refine rw_zret f_X9_isSign_71 (by first | exact Or.inl rfl | exact Or.inr rfl | exact bI_01 _ | assumption) ?_
    simpa [bI, c1] using hk
  · refine rw_iload f_X9_isSign_6 rfl ?_
    refine rw_const f_X9_isSign_7 ?_
    refine rw_eq f_X9_isSign_9 (fun c2 => ?_) (fun c2 => ?_)
    · refine rw_const f_X9_isSign_66 ?_
      refine rw_goto f_X9_isSign_67 ?_
      refine rw_zret f_X9_isSign_71 (by first | exact Or.inl rfl | exact Or.inr rfl | exact bI_01 _ | assumption) ?_
      simpa [bI, c1, c2] using hk
    · refine rw_iload f_X9_isSign_12 rfl ?_
      refine rw_const f_X9_isSign_13 ?_
      refine rw_eq f_X9_isSign_15 (fun c3 => ?_) (fun c3 => ?_)
      · refine rw_const f_X9_isSign_66 ?_
        refine rw_goto f_X9_isSign_67 ?_
        refine rw_zret f_X9_isSign_71 (by first | exact Or.inl rfl | exact Or.inr rfl | exact bI_01 _ | assumption) ?_
        simpa [bI, c1, c2, c3] using hk
      · refine rw_iload f_X9_isSign_18 rfl ?_
        refine rw_const f_X9_isSign_19 ?_
        refine rw_eq f_X9_isSign_21 (fun c4 => ?_) (fun c4 => ?_)
        · refine rw_const f_X9_isSign_66 ?_
          refine rw_goto f_X9_isSign_67 ?_
          refine rw_zret f_X9_isSign_71 (by first | exact Or.inl rfl | exact Or.inr rfl | exact bI_01 _ | assumption) ?_
          simpa [bI, c1, c2, c3, c4] using hk
        · refine rw_iload f_X9_isSign_24 rfl ?_
          refine rw_const f_X9_isSign_25 ?_
          refine rw_eq f_X9_isSign_27 (fun c5 => ?_) (fun c5 => ?_)
          · refine rw_const f_X9_isSign_66 ?_
            refine rw_goto f_X9_isSign_67 ?_
            refine rw_zret f_X9_isSign_71 (by first | exact Or.inl rfl | exact Or.inr rfl | exact bI_01 _ | assumption) ?_
            simpa [bI, c1, c2, c3, c4, c5] using hk
          · refine rw_iload f_X9_isSign_30 rfl ?_
            refine rw_const f_X9_isSign_31 ?_
            refine rw_eq f_X9_isSign_33 (fun c6 => ?_) (fun c6 => ?_)
            · refine rw_const f_X9_isSign_66 ?_
              refine rw_goto f_X9_isSign_67 ?_
              refine rw_zret f_X9_isSign_71 (by first | exact Or.inl rfl | exact Or.inr rfl | exact bI_01 _ | assumption) ?_
              simpa [bI, c1, c2, c3, c4, c5, c6] using hk
            · refine rw_iload f_X9_isSign_36 rfl ?_
              refine rw_const f_X9_isSign_37 ?_
              refine rw_eq f_X9_isSign_39 (fun c7 => ?_) (fun c7 => ?_)
              · refine rw_const f_X9_isSign_66 ?_
                refine rw_goto f_X9_isSign_67 ?_
                refine rw_zret f_X9_isSign_71 (by first | exact Or.inl rfl | exact Or.inr rfl | exact bI_01 _ | assumption) ?_
                simpa [bI, c1, c2, c3, c4, c5, c6, c7] using hk
              · refine rw_iload f_X9_isSign_42 rfl ?_
                refine rw_const f_X9_isSign_43 ?_
                refine rw_eq f_X9_isSign_45 (fun c8 => ?_) (fun c8 => ?_)
                · refine rw_const f_X9_isSign_66 ?_
                  refine rw_goto f_X9_isSign_67 ?_
                  refine rw_zret f_X9_isSign_71 (by first | exact Or.inl rfl | exact Or.inr rfl | exact bI_01 _ | assumption) ?_
                  simpa [bI, c1, c2, c3, c4, c5, c6, c7, c8] using hk
                · refine rw_iload f_X9_isSign_48 rfl ?_
                  refine rw_const f_X9_isSign_49 ?_
                  refine rw_eq f_X9_isSign_51 (fun c9 => ?_) (fun c9 => ?_)
                  · refine rw_const f_X9_isSign_66 ?_
                    refine rw_goto f_X9_isSign_67 ?_
                    refine rw_zret f_X9_isSign_71 (by first | exact Or.inl rfl | exact Or.inr rfl | exact bI_01 _ | assumption) ?_
                    simpa [bI, c1, c2, c3, c4, c5, c6, c7, c8, c9] using hk
                  · refine rw_iload f_X9_isSign_54 rfl ?_
                    refine rw_const f_X9_isSign_55 ?_
                    refine rw_eq f_X9_isSign_57 (fun c10 => ?_) (fun c10 => ?_)
                    · refine rw_const f_X9_isSign_66 ?_
                      refine rw_goto f_X9_isSign_67 ?_
                      refine rw_zret f_X9_isSign_71 (by first | exact Or.inl rfl | exact Or.inr rfl | exact bI_01 _ | assumption) ?_
                      simpa [bI, c1, c2, c3, c4, c5, c6, c7, c8, c9, c10] using hk
                    · refine rw_iload f_X9_isSign_60 rfl ?_
                      refine rw_const f_X9_isSign_61 ?_
                      refine rw_ne f_X9_isSign_63 (fun c11 => ?_) (fun c11 => ?_)
                      · refine rw_const f_X9_isSign_70 ?_
                        refine rw_zret f_X9_isSign_71 (by first | exact Or.inl rfl | exact Or.inr rfl | exact bI_01 _ | assumption) ?_
                        simpa [bI, c1, c2, c3, c4, c5, c6, c7, c8, c9, c10, c11] using hk
                      · refine rw_const f_X9_isSign_66 ?_
                        refine rw_goto f_X9_isSign_67 ?_
                        refine rw_zret f_X9_isSign_71 (by first | exact Or.inl rfl | exact Or.inr rfl | exact bI_01 _ | assumption) ?_
                        simpa [bI, c1, c2, c3, c4, c5, c6, c7, c8, c9, c10, c11] using hk
/-- the sign at a place, or none -/
def hr (T : tx) (N q : Nat) : Int32 := if q < N then T q else -1
/-- a text in the model's memory -/
def TP (V : am_M) (T : tx) (N : Nat) : Prop := V 0 5 = nI N ∧ N ≤ 1600 ∧ ∀ j, j < N → V 1 j = T j ∧ 0 ≤ T j
theorem hr_lt {q : Nat} : isLt (hr T N q) = true ↔ (q < N ∧ isLt (T q) = true) := by
  unfold hr
  by_cases c : q < N
  · rw [if_pos c]; exact ⟨fun z => ⟨c, z⟩, fun z => z.2⟩
  · rw [if_neg c]; exact ⟨fun z => absurd z (by decide), fun z => absurd z.1 c⟩
theorem hr_dg {q : Nat} : isDg (hr T N q) = true ↔ (q < N ∧ isDg (T q) = true) := by
  unfold hr
  by_cases c : q < N
  · rw [if_pos c]; exact ⟨fun z => ⟨c, z⟩, fun z => z.2⟩
  · rw [if_neg c]; exact ⟨fun z => absurd z (by decide), fun z => absurd z.1 c⟩
theorem m_here (hW : MW h m) (tp : TP V T N) {p q : Nat} (ha : V 0 4 = nI p) (hp : p + q < 5000) (hk : k (hr T N (p + q)) (mh h m V)) : Rn d n_X9_here 0 [am_r m, am_i (nI q)] [] (mh h m V) (kI k) := by
  obtain ⟨t1, t2, t3⟩ := tp
  unfold hr at hk
  by_cases c : p + q < N
  · rw [if_pos c] at hk
    refine rw_aload f_X9_here_0 rfl ?_
    refine rm_getI f_X9_here_1 hW ?_
    rw [ha]
    refine rw_iload f_X9_here_4 rfl ?_
    refine rw_iadd f_X9_here_5 ?_
    rw [nI_addl]
    refine rw_aload f_X9_here_6 rfl ?_
    refine rm_getI f_X9_here_7 hW ?_
    rw [t1]
    refine rw_icmpF f_X9_here_10 (decide_eq_false (nI_ge c (by omega))) ?_
    refine rw_aload f_X9_here_13 rfl ?_
    refine rm_getR f_X9_here_14 hW rfl ?_
    refine rw_aload f_X9_here_17 rfl ?_
    refine rm_getI f_X9_here_18 hW ?_
    rw [ha]
    refine rw_iload f_X9_here_21 rfl ?_
    refine rw_iadd f_X9_here_22 ?_
    refine rm_xald (j := p + q) f_X9_here_23 hW (by exact rfl) (by first | rfl | exact nI_addl _ _ | (simp only [nI, Int32.ofNat_add, Int32.ofNat_mul]; rfl) | (simp only [nI_addl, nI_mull, nI_lit, nI_1']; done) | (simp only [nI_1, nI_0, nI_addl, nI_mull, ← nI_succ]; rfl)) (by omega) ?_
    rw [(t3 _ c).1]
    refine rw_goto f_X9_here_24 ?_
    refine rw_iret f_X9_here_28 ?_
    exact hk
  · rw [if_neg c] at hk
    refine rw_aload f_X9_here_0 rfl ?_
    refine rm_getI f_X9_here_1 hW ?_
    rw [ha]
    refine rw_iload f_X9_here_4 rfl ?_
    refine rw_iadd f_X9_here_5 ?_
    rw [nI_addl]
    refine rw_aload f_X9_here_6 rfl ?_
    refine rm_getI f_X9_here_7 hW ?_
    rw [t1]
    refine rw_icmpT f_X9_here_10 (decide_eq_true (nI_le (by omega) (by omega))) ?_
    refine rw_const f_X9_here_27 ?_
    refine rw_iret f_X9_here_28 ?_
    exact hk
/-- what a token changes -/
def tks (a j : Nat) : Prop := a = 0 ∧ (j = 4 ∨ j = 6 ∨ j = 7 ∨ j = 8)
def Tk (V W : am_M) : Prop := ∀ a j, ¬ tks a j → W a j = V a j
theorem Tk.refl : Tk V V := fun _ _ _ => rfl
theorem Tk.tr {V1 V2 : am_M} (p : Tk V V1) (q : Tk V1 V2) : Tk V V2 := fun a j e => (q a j e).trans (p a j e)
theorem Tk.up {W : am_M} {a k : Nat} {v : Int32} (p : Tk V W) (e : tks a k) : Tk V (am_up W a k v) := fun b j r => by
  rw [up_ne (fun z => r (by rw [z.1, z.2]; exact e))]
  exact p b j r
theorem Tk.tp {W : am_M} (p : Tk V W) (q : TP V T N) : TP W T N := ⟨by rw [p _ _ (by unfold tks; omega)]; exact q.1, q.2.1, fun j hj => by rw [p _ _ (by unfold tks; omega)]; exact q.2.2 j hj⟩
/-- only the model's own longs change (its word) -/
def Lw (m : Nat) (h h' : am_H) : Prop := h'.1 = h.1 ∧ h'.2.2 = h.2.2 ∧ ∀ a, ¬ a = m → hp_L h' a = hp_L h a
theorem Lw.refl : Lw m h h := ⟨rfl, rfl, fun _ _ => rfl⟩
theorem Lw.tr {h1 h2 : am_H} (p : Lw m h h1) (q : Lw m h1 h2) : Lw m h h2 := ⟨q.1.trans p.1, q.2.1.trans p.2.1, fun a ha => (q.2.2 a ha).trans (p.2.2 a ha)⟩
theorem Lw.s {h1 : am_H} {j : Nat} {v : Int64} (p : Lw m h h1) : Lw m h (hp_sL h1 m j v) := ⟨p.1, p.2.1, fun a ha => (funext fun i => if_neg (fun z => ha z.1)).trans (p.2.2 a ha)⟩
theorem Lw.mw {h1 : am_H} (p : Lw m h h1) (hW : MW h m) : MW h1 m := by
  unfold MW hp_K hp_R at hW ⊢
  rw [p.2.1]; exact hW
/-- the sort of a token -/
def srt (T : tx) (N p : Nat) : Int32 := if tkD T N p = 3 then T p else if tkD T N p = 4 then 3 else tkD T N p
theorem srt_4 {p : Nat} (e : tkD T N p = 4) : srt T N p = 3 := by unfold srt; rw [e, if_neg (by decide), if_pos rfl]
theorem srt_3 {p : Nat} (e : tkD T N p = 3) : srt T N p = T p := by unfold srt; rw [if_pos e]
theorem srt_2 {p : Nat} (e : tkD T N p = 2) : srt T N p = 2 := by unfold srt; rw [e, if_neg (by decide), if_neg (by decide)]
theorem srt_1 {p : Nat} (e : tkD T N p = 1) : srt T N p = 1 := by unfold srt; rw [e, if_neg (by decide), if_neg (by decide)]
theorem srt_0 {p : Nat} (e : tkD T N p = 0) : srt T N p = 0 := by unfold srt; rw [e, if_neg (by decide), if_neg (by decide)]
/-- the token at p is at hand -/
def MT (h : am_H) (m : Nat) (V : am_M) (T : tx) (N p : Nat) : Prop := p ≤ N ∧ V 0 7 = nI p ∧ V 0 6 = srt T N p ∧ (tkD T N p = 2 → V 0 8 = tkN T N p) ∧ (tkD T N p = 1 → hp_L h m 9 = tkW T N p) ∧ (¬ tkD T N p = 4 → V 0 4 = nI (tkE T N p))
theorem m_tok2 (hW : MW h m) (tp : TP V T N) {p : Nat} (hp : p ≤ N) (ha : V 0 4 = nI p) {y z : am_V} {k : am_H → Prop} (hk : ∀ h' W, Lw m h h' → Tk V W → MT h' m W T N p → k (mh h' m W)) : Rn (d + 1) n_X9_token 33 [am_r m, y, z] [] (mh h m V) (kV k) := by
  have hN := tp.2.1
  have hW0 := hW
  have W1 : Tk V (am_up V 0 7 (nI p)) := Tk.refl.up (by unfold tks; omega)
  have a1 : am_up V 0 7 (nI p) 0 4 = nI p := by rw [up_ne (by decide)]; exact ha
  -- the end: the place goes on
  have fin : ∀ (h1 : am_H) (W : am_M) (n : Nat) (c : Int32), Lw m h h1 → Tk V W → W 0 4 = nI p → W 0 7 = nI p → W 0 6 = srt T N p → (tkD T N p = 2 → W 0 8 = tkN T N p) → (tkD T N p = 1 → hp_L h1 m 9 = tkW T N p) → (¬ tkD T N p = 4 → p + n = tkE T N p) → (srt T N p = 3 ↔ tkD T N p = 4) → Rn (d + 1) n_X9_token 232 [am_r m, am_i c, am_i (nI n)] [] (mh h1 m W) (kV k) := by
    intro h1 W n c lw tk wa wp ws wn wl we w3
    have hW := lw.mw hW
    by_cases c4 : tkD T N p = 4
    · refine rw_aload f_X9_token_232 rfl ?_
      refine rm_getI f_X9_token_233 hW ?_
      rw [ws, w3.mpr c4]
      refine rw_const f_X9_token_236 ?_
      refine rw_icmpT f_X9_token_237 (by decide) ?_
      refine rw_vret f_X9_token_250 ?_
      exact hk h1 W lw tk ⟨hp, wp, ws, wn, wl, fun q => absurd c4 q⟩
    · refine rw_aload f_X9_token_232 rfl ?_
      refine rm_getI f_X9_token_233 hW ?_
      rw [ws]
      refine rw_const f_X9_token_236 ?_
      refine rw_icmpF f_X9_token_237 (decide_eq_false (fun q => c4 (w3.mp q))) ?_
      refine rw_aload f_X9_token_240 rfl ?_
      first | refine rw_dupr f_X9_token_241 ?_ | refine rw_dupi f_X9_token_241 ?_
      refine rm_getI f_X9_token_242 hW ?_
      rw [wa]
      refine rw_iload f_X9_token_245 rfl ?_
      refine rw_iadd f_X9_token_246 ?_
      rw [nI_addl, we c4]
      refine rm_putI f_X9_token_247 hW ?_
      refine rw_vret f_X9_token_250 ?_
      refine hk h1 _ lw (tk.up (by unfold tks; omega)) ⟨hp, ?_, ?_, fun q => ?_, wl, fun _ => up_same⟩
      · rw [up_ne (by decide)]; exact wp
      · rw [up_ne (by decide)]; exact ws
      · rw [up_ne (by decide)]; exact wn q
  refine rw_aload f_X9_token_33 rfl ?_
  refine rw_aload f_X9_token_34 rfl ?_
  refine rm_getI f_X9_token_35 hW ?_
  rw [ha]
  refine rm_putI f_X9_token_38 hW ?_
  refine rw_aload f_X9_token_41 rfl ?_
  refine rw_const f_X9_token_42 ?_
  refine rw_callV f_X9_token_43 rfl hW.1 hW.2.1 rfl rfl rfl rfl (rn_ki (m_here hW (W1.tp tp) (q := 0) a1 (by omega) ?_))
  refine rw_istore f_X9_token_46 rfl rfl ?_
  refine rw_const f_X9_token_47 ?_
  refine rw_istore f_X9_token_48 rfl rfl ?_
  refine rw_aload f_X9_token_49 rfl ?_
  refine rw_const f_X9_token_50 ?_
  refine rm_putL f_X9_token_51 hW ?_
  refine rw_aload f_X9_token_54 rfl ?_
  refine rw_const f_X9_token_55 ?_
  refine rm_putI f_X9_token_56 hW ?_
  skip
  generalize hH : hp_sL h m 9 0 = h1
  generalize hV : am_up (am_up V 0 7 (nI p)) 0 8 0 = W
  have lw : Lw m h h1 := by rw [← hH]; exact Lw.refl.s
  have tk : Tk V W := by rw [← hV]; exact W1.up (by unfold tks; omega)
  have wa : W 0 4 = nI p := by rw [← hV, up_ne (by decide)]; exact a1
  have wp : W 0 7 = nI p := by rw [← hV, up_ne (by decide)]; exact up_same
  have wn0 : W 0 8 = 0 := by rw [← hV]; exact up_same
  have wl0 : hp_L h1 m 9 = 0 := by rw [← hH]; exact sL_same
  have tpw := tk.tp tp
  have hW1 := lw.mw hW
  clear hH hV
  by_cases c0 : p < N
  · have eh : hr T N (p + 0) = T p := if_pos c0
    rw [eh]
    have nn : 0 ≤ T p := (tp.2.2 p c0).2
    have hW := hW1
    cases cl : isLt (T p) with
    | true =>
      have e1 := rEnd_le (P := isLt) (T := T) (N := N) (q := p)
      have e2 := rEnd_N (P := isLt) (T := T) (N := N) hp
      have eD : tkD T N p = if 8 < rEnd isLt T N p - p then 4 else 1 := by unfold tkD; rw [if_neg (by omega), if_pos cl]
      have eE : tkE T N p = rEnd isLt T N p := by unfold tkE; rw [if_neg (by omega), if_pos cl]
      have loop : ∀ r n, p + n + r = rEnd isLt T N p → rEnd isLt T N (p + n) = rEnd isLt T N p → ∀ h2, Lw m h h2 → hp_L h2 m 9 = wF T p n → Rn (d + 1) n_X9_token 78 [am_r m, am_i (T p), am_i (nI n)] [] (mh h2 m W) (kV k) := by
        intro r
        induction r with
        | zero =>
          intro n hn hr2 h2 lw2 wl
          have hW := lw2.mw hW0
          have nl : isLt (hr T N (p + n)) = false := by
            apply Bool.eq_false_iff.mpr
            intro q
            have q' := hr_lt.mp q
            rw [rEnd_t q'.1 q'.2] at hr2
            have := rEnd_le (P := isLt) (T := T) (N := N) (q := p + n + 1)
            omega
          have len : rEnd isLt T N p - p = n := by omega
          have tk2 : Tk V (am_up W 0 6 (srt T N p)) := tk.up (by unfold tks; omega)
          have eS : srt T N p = if 8 < n then 3 else 1 := by
            rw [len] at eD
            by_cases q : 8 < n
            · rw [if_pos q] at eD ⊢; exact srt_4 eD
            · rw [if_neg q] at eD ⊢; exact srt_1 eD
          have done : Rn (d + 1) n_X9_token 232 [am_r m, am_i (T p), am_i (nI n)] [] (mh h2 m (am_up W 0 6 (srt T N p))) (kV k) := by
            refine fin h2 _ n (T p) lw2 tk2 (by rw [up_ne (by decide)]; exact wa) (by rw [up_ne (by decide)]; exact wp) up_same (fun q => ?_) (fun q => ?_) (fun q => by rw [eE]; omega) ?_
            · rw [eD] at q; split at q <;> exact absurd q (by decide)
            · rw [wl]; unfold tkW; rw [eE, len]
            · rw [eS, eD, len]
              by_cases q : 8 < n
              · rw [if_pos q, if_pos q]; decide
              · rw [if_neg q, if_neg q]; decide
          have n8 : (nI n ≤ 8) ↔ n ≤ 8 := nI_leI (b := 8) (by omega) (by omega)
          refine rw_aload f_X9_token_78 rfl ?_
          refine rw_iload f_X9_token_79 rfl ?_
          refine rw_callV f_X9_token_80 rfl hW.1 hW.2.1 rfl rfl rfl rfl (rn_ki (m_here hW tpw wa (by omega) ?_))
          refine rw_callS f_X9_token_83 rfl rfl rfl (rn_ki (m_isLt ?_))
          rw [nl]
          refine rw_ifT f_X9_token_86 (by decide) ?_
          refine rw_aload f_X9_token_119 rfl ?_
          refine rw_iload f_X9_token_120 rfl ?_
          refine rw_const f_X9_token_121 ?_
          refine rw_le f_X9_token_123 (fun c1 => ?_) (fun c1 => ?_)
          · refine rw_const f_X9_token_130 ?_
            refine rm_putI f_X9_token_131 hW ?_
            refine rw_goto f_X9_token_134 ?_
            first | (rw [eS, if_neg (by rw [n8] at c1; omega)] at done; exact done) | (rw [eS, if_pos (by rw [n8] at c1; omega)] at done; exact done)
          · refine rw_const f_X9_token_126 ?_
            refine rw_goto f_X9_token_127 ?_
            refine rm_putI f_X9_token_131 hW ?_
            refine rw_goto f_X9_token_134 ?_
            first | (rw [eS, if_neg (by rw [n8] at c1; omega)] at done; exact done) | (rw [eS, if_pos (by rw [n8] at c1; omega)] at done; exact done)
        | succ r ih =>
          intro n hn hr2 h2 lw2 wl
          have hW := lw2.mw hW0
          have yl : p + n < N ∧ isLt (T (p + n)) = true := by
            apply Classical.byContradiction
            intro q
            rw [rEnd_f q] at hr2
            omega
          have eh2 : hr T N (p + n) = T (p + n) := if_pos yl.1
          have st : rEnd isLt T N (p + (n + 1)) = rEnd isLt T N p := by rw [← hr2, rEnd_t yl.1 yl.2]; rfl
          have n8 : (8 ≤ nI n) ↔ 8 ≤ n := nI_leI (a := 8) (by omega) (by omega)
          by_cases q8 : n < 8
          · have ew : wF T p (n + 1) = (wF T p n <<< ((8 : Int32).toInt64 &&& 63)) ||| (T (p + n)).toInt64 := by show (if n < 8 then _ else _) = _; rw [if_pos q8]
            refine rw_aload f_X9_token_78 rfl ?_
            refine rw_iload f_X9_token_79 rfl ?_
            refine rw_callV f_X9_token_80 rfl hW.1 hW.2.1 rfl rfl rfl rfl (rn_ki (m_here hW tpw wa (by omega) ?_))
            refine rw_callS f_X9_token_83 rfl rfl rfl (rn_ki (m_isLt ?_))
            rw [eh2, yl.2]
            refine rw_ifF f_X9_token_86 (by decide) ?_
            refine rw_iload f_X9_token_89 rfl ?_
            refine rw_const f_X9_token_90 ?_
            refine rw_icmpF f_X9_token_92 (decide_eq_false (fun z => by rw [n8] at z; omega)) ?_
            refine rw_aload f_X9_token_95 rfl ?_
            refine rw_aload f_X9_token_96 rfl ?_
            refine rm_getL f_X9_token_97 hW ?_
            rw [wl]
            refine rw_const f_X9_token_100 ?_
            refine rw_lsh f_X9_token_102 ?_
            refine rw_aload f_X9_token_103 rfl ?_
            refine rw_iload f_X9_token_104 rfl ?_
            refine rw_callV f_X9_token_105 rfl hW.1 hW.2.1 rfl rfl rfl rfl (rn_ki (m_here hW tpw wa (by omega) ?_))
            rw [eh2]
            refine rw_i2l f_X9_token_108 ?_
            refine rw_lor f_X9_token_109 ?_
            rw [← ew]
            refine rm_putL f_X9_token_110 hW ?_
            refine rw_iinc f_X9_token_113 rfl rfl ?_
            refine rw_goto f_X9_token_116 ?_
            rw [nI_1']
            exact ih (n + 1) (by omega) st _ lw2.s sL_same
          · have ew : wF T p (n + 1) = wF T p n := by show (if n < 8 then _ else _) = _; rw [if_neg q8]
            refine rw_aload f_X9_token_78 rfl ?_
            refine rw_iload f_X9_token_79 rfl ?_
            refine rw_callV f_X9_token_80 rfl hW.1 hW.2.1 rfl rfl rfl rfl (rn_ki (m_here hW tpw wa (by omega) ?_))
            refine rw_callS f_X9_token_83 rfl rfl rfl (rn_ki (m_isLt ?_))
            rw [eh2, yl.2]
            refine rw_ifF f_X9_token_86 (by decide) ?_
            refine rw_iload f_X9_token_89 rfl ?_
            refine rw_const f_X9_token_90 ?_
            refine rw_icmpT f_X9_token_92 (decide_eq_true (n8.mpr (by omega))) ?_
            refine rw_iinc f_X9_token_113 rfl rfl ?_
            refine rw_goto f_X9_token_116 ?_
            rw [nI_1']
            exact ih (n + 1) (by omega) st h2 lw2 (by rw [ew]; exact wl)
      refine rw_iload f_X9_token_59 rfl ?_
      refine rw_ifT f_X9_token_60 (decide_eq_true nn) ?_
      refine rw_iload f_X9_token_71 rfl ?_
      refine rw_callS f_X9_token_72 rfl rfl rfl (rn_ki (m_isLt ?_))
      rw [cl]
      refine rw_ifF f_X9_token_75 (by decide) ?_
      exact loop (rEnd isLt T N p - p) 0 (by omega) rfl h1 lw wl0
    | false =>
      cases cd : isDg (T p) with
      | true =>
        have e1 := rEnd_le (P := isDg) (T := T) (N := N) (q := p)
        have e2 := rEnd_N (P := isDg) (T := T) (N := N) hp
        have eD : tkD T N p = if 4 < rEnd isDg T N p - p then 4 else if rEnd isDg T N p < N ∧ isLt (T (rEnd isDg T N p)) = true then 4 else 2 := by unfold tkD; rw [if_neg (by omega), if_neg (by rw [cl]; decide), if_pos cd]
        have eE : tkE T N p = rEnd isDg T N p := by unfold tkE; rw [if_neg (by omega), if_neg (by rw [cl]; decide), if_pos cd]
        have loop : ∀ r n, p + n + r = rEnd isDg T N p → rEnd isDg T N (p + n) = rEnd isDg T N p → ∀ X, Tk V X → X 0 4 = nI p → X 0 7 = nI p → X 0 8 = nF T p n → Rn (d + 1) n_X9_token 144 [am_r m, am_i (T p), am_i (nI n)] [] (mh h1 m X) (kV k) := by
          intro r
          induction r with
          | zero =>
            intro n hn hr2 X tx xa xp xn
            have nl : isDg (hr T N (p + n)) = false := by
              apply Bool.eq_false_iff.mpr
              intro q
              have q' := hr_dg.mp q
              rw [rEnd_t q'.1 q'.2] at hr2
              have := rEnd_le (P := isDg) (T := T) (N := N) (q := p + n + 1)
              omega
            have len : rEnd isDg T N p - p = n := by omega
            have eN : rEnd isDg T N p = p + n := by omega
            have tpx := tx.tp tp
            have n4 : (4 < nI n) ↔ 4 < n := nI_ltI (a := 4) (by omega) (by omega)
            have eL : (rEnd isDg T N p < N ∧ isLt (T (rEnd isDg T N p)) = true) ↔ isLt (hr T N (p + n)) = true := by rw [eN]; exact hr_lt.symm
            have eS : srt T N p = if 4 < n then 3 else if isLt (hr T N (p + n)) = true then 3 else 2 := by
              rw [len] at eD
              by_cases q : 4 < n
              · rw [if_pos q] at eD ⊢; exact srt_4 eD
              · rw [if_neg q] at eD ⊢
                by_cases q2 : isLt (hr T N (p + n)) = true
                · rw [if_pos (eL.mpr q2)] at eD; rw [if_pos q2]; exact srt_4 eD
                · rw [if_neg (fun z => q2 (eL.mp z))] at eD; rw [if_neg q2]; exact srt_2 eD
            have done : Rn (d + 1) n_X9_token 232 [am_r m, am_i (T p), am_i (nI n)] [] (mh h1 m (am_up X 0 6 (srt T N p))) (kV k) := by
              refine fin h1 _ n (T p) lw (tx.up (by unfold tks; omega)) (by rw [up_ne (by decide)]; exact xa) (by rw [up_ne (by decide)]; exact xp) up_same (fun q => ?_) (fun q => ?_) (fun q => by rw [eE]; omega) ?_
              · rw [up_ne (by decide), xn]; unfold tkN; rw [eE, len]
              · rw [eD] at q; split at q
                · exact absurd q (by decide)
                · split at q <;> exact absurd q (by decide)
              · rw [eS, eD, len]
                by_cases q : 4 < n
                · rw [if_pos q, if_pos q]; decide
                · rw [if_neg q, if_neg q]
                  by_cases q2 : isLt (hr T N (p + n)) = true
                  · rw [if_pos q2, if_pos (eL.mpr q2)]; decide
                  · rw [if_neg q2, if_neg (fun z => q2 (eL.mp z))]; decide
            by_cases q : 4 < n
            · rw [eS, if_pos q] at done
              refine rw_aload f_X9_token_144 rfl ?_
              refine rw_iload f_X9_token_145 rfl ?_
              refine rw_callV f_X9_token_146 rfl hW.1 hW.2.1 rfl rfl rfl rfl (rn_ki (m_here hW tpx xa (by omega) ?_))
              refine rw_callS f_X9_token_149 rfl rfl rfl (rn_ki (m_isDg ?_))
              rw [nl]
              refine rw_ifT f_X9_token_152 (by decide) ?_
              refine rw_aload f_X9_token_186 rfl ?_
              refine rw_iload f_X9_token_187 rfl ?_
              refine rw_const f_X9_token_188 ?_
              refine rw_icmpT f_X9_token_189 (decide_eq_true (n4.mpr q)) ?_
              refine rw_const f_X9_token_203 ?_
              refine rw_goto f_X9_token_204 ?_
              refine rm_putI f_X9_token_208 hW ?_
              refine rw_goto f_X9_token_211 ?_
              exact done
            · rw [eS, if_neg q] at done
              refine rw_aload f_X9_token_144 rfl ?_
              refine rw_iload f_X9_token_145 rfl ?_
              refine rw_callV f_X9_token_146 rfl hW.1 hW.2.1 rfl rfl rfl rfl (rn_ki (m_here hW tpx xa (by omega) ?_))
              refine rw_callS f_X9_token_149 rfl rfl rfl (rn_ki (m_isDg ?_))
              rw [nl]
              refine rw_ifT f_X9_token_152 (by decide) ?_
              refine rw_aload f_X9_token_186 rfl ?_
              refine rw_iload f_X9_token_187 rfl ?_
              refine rw_const f_X9_token_188 ?_
              refine rw_icmpF f_X9_token_189 (decide_eq_false (fun z => q (n4.mp z))) ?_
              refine rw_aload f_X9_token_192 rfl ?_
              refine rw_iload f_X9_token_193 rfl ?_
              refine rw_callV f_X9_token_194 rfl hW.1 hW.2.1 rfl rfl rfl rfl (rn_ki (m_here hW tpx xa (by omega) ?_))
              refine rw_callS f_X9_token_197 rfl rfl rfl (rn_ki (m_isLt ?_))
              first | refine rw_eq0B f_X9_token_200 (fun c1 => ?_) (fun c1 => ?_) | refine rw_eq0 f_X9_token_200 (fun c1 => ?_) (fun c1 => ?_)
              · refine rw_const f_X9_token_207 ?_
                refine rm_putI f_X9_token_208 hW ?_
                refine rw_goto f_X9_token_211 ?_
                first | (rw [if_neg (by rw [c1]; decide)] at done; exact done) | (rw [if_pos c1] at done; exact done)
              · refine rw_const f_X9_token_203 ?_
                refine rw_goto f_X9_token_204 ?_
                refine rm_putI f_X9_token_208 hW ?_
                refine rw_goto f_X9_token_211 ?_
                first | (rw [if_neg (by rw [c1]; decide)] at done; exact done) | (rw [if_pos c1] at done; exact done)
          | succ r ih =>
            intro n hn hr2 X tx xa xp xn
            have tpx := tx.tp tp
            have yl : p + n < N ∧ isDg (T (p + n)) = true := by
              apply Classical.byContradiction
              intro q
              rw [rEnd_f q] at hr2
              omega
            have eh2 : hr T N (p + n) = T (p + n) := if_pos yl.1
            have st : rEnd isDg T N (p + (n + 1)) = rEnd isDg T N p := by rw [← hr2, rEnd_t yl.1 yl.2]; rfl
            have n4 : (4 ≤ nI n) ↔ 4 ≤ n := nI_leI (a := 4) (by omega) (by omega)
            by_cases q4 : n < 4
            · have ew : nF T p (n + 1) = 10 * nF T p n + T (p + n) - 48 := by show (if n < 4 then _ else _) = _; rw [if_pos q4]
              refine rw_aload f_X9_token_144 rfl ?_
              refine rw_iload f_X9_token_145 rfl ?_
              refine rw_callV f_X9_token_146 rfl hW.1 hW.2.1 rfl rfl rfl rfl (rn_ki (m_here hW tpx xa (by omega) ?_))
              refine rw_callS f_X9_token_149 rfl rfl rfl (rn_ki (m_isDg ?_))
              rw [eh2, yl.2]
              refine rw_ifF f_X9_token_152 (by decide) ?_
              refine rw_iload f_X9_token_155 rfl ?_
              refine rw_const f_X9_token_156 ?_
              refine rw_icmpF f_X9_token_157 (decide_eq_false (fun z => by rw [n4] at z; omega)) ?_
              refine rw_aload f_X9_token_160 rfl ?_
              refine rw_const f_X9_token_161 ?_
              refine rw_aload f_X9_token_163 rfl ?_
              refine rm_getI f_X9_token_164 hW ?_
              rw [xn]
              refine rw_imul f_X9_token_167 ?_
              refine rw_aload f_X9_token_168 rfl ?_
              refine rw_iload f_X9_token_169 rfl ?_
              refine rw_callV f_X9_token_170 rfl hW.1 hW.2.1 rfl rfl rfl rfl (rn_ki (m_here hW tpx xa (by omega) ?_))
              rw [eh2]
              refine rw_iadd f_X9_token_173 ?_
              refine rw_const f_X9_token_174 ?_
              refine rw_isub f_X9_token_176 ?_
              rw [← ew]
              refine rm_putI f_X9_token_177 hW ?_
              refine rw_iinc f_X9_token_180 rfl rfl ?_
              refine rw_goto f_X9_token_183 ?_
              rw [nI_1']
              exact ih (n + 1) (by omega) st _ (tx.up (by unfold tks; omega)) (by rw [up_ne (by decide)]; exact xa) (by rw [up_ne (by decide)]; exact xp) up_same
            · have ew : nF T p (n + 1) = nF T p n := by show (if n < 4 then _ else _) = _; rw [if_neg q4]
              refine rw_aload f_X9_token_144 rfl ?_
              refine rw_iload f_X9_token_145 rfl ?_
              refine rw_callV f_X9_token_146 rfl hW.1 hW.2.1 rfl rfl rfl rfl (rn_ki (m_here hW tpx xa (by omega) ?_))
              refine rw_callS f_X9_token_149 rfl rfl rfl (rn_ki (m_isDg ?_))
              rw [eh2, yl.2]
              refine rw_ifF f_X9_token_152 (by decide) ?_
              refine rw_iload f_X9_token_155 rfl ?_
              refine rw_const f_X9_token_156 ?_
              refine rw_icmpT f_X9_token_157 (decide_eq_true (n4.mpr (by omega))) ?_
              refine rw_iinc f_X9_token_180 rfl rfl ?_
              refine rw_goto f_X9_token_183 ?_
              rw [nI_1']
              exact ih (n + 1) (by omega) st X tx xa xp (by rw [ew]; exact xn)
        refine rw_iload f_X9_token_59 rfl ?_
        refine rw_ifT f_X9_token_60 (decide_eq_true nn) ?_
        refine rw_iload f_X9_token_71 rfl ?_
        refine rw_callS f_X9_token_72 rfl rfl rfl (rn_ki (m_isLt ?_))
        rw [cl]
        refine rw_ifT f_X9_token_75 (by decide) ?_
        refine rw_iload f_X9_token_137 rfl ?_
        refine rw_callS f_X9_token_138 rfl rfl rfl (rn_ki (m_isDg ?_))
        rw [cd]
        refine rw_ifF f_X9_token_141 (by decide) ?_
        exact loop (rEnd isDg T N p - p) 0 (by omega) rfl W tk wa wp wn0
      | false =>
        have eD : tkD T N p = if isSg (T p) = true then 3 else 4 := by unfold tkD; rw [if_neg (by omega), if_neg (by rw [cl]; decide), if_neg (by rw [cd]; decide)]
        have eE : tkE T N p = p + 1 := by unfold tkE; rw [if_neg (by omega), if_neg (by rw [cl]; decide), if_neg (by rw [cd]; decide)]
        have eS : srt T N p = if isSg (T p) = true then T p else 3 := by
          by_cases q : isSg (T p) = true
          · rw [if_pos q] at eD ⊢; exact srt_3 eD
          · rw [if_neg q] at eD ⊢; exact srt_4 eD
        have n3 : isSg (T p) = true → ¬ T p = 3 := fun q z => by rw [z] at q; cases q
        have done : Rn (d + 1) n_X9_token 232 [am_r m, am_i (T p), am_i (nI 1)] [] (mh h1 m (am_up W 0 6 (srt T N p))) (kV k) := by
          refine fin h1 _ 1 (T p) lw (tk.up (by unfold tks; omega)) (by rw [up_ne (by decide)]; exact wa) (by rw [up_ne (by decide)]; exact wp) up_same (fun q => ?_) (fun q => ?_) (fun q => by rw [eE]) ?_
          · rw [eD] at q; split at q <;> exact absurd q (by decide)
          · rw [eD] at q; split at q <;> exact absurd q (by decide)
          · rw [eS, eD]
            by_cases q : isSg (T p) = true
            · rw [if_pos q, if_pos q]; exact ⟨fun z => absurd z (n3 q), fun z => absurd z (by decide)⟩
            · rw [if_neg q, if_neg q]; decide
        refine rw_iload f_X9_token_59 rfl ?_
        refine rw_ifT f_X9_token_60 (decide_eq_true nn) ?_
        refine rw_iload f_X9_token_71 rfl ?_
        refine rw_callS f_X9_token_72 rfl rfl rfl (rn_ki (m_isLt ?_))
        rw [cl]
        refine rw_ifT f_X9_token_75 (by decide) ?_
        refine rw_iload f_X9_token_137 rfl ?_
        refine rw_callS f_X9_token_138 rfl rfl rfl (rn_ki (m_isDg ?_))
        rw [cd]
        refine rw_ifT f_X9_token_141 (by decide) ?_
        refine rw_const f_X9_token_214 ?_
        refine rw_istore f_X9_token_215 rfl rfl ?_
        refine rw_aload f_X9_token_216 rfl ?_
        refine rw_iload f_X9_token_217 rfl ?_
        refine rw_callS f_X9_token_218 rfl rfl rfl (rn_ki (m_isSg ?_))
        first | refine rw_eq0B f_X9_token_221 (fun c1 => ?_) (fun c1 => ?_) | refine rw_eq0 f_X9_token_221 (fun c1 => ?_) (fun c1 => ?_)
        · refine rw_const f_X9_token_228 ?_
          refine rm_putI f_X9_token_229 hW ?_
          rw [eS] at done
          first | (rw [if_neg (by rw [c1]; decide)] at done; exact done) | (rw [if_pos c1] at done; exact done)
        · refine rw_iload f_X9_token_224 rfl ?_
          refine rw_goto f_X9_token_225 ?_
          refine rm_putI f_X9_token_229 hW ?_
          rw [eS] at done
          first | (rw [if_neg (by rw [c1]; decide)] at done; exact done) | (rw [if_pos c1] at done; exact done)
  · have eh : hr T N (p + 0) = -1 := if_neg c0
    rw [eh]
    have eD : tkD T N p = 0 := by unfold tkD; rw [if_pos (by omega)]
    have eE : tkE T N p = p := by unfold tkE; rw [if_pos (by omega)]
    have eS : srt T N p = 0 := srt_0 eD
    have hW := hW1
    have done : Rn (d + 1) n_X9_token 232 [am_r m, am_i (-1), am_i (nI 0)] [] (mh h1 m (am_up W 0 6 (srt T N p))) (kV k) :=
      fin h1 _ 0 (-1) lw (tk.up (by unfold tks; omega)) (by rw [up_ne (by decide)]; exact wa) (by rw [up_ne (by decide)]; exact wp) up_same (fun q => by rw [eD] at q; exact absurd q (by decide)) (fun q => by rw [eD] at q; exact absurd q (by decide)) (fun q => by rw [eE]; rfl) (by rw [eS, eD]; decide)
    rw [eS] at done
    refine rw_iload f_X9_token_59 rfl ?_
    refine rw_ifF f_X9_token_60 (by decide) ?_
    refine rw_aload f_X9_token_63 rfl ?_
    refine rw_const f_X9_token_64 ?_
    refine rm_putI f_X9_token_65 hW ?_
    refine rw_goto f_X9_token_68 ?_
    exact done
theorem m_token (hW : MW h m) (tp : TP V T N) {e : Nat} (he : e ≤ N) (ha : V 0 4 = nI e) {k : am_H → Prop} (hk : ∀ h' W, Lw m h h' → Tk V W → MT h' m W T N (rEnd isSp T N e) → k (mh h' m W)) : Rn (d + 1) n_X9_token 0 [am_r m, am_u, am_u] [] (mh h m V) (kV k) := by
  have hN := tp.2.1
  have go : ∀ r e (W : am_M), e + r = N → W 0 4 = nI e → Tk V W → (∀ h' X, Lw m h h' → Tk V X → MT h' m X T N (rEnd isSp T N e) → k (mh h' m X)) → Rn (d + 1) n_X9_token 0 [am_r m, am_u, am_u] [] (mh h m W) (kV k) := by
    intro r
    induction r with
    | zero =>
      intro e W he ha tk hk
      rw [rEnd_f (by omega)] at hk
      have hn : hr T N (e + 0) = -1 := if_neg (by omega)
      refine rw_aload f_X9_token_0 rfl ?_
      refine rw_const f_X9_token_1 ?_
      refine rw_callV f_X9_token_2 rfl hW.1 hW.2.1 rfl rfl rfl rfl (rn_ki (m_here hW (tk.tp tp) (q := 0) ha (by omega) ?_))
      rw [hn]
      refine rw_const f_X9_token_5 ?_
      refine rw_icmpF f_X9_token_7 (by decide) ?_
      refine rw_aload f_X9_token_10 rfl ?_
      refine rw_const f_X9_token_11 ?_
      refine rw_callV f_X9_token_12 rfl hW.1 hW.2.1 rfl rfl rfl rfl (rn_ki (m_here hW (tk.tp tp) (q := 0) ha (by omega) ?_))
      rw [hn]
      refine rw_const f_X9_token_15 ?_
      refine rw_icmpT f_X9_token_17 (by decide) ?_
      exact m_tok2 hW (tk.tp tp) (by omega) ha (fun h' X lw tx mt => hk h' X lw (tk.tr tx) mt)
    | succ r ih =>
      intro e W he ha tk hk
      have hn : hr T N (e + 0) = T e := if_pos (by omega)
      by_cases cs : isSp (T e) = true
      · rw [rEnd_t (by omega) cs] at hk
        have ih' := ih (e + 1) (am_up W 0 4 (nI (e + 1))) (by omega) up_same (tk.up (by unfold tks; omega)) hk
        unfold isSp at cs
        rw [Bool.or_eq_true, decide_eq_true_eq, decide_eq_true_eq] at cs
        refine rw_aload f_X9_token_0 rfl ?_
        refine rw_const f_X9_token_1 ?_
        refine rw_callV f_X9_token_2 rfl hW.1 hW.2.1 rfl rfl rfl rfl (rn_ki (m_here hW (tk.tp tp) (q := 0) ha (by omega) ?_))
        rw [hn]
        refine rw_const f_X9_token_5 ?_
        refine rw_eq f_X9_token_7 (fun c1 => ?_) (fun c1 => ?_)
        · refine rw_aload f_X9_token_20 rfl ?_
          first | refine rw_dupr f_X9_token_21 ?_ | refine rw_dupi f_X9_token_21 ?_
          refine rm_getI f_X9_token_22 hW ?_
          rw [ha]
          refine rw_const f_X9_token_25 ?_
          refine rw_iadd f_X9_token_26 ?_
          rw [nI_1']
          refine rm_putI f_X9_token_27 hW ?_
          refine rw_goto f_X9_token_30 ?_
          exact ih'
        · refine rw_aload f_X9_token_10 rfl ?_
          refine rw_const f_X9_token_11 ?_
          refine rw_callV f_X9_token_12 rfl hW.1 hW.2.1 rfl rfl rfl rfl (rn_ki (m_here hW (tk.tp tp) (q := 0) ha (by omega) ?_))
          rw [hn]
          refine rw_const f_X9_token_15 ?_
          refine rw_icmpF f_X9_token_17 (decide_eq_false (fun z => z (cs.resolve_left c1))) ?_
          refine rw_aload f_X9_token_20 rfl ?_
          first | refine rw_dupr f_X9_token_21 ?_ | refine rw_dupi f_X9_token_21 ?_
          refine rm_getI f_X9_token_22 hW ?_
          rw [ha]
          refine rw_const f_X9_token_25 ?_
          refine rw_iadd f_X9_token_26 ?_
          rw [nI_1']
          refine rm_putI f_X9_token_27 hW ?_
          refine rw_goto f_X9_token_30 ?_
          exact ih'
      · have nf : ¬ (e < N ∧ isSp (T e) = true) := fun z => cs z.2
        rw [rEnd_f nf] at hk
        unfold isSp at cs
        rw [Bool.or_eq_true, decide_eq_true_eq, decide_eq_true_eq] at cs
        refine rw_aload f_X9_token_0 rfl ?_
        refine rw_const f_X9_token_1 ?_
        refine rw_callV f_X9_token_2 rfl hW.1 hW.2.1 rfl rfl rfl rfl (rn_ki (m_here hW (tk.tp tp) (q := 0) ha (by omega) ?_))
        rw [hn]
        refine rw_const f_X9_token_5 ?_
        refine rw_icmpF f_X9_token_7 (decide_eq_false (fun z => cs (Or.inl z))) ?_
        refine rw_aload f_X9_token_10 rfl ?_
        refine rw_const f_X9_token_11 ?_
        refine rw_callV f_X9_token_12 rfl hW.1 hW.2.1 rfl rfl rfl rfl (rn_ki (m_here hW (tk.tp tp) (q := 0) ha (by omega) ?_))
        rw [hn]
        refine rw_const f_X9_token_15 ?_
        refine rw_icmpT f_X9_token_17 (decide_eq_true (fun z => cs (Or.inr z))) ?_
        exact m_tok2 hW (tk.tp tp) (by omega) ha (fun h' X lw tx mt => hk h' X lw (tk.tr tx) mt)
  exact go (N - e) e V (by omega) ha .refl hk
end MTok
