/-! THE MODEL: words, numbers, names -/
section MRead
variable {d : Nat} {h : am_H} {m : Nat} {V : am_M} {T : tx} {N p : Nat} {k : Int32 → am_H → Prop}
theorem lgc {x y : Int64} : lg_cmp x y = 0 ↔ x = y := by
  unfold lg_cmp
  constructor
  · intro e
    split at e
    · exact absurd e (by decide)
    · split at e
      · assumption
      · exact absurd e (by decide)
  · intro e
    subst e
    rw [if_neg (Int64.lt_irrefl), if_pos rfl]
/-- the token at hand, nothing wrong so far -/
def OK (h : am_H) (m : Nat) (V : am_M) (T : tx) (N p : Nat) : Prop := TP V T N ∧ V 0 2 = 0 ∧ MT h m V T N p
/-- something is wrong -/
def ER (V : am_M) (e : er) : Prop := V 0 2 = e.1 ∧ 0 < e.1 ∧ V 0 3 = nI e.2
def fks (a j : Nat) : Prop := tks a j ∨ (a = 0 ∧ (j = 2 ∨ j = 3))
def Fk (V W : am_M) : Prop := ∀ a j, ¬ fks a j → W a j = V a j
theorem Fk.refl : Fk V V := fun _ _ _ => rfl
theorem Fk.tr {V1 V2 : am_M} (p : Fk V V1) (q : Fk V1 V2) : Fk V V2 := fun a j e => (q a j e).trans (p a j e)
theorem Fk.up {W : am_M} {a k : Nat} {v : Int32} (p : Fk V W) (e : fks a k) : Fk V (am_up W a k v) := fun b j r => by
  rw [up_ne (fun z => r (by rw [z.1, z.2]; exact e))]
  exact p b j r
theorem Tk.fk {W : am_M} (p : Tk V W) : Fk V W := fun a j e => p a j (fun z => e (Or.inl z))
theorem ER.nz {e : er} (q : ER V e) : 0 < V 0 2 := by rw [q.1]; exact q.2.1
theorem ER.ne {e : er} (q : ER V e) : ¬ V 0 2 = 0 := fun z => by have := q.nz; rw [z] at this; exact absurd this (by decide)
theorem ER.nle {e : er} (q : ER V e) : ¬ V 0 2 ≤ 0 := Int32.not_le.mpr q.nz
theorem tkD_v : tkD T N p = 0 ∨ tkD T N p = 1 ∨ tkD T N p = 2 ∨ (tkD T N p = 3 ∧ isSg (T p) = true ∧ p < N) ∨ tkD T N p = 4 := by
  unfold tkD
  split
  · exact Or.inl rfl
  · rename_i c0
    split
    · split
      · exact Or.inr (Or.inr (Or.inr (Or.inr rfl)))
      · exact Or.inr (Or.inl rfl)
    · split
      · split
        · exact Or.inr (Or.inr (Or.inr (Or.inr rfl)))
        · split
          · exact Or.inr (Or.inr (Or.inr (Or.inr rfl)))
          · exact Or.inr (Or.inr (Or.inl rfl))
      · split
        · rename_i c
          exact Or.inr (Or.inr (Or.inr (Or.inl ⟨rfl, c, by omega⟩)))
        · exact Or.inr (Or.inr (Or.inr (Or.inr rfl)))
theorem isSg_no {c : Int32} (e : isSg c = true) : ¬ c = 0 ∧ ¬ c = 1 ∧ ¬ c = 2 ∧ ¬ c = 3 := by
  refine ⟨fun z => ?_, fun z => ?_, fun z => ?_, fun z => ?_⟩ <;> (rw [z] at e; cases e)
theorem srt_is (i : Int32) (hi : i = 0 ∨ i = 1 ∨ i = 2) : srt T N p = i ↔ tkD T N p = i := by
  rcases tkD_v (T := T) (N := N) (p := p) with e | e | e | ⟨e, s, -⟩ | e
  · rw [srt_0 e, e]
  · rw [srt_1 e, e]
  · rw [srt_2 e, e]
  · rw [srt_3 e, e]
    have := isSg_no s
    rcases hi with z | z | z <;> (subst z; exact ⟨fun z => absurd z (by first | exact this.1 | exact this.2.1 | exact this.2.2.1), fun z => absurd z (by decide)⟩)
  · rw [srt_4 e, e]
    rcases hi with z | z | z <;> (subst z; decide)
theorem srt_is3 : srt T N p = 3 ↔ tkD T N p = 4 := by
  rcases tkD_v (T := T) (N := N) (p := p) with e | e | e | ⟨e, s, -⟩ | e
  · rw [srt_0 e, e]; decide
  · rw [srt_1 e, e]; decide
  · rw [srt_2 e, e]; decide
  · rw [srt_3 e, e]
    exact ⟨fun z => absurd z (isSg_no s).2.2.2, fun z => absurd z (by decide)⟩
  · rw [srt_4 e, e]; decide
theorem srt_sg {c : Int32} (hc : ¬ c = 0 ∧ ¬ c = 1 ∧ ¬ c = 2 ∧ ¬ c = 3) : srt T N p = c ↔ isSH T N p c = true := by
  unfold isSH
  rw [Bool.and_eq_true, decide_eq_true_eq, decide_eq_true_eq]
  rcases tkD_v (T := T) (N := N) (p := p) with e | e | e | ⟨e, s, -⟩ | e
  · rw [srt_0 e, e]; exact ⟨fun z => absurd z.symm hc.1, fun z => absurd z.1 (by decide)⟩
  · rw [srt_1 e, e]; exact ⟨fun z => absurd z.symm hc.2.1, fun z => absurd z.1 (by decide)⟩
  · rw [srt_2 e, e]; exact ⟨fun z => absurd z.symm hc.2.2.1, fun z => absurd z.1 (by decide)⟩
  · rw [srt_3 e, e]; exact ⟨fun z => ⟨rfl, z⟩, fun z => z.2⟩
  · rw [srt_4 e, e]; exact ⟨fun z => absurd z.symm hc.2.2.2, fun z => absurd z.1 (by decide)⟩
theorem OK.le (ok : OK h m V T N p) : p ≤ N := ok.2.2.1
theorem OK.n (ok : OK h m V T N p) : N ≤ 1600 := ok.1.2.1
theorem OK.f (ok : OK h m V T N p) : V 0 2 = 0 := ok.2.1
theorem OK.s (ok : OK h m V T N p) : V 0 6 = srt T N p := ok.2.2.2.2.1
theorem OK.pl (ok : OK h m V T N p) : V 0 7 = nI p := ok.2.2.2.1
/-- other places may change -/
theorem OK.up (ok : OK h m V T N p) {a j : Nat} {v : Int32} (e : ¬ fks a j ∧ ¬ a = 1 ∧ ¬ (a = 0 ∧ j = 5)) : OK h m (am_up V a j v) T N p := by
  obtain ⟨⟨t1, t2, t3⟩, f, q1, q2, q3, q4, q5, q6⟩ := ok
  unfold fks tks at e
  refine ⟨⟨by rw [up_ne (by omega)]; exact t1, t2, fun j hj => by rw [up_ne (by omega)]; exact t3 j hj⟩, by rw [up_ne (by omega)]; exact f, q1, by rw [up_ne (by omega)]; exact q2, by rw [up_ne (by omega)]; exact q3, fun z => by rw [up_ne (by omega)]; exact q4 z, q5, fun z => by rw [up_ne (by omega)]; exact q6 z⟩
theorem ER.up {e : er} (q : ER V e) {a j : Nat} {v : Int32} (z : ¬ (a = 0 ∧ (j = 2 ∨ j = 3))) : ER (am_up V a j v) e := by
  unfold ER
  rw [up_ne (by omega), up_ne (by omega)]; exact q
/-- the next token -/
theorem m_next (hW : MW h m) (ok : OK h m V T N p) (nb : ¬ tkD T N p = 4) {k : am_H → Prop} (hk : ∀ h' W, Lw m h h' → Tk V W → OK h' m W T N (tkX T N p) → k (mh h' m W)) : Rn (d + 1) n_X9_token 0 [am_r m, am_u, am_u] [] (mh h m V) (kV k) := by
  obtain ⟨tp, f, q1, q2, q3, q4, q5, q6⟩ := ok
  exact m_token hW tp (tkE_ge q1).2 (q6 nb) (fun h' W lw tk mt => hk h' W lw tk ⟨tk.tp tp, by rw [tk _ _ (by unfold tks; omega)]; exact f, mt⟩)
theorem m_isWord (hW : MW h m) (ok : OK h m V T N p) {w : Int64} (hk : k (bI (isW T N p w)) (mh h m V)) : Rn d n_X9_isWord 0 [am_r m, am_l w, am_u] [] (mh h m V) (kI k) := by
  obtain ⟨tp, f, q1, q2, q3, q4, q5, q6⟩ := ok
  unfold isW at hk
  have e1 := srt_is (T := T) (N := N) (p := p) 1 (by decide)
  by_cases c : tkD T N p = 1
  · have ew := q5 c
    rw [decide_eq_true c, Bool.true_and] at hk
    refine rw_aload f_X9_isWord_0 rfl ?_
    refine rm_getI f_X9_isWord_1 hW ?_
    rw [q3]
    refine rw_const f_X9_isWord_4 ?_
    refine rw_icmpF f_X9_isWord_5 (decide_eq_false (fun z => z (e1.mpr c))) ?_
    refine rw_aload f_X9_isWord_8 rfl ?_
    refine rm_getL f_X9_isWord_9 hW ?_
    refine rw_lload f_X9_isWord_12 rfl ?_
    rw [ew]
    refine rw_lcmp f_X9_isWord_13 ?_
    first | refine rw_ne0B f_X9_isWord_14 (fun c1 => ?_) (fun c1 => ?_) | refine rw_ne0 f_X9_isWord_14 (fun c1 => ?_) (fun c1 => ?_)
    · refine rw_const f_X9_isWord_21 ?_
      refine rw_zret f_X9_isWord_22 (by first | exact Or.inl rfl | exact Or.inr rfl | exact bI_01 _ | assumption) ?_
      rw [lgc] at c1
      simpa [bI, c1] using hk
    · refine rw_const f_X9_isWord_17 ?_
      refine rw_goto f_X9_isWord_18 ?_
      refine rw_zret f_X9_isWord_22 (by first | exact Or.inl rfl | exact Or.inr rfl | exact bI_01 _ | assumption) ?_
      rw [lgc] at c1
      simpa [bI, c1] using hk
  · rw [decide_eq_false c, Bool.false_and] at hk
    refine rw_aload f_X9_isWord_0 rfl ?_
    refine rm_getI f_X9_isWord_1 hW ?_
    rw [q3]
    refine rw_const f_X9_isWord_4 ?_
    refine rw_icmpT f_X9_isWord_5 (decide_eq_true (fun z => c (e1.mp z))) ?_
    refine rw_const f_X9_isWord_21 ?_
    refine rw_zret f_X9_isWord_22 (by first | exact Or.inl rfl | exact Or.inr rfl | exact bI_01 _ | assumption) ?_
    exact hk
theorem wc_0 : wc 0 = 418330731890 := by decide +kernel
theorem wc_1 : wc 1 = 6385252 := by decide +kernel
theorem wc_2 : wc 2 = 108256604483438 := by decide +kernel
theorem wc_3 : wc 3 = 25209 := by decide +kernel
theorem wc_4 : wc 4 = 109330211763570 := by decide +kernel
theorem wc_5 : wc 5 = 6578553 := by decide +kernel
theorem wc_6 : wc 6 = 1684366692 := by decide +kernel
theorem wc_7 : wc 7 = 1685022067 := by decide +kernel
theorem wc_8 : wc 8 = 1685217655 := by decide +kernel
theorem wc_9 : wc 9 = 112641580559972 := by decide +kernel
theorem wc_10 : wc 10 = 448545973619 := by decide +kernel
theorem wc_11 : wc 11 = 448546566771 := by decide +kernel
theorem wc_12 : wc 12 = 1818584692 := by decide +kernel
theorem wc_13 : wc 13 = 7168366 := by decide +kernel
theorem wc_14 : wc 14 = 474148660594 := by decide +kernel
theorem wc_15 : wc 15 = 7237492 := by decide +kernel
theorem wc_16 : wc 16 = 28526 := by decide +kernel
theorem wc_17 : wc 17 = 28530 := by decide +kernel
theorem wc_18 : wc 18 = 495874699885 := by decide +kernel
theorem wc_19 : wc 19 = 127991944667492 := by decide +kernel
theorem wc_20 : wc 20 = 504364296556 := by decide +kernel
theorem wc_21 : wc 21 = 2003132786 := by decide +kernel
theorem kp_iff {w : Int64} : isKept w = true ↔ (lg_cmp w 7168366 = 0 ∨ lg_cmp w 109330211763570 = 0 ∨ lg_cmp w 448545973619 = 0 ∨ lg_cmp w 1818584692 = 0 ∨ lg_cmp w 1684366692 = 0 ∨ lg_cmp w 448546566771 = 0 ∨ lg_cmp w 108256604483438 = 0 ∨ lg_cmp w 28526 = 0 ∨ lg_cmp w 25209 = 0 ∨ lg_cmp w 1685022067 = 0 ∨ lg_cmp w 474148660594 = 0 ∨ lg_cmp w 504364296556 = 0 ∨ lg_cmp w 127991944667492 = 0 ∨ lg_cmp w 418330731890 = 0 ∨ lg_cmp w 112641580559972 = 0 ∨ lg_cmp w 2003132786 = 0 ∨ lg_cmp w 6578553 = 0 ∨ lg_cmp w 495874699885 = 0 ∨ lg_cmp w 1685217655 = 0 ∨ lg_cmp w 6385252 = 0 ∨ lg_cmp w 28530 = 0 ∨ lg_cmp w 7237492 = 0) := by
  unfold isKept
  simp only [anyB, st_kw, List.getD_cons_succ, List.getD_cons_zero, Bool.or_eq_true, decide_eq_true_eq, lgc, Bool.false_or, wc_0, wc_1, wc_2, wc_3, wc_4, wc_5, wc_6, wc_7, wc_8, wc_9, wc_10, wc_11, wc_12, wc_13, wc_14, wc_15, wc_16, wc_17, wc_18, wc_19, wc_20, wc_21]
  constructor <;> (intro z; simp only [or_assoc] at z ⊢; rcases z with z | z | z | z | z | z | z | z | z | z | z | z | z | z | z | z | z | z | z | z | z | z <;> simp only [z, true_or, or_true])
theorem m_isOwn (hW : MW h m) {w : Int64} (hw : hp_L h m 9 = w) (hk : k (bI (isKept w)) (mh h m V)) : Rn d n_X9_isOwn 0 [am_r m] [] (mh h m V) (kI k) := by
  have yes : isKept w = true → Rn d n_X9_isOwn 242 [am_r m] [] (mh h m V) (kI k) := by
    intro e
    rw [e] at hk
    refine rw_const f_X9_isOwn_242 ?_
    refine rw_goto f_X9_isOwn_243 ?_
    refine rw_zret f_X9_isOwn_247 (by first | exact Or.inl rfl | exact Or.inr rfl | exact bI_01 _ | assumption) ?_
    exact hk
  have no : isKept w = false → Rn d n_X9_isOwn 246 [am_r m] [] (mh h m V) (kI k) := by
    intro e
    rw [e] at hk
    refine rw_const f_X9_isOwn_246 ?_
    refine rw_zret f_X9_isOwn_247 (by first | exact Or.inl rfl | exact Or.inr rfl | exact bI_01 _ | assumption) ?_
    exact hk
  refine rw_aload f_X9_isOwn_0 rfl ?_
  refine rm_getL f_X9_isOwn_1 hW ?_
  rw [hw]
  refine rw_const f_X9_isOwn_4 ?_
  refine rw_lcmp f_X9_isOwn_7 ?_
  first | refine rw_eq0B f_X9_isOwn_8 (fun c1 => ?_) (fun c1 => ?_) | refine rw_eq0 f_X9_isOwn_8 (fun c1 => ?_) (fun c1 => ?_)
  · exact yes (by rw [kp_iff]; simp [c1])
  · refine rw_aload f_X9_isOwn_11 rfl ?_
    refine rm_getL f_X9_isOwn_12 hW ?_
    rw [hw]
    refine rw_const f_X9_isOwn_15 ?_
    refine rw_lcmp f_X9_isOwn_18 ?_
    first | refine rw_eq0B f_X9_isOwn_19 (fun c2 => ?_) (fun c2 => ?_) | refine rw_eq0 f_X9_isOwn_19 (fun c2 => ?_) (fun c2 => ?_)
    · exact yes (by rw [kp_iff]; simp [c1, c2])
    · refine rw_aload f_X9_isOwn_22 rfl ?_
      refine rm_getL f_X9_isOwn_23 hW ?_
      rw [hw]
      refine rw_const f_X9_isOwn_26 ?_
      refine rw_lcmp f_X9_isOwn_29 ?_
      first | refine rw_eq0B f_X9_isOwn_30 (fun c3 => ?_) (fun c3 => ?_) | refine rw_eq0 f_X9_isOwn_30 (fun c3 => ?_) (fun c3 => ?_)
      · exact yes (by rw [kp_iff]; simp [c1, c2, c3])
      · refine rw_aload f_X9_isOwn_33 rfl ?_
        refine rm_getL f_X9_isOwn_34 hW ?_
        rw [hw]
        refine rw_const f_X9_isOwn_37 ?_
        refine rw_lcmp f_X9_isOwn_40 ?_
        first | refine rw_eq0B f_X9_isOwn_41 (fun c4 => ?_) (fun c4 => ?_) | refine rw_eq0 f_X9_isOwn_41 (fun c4 => ?_) (fun c4 => ?_)
        · exact yes (by rw [kp_iff]; simp [c1, c2, c3, c4])
        · refine rw_aload f_X9_isOwn_44 rfl ?_
          refine rm_getL f_X9_isOwn_45 hW ?_
          rw [hw]
          refine rw_const f_X9_isOwn_48 ?_
          refine rw_lcmp f_X9_isOwn_51 ?_
          first | refine rw_eq0B f_X9_isOwn_52 (fun c5 => ?_) (fun c5 => ?_) | refine rw_eq0 f_X9_isOwn_52 (fun c5 => ?_) (fun c5 => ?_)
          · exact yes (by rw [kp_iff]; simp [c1, c2, c3, c4, c5])
          · refine rw_aload f_X9_isOwn_55 rfl ?_
            refine rm_getL f_X9_isOwn_56 hW ?_
            rw [hw]
            refine rw_const f_X9_isOwn_59 ?_
            refine rw_lcmp f_X9_isOwn_62 ?_
            first | refine rw_eq0B f_X9_isOwn_63 (fun c6 => ?_) (fun c6 => ?_) | refine rw_eq0 f_X9_isOwn_63 (fun c6 => ?_) (fun c6 => ?_)
            · exact yes (by rw [kp_iff]; simp [c1, c2, c3, c4, c5, c6])
            · refine rw_aload f_X9_isOwn_66 rfl ?_
              refine rm_getL f_X9_isOwn_67 hW ?_
              rw [hw]
              refine rw_const f_X9_isOwn_70 ?_
              refine rw_lcmp f_X9_isOwn_73 ?_
              first | refine rw_eq0B f_X9_isOwn_74 (fun c7 => ?_) (fun c7 => ?_) | refine rw_eq0 f_X9_isOwn_74 (fun c7 => ?_) (fun c7 => ?_)
              · exact yes (by rw [kp_iff]; simp [c1, c2, c3, c4, c5, c6, c7])
              · refine rw_aload f_X9_isOwn_77 rfl ?_
                refine rm_getL f_X9_isOwn_78 hW ?_
                rw [hw]
                refine rw_const f_X9_isOwn_81 ?_
                refine rw_lcmp f_X9_isOwn_84 ?_
                first | refine rw_eq0B f_X9_isOwn_85 (fun c8 => ?_) (fun c8 => ?_) | refine rw_eq0 f_X9_isOwn_85 (fun c8 => ?_) (fun c8 => ?_)
                · exact yes (by rw [kp_iff]; simp [c1, c2, c3, c4, c5, c6, c7, c8])
                · refine rw_aload f_X9_isOwn_88 rfl ?_
                  refine rm_getL f_X9_isOwn_89 hW ?_
                  rw [hw]
                  refine rw_const f_X9_isOwn_92 ?_
                  refine rw_lcmp f_X9_isOwn_95 ?_
                  first | refine rw_eq0B f_X9_isOwn_96 (fun c9 => ?_) (fun c9 => ?_) | refine rw_eq0 f_X9_isOwn_96 (fun c9 => ?_) (fun c9 => ?_)
                  · exact yes (by rw [kp_iff]; simp [c1, c2, c3, c4, c5, c6, c7, c8, c9])
                  · refine rw_aload f_X9_isOwn_99 rfl ?_
                    refine rm_getL f_X9_isOwn_100 hW ?_
                    rw [hw]
                    refine rw_const f_X9_isOwn_103 ?_
                    refine rw_lcmp f_X9_isOwn_106 ?_
                    first | refine rw_eq0B f_X9_isOwn_107 (fun c10 => ?_) (fun c10 => ?_) | refine rw_eq0 f_X9_isOwn_107 (fun c10 => ?_) (fun c10 => ?_)
                    · exact yes (by rw [kp_iff]; simp [c1, c2, c3, c4, c5, c6, c7, c8, c9, c10])
                    · refine rw_aload f_X9_isOwn_110 rfl ?_
                      refine rm_getL f_X9_isOwn_111 hW ?_
                      rw [hw]
                      refine rw_const f_X9_isOwn_114 ?_
                      refine rw_lcmp f_X9_isOwn_117 ?_
                      first | refine rw_eq0B f_X9_isOwn_118 (fun c11 => ?_) (fun c11 => ?_) | refine rw_eq0 f_X9_isOwn_118 (fun c11 => ?_) (fun c11 => ?_)
                      · exact yes (by rw [kp_iff]; simp [c1, c2, c3, c4, c5, c6, c7, c8, c9, c10, c11])
                      · refine rw_aload f_X9_isOwn_121 rfl ?_
                        refine rm_getL f_X9_isOwn_122 hW ?_
                        rw [hw]
                        refine rw_const f_X9_isOwn_125 ?_
                        refine rw_lcmp f_X9_isOwn_128 ?_
                        first | refine rw_eq0B f_X9_isOwn_129 (fun c12 => ?_) (fun c12 => ?_) | refine rw_eq0 f_X9_isOwn_129 (fun c12 => ?_) (fun c12 => ?_)
                        · exact yes (by rw [kp_iff]; simp [c1, c2, c3, c4, c5, c6, c7, c8, c9, c10, c11, c12])
                        · refine rw_aload f_X9_isOwn_132 rfl ?_
                          refine rm_getL f_X9_isOwn_133 hW ?_
                          rw [hw]
                          refine rw_const f_X9_isOwn_136 ?_
                          refine rw_lcmp f_X9_isOwn_139 ?_
                          first | refine rw_eq0B f_X9_isOwn_140 (fun c13 => ?_) (fun c13 => ?_) | refine rw_eq0 f_X9_isOwn_140 (fun c13 => ?_) (fun c13 => ?_)
                          · exact yes (by rw [kp_iff]; simp [c1, c2, c3, c4, c5, c6, c7, c8, c9, c10, c11, c12, c13])
                          · refine rw_aload f_X9_isOwn_143 rfl ?_
                            refine rm_getL f_X9_isOwn_144 hW ?_
                            rw [hw]
                            refine rw_const f_X9_isOwn_147 ?_
                            refine rw_lcmp f_X9_isOwn_150 ?_
                            first | refine rw_eq0B f_X9_isOwn_151 (fun c14 => ?_) (fun c14 => ?_) | refine rw_eq0 f_X9_isOwn_151 (fun c14 => ?_) (fun c14 => ?_)
                            · exact yes (by rw [kp_iff]; simp [c1, c2, c3, c4, c5, c6, c7, c8, c9, c10, c11, c12, c13, c14])
                            · refine rw_aload f_X9_isOwn_154 rfl ?_
                              refine rm_getL f_X9_isOwn_155 hW ?_
                              rw [hw]
                              refine rw_const f_X9_isOwn_158 ?_
                              refine rw_lcmp f_X9_isOwn_161 ?_
                              first | refine rw_eq0B f_X9_isOwn_162 (fun c15 => ?_) (fun c15 => ?_) | refine rw_eq0 f_X9_isOwn_162 (fun c15 => ?_) (fun c15 => ?_)
                              · exact yes (by rw [kp_iff]; simp [c1, c2, c3, c4, c5, c6, c7, c8, c9, c10, c11, c12, c13, c14, c15])
                              · refine rw_aload f_X9_isOwn_165 rfl ?_
                                refine rm_getL f_X9_isOwn_166 hW ?_
                                rw [hw]
                                refine rw_const f_X9_isOwn_169 ?_
                                refine rw_lcmp f_X9_isOwn_172 ?_
                                first | refine rw_eq0B f_X9_isOwn_173 (fun c16 => ?_) (fun c16 => ?_) | refine rw_eq0 f_X9_isOwn_173 (fun c16 => ?_) (fun c16 => ?_)
                                · exact yes (by rw [kp_iff]; simp [c1, c2, c3, c4, c5, c6, c7, c8, c9, c10, c11, c12, c13, c14, c15, c16])
                                · refine rw_aload f_X9_isOwn_176 rfl ?_
                                  refine rm_getL f_X9_isOwn_177 hW ?_
                                  rw [hw]
                                  refine rw_const f_X9_isOwn_180 ?_
                                  refine rw_lcmp f_X9_isOwn_183 ?_
                                  first | refine rw_eq0B f_X9_isOwn_184 (fun c17 => ?_) (fun c17 => ?_) | refine rw_eq0 f_X9_isOwn_184 (fun c17 => ?_) (fun c17 => ?_)
                                  · exact yes (by rw [kp_iff]; simp [c1, c2, c3, c4, c5, c6, c7, c8, c9, c10, c11, c12, c13, c14, c15, c16, c17])
                                  · refine rw_aload f_X9_isOwn_187 rfl ?_
                                    refine rm_getL f_X9_isOwn_188 hW ?_
                                    rw [hw]
                                    refine rw_const f_X9_isOwn_191 ?_
                                    refine rw_lcmp f_X9_isOwn_194 ?_
                                    first | refine rw_eq0B f_X9_isOwn_195 (fun c18 => ?_) (fun c18 => ?_) | refine rw_eq0 f_X9_isOwn_195 (fun c18 => ?_) (fun c18 => ?_)
                                    · exact yes (by rw [kp_iff]; simp [c1, c2, c3, c4, c5, c6, c7, c8, c9, c10, c11, c12, c13, c14, c15, c16, c17, c18])
                                    · refine rw_aload f_X9_isOwn_198 rfl ?_
                                      refine rm_getL f_X9_isOwn_199 hW ?_
                                      rw [hw]
                                      refine rw_const f_X9_isOwn_202 ?_
                                      refine rw_lcmp f_X9_isOwn_205 ?_
                                      first | refine rw_eq0B f_X9_isOwn_206 (fun c19 => ?_) (fun c19 => ?_) | refine rw_eq0 f_X9_isOwn_206 (fun c19 => ?_) (fun c19 => ?_)
                                      · exact yes (by rw [kp_iff]; simp [c1, c2, c3, c4, c5, c6, c7, c8, c9, c10, c11, c12, c13, c14, c15, c16, c17, c18, c19])
                                      · refine rw_aload f_X9_isOwn_209 rfl ?_
                                        refine rm_getL f_X9_isOwn_210 hW ?_
                                        rw [hw]
                                        refine rw_const f_X9_isOwn_213 ?_
                                        refine rw_lcmp f_X9_isOwn_216 ?_
                                        first | refine rw_eq0B f_X9_isOwn_217 (fun c20 => ?_) (fun c20 => ?_) | refine rw_eq0 f_X9_isOwn_217 (fun c20 => ?_) (fun c20 => ?_)
                                        · exact yes (by rw [kp_iff]; simp [c1, c2, c3, c4, c5, c6, c7, c8, c9, c10, c11, c12, c13, c14, c15, c16, c17, c18, c19, c20])
                                        · refine rw_aload f_X9_isOwn_220 rfl ?_
                                          refine rm_getL f_X9_isOwn_221 hW ?_
                                          rw [hw]
                                          refine rw_const f_X9_isOwn_224 ?_
                                          refine rw_lcmp f_X9_isOwn_227 ?_
                                          first | refine rw_eq0B f_X9_isOwn_228 (fun c21 => ?_) (fun c21 => ?_) | refine rw_eq0 f_X9_isOwn_228 (fun c21 => ?_) (fun c21 => ?_)
                                          · exact yes (by rw [kp_iff]; simp [c1, c2, c3, c4, c5, c6, c7, c8, c9, c10, c11, c12, c13, c14, c15, c16, c17, c18, c19, c20, c21])
                                          · refine rw_aload f_X9_isOwn_231 rfl ?_
                                            refine rm_getL f_X9_isOwn_232 hW ?_
                                            rw [hw]
                                            refine rw_const f_X9_isOwn_235 ?_
                                            refine rw_lcmp f_X9_isOwn_238 ?_
                                            first | refine rw_ne0B f_X9_isOwn_239 (fun c22 => ?_) (fun c22 => ?_) | refine rw_ne0 f_X9_isOwn_239 (fun c22 => ?_) (fun c22 => ?_)
                                            · exact no (by rw [Bool.eq_false_iff]; intro z; rw [kp_iff] at z; simp [c1, c2, c3, c4, c5, c6, c7, c8, c9, c10, c11, c12, c13, c14, c15, c16, c17, c18, c19, c20, c21, c22] at z)
                                            · exact yes (by rw [kp_iff]; simp [c1, c2, c3, c4, c5, c6, c7, c8, c9, c10, c11, c12, c13, c14, c15, c16, c17, c18, c19, c20, c21, c22])
theorem m_isName (hW : MW h m) (ok : OK h m V T N p) (hk : k (bI (isNm T N p)) (mh h m V)) : Rn (d + 1) n_X9_isName 0 [am_r m] [] (mh h m V) (kI k) := by
  obtain ⟨tp, f, q1, q2, q3, q4, q5, q6⟩ := ok
  unfold isNm at hk
  have e1 := srt_is (T := T) (N := N) (p := p) 1 (by decide)
  by_cases c : tkD T N p = 1
  · have ew := q5 c
    rw [decide_eq_true c, Bool.true_and] at hk
    refine rw_aload f_X9_isName_0 rfl ?_
    refine rm_getI f_X9_isName_1 hW ?_
    rw [q3]
    refine rw_const f_X9_isName_4 ?_
    refine rw_icmpF f_X9_isName_5 (decide_eq_false (fun z => z (e1.mpr c))) ?_
    refine rw_aload f_X9_isName_8 rfl ?_
    refine rw_callV f_X9_isName_9 rfl hW.1 hW.2.1 rfl rfl rfl rfl (rn_ki (m_isOwn hW ew ?_))
    first | refine rw_ne0B f_X9_isName_12 (fun c1 => ?_) (fun c1 => ?_) | refine rw_ne0 f_X9_isName_12 (fun c1 => ?_) (fun c1 => ?_)
    · refine rw_const f_X9_isName_19 ?_
      refine rw_zret f_X9_isName_20 (by first | exact Or.inl rfl | exact Or.inr rfl | exact bI_01 _ | assumption) ?_
      simpa [bI, c1] using hk
    · refine rw_const f_X9_isName_15 ?_
      refine rw_goto f_X9_isName_16 ?_
      refine rw_zret f_X9_isName_20 (by first | exact Or.inl rfl | exact Or.inr rfl | exact bI_01 _ | assumption) ?_
      simpa [bI, c1] using hk
  · rw [decide_eq_false c, Bool.false_and] at hk
    refine rw_aload f_X9_isName_0 rfl ?_
    refine rm_getI f_X9_isName_1 hW ?_
    rw [q3]
    refine rw_const f_X9_isName_4 ?_
    refine rw_icmpT f_X9_isName_5 (decide_eq_true (fun z => c (e1.mp z))) ?_
    refine rw_const f_X9_isName_19 ?_
    refine rw_zret f_X9_isName_20 (by first | exact Or.inl rfl | exact Or.inr rfl | exact bI_01 _ | assumption) ?_
    exact hk
theorem m_wrong (hW : MW h m) (ok : OK h m V T N p) {what : Int32} (h0 : 0 < what) {k : am_H → Prop} (hk : ∀ W, Fk V W → ER W (if tkD T N p = 4 then 1 else what, p) → k (mh h m W)) : Rn d n_X9_wrong 0 [am_r m, am_i what] [] (mh h m V) (kV k) := by
  obtain ⟨tp, f, q1, q2, q3, q4, q5, q6⟩ := ok
  have e1 := srt_is3 (T := T) (N := N) (p := p)
  have key : ∀ v, v = (if tkD T N p = 4 then 1 else what) → k (mh h m (am_up (am_up V 0 2 v) 0 3 (nI p))) := fun v hv => by
    refine hk _ ((Fk.refl.up (by unfold fks; omega)).up (by unfold fks; omega)) ⟨?_, ?_, up_same⟩
    · rw [up_ne (by decide), up_same]; exact hv
    · dsimp only; split
      · decide
      · exact h0
  by_cases c : tkD T N p = 4
  · rw [if_pos c] at key
    refine rw_aload f_X9_wrong_0 rfl ?_
    refine rm_getI f_X9_wrong_1 hW ?_
    rw [f]
    refine rw_ifT f_X9_wrong_4 (by decide) ?_
    refine rw_aload f_X9_wrong_8 rfl ?_
    refine rw_aload f_X9_wrong_9 rfl ?_
    refine rm_getI f_X9_wrong_10 hW ?_
    rw [q3]
    refine rw_const f_X9_wrong_13 ?_
    refine rw_icmpF f_X9_wrong_14 (decide_eq_false (fun z => z (e1.mpr c))) ?_
    refine rw_const f_X9_wrong_17 ?_
    refine rw_goto f_X9_wrong_18 ?_
    refine rm_putI f_X9_wrong_22 hW ?_
    refine rw_aload f_X9_wrong_25 rfl ?_
    refine rw_aload f_X9_wrong_26 rfl ?_
    refine rm_getI f_X9_wrong_27 hW ?_
    rw [show am_up V 0 2 1 0 7 = nI p from by rw [up_ne (by decide)]; exact q2]
    refine rm_putI f_X9_wrong_30 hW ?_
    refine rw_vret f_X9_wrong_33 ?_
    exact key _ rfl
  · rw [if_neg c] at key
    refine rw_aload f_X9_wrong_0 rfl ?_
    refine rm_getI f_X9_wrong_1 hW ?_
    rw [f]
    refine rw_ifT f_X9_wrong_4 (by decide) ?_
    refine rw_aload f_X9_wrong_8 rfl ?_
    refine rw_aload f_X9_wrong_9 rfl ?_
    refine rm_getI f_X9_wrong_10 hW ?_
    rw [q3]
    refine rw_const f_X9_wrong_13 ?_
    refine rw_icmpT f_X9_wrong_14 (decide_eq_true (fun z => c (e1.mp z))) ?_
    refine rw_iload f_X9_wrong_21 rfl ?_
    refine rm_putI f_X9_wrong_22 hW ?_
    refine rw_aload f_X9_wrong_25 rfl ?_
    refine rw_aload f_X9_wrong_26 rfl ?_
    refine rm_getI f_X9_wrong_27 hW ?_
    rw [show am_up V 0 2 what 0 7 = nI p from by rw [up_ne (by decide)]; exact q2]
    refine rm_putI f_X9_wrong_30 hW ?_
    refine rw_vret f_X9_wrong_33 ?_
    exact key _ rfl
theorem m_wrong2 (hW : MW h m) (ok : OK h m V T N p) {k : am_H → Prop} (hk : ∀ W, Fk V W → ER W (err1 T N p) → k (mh h m W)) : Rn d n_X9_wrong 0 [am_r m, am_i 2] [] (mh h m V) (kV k) := m_wrong hW ok (by decide) hk
theorem m_wrongN (hW : MW h m) (ok : OK h m V T N p) (nb : ¬ tkD T N p = 4) {what : Int32} (h0 : 0 < what) {k : am_H → Prop} (hk : ∀ W, Fk V W → ER W (what, p) → k (mh h m W)) : Rn d n_X9_wrong 0 [am_r m, am_i what] [] (mh h m V) (kV k) := m_wrong hW ok h0 (by rw [if_neg nb]; exact hk)
theorem m_want (hW : MW h m) (ok : OK h m V T N p) {i : Nat} {w : Int64} (hw : wc i = w) {k : am_H → Prop} (h1 : ∀ h' W q, pMust T N (isV T N p i) p = .inl q → Lw m h h' → Tk V W → OK h' m W T N q → k (mh h' m W)) (h2 : ∀ W e, pMust T N (isV T N p i) p = .inr e → Fk V W → ER W e → k (mh h m W)) : Rn (d + 2) n_X9_want 0 [am_r m, am_l w, am_u] [] (mh h m V) (kV k) := by
  unfold pMust isV at h1 h2
  rw [hw] at h1 h2
  cases c : isW T N p w with
  | true =>
    rw [c, if_pos rfl] at h1
    have nb : ¬ tkD T N p = 4 := fun z => by unfold isW at c; rw [z] at c; simp at c
    refine rw_aload f_X9_want_0 rfl ?_
    refine rm_getI f_X9_want_1 hW ?_
    rw [ok.f]
    refine rw_ifT f_X9_want_4 (by decide) ?_
    refine rw_aload f_X9_want_8 rfl ?_
    refine rw_lload f_X9_want_9 rfl ?_
    refine rw_callV f_X9_want_10 rfl hW.1 hW.2.1 rfl rfl rfl rfl (rn_ki (m_isWord hW ok ?_))
    rw [c]
    refine rw_ifT f_X9_want_13 (by decide) ?_
    refine rw_aload f_X9_want_24 rfl ?_
    refine rw_callV f_X9_want_25 rfl hW.1 hW.2.1 rfl rfl rfl rfl (rn_kv (m_next hW ok nb (fun h' W lw tk ok' => ?_)))
    refine rw_vret f_X9_want_28 ?_
    exact h1 h' W _ rfl lw tk ok'
  | false =>
    rw [c, if_neg (by decide)] at h2
    refine rw_aload f_X9_want_0 rfl ?_
    refine rm_getI f_X9_want_1 hW ?_
    rw [ok.f]
    refine rw_ifT f_X9_want_4 (by decide) ?_
    refine rw_aload f_X9_want_8 rfl ?_
    refine rw_lload f_X9_want_9 rfl ?_
    refine rw_callV f_X9_want_10 rfl hW.1 hW.2.1 rfl rfl rfl rfl (rn_ki (m_isWord hW ok ?_))
    rw [c]
    refine rw_ifF f_X9_want_13 (by decide) ?_
    refine rw_aload f_X9_want_16 rfl ?_
    refine rw_const f_X9_want_17 ?_
    refine rw_callV f_X9_want_18 rfl hW.1 hW.2.1 rfl rfl rfl rfl (rn_kv (m_wrong2 hW ok (fun W fk er => ?_)))
    refine rw_goto f_X9_want_21 ?_
    refine rw_vret f_X9_want_28 ?_
    exact h2 W _ rfl fk er
theorem m_wantE (hW : MW h m) {e : er} (er : ER V e) {w : Int64} {k : am_H → Prop} (hk : k (mh h m V)) : Rn d n_X9_want 0 [am_r m, am_l w, am_u] [] (mh h m V) (kV k) := by
  refine rw_aload f_X9_want_0 rfl ?_
  refine rm_getI f_X9_want_1 hW ?_
  refine rw_ifF f_X9_want_4 (decide_eq_false er.nle) ?_
  refine rw_vret f_X9_want_7 ?_
  exact hk
theorem m_toldNumber (hW : MW h m) (ok : OK h m V T N p) {lo hi : Int32} (h1 : ∀ h' W v, pNum T N lo hi p = .inl v → Lw m h h' → Tk V W → OK h' m W T N v.2 → k v.1 (mh h' m W)) (h2 : ∀ W y e, pNum T N lo hi p = .inr e → Fk V W → ER W e → k y (mh h m W)) : Rn (d + 2) n_X9_toldNumber 0 [am_r m, am_i lo, am_i hi, am_u] [] (mh h m V) (kI k) := by
  unfold pNum at h1 h2
  have e1 := srt_is (T := T) (N := N) (p := p) 2 (by decide)
  by_cases c : tkD T N p = 2
  · rw [if_neg (fun z => z c)] at h1 h2
    have nb : ¬ tkD T N p = 4 := fun z => by rw [z] at c; exact absurd c (by decide)
    have en := ok.2.2.2.2.2.1 c
    have bad : ∀ W, Fk V W → ER W (4, p) → (∀ y, k y (mh h m W)) → Rn (d + 2) n_X9_toldNumber 46 [am_r m, am_i lo, am_i hi, am_u] [] (mh h m W) (kI k) := by
      intro W fk er hk
      refine rw_aload f_X9_toldNumber_46 rfl ?_
      refine rm_getI f_X9_toldNumber_47 hW ?_
      refine rw_istore f_X9_toldNumber_50 rfl rfl ?_
      refine rw_aload f_X9_toldNumber_51 rfl ?_
      refine rm_getI f_X9_toldNumber_52 hW ?_
      refine rw_ifT f_X9_toldNumber_55 (decide_eq_true er.ne) ?_
      refine rw_iload f_X9_toldNumber_62 rfl ?_
      refine rw_iret f_X9_toldNumber_63 ?_
      exact hk _
    by_cases c1 : tkN T N p < lo
    · rw [if_pos c1] at h2
      refine rw_aload f_X9_toldNumber_0 rfl ?_
      refine rm_getI f_X9_toldNumber_1 hW ?_
      rw [ok.f]
      refine rw_ifT f_X9_toldNumber_4 (by decide) ?_
      refine rw_aload f_X9_toldNumber_9 rfl ?_
      refine rm_getI f_X9_toldNumber_10 hW ?_
      rw [ok.s]
      refine rw_const f_X9_toldNumber_13 ?_
      refine rw_icmpT f_X9_toldNumber_14 (decide_eq_true (e1.mpr c)) ?_
      refine rw_aload f_X9_toldNumber_25 rfl ?_
      refine rm_getI f_X9_toldNumber_26 hW ?_
      rw [en]
      refine rw_iload f_X9_toldNumber_29 rfl ?_
      refine rw_icmpT f_X9_toldNumber_30 (decide_eq_true c1) ?_
      refine rw_aload f_X9_toldNumber_41 rfl ?_
      refine rw_const f_X9_toldNumber_42 ?_
      refine rw_callV f_X9_toldNumber_43 rfl hW.1 hW.2.1 rfl rfl rfl rfl (rn_kv (m_wrongN hW ok nb (by decide) (fun W fk er => ?_)))
      exact bad W fk er (fun y => h2 W y _ rfl fk er)
    · rw [if_neg c1] at h1 h2
      by_cases c2 : hi < tkN T N p
      · rw [if_pos c2] at h2
        refine rw_aload f_X9_toldNumber_0 rfl ?_
        refine rm_getI f_X9_toldNumber_1 hW ?_
        rw [ok.f]
        refine rw_ifT f_X9_toldNumber_4 (by decide) ?_
        refine rw_aload f_X9_toldNumber_9 rfl ?_
        refine rm_getI f_X9_toldNumber_10 hW ?_
        rw [ok.s]
        refine rw_const f_X9_toldNumber_13 ?_
        refine rw_icmpT f_X9_toldNumber_14 (decide_eq_true (e1.mpr c)) ?_
        refine rw_aload f_X9_toldNumber_25 rfl ?_
        refine rm_getI f_X9_toldNumber_26 hW ?_
        rw [en]
        refine rw_iload f_X9_toldNumber_29 rfl ?_
        refine rw_icmpF f_X9_toldNumber_30 (decide_eq_false c1) ?_
        refine rw_aload f_X9_toldNumber_33 rfl ?_
        refine rm_getI f_X9_toldNumber_34 hW ?_
        rw [en]
        refine rw_iload f_X9_toldNumber_37 rfl ?_
        refine rw_icmpF f_X9_toldNumber_38 (decide_eq_false (Int32.not_le.mpr c2)) ?_
        refine rw_aload f_X9_toldNumber_41 rfl ?_
        refine rw_const f_X9_toldNumber_42 ?_
        refine rw_callV f_X9_toldNumber_43 rfl hW.1 hW.2.1 rfl rfl rfl rfl (rn_kv (m_wrongN hW ok nb (by decide) (fun W fk er => ?_)))
        exact bad W fk er (fun y => h2 W y _ rfl fk er)
      · rw [if_neg c2] at h1
        refine rw_aload f_X9_toldNumber_0 rfl ?_
        refine rm_getI f_X9_toldNumber_1 hW ?_
        rw [ok.f]
        refine rw_ifT f_X9_toldNumber_4 (by decide) ?_
        refine rw_aload f_X9_toldNumber_9 rfl ?_
        refine rm_getI f_X9_toldNumber_10 hW ?_
        rw [ok.s]
        refine rw_const f_X9_toldNumber_13 ?_
        refine rw_icmpT f_X9_toldNumber_14 (decide_eq_true (e1.mpr c)) ?_
        refine rw_aload f_X9_toldNumber_25 rfl ?_
        refine rm_getI f_X9_toldNumber_26 hW ?_
        rw [en]
        refine rw_iload f_X9_toldNumber_29 rfl ?_
        refine rw_icmpF f_X9_toldNumber_30 (decide_eq_false c1) ?_
        refine rw_aload f_X9_toldNumber_33 rfl ?_
        refine rm_getI f_X9_toldNumber_34 hW ?_
        rw [en]
        refine rw_iload f_X9_toldNumber_37 rfl ?_
        refine rw_icmpT f_X9_toldNumber_38 (decide_eq_true (Int32.not_lt.mp c2)) ?_
        refine rw_aload f_X9_toldNumber_46 rfl ?_
        refine rm_getI f_X9_toldNumber_47 hW ?_
        rw [en]
        refine rw_istore f_X9_toldNumber_50 rfl rfl ?_
        refine rw_aload f_X9_toldNumber_51 rfl ?_
        refine rm_getI f_X9_toldNumber_52 hW ?_
        rw [ok.f]
        refine rw_ifF f_X9_toldNumber_55 (by decide) ?_
        refine rw_aload f_X9_toldNumber_58 rfl ?_
        refine rw_callV f_X9_toldNumber_59 rfl hW.1 hW.2.1 rfl rfl rfl rfl (rn_kv (m_next hW ok nb (fun h' W lw tk ok' => ?_)))
        refine rw_iload f_X9_toldNumber_62 rfl ?_
        refine rw_iret f_X9_toldNumber_63 ?_
        exact h1 h' W _ rfl lw tk ok'
  · rw [if_pos c] at h2
    refine rw_aload f_X9_toldNumber_0 rfl ?_
    refine rm_getI f_X9_toldNumber_1 hW ?_
    rw [ok.f]
    refine rw_ifT f_X9_toldNumber_4 (by decide) ?_
    refine rw_aload f_X9_toldNumber_9 rfl ?_
    refine rm_getI f_X9_toldNumber_10 hW ?_
    rw [ok.s]
    refine rw_const f_X9_toldNumber_13 ?_
    refine rw_icmpF f_X9_toldNumber_14 (decide_eq_false (fun z => c (e1.mp z))) ?_
    refine rw_aload f_X9_toldNumber_17 rfl ?_
    refine rw_const f_X9_toldNumber_18 ?_
    refine rw_callV f_X9_toldNumber_19 rfl hW.1 hW.2.1 rfl rfl rfl rfl (rn_kv (m_wrong2 hW ok (fun W fk er => ?_)))
    refine rw_goto f_X9_toldNumber_22 ?_
    refine rw_aload f_X9_toldNumber_46 rfl ?_
    refine rm_getI f_X9_toldNumber_47 hW ?_
    refine rw_istore f_X9_toldNumber_50 rfl rfl ?_
    refine rw_aload f_X9_toldNumber_51 rfl ?_
    refine rm_getI f_X9_toldNumber_52 hW ?_
    refine rw_ifT f_X9_toldNumber_55 (decide_eq_true er.ne) ?_
    refine rw_iload f_X9_toldNumber_62 rfl ?_
    refine rw_iret f_X9_toldNumber_63 ?_
    exact h2 W _ _ rfl fk er
theorem m_toldNumberE (hW : MW h m) {e : er} (er : ER V e) {lo hi : Int32} (hk : k 0 (mh h m V)) : Rn d n_X9_toldNumber 0 [am_r m, am_i lo, am_i hi, am_u] [] (mh h m V) (kI k) := by
  refine rw_aload f_X9_toldNumber_0 rfl ?_
  refine rm_getI f_X9_toldNumber_1 hW ?_
  refine rw_ifF f_X9_toldNumber_4 (decide_eq_false er.nle) ?_
  refine rw_const f_X9_toldNumber_7 ?_
  refine rw_iret f_X9_toldNumber_8 ?_
  exact hk
theorem m_told (hW : MW h m) (ok : OK h m V T N p) {i : Nat} {w : Int64} (hw : wc i = w) {lo hi : Int32} (h1 : ∀ h' W v, pAfter T N i lo hi p = .inl v → Lw m h h' → Tk V W → OK h' m W T N v.2 → k v.1 (mh h' m W)) (h2 : ∀ h' W y e, pAfter T N i lo hi p = .inr e → Lw m h h' → Fk V W → ER W e → k y (mh h' m W)) : Rn (d + 3) n_X9_told 0 [am_r m, am_l w, am_u, am_i lo, am_i hi] [] (mh h m V) (kI k) := by
  unfold pAfter at h1 h2
  refine rw_aload f_X9_told_0 rfl ?_
  refine rw_lload f_X9_told_1 rfl ?_
  refine rw_callV f_X9_told_2 rfl hW.1 hW.2.1 rfl rfl rfl rfl (rn_kv (m_want hW ok hw (fun h' W q e lw tk ok' => ?_) (fun W e e1 fk er => ?_)))
  · unfold isV at e
    rw [e] at h1 h2
    have hW := lw.mw hW
    refine rw_aload f_X9_told_5 rfl ?_
    refine rw_iload f_X9_told_6 rfl ?_
    refine rw_iload f_X9_told_7 rfl ?_
    refine rw_callV f_X9_told_9 rfl hW.1 hW.2.1 rfl rfl rfl rfl (rn_ki (m_toldNumber hW ok' (fun h2' W2 v e2 lw2 tk2 ok2 => ?r1) (fun W2 y e2 e3 fk2 er2 => ?r2)))
    skip
    all_goals skip
    case r1 => exact rw_iret f_X9_told_12 (h1 h2' W2 v e2 (lw.tr lw2) (tk.tr tk2) ok2)
    case r2 => exact rw_iret f_X9_told_12 (h2 h' W2 y e2 e3 lw (tk.fk.tr fk2) er2)
  · unfold isV at e1
    rw [e1] at h2
    refine rw_aload f_X9_told_5 rfl ?_
    refine rw_iload f_X9_told_6 rfl ?_
    refine rw_iload f_X9_told_7 rfl ?_
    refine rw_callV f_X9_told_9 rfl hW.1 hW.2.1 rfl rfl rfl rfl (rn_ki (m_toldNumberE hW er ?_))
    refine rw_iret f_X9_told_12 ?_
    exact h2 h W _ e rfl .refl fk er
theorem m_toldE (hW : MW h m) {e : er} (er : ER V e) {w : Int64} {lo hi : Int32} (hk : k 0 (mh h m V)) : Rn (d + 1) n_X9_told 0 [am_r m, am_l w, am_u, am_i lo, am_i hi] [] (mh h m V) (kI k) := by
  refine rw_aload f_X9_told_0 rfl ?_
  refine rw_lload f_X9_told_1 rfl ?_
  refine rw_callV f_X9_told_2 rfl hW.1 hW.2.1 rfl rfl rfl rfl (rn_kv (m_wantE hW er ?_))
  refine rw_aload f_X9_told_5 rfl ?_
  refine rw_iload f_X9_told_6 rfl ?_
  refine rw_iload f_X9_told_7 rfl ?_
  refine rw_callV f_X9_told_9 rfl hW.1 hW.2.1 rfl rfl rfl rfl (rn_ki (m_toldNumberE hW er ?_))
  refine rw_iret f_X9_told_12 ?_
  exact hk
theorem m_option (hW : MW h m) (ok : OK h m V T N p) {i : Nat} {w : Int64} (hw : wc i = w) {lo hi ot : Int32} (h1 : ∀ h' W v, pOpt T N i lo hi ot p = .inl v → Lw m h h' → Tk V W → OK h' m W T N v.2 → k v.1 (mh h' m W)) (h2 : ∀ h' W y e, pOpt T N i lo hi ot p = .inr e → Lw m h h' → Fk V W → ER W e → k y (mh h' m W)) : Rn (d + 4) n_X9_option 0 [am_r m, am_l w, am_u, am_i lo, am_i hi, am_i ot] [] (mh h m V) (kI k) := by
  unfold pOpt isV at h1 h2
  rw [hw] at h1 h2
  cases c : isW T N p w with
  | true =>
    rw [c, if_pos rfl] at h1 h2
    refine rw_aload f_X9_option_0 rfl ?_
    refine rm_getI f_X9_option_1 hW ?_
    rw [ok.f]
    refine rw_ifF f_X9_option_4 (by decide) ?_
    refine rw_aload f_X9_option_7 rfl ?_
    refine rw_lload f_X9_option_8 rfl ?_
    refine rw_callV f_X9_option_9 rfl hW.1 hW.2.1 rfl rfl rfl rfl (rn_ki (m_isWord hW ok ?_))
    rw [c]
    refine rw_ifF f_X9_option_12 (by decide) ?_
    refine rw_aload f_X9_option_15 rfl ?_
    refine rw_lload f_X9_option_16 rfl ?_
    refine rw_iload f_X9_option_17 rfl ?_
    refine rw_iload f_X9_option_18 rfl ?_
    skip
    refine rw_callV f_X9_option_20 rfl hW.1 hW.2.1 rfl rfl rfl rfl (rn_ki (m_told hW ok hw (fun h' W v e lw tk ok' => ?_) (fun h' W y e e2 lw fk er => ?_)))
    · refine rw_goto f_X9_option_23 ?_
      refine rw_iret f_X9_option_28 ?_
      exact h1 h' W v e lw tk ok'
    · refine rw_goto f_X9_option_23 ?_
      refine rw_iret f_X9_option_28 ?_
      exact h2 h' W y e e2 lw fk er
  | false =>
    rw [c, if_neg (by decide)] at h1
    refine rw_aload f_X9_option_0 rfl ?_
    refine rm_getI f_X9_option_1 hW ?_
    rw [ok.f]
    refine rw_ifF f_X9_option_4 (by decide) ?_
    refine rw_aload f_X9_option_7 rfl ?_
    refine rw_lload f_X9_option_8 rfl ?_
    refine rw_callV f_X9_option_9 rfl hW.1 hW.2.1 rfl rfl rfl rfl (rn_ki (m_isWord hW ok ?_))
    rw [c]
    refine rw_ifT f_X9_option_12 (by decide) ?_
    refine rw_iload f_X9_option_26 rfl ?_
    refine rw_iret f_X9_option_28 ?_
    exact h1 h V _ rfl .refl .refl ok
theorem m_optionE (hW : MW h m) {e : er} (er : ER V e) {w : Int64} {lo hi ot : Int32} (hk : k ot (mh h m V)) : Rn d n_X9_option 0 [am_r m, am_l w, am_u, am_i lo, am_i hi, am_i ot] [] (mh h m V) (kI k) := by
  refine rw_aload f_X9_option_0 rfl ?_
  refine rm_getI f_X9_option_1 hW ?_
  refine rw_ifT f_X9_option_4 (decide_eq_true er.ne) ?_
  refine rw_iload f_X9_option_26 rfl ?_
  refine rw_iret f_X9_option_28 ?_
  exact hk
end MRead
