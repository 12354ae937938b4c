/-! THE MODEL: wear -/
section MWear
variable {d : Nat} {h : am_H} {m : Nat} {k : Int32 → am_H → Prop}
theorem M_done {s x y : Int32} (hk : k (dn s x y) h) : Rn (d + 1) n_X9_done 0 [am_i s, am_i x, am_i y] [] h (kI k) := by
  unfold dn at hk
  refine rw_iload f_X9_done_0 rfl ?_
  refine rw_switch f_X9_done_1 ?_
  refine rw_sw1 (fun c1 => ?_) (fun c1 => ?_)
  · refine rw_iload f_X9_done_144 rfl ?_
    first | refine rw_ne0B f_X9_done_145 (fun c2 => ?_) (fun c2 => ?_) | refine rw_ne0 f_X9_done_145 (fun c2 => ?_) (fun c2 => ?_)
    · refine rw_iload f_X9_done_152 rfl ?_
      refine rw_iload f_X9_done_153 rfl ?_
      refine rw_irem f_X9_done_154 (by first | assumption | decide) ?_
      refine rw_iret f_X9_done_155 ?_
      simpa [c1, c2] using hk
    · refine rw_const f_X9_done_148 ?_
      refine rw_goto f_X9_done_149 ?_
      refine rw_iret f_X9_done_155 ?_
      simpa [c1, c2] using hk
  · refine rw_sw1 (fun c3 => ?_) (fun c3 => ?_)
    · refine rw_iload f_X9_done_198 rfl ?_
      first | refine rw_eq0B f_X9_done_199 (fun c4 => ?_) (fun c4 => ?_) | refine rw_eq0 f_X9_done_199 (fun c4 => ?_) (fun c4 => ?_)
      · refine rw_const f_X9_done_210 ?_
        refine rw_callS f_X9_done_211 rfl rfl rfl (rn_ki (M_truthX (by first | exact Or.inl rfl | exact Or.inr rfl | exact bI_01 _) ?_))
        refine rw_iret f_X9_done_214 ?_
        simpa [c1, c3, c4] using hk
      · refine rw_iload f_X9_done_202 rfl ?_
        first | refine rw_eq0B f_X9_done_203 (fun c5 => ?_) (fun c5 => ?_) | refine rw_eq0 f_X9_done_203 (fun c5 => ?_) (fun c5 => ?_)
        · refine rw_const f_X9_done_210 ?_
          refine rw_callS f_X9_done_211 rfl rfl rfl (rn_ki (M_truthX (by first | exact Or.inl rfl | exact Or.inr rfl | exact bI_01 _) ?_))
          refine rw_iret f_X9_done_214 ?_
          simpa [c1, c3, c4, c5] using hk
        · refine rw_const f_X9_done_206 ?_
          refine rw_goto f_X9_done_207 ?_
          refine rw_callS f_X9_done_211 rfl rfl rfl (rn_ki (M_truthX (by first | exact Or.inl rfl | exact Or.inr rfl | exact bI_01 _) ?_))
          refine rw_iret f_X9_done_214 ?_
          simpa [c1, c3, c4, c5] using hk
    · refine rw_skip (by decide) ?_
      refine rw_skip (by decide) ?_
      refine rw_skip (by decide) ?_
      refine rw_sw1 (fun c6 => ?_) (fun c6 => ?_)
      · refine rw_iload f_X9_done_128 rfl ?_
        refine rw_iload f_X9_done_129 rfl ?_
        refine rw_imul f_X9_done_130 ?_
        refine rw_iret f_X9_done_131 ?_
        simpa [c1, c3, c6] using hk
      · refine rw_sw1 (fun c7 => ?_) (fun c7 => ?_)
        · refine rw_iload f_X9_done_120 rfl ?_
          refine rw_iload f_X9_done_121 rfl ?_
          refine rw_iadd f_X9_done_122 ?_
          refine rw_iret f_X9_done_123 ?_
          simpa [c1, c3, c6, c7] using hk
        · refine rw_skip (by decide) ?_
          refine rw_sw1 (fun c8 => ?_) (fun c8 => ?_)
          · refine rw_iload f_X9_done_124 rfl ?_
            refine rw_iload f_X9_done_125 rfl ?_
            refine rw_isub f_X9_done_126 ?_
            refine rw_iret f_X9_done_127 ?_
            simpa [c1, c3, c6, c7, c8] using hk
          · refine rw_skip (by decide) ?_
            refine rw_sw1 (fun c9 => ?_) (fun c9 => ?_)
            · refine rw_iload f_X9_done_132 rfl ?_
              first | refine rw_ne0B f_X9_done_133 (fun c10 => ?_) (fun c10 => ?_) | refine rw_ne0 f_X9_done_133 (fun c10 => ?_) (fun c10 => ?_)
              · refine rw_iload f_X9_done_140 rfl ?_
                refine rw_iload f_X9_done_141 rfl ?_
                refine rw_idiv f_X9_done_142 (by first | assumption | decide) ?_
                refine rw_iret f_X9_done_143 ?_
                simpa [c1, c3, c6, c7, c8, c9, c10] using hk
              · refine rw_const f_X9_done_136 ?_
                refine rw_goto f_X9_done_137 ?_
                refine rw_iret f_X9_done_143 ?_
                simpa [c1, c3, c6, c7, c8, c9, c10] using hk
            · refine rw_skip (by decide) ?_
              refine rw_skip (by decide) ?_
              refine rw_skip (by decide) ?_
              refine rw_skip (by decide) ?_
              refine rw_skip (by decide) ?_
              refine rw_skip (by decide) ?_
              refine rw_skip (by decide) ?_
              refine rw_skip (by decide) ?_
              refine rw_skip (by decide) ?_
              refine rw_skip (by decide) ?_
              refine rw_skip (by decide) ?_
              refine rw_skip (by decide) ?_
              refine rw_sw1 (fun c11 => ?_) (fun c11 => ?_)
              · refine rw_iload f_X9_done_156 rfl ?_
                refine rw_iload f_X9_done_157 rfl ?_
                refine rw_ge f_X9_done_158 (fun c12 => ?_) (fun c12 => ?_)
                · refine rw_const f_X9_done_165 ?_
                  refine rw_callS f_X9_done_166 rfl rfl rfl (rn_ki (M_truthX (by first | exact Or.inl rfl | exact Or.inr rfl | exact bI_01 _) ?_))
                  refine rw_iret f_X9_done_169 ?_
                  simpa [c1, c3, c6, c7, c8, c9, c11, c12] using hk
                · refine rw_const f_X9_done_161 ?_
                  refine rw_goto f_X9_done_162 ?_
                  refine rw_callS f_X9_done_166 rfl rfl rfl (rn_ki (M_truthX (by first | exact Or.inl rfl | exact Or.inr rfl | exact bI_01 _) ?_))
                  refine rw_iret f_X9_done_169 ?_
                  simpa [c1, c3, c6, c7, c8, c9, c11, c12] using hk
              · refine rw_sw1 (fun c13 => ?_) (fun c13 => ?_)
                · refine rw_iload f_X9_done_184 rfl ?_
                  refine rw_iload f_X9_done_185 rfl ?_
                  refine rw_ne f_X9_done_186 (fun c14 => ?_) (fun c14 => ?_)
                  · refine rw_const f_X9_done_193 ?_
                    refine rw_callS f_X9_done_194 rfl rfl rfl (rn_ki (M_truthX (by first | exact Or.inl rfl | exact Or.inr rfl | exact bI_01 _) ?_))
                    refine rw_iret f_X9_done_197 ?_
                    simpa [c1, c3, c6, c7, c8, c9, c11, c13, c14] using hk
                  · refine rw_const f_X9_done_189 ?_
                    refine rw_goto f_X9_done_190 ?_
                    refine rw_callS f_X9_done_194 rfl rfl rfl (rn_ki (M_truthX (by first | exact Or.inl rfl | exact Or.inr rfl | exact bI_01 _) ?_))
                    refine rw_iret f_X9_done_197 ?_
                    simpa [c1, c3, c6, c7, c8, c9, c11, c13, c14] using hk
                · refine rw_sw1 (fun c15 => ?_) (fun c15 => ?_)
                  · refine rw_iload f_X9_done_170 rfl ?_
                    refine rw_iload f_X9_done_171 rfl ?_
                    refine rw_le f_X9_done_172 (fun c16 => ?_) (fun c16 => ?_)
                    · refine rw_const f_X9_done_179 ?_
                      refine rw_callS f_X9_done_180 rfl rfl rfl (rn_ki (M_truthX (by first | exact Or.inl rfl | exact Or.inr rfl | exact bI_01 _) ?_))
                      refine rw_iret f_X9_done_183 ?_
                      simpa [c1, c3, c6, c7, c8, c9, c11, c13, c15, c16] using hk
                    · refine rw_const f_X9_done_175 ?_
                      refine rw_goto f_X9_done_176 ?_
                      refine rw_callS f_X9_done_180 rfl rfl rfl (rn_ki (M_truthX (by first | exact Or.inl rfl | exact Or.inr rfl | exact bI_01 _) ?_))
                      refine rw_iret f_X9_done_183 ?_
                      simpa [c1, c3, c6, c7, c8, c9, c11, c13, c15, c16] using hk
                  · refine rw_sw0 ?_
                    refine rw_iload f_X9_done_215 rfl ?_
                    first | refine rw_ne0B f_X9_done_216 (fun c17 => ?_) (fun c17 => ?_) | refine rw_ne0 f_X9_done_216 (fun c17 => ?_) (fun c17 => ?_)
                    · refine rw_const f_X9_done_223 ?_
                      refine rw_goto f_X9_done_224 ?_
                      refine rw_callS f_X9_done_228 rfl rfl rfl (rn_ki (M_truthX (by first | exact Or.inl rfl | exact Or.inr rfl | exact bI_01 _) ?_))
                      refine rw_iret f_X9_done_231 ?_
                      simpa [c1, c3, c6, c7, c8, c9, c11, c13, c15, c17] using hk
                    · refine rw_iload f_X9_done_219 rfl ?_
                      first | refine rw_eq0B f_X9_done_220 (fun c18 => ?_) (fun c18 => ?_) | refine rw_eq0 f_X9_done_220 (fun c18 => ?_) (fun c18 => ?_)
                      · refine rw_const f_X9_done_227 ?_
                        refine rw_callS f_X9_done_228 rfl rfl rfl (rn_ki (M_truthX (by first | exact Or.inl rfl | exact Or.inr rfl | exact bI_01 _) ?_))
                        refine rw_iret f_X9_done_231 ?_
                        simpa [c1, c3, c6, c7, c8, c9, c11, c13, c15, c17, c18] using hk
                      · refine rw_const f_X9_done_223 ?_
                        refine rw_goto f_X9_done_224 ?_
                        refine rw_callS f_X9_done_228 rfl rfl rfl (rn_ki (M_truthX (by first | exact Or.inl rfl | exact Or.inr rfl | exact bI_01 _) ?_))
                        refine rw_iret f_X9_done_231 ?_
                        simpa [c1, c3, c6, c7, c8, c9, c11, c13, c15, c17, c18] using hk
/-- steps from a place on -/
def At (V : am_M) (k0 : Nat) (c : am_S) : Prop := ∀ i s, c[i]? = some s → V 5 (k0 + i) = s.1 ∧ V 6 (k0 + i) = s.2
theorem At_app {V : am_M} {k0 : Nat} {c1 c2 : am_S} (q : At V k0 (c1 ++ c2)) : At V k0 c1 ∧ At V (k0 + c1.length) c2 := by
  refine ⟨fun i s e => q i s ?_, fun i s e => ?_⟩
  · rw [List.getElem?_append_left (List.getElem?_eq_some_iff.mp e).1]; exact e
  · have := q (c1.length + i) s (by rw [List.getElem?_append_right (by omega), Nat.add_sub_cancel_left]; exact e)
    rw [← Nat.add_assoc] at this; exact this
theorem At_steps (V : am_M) (n : Nat) : At V 0 (stepsOf V n) := by
  intro i s e
  unfold stepsOf at e
  rw [List.getElem?_map] at e
  cases hi : (List.range n)[i]? with
  | none => rw [hi] at e; cases e
  | some j =>
    rw [hi] at e
    have hj : j = i := by
      obtain ⟨a, b⟩ := List.getElem?_eq_some_iff.mp hi
      rw [List.getElem_range] at b; exact b.symm
    subst hj
    cases e
    rw [Nat.zero_add]; exact ⟨rfl, rfl⟩
/-- a stack in an array -/
def Stk (f : Nat → Int32) : List Int32 → Prop
  | [] => True
  | x :: st => f st.length = x ∧ Stk f st
theorem Stk_up {f g : Nat → Int32} {st : List Int32} (q : Stk f st) (e : ∀ j, j < st.length → g j = f j) : Stk g st := by
  induction st with
  | nil => exact True.intro
  | cons x st ih =>
    obtain ⟨q1, q2⟩ := q
    exact ⟨(e st.length (by simp)).trans q1, ih q2 (fun j hj => e j (by simp; omega))⟩
abbrev wS (m : Nat) : Nat → Prop := fun b => b = (m + 9) ∨ b = (m + 8)
/-- at the head of the loop over steps -/
abbrev wLs (m : Nat) (th ho st dy : Int32) (n k0 : Nat) : List am_V := [am_r m, am_i th, am_i ho, am_i st, am_i dy, am_i (nI n), am_i (nI k0)]
def wI (h hh : am_H) (m : Nat) (th ho st dy : Int32) (stk : List Int32) : Prop := On (wS m) h hh ∧ (∀ w, w < 4 → hp_I hh (m + 9) w = wrF th ho st dy (nI w)) ∧ Stk (hp_I hh (m + 8)) stk
variable {K : am_R → am_H → Prop} {th ho st dy : Int32}
theorem M_wstep (hW0 : MW h m) {nS k0 : Nat} (hS : hp_I h m 18 = nI nS) (hS3 : nS ≤ 320) (hk0 : k0 < nS) {stk : List Int32} {hh : am_H} {s : Int32 × Int32} (hs : hp_I h (m + 5) k0 = s.1 ∧ hp_I h (m + 6) k0 = s.2) (hi : wI h hh m th ho st dy stk) (hok : (s.1 = 0 ∧ stk.length < 64) ∨ (s.1 = 1 ∧ (∃ w, w < 4 ∧ s.2 = nI w) ∧ stk.length < 64) ∨ (s.1 = 2 ∧ (∃ v t, stk = v :: t) ∧ stk.length ≤ 64) ∨ (s.1 = 3 ∧ (∃ u v t, stk = u :: v :: t) ∧ stk.length ≤ 64)) (hk : ∀ hh', wI h hh' m th ho st dy (ev1 (wrF th ho st dy) stk s) → Rn (d + 2) n_X9_wearOf 53 (wLs m th ho st dy (ev1 (wrF th ho st dy) stk s).length (k0 + 1)) [] hh' K) : Rn (d + 2) n_X9_wearOf 53 (wLs m th ho st dy stk.length k0) [] hh K := by
  obtain ⟨on, ha, hv⟩ := hi
  have hW : MW hh m := hW0.on on
  have n5 : ¬ wS m (m + 5) := by unfold wS; omega
  have n6 : ¬ wS m (m + 6) := by unfold wS; omega
  have n0 : ¬ wS m m := by unfold wS; omega
  have e1 : hp_I hh (m + 5) k0 = s.1 := by rw [on.I n5]; exact hs.1
  have e2 : hp_I hh (m + 6) k0 = s.2 := by rw [on.I n6]; exact hs.2
  have e3 : hp_I hh m 18 = nI nS := by rw [on.I n0]; exact hS
  obtain ⟨s1, s2⟩ := s
  dsimp only at *
  rcases hok with ⟨q1, q2⟩ | ⟨q1, ⟨w, q3, q4⟩, q2⟩ | ⟨q1, ⟨v, t, q3⟩, q2⟩ | ⟨q1, ⟨u, v, t, q3⟩, q2⟩
  · subst q1
    have hk2 := hk (hp_sI hh (m + 8) stk.length s2) ⟨on.tr (On_sI (Or.inr rfl)), fun w hw => by rw [sI_ne (by omega)]; exact ha w hw, sI_same, Stk_up hv (fun j hj => sI_ne (by omega))⟩
    refine rw_iload f_X9_wearOf_53 rfl ?_
    refine rw_aload f_X9_wearOf_55 rfl ?_
    refine rw_getI f_X9_wearOf_56 hW.1 ?_
    refine rw_icmpF f_X9_wearOf_59 (decide_eq_false (by rw [e3]; exact nI_ge hk0 (by omega))) ?_
    refine rw_aload f_X9_wearOf_62 rfl ?_
    refine rw_getR f_X9_wearOf_63 hW.1 (hW.2.2 13 _ _ _ rfl).1 ?_
    refine rw_iload f_X9_wearOf_66 rfl ?_
    refine rw_xaldE f_X9_wearOf_68 (hW.2.2 13 _ _ _ rfl).2 rfl (by omega) (by omega) ?_
    rw [e1]
    refine rw_ifT f_X9_wearOf_69 (by decide) ?_
    refine rw_aload f_X9_wearOf_83 rfl ?_
    refine rw_getR f_X9_wearOf_84 hW.1 (hW.2.2 16 _ _ _ rfl).1 ?_
    refine rw_iload f_X9_wearOf_87 rfl ?_
    refine rw_aload f_X9_wearOf_89 rfl ?_
    refine rw_getR f_X9_wearOf_90 hW.1 (hW.2.2 13 _ _ _ rfl).1 ?_
    refine rw_iload f_X9_wearOf_93 rfl ?_
    refine rw_xaldE f_X9_wearOf_95 (hW.2.2 13 _ _ _ rfl).2 rfl (by omega) (by omega) ?_
    rw [e1]
    refine rw_ifF f_X9_wearOf_96 (by decide) ?_
    refine rw_aload f_X9_wearOf_99 rfl ?_
    refine rw_getR f_X9_wearOf_100 hW.1 (hW.2.2 14 _ _ _ rfl).1 ?_
    refine rw_iload f_X9_wearOf_103 rfl ?_
    refine rw_xaldE f_X9_wearOf_105 (hW.2.2 14 _ _ _ rfl).2 rfl (by omega) (by omega) ?_
    rw [e2]
    refine rw_goto f_X9_wearOf_106 ?_
    refine rw_iastE f_X9_wearOf_121 (hW.2.2 16 _ _ _ rfl).2 rfl (by omega) (by omega) ?_
    refine rw_iinc f_X9_wearOf_122 rfl rfl ?_
    refine rw_goto f_X9_wearOf_125 ?_
    refine rw_iinc f_X9_wearOf_209 rfl rfl ?_
    refine rw_goto f_X9_wearOf_212 ?_
    rw [nI_1', nI_1']
    exact hk2
  · subst q1
    have hk2 := hk (hp_sI hh (m + 8) stk.length (wrF th ho st dy s2)) ⟨on.tr (On_sI (Or.inr rfl)), fun w hw => by rw [sI_ne (by omega)]; exact ha w hw, sI_same, Stk_up hv (fun j hj => sI_ne (by omega))⟩
    refine rw_iload f_X9_wearOf_53 rfl ?_
    refine rw_aload f_X9_wearOf_55 rfl ?_
    refine rw_getI f_X9_wearOf_56 hW.1 ?_
    refine rw_icmpF f_X9_wearOf_59 (decide_eq_false (by rw [e3]; exact nI_ge hk0 (by omega))) ?_
    refine rw_aload f_X9_wearOf_62 rfl ?_
    refine rw_getR f_X9_wearOf_63 hW.1 (hW.2.2 13 _ _ _ rfl).1 ?_
    refine rw_iload f_X9_wearOf_66 rfl ?_
    refine rw_xaldE f_X9_wearOf_68 (hW.2.2 13 _ _ _ rfl).2 rfl (by omega) (by omega) ?_
    rw [e1]
    refine rw_ifF f_X9_wearOf_69 (by decide) ?_
    refine rw_aload f_X9_wearOf_72 rfl ?_
    refine rw_getR f_X9_wearOf_73 hW.1 (hW.2.2 13 _ _ _ rfl).1 ?_
    refine rw_iload f_X9_wearOf_76 rfl ?_
    refine rw_xaldE f_X9_wearOf_78 (hW.2.2 13 _ _ _ rfl).2 rfl (by omega) (by omega) ?_
    rw [e1]
    refine rw_const f_X9_wearOf_79 ?_
    refine rw_icmpF f_X9_wearOf_80 (by decide) ?_
    refine rw_aload f_X9_wearOf_83 rfl ?_
    refine rw_getR f_X9_wearOf_84 hW.1 (hW.2.2 16 _ _ _ rfl).1 ?_
    refine rw_iload f_X9_wearOf_87 rfl ?_
    refine rw_aload f_X9_wearOf_89 rfl ?_
    refine rw_getR f_X9_wearOf_90 hW.1 (hW.2.2 13 _ _ _ rfl).1 ?_
    refine rw_iload f_X9_wearOf_93 rfl ?_
    refine rw_xaldE f_X9_wearOf_95 (hW.2.2 13 _ _ _ rfl).2 rfl (by omega) (by omega) ?_
    rw [e1]
    refine rw_ifT f_X9_wearOf_96 (by decide) ?_
    refine rw_aload f_X9_wearOf_109 rfl ?_
    refine rw_getR f_X9_wearOf_110 hW.1 (hW.2.2 24 _ _ _ rfl).1 ?_
    refine rw_aload f_X9_wearOf_113 rfl ?_
    refine rw_getR f_X9_wearOf_114 hW.1 (hW.2.2 14 _ _ _ rfl).1 ?_
    refine rw_iload f_X9_wearOf_117 rfl ?_
    refine rw_xaldE f_X9_wearOf_119 (hW.2.2 14 _ _ _ rfl).2 rfl (by omega) (by omega) ?_
    rw [e2, q4]
    refine rw_xaldE (j := w) f_X9_wearOf_120 (hW.2.2 24 _ _ _ rfl).2 (by first | rfl | exact nI_addl _ _ | (simp only [nI, Int32.ofNat_add, Int32.ofNat_mul]; rfl) | (simp only [nI_addl, nI_mull, nI_lit, nI_1']; done) | (simp only [nI_1, nI_0, nI_addl, nI_mull, ← nI_succ]; rfl)) (by omega) (by omega) ?_
    rw [ha w q3, ← q4]
    refine rw_iastE f_X9_wearOf_121 (hW.2.2 16 _ _ _ rfl).2 rfl (by omega) (by omega) ?_
    refine rw_iinc f_X9_wearOf_122 rfl rfl ?_
    refine rw_goto f_X9_wearOf_125 ?_
    refine rw_iinc f_X9_wearOf_209 rfl rfl ?_
    refine rw_goto f_X9_wearOf_212 ?_
    rw [nI_1', nI_1']
    exact hk2
  · subst q1
    subst q3
    have hk2 := hk (hp_sI hh (m + 8) t.length (if v = 0 then 1 else 0)) ⟨on.tr (On_sI (Or.inr rfl)), fun w hw => by rw [sI_ne (by omega)]; exact ha w hw, sI_same, Stk_up hv.2 (fun j hj => sI_ne (by omega))⟩
    rw [List.length_cons] at q2 ⊢
    refine rw_iload f_X9_wearOf_53 rfl ?_
    refine rw_aload f_X9_wearOf_55 rfl ?_
    refine rw_getI f_X9_wearOf_56 hW.1 ?_
    refine rw_icmpF f_X9_wearOf_59 (decide_eq_false (by rw [e3]; exact nI_ge hk0 (by omega))) ?_
    refine rw_aload f_X9_wearOf_62 rfl ?_
    refine rw_getR f_X9_wearOf_63 hW.1 (hW.2.2 13 _ _ _ rfl).1 ?_
    refine rw_iload f_X9_wearOf_66 rfl ?_
    refine rw_xaldE f_X9_wearOf_68 (hW.2.2 13 _ _ _ rfl).2 rfl (by omega) (by omega) ?_
    rw [e1]
    refine rw_ifF f_X9_wearOf_69 (by decide) ?_
    refine rw_aload f_X9_wearOf_72 rfl ?_
    refine rw_getR f_X9_wearOf_73 hW.1 (hW.2.2 13 _ _ _ rfl).1 ?_
    refine rw_iload f_X9_wearOf_76 rfl ?_
    refine rw_xaldE f_X9_wearOf_78 (hW.2.2 13 _ _ _ rfl).2 rfl (by omega) (by omega) ?_
    rw [e1]
    refine rw_const f_X9_wearOf_79 ?_
    refine rw_icmpT f_X9_wearOf_80 (by decide) ?_
    refine rw_aload f_X9_wearOf_128 rfl ?_
    refine rw_getR f_X9_wearOf_129 hW.1 (hW.2.2 13 _ _ _ rfl).1 ?_
    refine rw_iload f_X9_wearOf_132 rfl ?_
    refine rw_xaldE f_X9_wearOf_134 (hW.2.2 13 _ _ _ rfl).2 rfl (by omega) (by omega) ?_
    rw [e1]
    refine rw_const f_X9_wearOf_135 ?_
    refine rw_icmpF f_X9_wearOf_136 (by decide) ?_
    refine rw_aload f_X9_wearOf_139 rfl ?_
    refine rw_getR f_X9_wearOf_140 hW.1 (hW.2.2 16 _ _ _ rfl).1 ?_
    refine rw_iload f_X9_wearOf_143 rfl ?_
    refine rw_const f_X9_wearOf_145 ?_
    refine rw_isub f_X9_wearOf_146 ?_
    rw [nI_pred]
    refine rw_aload f_X9_wearOf_147 rfl ?_
    refine rw_getR f_X9_wearOf_148 hW.1 (hW.2.2 16 _ _ _ rfl).1 ?_
    refine rw_iload f_X9_wearOf_151 rfl ?_
    refine rw_const f_X9_wearOf_153 ?_
    refine rw_isub f_X9_wearOf_154 ?_
    rw [nI_pred]
    refine rw_xaldE (j := t.length) f_X9_wearOf_155 (hW.2.2 16 _ _ _ rfl).2 (by first | rfl | exact nI_addl _ _ | (simp only [nI, Int32.ofNat_add, Int32.ofNat_mul]; rfl) | (simp only [nI_addl, nI_mull, nI_lit, nI_1']; done) | (simp only [nI_1, nI_0, nI_addl, nI_mull, ← nI_succ]; rfl)) (by omega) (by omega) ?_
    rw [hv.1]
    first | refine rw_ne0B f_X9_wearOf_156 (fun c1 => ?_) (fun c1 => ?_) | refine rw_ne0 f_X9_wearOf_156 (fun c1 => ?_) (fun c1 => ?_)
    · refine rw_const f_X9_wearOf_163 ?_
      refine rw_callS f_X9_wearOf_164 rfl rfl rfl (rn_ki (M_truthX (by first | exact Or.inl rfl | exact Or.inr rfl | exact bI_01 _) ?_))
      refine rw_iastE (j := t.length) f_X9_wearOf_167 (hW.2.2 16 _ _ _ rfl).2 (by first | rfl | exact nI_addl _ _ | (simp only [nI, Int32.ofNat_add, Int32.ofNat_mul]; rfl) | (simp only [nI_addl, nI_mull, nI_lit, nI_1']; done) | (simp only [nI_1, nI_0, nI_addl, nI_mull, ← nI_succ]; rfl)) (by omega) (by omega) ?_
      refine rw_goto f_X9_wearOf_168 ?_
      refine rw_iinc f_X9_wearOf_209 rfl rfl ?_
      refine rw_goto f_X9_wearOf_212 ?_
      rw [nI_1']
      first | (rw [if_pos c1] at hk2; exact hk2) | (rw [if_neg c1] at hk2; exact hk2)
    · refine rw_const f_X9_wearOf_159 ?_
      refine rw_goto f_X9_wearOf_160 ?_
      refine rw_callS f_X9_wearOf_164 rfl rfl rfl (rn_ki (M_truthX (by first | exact Or.inl rfl | exact Or.inr rfl | exact bI_01 _) ?_))
      refine rw_iastE (j := t.length) f_X9_wearOf_167 (hW.2.2 16 _ _ _ rfl).2 (by first | rfl | exact nI_addl _ _ | (simp only [nI, Int32.ofNat_add, Int32.ofNat_mul]; rfl) | (simp only [nI_addl, nI_mull, nI_lit, nI_1']; done) | (simp only [nI_1, nI_0, nI_addl, nI_mull, ← nI_succ]; rfl)) (by omega) (by omega) ?_
      refine rw_goto f_X9_wearOf_168 ?_
      refine rw_iinc f_X9_wearOf_209 rfl rfl ?_
      refine rw_goto f_X9_wearOf_212 ?_
      rw [nI_1']
      first | (rw [if_pos c1] at hk2; exact hk2) | (rw [if_neg c1] at hk2; exact hk2)
  · subst q1
    subst q3
    have hk2 := hk (hp_sI hh (m + 8) t.length (dn s2 v u)) ⟨on.tr (On_sI (Or.inr rfl)), fun w hw => by rw [sI_ne (by omega)]; exact ha w hw, sI_same, Stk_up hv.2.2 (fun j hj => sI_ne (by omega))⟩
    rw [List.length_cons, List.length_cons] at q2 ⊢
    refine rw_iload f_X9_wearOf_53 rfl ?_
    refine rw_aload f_X9_wearOf_55 rfl ?_
    refine rw_getI f_X9_wearOf_56 hW.1 ?_
    refine rw_icmpF f_X9_wearOf_59 (decide_eq_false (by rw [e3]; exact nI_ge hk0 (by omega))) ?_
    refine rw_aload f_X9_wearOf_62 rfl ?_
    refine rw_getR f_X9_wearOf_63 hW.1 (hW.2.2 13 _ _ _ rfl).1 ?_
    refine rw_iload f_X9_wearOf_66 rfl ?_
    refine rw_xaldE f_X9_wearOf_68 (hW.2.2 13 _ _ _ rfl).2 rfl (by omega) (by omega) ?_
    rw [e1]
    refine rw_ifF f_X9_wearOf_69 (by decide) ?_
    refine rw_aload f_X9_wearOf_72 rfl ?_
    refine rw_getR f_X9_wearOf_73 hW.1 (hW.2.2 13 _ _ _ rfl).1 ?_
    refine rw_iload f_X9_wearOf_76 rfl ?_
    refine rw_xaldE f_X9_wearOf_78 (hW.2.2 13 _ _ _ rfl).2 rfl (by omega) (by omega) ?_
    rw [e1]
    refine rw_const f_X9_wearOf_79 ?_
    refine rw_icmpT f_X9_wearOf_80 (by decide) ?_
    refine rw_aload f_X9_wearOf_128 rfl ?_
    refine rw_getR f_X9_wearOf_129 hW.1 (hW.2.2 13 _ _ _ rfl).1 ?_
    refine rw_iload f_X9_wearOf_132 rfl ?_
    refine rw_xaldE f_X9_wearOf_134 (hW.2.2 13 _ _ _ rfl).2 rfl (by omega) (by omega) ?_
    rw [e1]
    refine rw_const f_X9_wearOf_135 ?_
    refine rw_icmpT f_X9_wearOf_136 (by decide) ?_
    refine rw_iinc f_X9_wearOf_171 rfl rfl ?_
    rw [show nI (t.length + 1 + 1) + -1 = nI (t.length + 1) from by rw [← Int32.sub_eq_add_neg, nI_pred]]
    refine rw_aload f_X9_wearOf_174 rfl ?_
    refine rw_getR f_X9_wearOf_175 hW.1 (hW.2.2 16 _ _ _ rfl).1 ?_
    refine rw_iload f_X9_wearOf_178 rfl ?_
    refine rw_const f_X9_wearOf_180 ?_
    refine rw_isub f_X9_wearOf_181 ?_
    rw [nI_pred]
    refine rw_aload f_X9_wearOf_182 rfl ?_
    refine rw_getR f_X9_wearOf_183 hW.1 (hW.2.2 14 _ _ _ rfl).1 ?_
    refine rw_iload f_X9_wearOf_186 rfl ?_
    refine rw_xaldE f_X9_wearOf_188 (hW.2.2 14 _ _ _ rfl).2 rfl (by omega) (by omega) ?_
    rw [e2]
    refine rw_aload f_X9_wearOf_189 rfl ?_
    refine rw_getR f_X9_wearOf_190 hW.1 (hW.2.2 16 _ _ _ rfl).1 ?_
    refine rw_iload f_X9_wearOf_193 rfl ?_
    refine rw_const f_X9_wearOf_195 ?_
    refine rw_isub f_X9_wearOf_196 ?_
    rw [nI_pred]
    refine rw_xaldE (j := t.length) f_X9_wearOf_197 (hW.2.2 16 _ _ _ rfl).2 (by first | rfl | exact nI_addl _ _ | (simp only [nI, Int32.ofNat_add, Int32.ofNat_mul]; rfl) | (simp only [nI_addl, nI_mull, nI_lit, nI_1']; done) | (simp only [nI_1, nI_0, nI_addl, nI_mull, ← nI_succ]; rfl)) (by omega) (by omega) ?_
    rw [hv.2.1]
    refine rw_aload f_X9_wearOf_198 rfl ?_
    refine rw_getR f_X9_wearOf_199 hW.1 (hW.2.2 16 _ _ _ rfl).1 ?_
    refine rw_iload f_X9_wearOf_202 rfl ?_
    refine rw_xaldE (j := t.length + 1) f_X9_wearOf_204 (hW.2.2 16 _ _ _ rfl).2 (by first | rfl | exact nI_addl _ _ | (simp only [nI, Int32.ofNat_add, Int32.ofNat_mul]; rfl) | (simp only [nI_addl, nI_mull, nI_lit, nI_1']; done) | (simp only [nI_1, nI_0, nI_addl, nI_mull, ← nI_succ]; rfl)) (by omega) (by omega) ?_
    rw [show hp_I hh (m + 8) (t.length + 1) = u from hv.1]
    refine rw_callS f_X9_wearOf_205 rfl rfl rfl (rn_ki (M_done ?_))
    refine rw_iastE (j := t.length) f_X9_wearOf_208 (hW.2.2 16 _ _ _ rfl).2 (by first | rfl | exact nI_addl _ _ | (simp only [nI, Int32.ofNat_add, Int32.ofNat_mul]; rfl) | (simp only [nI_addl, nI_mull, nI_lit, nI_1']; done) | (simp only [nI_1, nI_0, nI_addl, nI_mull, ← nI_succ]; rfl)) (by omega) (by omega) ?_
    refine rw_iinc f_X9_wearOf_209 rfl rfl ?_
    refine rw_goto f_X9_wearOf_212 ?_
    rw [nI_1']
    exact hk2
theorem PF_len : ∀ n c, PF n c → 0 < c.length := by
  intro n c q
  cases n with
  | zero => exact absurd q id
  | succ n =>
    rcases q with ⟨v, rfl⟩ | ⟨w, -, rfl⟩ | ⟨c1, -, rfl⟩ | ⟨c1, c2, s, -, -, rfl⟩ <;> simp <;> omega
theorem PF_leaf : ∀ n c, PF n c → 0 < leaves c := by
  intro n
  induction n with
  | zero => intro c q; exact absurd q id
  | succ n ih =>
    intro c q
    rcases q with ⟨v, rfl⟩ | ⟨w, -, rfl⟩ | ⟨c1, h1, rfl⟩ | ⟨c1, c2, s, h1, h2, rfl⟩
    · simp [leaves]
    · simp [leaves]
    · rw [leaves_app]; have := ih _ h1; omega
    · rw [leaves_app, leaves_app]; have := ih _ h1; omega
/-- a formula's steps are gone through -/
theorem M_wrun (hW0 : MW h m) {nS : Nat} (hS : hp_I h m 18 = nI nS) (hS3 : nS ≤ 320) : ∀ n c, PF n c → ∀ k0 stk hh, k0 + c.length ≤ nS → At (vw h m) k0 c → stk.length + leaves c ≤ 64 → wI h hh m th ho st dy stk → (∀ hh', wI h hh' m th ho st dy (ev (wrF th ho st dy) c stk) → Rn (d + 2) n_X9_wearOf 53 (wLs m th ho st dy (ev (wrF th ho st dy) c stk).length (k0 + c.length)) [] hh' K) → Rn (d + 2) n_X9_wearOf 53 (wLs m th ho st dy stk.length k0) [] hh K := by
  intro n
  induction n with
  | zero => intro c q; exact absurd q id
  | succ n ih =>
    intro c q k0 stk hh hl hat hlv hi hk
    rcases q with ⟨v, rfl⟩ | ⟨w, hw, rfl⟩ | ⟨c1, h1, rfl⟩ | ⟨c1, c2, s, h1, h2, rfl⟩
    · refine M_wstep hW0 hS hS3 (by simp at hl; omega) (hat 0 (0, v) rfl) hi (Or.inl ⟨rfl, ?_⟩) hk
      simp [leaves] at hlv; omega
    · refine M_wstep hW0 hS hS3 (by simp at hl; omega) (hat 0 (1, nI w) rfl) hi (Or.inr (Or.inl ⟨rfl, ⟨w, hw, rfl⟩, ?_⟩)) hk
      simp [leaves] at hlv; omega
    · obtain ⟨v, ev1_⟩ := PF_ev (wrF th ho st dy) n c1 h1
      obtain ⟨a1, a2⟩ := At_app hat
      have lf := PF_leaf _ _ h1
      rw [leaves_app] at hlv
      rw [List.length_append] at hl
      rw [ev_app, List.length_append] at hk
      refine ih c1 h1 k0 stk hh (by omega) a1 (by omega) hi (fun hh' hi' => ?_)
      rw [ev1_] at hi' hk ⊢
      refine M_wstep hW0 hS hS3 (by simp at hl; omega) (a2 0 (2, 0) rfl) hi' (Or.inr (Or.inr (Or.inl ⟨rfl, ⟨v, stk, rfl⟩, ?_⟩))) hk
      simp; omega
    · obtain ⟨v1, e1⟩ := PF_ev (wrF th ho st dy) n c1 h1
      obtain ⟨v2, e2⟩ := PF_ev (wrF th ho st dy) n c2 h2
      obtain ⟨a12, a3⟩ := At_app hat
      obtain ⟨a1, a2⟩ := At_app a12
      have lf1 := PF_leaf _ _ h1
      have lf2 := PF_leaf _ _ h2
      rw [leaves_app, leaves_app] at hlv
      rw [List.length_append, List.length_append] at hl
      rw [ev_app, ev_app, List.length_append, List.length_append] at hk
      refine ih c1 h1 k0 stk hh (by omega) a1 (by omega) hi (fun hh' hi' => ?_)
      rw [e1] at hi' hk ⊢
      refine ih c2 h2 _ _ hh' (by simp at hl; omega) a2 (by simp; omega) hi' (fun hh2 hi2 => ?_)
      rw [e2] at hi2 hk ⊢
      rw [List.length_append] at a3
      refine M_wstep hW0 hS hS3 (by simp at hl; omega) (by have := a3 0 (3, s) rfl; rw [← Nat.add_assoc] at this; exact this) hi2 (Or.inr (Or.inr (Or.inr ⟨rfl, ⟨v2, v1, stk, rfl⟩, ?_⟩))) (fun hh3 hi3 => ?_)
      · simp; omega
      · have := hk hh3 hi3
        rw [← Nat.add_assoc, ← Nat.add_assoc] at this
        exact this
theorem M_wearOf (hW0 : MW h m) (hw : okWear (vw h m)) (hk : ∀ h', On (wS m) h h' → k (wrV (vw h m) th ho st dy) h') : Rn (d + 2) n_X9_wearOf 0 [am_r m, am_i th, am_i ho, am_i st, am_i dy, am_u, am_u] [] h (kI k) := by
  have hW := hW0
  rcases hw with q | ⟨q, n, hn, hn3, hpf, hlf⟩
  · have hk2 := hk h On_refl
    unfold wrV at hk2
    rw [if_pos q] at hk2
    have q' : hp_I h m 66 = 0 := q
    refine rw_aload f_X9_wearOf_0 rfl ?_
    refine rw_getI f_X9_wearOf_1 hW.1 ?_
    refine rw_ifF f_X9_wearOf_4 (decide_eq_false (fun c => c q')) ?_
    refine rw_iload f_X9_wearOf_7 rfl ?_
    refine rw_const f_X9_wearOf_8 ?_
    refine rw_ge f_X9_wearOf_9 (fun c1 => ?_) (fun c1 => ?_)
    · refine rw_const f_X9_wearOf_16 ?_
      refine rw_iret f_X9_wearOf_17 ?_
      simpa [c1] using hk2
    · refine rw_iload f_X9_wearOf_12 rfl ?_
      refine rw_goto f_X9_wearOf_13 ?_
      refine rw_iret f_X9_wearOf_17 ?_
      simpa [c1] using hk2
  · have q' : hp_I h m 66 = 1 := q
    have hn' : hp_I h m 18 = nI n := hn
    refine rw_aload f_X9_wearOf_0 rfl ?_
    refine rw_getI f_X9_wearOf_1 hW.1 ?_
    refine rw_ifT f_X9_wearOf_4 (decide_eq_true (by rw [q']; decide)) ?_
    refine rw_aload f_X9_wearOf_18 rfl ?_
    refine rw_getR f_X9_wearOf_19 hW.1 (hW.2.2 24 _ _ _ rfl).1 ?_
    refine rw_const f_X9_wearOf_22 ?_
    refine rw_iload f_X9_wearOf_23 rfl ?_
    refine rw_iastE (j := 0) f_X9_wearOf_24 (hW.2.2 24 _ _ _ rfl).2 (by first | rfl | exact nI_addl _ _ | (simp only [nI, Int32.ofNat_add, Int32.ofNat_mul]; rfl) | (simp only [nI_addl, nI_mull, nI_lit, nI_1']; done) | (simp only [nI_1, nI_0, nI_addl, nI_mull, ← nI_succ]; rfl)) (by omega) (by omega) ?_
    refine rw_aload f_X9_wearOf_25 rfl ?_
    refine rw_getR f_X9_wearOf_26 hW.1 (hW.2.2 24 _ _ _ rfl).1 ?_
    refine rw_const f_X9_wearOf_29 ?_
    refine rw_iload f_X9_wearOf_30 rfl ?_
    refine rw_iastE (j := 1) f_X9_wearOf_31 (hW.2.2 24 _ _ _ rfl).2 (by first | rfl | exact nI_addl _ _ | (simp only [nI, Int32.ofNat_add, Int32.ofNat_mul]; rfl) | (simp only [nI_addl, nI_mull, nI_lit, nI_1']; done) | (simp only [nI_1, nI_0, nI_addl, nI_mull, ← nI_succ]; rfl)) (by omega) (by omega) ?_
    refine rw_aload f_X9_wearOf_32 rfl ?_
    refine rw_getR f_X9_wearOf_33 hW.1 (hW.2.2 24 _ _ _ rfl).1 ?_
    refine rw_const f_X9_wearOf_36 ?_
    refine rw_iload f_X9_wearOf_37 rfl ?_
    refine rw_iastE (j := 2) f_X9_wearOf_38 (hW.2.2 24 _ _ _ rfl).2 (by first | rfl | exact nI_addl _ _ | (simp only [nI, Int32.ofNat_add, Int32.ofNat_mul]; rfl) | (simp only [nI_addl, nI_mull, nI_lit, nI_1']; done) | (simp only [nI_1, nI_0, nI_addl, nI_mull, ← nI_succ]; rfl)) (by omega) (by omega) ?_
    refine rw_aload f_X9_wearOf_39 rfl ?_
    refine rw_getR f_X9_wearOf_40 hW.1 (hW.2.2 24 _ _ _ rfl).1 ?_
    refine rw_const f_X9_wearOf_43 ?_
    refine rw_iload f_X9_wearOf_44 rfl ?_
    refine rw_iastE (j := 3) f_X9_wearOf_46 (hW.2.2 24 _ _ _ rfl).2 (by first | rfl | exact nI_addl _ _ | (simp only [nI, Int32.ofNat_add, Int32.ofNat_mul]; rfl) | (simp only [nI_addl, nI_mull, nI_lit, nI_1']; done) | (simp only [nI_1, nI_0, nI_addl, nI_mull, ← nI_succ]; rfl)) (by omega) (by omega) ?_
    refine rw_const f_X9_wearOf_47 ?_
    refine rw_istore f_X9_wearOf_48 rfl rfl ?_
    refine rw_const f_X9_wearOf_50 ?_
    refine rw_istore f_X9_wearOf_51 rfl rfl ?_
    skip
    generalize hg : hp_sI (hp_sI (hp_sI (hp_sI h (m + 9) 0 th) (m + 9) 1 ho) (m + 9) 2 st) (m + 9) 3 dy = g
    have on : On (wS m) h g := by
      rw [← hg]
      have A : wS m (m + 9) := Or.inl rfl
      exact (((On_sI A).tr (On_sI A)).tr (On_sI A)).tr (On_sI A)
    have hi : wI h g m th ho st dy [] := by
      refine ⟨on, fun w hw => ?_, True.intro⟩
      rw [← hg]
      rcases (by omega : w = 0 ∨ w = 1 ∨ w = 2 ∨ w = 3) with e | e | e | e <;> subst e <;> simp [sI_if, wrF, nI]
    have ec : codeV (vw h m) = stepsOf (vw h m) n := by unfold codeV; rw [hn, nI_clamp (by omega)]
    have hlen : (stepsOf (vw h m) n).length = n := by simp [stepsOf]
    obtain ⟨v, hv⟩ := PF_ev (wrF th ho st dy) _ _ hpf
    refine M_wrun hW0 hn' hn3 320 _ hpf 0 [] g (by rw [hlen]; omega) (At_steps _ _) (by simp; omega) hi (fun hh hi2 => ?_)
    rw [hv] at hi2 ⊢
    rw [hlen, Nat.zero_add]
    obtain ⟨on2, -, hv2, -⟩ := hi2
    have hW : MW hh m := hW0.on on2
    have e3 : hp_I hh m 18 = nI n := by rw [on2.I (by unfold wS; omega)]; exact hn
    have hv3 : hp_I hh (m + 8) 0 = v := hv2
    have hk2 := hk hh on2
    unfold wrV at hk2
    rw [if_neg (by rw [q]; decide), ec, hv] at hk2
    dsimp only [hdI] at hk2
    refine rw_iload f_X9_wearOf_53 rfl ?_
    refine rw_aload f_X9_wearOf_55 rfl ?_
    refine rw_getI f_X9_wearOf_56 hW.1 ?_
    refine rw_icmpT f_X9_wearOf_59 (decide_eq_true (by rw [e3]; exact Int32.le_refl _)) ?_
    refine rw_aload f_X9_wearOf_215 rfl ?_
    refine rw_getR f_X9_wearOf_216 hW.1 (hW.2.2 16 _ _ _ rfl).1 ?_
    refine rw_const f_X9_wearOf_219 ?_
    refine rw_xaldE (j := 0) f_X9_wearOf_220 (hW.2.2 16 _ _ _ rfl).2 (by first | rfl | exact nI_addl _ _ | (simp only [nI, Int32.ofNat_add, Int32.ofNat_mul]; rfl) | (simp only [nI_addl, nI_mull, nI_lit, nI_1']; done) | (simp only [nI_1, nI_0, nI_addl, nI_mull, ← nI_succ]; rfl)) (by omega) (by omega) ?_
    rw [hv3]
    refine rw_ge0 f_X9_wearOf_221 (fun c1 => ?_) (fun c1 => ?_)
    · refine rw_aload f_X9_wearOf_228 rfl ?_
      refine rw_getR f_X9_wearOf_229 hW.1 (hW.2.2 16 _ _ _ rfl).1 ?_
      refine rw_const f_X9_wearOf_232 ?_
      refine rw_xaldE (j := 0) f_X9_wearOf_233 (hW.2.2 16 _ _ _ rfl).2 (by first | rfl | exact nI_addl _ _ | (simp only [nI, Int32.ofNat_add, Int32.ofNat_mul]; rfl) | (simp only [nI_addl, nI_mull, nI_lit, nI_1']; done) | (simp only [nI_1, nI_0, nI_addl, nI_mull, ← nI_succ]; rfl)) (by omega) (by omega) ?_
      rw [hv3]
      refine rw_iload f_X9_wearOf_234 rfl ?_
      refine rw_le f_X9_wearOf_235 (fun c2 => ?_) (fun c2 => ?_)
      · refine rw_aload f_X9_wearOf_242 rfl ?_
        refine rw_getR f_X9_wearOf_243 hW.1 (hW.2.2 16 _ _ _ rfl).1 ?_
        refine rw_const f_X9_wearOf_246 ?_
        refine rw_xaldE (j := 0) f_X9_wearOf_247 (hW.2.2 16 _ _ _ rfl).2 (by first | rfl | exact nI_addl _ _ | (simp only [nI, Int32.ofNat_add, Int32.ofNat_mul]; rfl) | (simp only [nI_addl, nI_mull, nI_lit, nI_1']; done) | (simp only [nI_1, nI_0, nI_addl, nI_mull, ← nI_succ]; rfl)) (by omega) (by omega) ?_
        try rw [hv3]
        refine rw_iret f_X9_wearOf_248 ?_
        simpa [c1, c2] using hk2
      · refine rw_iload f_X9_wearOf_238 rfl ?_
        refine rw_goto f_X9_wearOf_239 ?_
        try rw [hv3]
        refine rw_iret f_X9_wearOf_248 ?_
        simpa [c1, c2] using hk2
    · refine rw_const f_X9_wearOf_224 ?_
      refine rw_goto f_X9_wearOf_225 ?_
      try rw [hv3]
      refine rw_iret f_X9_wearOf_248 ?_
      simpa [c1] using hk2
end MWear
