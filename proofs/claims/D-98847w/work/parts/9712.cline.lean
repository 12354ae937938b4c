/-! THE CLASS: lines -/
section CLine
variable {d : Nat} {h h' : am_H} {R F tp N : Nat} {T : tx} {g : rgT}
theorem C_canLine (hS : RS h R F tp N T g) {p : Nat} (hT : RT h R N T p) (hf : g.2.1.2 ≤ 15) {k : Int32 → am_H → Prop} (hk : k (bI (canL T N g p)) h) : Rn (d + 5) n_X10_canLine 0 [am_r R] [] h (kI k) := by
  have rK := hS.1.1.1
  have rz := hS.1.1.2.1
  have r3 := hS.1.2.2.2.2.1
  obtain ⟨⟨k1, k2, k3, k4, k5, k6⟩, ⟨lM, lD, lO⟩, sp, ⟨b1, b2, b3⟩, ⟨i5, i6, i7, i8, i9, i10, i11, i12⟩, w⟩ := hS.2.1
  have kM := lM.1.1.1
  have kD := lD.1.1.1
  have kO := lO.1.1.1
  have z2 : ¬ R + 2 = 0 := by omega
  have z3 : ¬ R + 2 + 1 = 0 := by omega
  have z4 : ¬ R + 2 + 2 = 0 := by omega
  have dd : ∀ (a n : Nat) (v : Int32), a ≤ 61 → n < 100 → v = nI n → decide (a < n) = !decide (v ≤ nI a) := by
    intro a n v ha hn hv
    rw [hv, ← decide_not]
    exact decide_eq_decide.mpr (by rw [nI_leI (by omega) (by omega)]; omega)
  have dM := dd g.1.1.length 6 6 lM.2.1 (by omega) rfl
  have dD := dd g.1.2.1.length 6 6 lD.2.1 (by omega) rfl
  have dO := dd g.1.2.2.length 10 10 lO.2.1 (by omega) rfl
  have dF := dd g.2.1.2 15 15 (by omega) (by omega) rfl
  have nW : g.2.2.1.1.isNone = decide (hp_R h (R + 1) 4 = 0) := by
    revert w
    cases g.2.2.1.1 with
    | none => intro w; exact (decide_eq_true (show hp_R h (R + 1) 4 = 0 from w)).symm
    | some c => intro w; exact (decide_eq_false (show ¬ hp_R h (R + 1) 4 = 0 from w.1)).symm
  have nn : ∀ o : Option Int32, o.isNone = !o.isSome := fun o => by cases o <;> rfl
  unfold canL at hk
  rw [dM, dD, dO, dF, nW, nn, nn, nn] at hk
  generalize g.2.2.2.1.isSome = b10 at i10 hk
  generalize g.2.2.2.2.1.isSome = b11 at i11 hk
  generalize g.2.2.2.2.2.isSome = b12 at i12 hk
  refine rw_aload f_X10_canLine_0 rfl ?_
  refine rw_glob f_X10_canLine_1 ?_
  refine rw_callV f_X10_canLine_4 rfl (by assumption) (by first | assumption | omega) rfl rfl rfl rfl (rn_ki (C_isWord (i := wMAN) hS.1.2.2.2.2.2.1 hS.1.1 hT (by decide) ?_))
  first | refine rw_eq0B f_X10_canLine_7 (fun c1 => ?_) (fun c1 => ?_) | refine rw_eq0 f_X10_canLine_7 (fun c1 => ?_) (fun c1 => ?_)
  · refine rw_aload f_X10_canLine_31 rfl ?_
    refine rw_glob f_X10_canLine_32 ?_
    refine rw_callV f_X10_canLine_35 rfl (by assumption) (by first | assumption | omega) rfl rfl rfl rfl (rn_ki (C_isWord (i := wDEED) hS.1.2.2.2.2.2.1 hS.1.1 hT (by decide) ?_))
    first | refine rw_eq0B f_X10_canLine_38 (fun c2 => ?_) (fun c2 => ?_) | refine rw_eq0 f_X10_canLine_38 (fun c2 => ?_) (fun c2 => ?_)
    · refine rw_aload f_X10_canLine_62 rfl ?_
      refine rw_glob f_X10_canLine_63 ?_
      refine rw_callV f_X10_canLine_66 rfl (by assumption) (by first | assumption | omega) rfl rfl rfl rfl (rn_ki (C_isWord (i := wBUTTON) hS.1.2.2.2.2.2.1 hS.1.1 hT (by decide) ?_))
      first | refine rw_eq0B f_X10_canLine_69 (fun c3 => ?_) (fun c3 => ?_) | refine rw_eq0 f_X10_canLine_69 (fun c3 => ?_) (fun c3 => ?_)
      · refine rw_aload f_X10_canLine_93 rfl ?_
        refine rw_glob f_X10_canLine_94 ?_
        refine rw_callV f_X10_canLine_97 rfl (by assumption) (by first | assumption | omega) rfl rfl rfl rfl (rn_ki (C_isWord (i := wFRIEND) hS.1.2.2.2.2.2.1 hS.1.1 hT (by decide) ?_))
        first | refine rw_eq0B f_X10_canLine_100 (fun c4 => ?_) (fun c4 => ?_) | refine rw_eq0 f_X10_canLine_100 (fun c4 => ?_) (fun c4 => ?_)
        · refine rw_aload f_X10_canLine_121 rfl ?_
          refine rw_glob f_X10_canLine_122 ?_
          refine rw_callV f_X10_canLine_125 rfl (by assumption) (by first | assumption | omega) rfl rfl rfl rfl (rn_ki (C_isWord (i := wWEAR) hS.1.2.2.2.2.2.1 hS.1.1 hT (by decide) ?_))
          first | refine rw_eq0B f_X10_canLine_128 (fun c5 => ?_) (fun c5 => ?_) | refine rw_eq0 f_X10_canLine_128 (fun c5 => ?_) (fun c5 => ?_)
          · refine rw_aload f_X10_canLine_147 rfl ?_
            refine rw_glob f_X10_canLine_148 ?_
            refine rw_callV f_X10_canLine_151 rfl (by assumption) (by first | assumption | omega) rfl rfl rfl rfl (rn_ki (C_isWord (i := wDAY) hS.1.2.2.2.2.2.1 hS.1.1 hT (by decide) ?_))
            first | refine rw_eq0B f_X10_canLine_154 (fun c6 => ?_) (fun c6 => ?_) | refine rw_eq0 f_X10_canLine_154 (fun c6 => ?_) (fun c6 => ?_)
            · refine rw_aload f_X10_canLine_173 rfl ?_
              refine rw_glob f_X10_canLine_174 ?_
              refine rw_callV f_X10_canLine_177 rfl (by assumption) (by first | assumption | omega) rfl rfl rfl rfl (rn_ki (C_isWord (i := wSTORM) hS.1.2.2.2.2.2.1 hS.1.1 hT (by decide) ?_))
              first | refine rw_eq0B f_X10_canLine_180 (fun c7 => ?_) (fun c7 => ?_) | refine rw_eq0 f_X10_canLine_180 (fun c7 => ?_) (fun c7 => ?_)
              · refine rw_aload f_X10_canLine_201 rfl ?_
                refine rw_glob f_X10_canLine_202 ?_
                refine rw_callV f_X10_canLine_205 rfl (by assumption) (by first | assumption | omega) rfl rfl rfl rfl (rn_ki (C_isWord (i := wDRAW) hS.1.2.2.2.2.2.1 hS.1.1 hT (by decide) ?_))
                first | refine rw_eq0B f_X10_canLine_208 (fun c8 => ?_) (fun c8 => ?_) | refine rw_eq0 f_X10_canLine_208 (fun c8 => ?_) (fun c8 => ?_)
                · refine rw_const f_X10_canLine_225 ?_
                  refine rw_zret f_X10_canLine_226 (by first | exact Or.inl rfl | exact Or.inr rfl | exact bI_01 _ | assumption) ?_
                  simpa [isV, bI, c1, c2, c3, c4, c5, c6, c7, c8] using hk
                · refine rw_aload f_X10_canLine_211 rfl ?_
                  refine rw_getR f_X10_canLine_212 (by assumption) (by first | assumption | rfl) ?_
                  refine rw_getI f_X10_canLine_215 (by assumption) ?_
                  rw [i12]
                  first | refine rw_ne0B f_X10_canLine_218 (fun c9 => ?_) (fun c9 => ?_) | refine rw_ne0 f_X10_canLine_218 (fun c9 => ?_) (fun c9 => ?_)
                  · refine rw_const f_X10_canLine_225 ?_
                    refine rw_zret f_X10_canLine_226 (by first | exact Or.inl rfl | exact Or.inr rfl | exact bI_01 _ | assumption) ?_
                    simpa [isV, bI, c1, c2, c3, c4, c5, c6, c7, c8, c9] using hk
                  · refine rw_const f_X10_canLine_221 ?_
                    refine rw_goto f_X10_canLine_222 ?_
                    refine rw_zret f_X10_canLine_226 (by first | exact Or.inl rfl | exact Or.inr rfl | exact bI_01 _ | assumption) ?_
                    simpa [isV, bI, c1, c2, c3, c4, c5, c6, c7, c8, c9] using hk
              · refine rw_aload f_X10_canLine_183 rfl ?_
                refine rw_getR f_X10_canLine_184 (by assumption) (by first | assumption | rfl) ?_
                refine rw_getI f_X10_canLine_187 (by assumption) ?_
                rw [i11]
                first | refine rw_ne0B f_X10_canLine_190 (fun c10 => ?_) (fun c10 => ?_) | refine rw_ne0 f_X10_canLine_190 (fun c10 => ?_) (fun c10 => ?_)
                · refine rw_const f_X10_canLine_197 ?_
                  refine rw_goto f_X10_canLine_198 ?_
                  refine rw_zret f_X10_canLine_226 (by first | exact Or.inl rfl | exact Or.inr rfl | exact bI_01 _ | assumption) ?_
                  simpa [isV, bI, c1, c2, c3, c4, c5, c6, c7, c10] using hk
                · refine rw_const f_X10_canLine_193 ?_
                  refine rw_goto f_X10_canLine_194 ?_
                  refine rw_zret f_X10_canLine_226 (by first | exact Or.inl rfl | exact Or.inr rfl | exact bI_01 _ | assumption) ?_
                  simpa [isV, bI, c1, c2, c3, c4, c5, c6, c7, c10] using hk
            · refine rw_aload f_X10_canLine_157 rfl ?_
              refine rw_getR f_X10_canLine_158 (by assumption) (by first | assumption | rfl) ?_
              refine rw_getI f_X10_canLine_161 (by assumption) ?_
              rw [i10]
              first | refine rw_ne0B f_X10_canLine_164 (fun c11 => ?_) (fun c11 => ?_) | refine rw_ne0 f_X10_canLine_164 (fun c11 => ?_) (fun c11 => ?_)
              · refine rw_const f_X10_canLine_171 ?_
                refine rw_zret f_X10_canLine_172 (by first | exact Or.inl rfl | exact Or.inr rfl | exact bI_01 _ | assumption) ?_
                simpa [isV, bI, c1, c2, c3, c4, c5, c6, c11] using hk
              · refine rw_const f_X10_canLine_167 ?_
                refine rw_goto f_X10_canLine_168 ?_
                refine rw_zret f_X10_canLine_172 (by first | exact Or.inl rfl | exact Or.inr rfl | exact bI_01 _ | assumption) ?_
                simpa [isV, bI, c1, c2, c3, c4, c5, c6, c11] using hk
          · refine rw_aload f_X10_canLine_131 rfl ?_
            refine rw_getR f_X10_canLine_132 (by assumption) (by first | assumption | rfl) ?_
            refine rw_getR f_X10_canLine_135 (by assumption) (by first | assumption | rfl) ?_
            refine rw_null f_X10_canLine_138 (fun c12 => ?_) (fun c12 => ?_)
            · refine rw_const f_X10_canLine_141 ?_
              refine rw_goto f_X10_canLine_142 ?_
              refine rw_zret f_X10_canLine_146 (by first | exact Or.inl rfl | exact Or.inr rfl | exact bI_01 _ | assumption) ?_
              simpa [isV, bI, c1, c2, c3, c4, c5, c12] using hk
            · refine rw_const f_X10_canLine_145 ?_
              refine rw_zret f_X10_canLine_146 (by first | exact Or.inl rfl | exact Or.inr rfl | exact bI_01 _ | assumption) ?_
              simpa [isV, bI, c1, c2, c3, c4, c5, c12] using hk
        · refine rw_aload f_X10_canLine_103 rfl ?_
          refine rw_getR f_X10_canLine_104 (by assumption) (by first | assumption | rfl) ?_
          refine rw_getI f_X10_canLine_107 (by assumption) ?_
          rw [i5]
          refine rw_const f_X10_canLine_110 ?_
          refine rw_ge f_X10_canLine_112 (fun c13 => ?_) (fun c13 => ?_)
          · refine rw_const f_X10_canLine_119 ?_
            refine rw_zret f_X10_canLine_120 (by first | exact Or.inl rfl | exact Or.inr rfl | exact bI_01 _ | assumption) ?_
            simpa [isV, bI, c1, c2, c3, c4, c13] using hk
          · refine rw_const f_X10_canLine_115 ?_
            refine rw_goto f_X10_canLine_116 ?_
            refine rw_zret f_X10_canLine_120 (by first | exact Or.inl rfl | exact Or.inr rfl | exact bI_01 _ | assumption) ?_
            simpa [isV, bI, c1, c2, c3, c4, c13] using hk
      · refine rw_aload f_X10_canLine_72 rfl ?_
        refine rw_getR f_X10_canLine_73 (by assumption) (by first | assumption | rfl) ?_
        refine rw_getR f_X10_canLine_76 (by assumption) (by first | assumption | rfl) ?_
        refine rw_callV f_X10_canLine_79 rfl (by assumption) (by first | assumption | omega) rfl rfl rfl rfl (rn_ki (J_sizeL lO.1 ?_))
        refine rw_const f_X10_canLine_82 ?_
        refine rw_ge f_X10_canLine_84 (fun c14 => ?_) (fun c14 => ?_)
        · refine rw_const f_X10_canLine_91 ?_
          refine rw_zret f_X10_canLine_92 (by first | exact Or.inl rfl | exact Or.inr rfl | exact bI_01 _ | assumption) ?_
          simpa [isV, bI, c1, c2, c3, c14] using hk
        · refine rw_const f_X10_canLine_87 ?_
          refine rw_goto f_X10_canLine_88 ?_
          refine rw_zret f_X10_canLine_92 (by first | exact Or.inl rfl | exact Or.inr rfl | exact bI_01 _ | assumption) ?_
          simpa [isV, bI, c1, c2, c3, c14] using hk
    · refine rw_aload f_X10_canLine_41 rfl ?_
      refine rw_getR f_X10_canLine_42 (by assumption) (by first | assumption | rfl) ?_
      refine rw_getR f_X10_canLine_45 (by assumption) (by first | assumption | rfl) ?_
      refine rw_callV f_X10_canLine_48 rfl (by assumption) (by first | assumption | omega) rfl rfl rfl rfl (rn_ki (J_sizeL lD.1 ?_))
      refine rw_const f_X10_canLine_51 ?_
      refine rw_ge f_X10_canLine_53 (fun c15 => ?_) (fun c15 => ?_)
      · refine rw_const f_X10_canLine_60 ?_
        refine rw_zret f_X10_canLine_61 (by first | exact Or.inl rfl | exact Or.inr rfl | exact bI_01 _ | assumption) ?_
        simpa [isV, bI, c1, c2, c15] using hk
      · refine rw_const f_X10_canLine_56 ?_
        refine rw_goto f_X10_canLine_57 ?_
        refine rw_zret f_X10_canLine_61 (by first | exact Or.inl rfl | exact Or.inr rfl | exact bI_01 _ | assumption) ?_
        simpa [isV, bI, c1, c2, c15] using hk
  · refine rw_aload f_X10_canLine_10 rfl ?_
    refine rw_getR f_X10_canLine_11 (by assumption) (by first | assumption | rfl) ?_
    refine rw_getR f_X10_canLine_14 (by assumption) (by first | assumption | rfl) ?_
    refine rw_callV f_X10_canLine_17 rfl (by assumption) (by first | assumption | omega) rfl rfl rfl rfl (rn_ki (J_sizeL lM.1 ?_))
    refine rw_const f_X10_canLine_20 ?_
    refine rw_ge f_X10_canLine_22 (fun c16 => ?_) (fun c16 => ?_)
    · refine rw_const f_X10_canLine_29 ?_
      refine rw_zret f_X10_canLine_30 (by first | exact Or.inl rfl | exact Or.inr rfl | exact bI_01 _ | assumption) ?_
      simpa [isV, bI, c1, c16] using hk
    · refine rw_const f_X10_canLine_25 ?_
      refine rw_goto f_X10_canLine_26 ?_
      refine rw_zret f_X10_canLine_30 (by first | exact Or.inl rfl | exact Or.inr rfl | exact bI_01 _ | assumption) ?_
      simpa [isV, bI, c1, c16] using hk
end CLine
