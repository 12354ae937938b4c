/-! THE CLASS: once, line, read -/
section CRead4
variable {d : Nat} {h h' : am_H} {R F tp N : Nat} {T : tx} {g : rgT}
/-- reading on by so many places -/
abbrev GL (R F k : Nat) (h h' : am_H) : Prop := GF R F (3 * k) (60 * k) h h'
theorem GF_tr {c1 s1 c2 s2 c s : Nat} {h1 h2 : am_H} (p : GF R F c1 s1 h h1) (q : GF R F c2 s2 h1 h2) (hc : c1 + c2 ≤ c) (hs : s1 + s2 ≤ s) : GF R F c s h h2 := Fr_tr p q (fun _ _ w => w) (fun _ _ w => w) (fun _ _ w => w) (fun _ _ w => w) hc hs
theorem GF_w {c1 s1 c s : Nat} (p : GF R F c1 s1 h h') (hc : c1 ≤ c) (hs : s1 ≤ s) : GF R F c s h h' := Fr_w p (fun _ _ w => w) (fun _ _ w => w) hc hs
theorem GF_FF {k : Nat} (p : FF R F k h h') : GF R F (3 * k) (60 * k) h h' := Fr_w p (fun b _ w => by rcases w with e | e | e; exact Or.inl e; exact Or.inr (by omega); exact Or.inr (by omega)) (fun _ _ w => absurd w id) (Nat.le_refl _) (Nat.le_refl _)
theorem RSt.gf0 {h1 : am_H} (st : RSt R F h h1) : GF R F 0 0 h h1 := Fr_w st.1.fr (fun b _ w => by rcases w with e | e; exact Or.inr (by omega); exact Or.inl e) (fun _ _ w => absurd w id) (Nat.le_refl _) (Nat.le_refl _)
/-- an int of the regiment is written -/
theorem RS_set {g' : rgT} {j : Nat} {v : Int32} (hS : RS h R F tp N T g) (e1 : g'.1 = g.1) (e2 : g'.2.1 = g.2.1) (e3 : g'.2.2.1 = g.2.2.1) (is' : RgI (hp_sI h (R + 1) j v) R g') : RS (hp_sI h (R + 1) j v) R F tp N T g' :=
  RS_I hS (Fr_w (Fr_sI (a := R + 1)) (fun b _ w => Or.inl w) (fun _ _ w => w) (Nat.le_refl _) (Nat.le_refl _)) e1 (by rw [e3]) (fun i hi => by rw [sI_ne (by omega), e2]; exact hS.2.1.2.2.2.1.2.1 i hi) is'
theorem GF_set {j : Nat} {v : Int32} : GF R F 0 0 h (hp_sI h (R + 1) j v) := Fr_w (Fr_sI (a := R + 1)) (fun b _ w => Or.inr (by have w' : b = R + 1 := w; omega)) (fun _ _ w => absurd w id) (Nat.le_refl _) (Nat.le_refl _)
def pOnce (T : tx) (N : Nat) (g : rgT) (p : Nat) : res (rgT × Nat) := if isV T N p wDAY = true then bnd (pNum T N 1 24 (tkX T N p)) (fun v => .inl ((g.1, g.2.1, g.2.2.1, (some v.1, g.2.2.2.2)), v.2)) else if isV T N p wSTORM = true then bnd (pNum T N 0 100 (tkX T N p)) (fun v => .inl ((g.1, g.2.1, g.2.2.1, (g.2.2.2.1, some v.1, g.2.2.2.2.2)), v.2)) else bnd (pNum T N 0 999 (tkX T N p)) (fun v => .inl ((g.1, g.2.1, g.2.2.1, (g.2.2.2.1, g.2.2.2.2.1, some v.1)), v.2))
theorem C_once (hS : RS h R F tp N T g) {p : Nat} (hT : RT h R N T p) (hz : (isV T N p wDAY = true → g.2.2.2.1 = none) ∧ (¬ isV T N p wDAY = true → isV T N p wSTORM = true → g.2.2.2.2.1 = none) ∧ (¬ isV T N p wDAY = true → ¬ isV T N p wSTORM = true → g.2.2.2.2.2 = none)) {k : am_H → Prop} {xk : Nat → am_H → Prop} (hok : ∀ v h', pOnce T N g p = .inl v → RS h' R F tp N T v.1 → GF R F 0 0 h h' → RT h' R N T v.2 → k h') (herr : ∀ e h', pOnce T N g p = .inr e → GF R F 0 0 h h' → Flt h' F e → xk F h') : Rn (d + 6) n_X10_once 0 [am_r R] [] h (kX (kV k) xk) := by
  have rK := hS.1.1.1
  have rz := hS.1.1.2.1
  unfold pOnce at hok herr
  cases cd : isV T N p wDAY with
  | true =>
    rw [if_pos cd] at hok herr
    have gd := hz.1 cd
    refine rw_aload f_X10_once_0 rfl ?_
    refine rw_glob f_X10_once_1 ?_
    refine rw_callV f_X10_once_4 rfl (by assumption) (by first | assumption | omega) rfl rfl rfl rfl (rn_ki (C_hasW (i := wDAY) hS.1 hT (by decide) (fun h1 s1 t1 => ?_)))
    rw [cd] at t1 ⊢
    refine rw_ifF f_X10_once_7 (by decide) ?_
    have S1 := s1.rs hS
    have rK1 := S1.1.1.1
    have r31 := S1.1.2.2.2.2.1
    have gK1 := S1.2.1.1.1
    obtain ⟨i5, i6, i7, i8, i9, i10, i11, i12⟩ := S1.2.1.2.2.2.2.1
    refine rw_aload f_X10_once_10 rfl ?_
    refine rw_getR f_X10_once_11 (by assumption) (by first | assumption | rfl) ?_
    refine rw_const f_X10_once_14 ?_
    refine rw_putZ f_X10_once_15 (by assumption) (by first | exact Or.inl rfl | exact Or.inr rfl | exact bI_01 _ | assumption) ?_
    have S2 : RS (hp_sI h1 (R + 1) 10 1) R F tp N T (g.1, g.2.1, g.2.2.1, (some 8, g.2.2.2.2)) := RS_set S1 rfl rfl rfl ⟨by rw [sI_ne (by omega)]; exact i5, by rw [sI_ne (by omega)]; exact i6, by rw [sI_ne (by omega), i7, gd]; rfl, by rw [sI_ne (by omega)]; exact i8, by rw [sI_ne (by omega)]; exact i9, sI_same, by rw [sI_ne (by omega)]; exact i11, by rw [sI_ne (by omega)]; exact i12⟩
    have T2 : RT (hp_sI h1 (R + 1) 10 1) R N T (tkX T N p) := t1.sI (by omega)
    have rK2 := S2.1.1.1
    have r32 := S2.1.2.2.2.2.1
    have gf2 : GF R F 0 0 h (hp_sI h1 (R + 1) 10 1) := GF_tr s1.gf0 GF_set (Nat.le_refl _) (Nat.le_refl _)
    refine rw_aload f_X10_once_18 rfl ?_
    refine rw_getR f_X10_once_19 (by assumption) (by first | assumption | rfl) ?_
    refine rw_aload f_X10_once_22 rfl ?_
    refine rw_const f_X10_once_23 ?_
    refine rw_const f_X10_once_24 ?_
    refine rw_callV f_X10_once_26 rfl (by assumption) (by first | assumption | omega) rfl rfl rfl rfl (rn_kx rfl rn_hi (C_number S2.1 T2 (fun v h3 e3 s3 t3 => ?_) (fun e h3 e3 s3 f3 => herr e h3 (by rw [e3]; rfl) (GF_tr gf2 s3.gf0 (Nat.le_refl _) (Nat.le_refl _)) f3)))
    have S3 := s3.rs S2
    have gK3 := S3.2.1.1.1
    obtain ⟨m5, m6, m7, m8, m9, m10, m11, m12⟩ := S3.2.1.2.2.2.2.1
    refine rw_putI f_X10_once_29 (by assumption) ?_
    refine rw_goto f_X10_once_32 ?_
    refine rx_vret f_X10_once_97 ?_
    refine hok _ _ (by rw [e3]; rfl) (RS_set S3 rfl rfl rfl ⟨?_, ?_, ?_, ?_, ?_, ?_, ?_, ?_⟩) (GF_tr (GF_tr gf2 s3.gf0 (Nat.le_refl _) (Nat.le_refl _)) GF_set (Nat.le_refl _) (Nat.le_refl _)) (t3.sI (a := R + 1) (by omega))
    · (rw [sI_ne (by omega)]; exact m5)
    · (rw [sI_ne (by omega)]; exact m6)
    · exact sI_same
    · (rw [sI_ne (by omega)]; exact m8)
    · (rw [sI_ne (by omega)]; exact m9)
    · (rw [sI_ne (by omega)]; exact m10)
    · (rw [sI_ne (by omega)]; exact m11)
    · (rw [sI_ne (by omega)]; exact m12)
  | false =>
    have cd' : ¬ isV T N p wDAY = true := by rw [cd]; decide
    rw [if_neg cd'] at hok herr
    cases cs : isV T N p wSTORM with
    | true =>
      rw [if_pos cs] at hok herr
      have gd := hz.2.1 cd' cs
      refine rw_aload f_X10_once_0 rfl ?_
      refine rw_glob f_X10_once_1 ?_
      refine rw_callV f_X10_once_4 rfl (by assumption) (by first | assumption | omega) rfl rfl rfl rfl (rn_ki (C_hasW (i := wDAY) hS.1 hT (by decide) (fun h1 s1 t1 => ?_)))
      rw [cd] at t1 ⊢
      refine rw_ifT f_X10_once_7 (by decide) ?_
      rw [if_neg (show ¬ false = true by decide)] at t1
      have S0 := s1.rs hS
      have rK0 := S0.1.1.1
      refine rw_aload f_X10_once_35 rfl ?_
      refine rw_glob f_X10_once_36 ?_
      refine rw_callV f_X10_once_39 rfl (by assumption) (by first | assumption | omega) rfl rfl rfl rfl (rn_ki (C_hasW (i := wSTORM) S0.1 t1 (by decide) (fun h2 s2 t2 => ?_)))
      rw [cs] at t2 ⊢
      refine rw_ifF f_X10_once_42 (by decide) ?_
      have S1 := s2.rs S0
      have rK1 := S1.1.1.1
      have r31 := S1.1.2.2.2.2.1
      have gK1 := S1.2.1.1.1
      obtain ⟨i5, i6, i7, i8, i9, i10, i11, i12⟩ := S1.2.1.2.2.2.2.1
      refine rw_aload f_X10_once_45 rfl ?_
      refine rw_getR f_X10_once_46 (by assumption) (by first | assumption | rfl) ?_
      refine rw_const f_X10_once_49 ?_
      refine rw_putZ f_X10_once_50 (by assumption) (by first | exact Or.inl rfl | exact Or.inr rfl | exact bI_01 _ | assumption) ?_
      have S2 : RS (hp_sI h2 (R + 1) 11 1) R F tp N T (g.1, g.2.1, g.2.2.1, (g.2.2.2.1, some 0, g.2.2.2.2.2)) := RS_set S1 rfl rfl rfl ⟨by rw [sI_ne (by omega)]; exact i5, by rw [sI_ne (by omega)]; exact i6, by rw [sI_ne (by omega)]; exact i7, by rw [sI_ne (by omega), i8, gd]; rfl, by rw [sI_ne (by omega)]; exact i9, by rw [sI_ne (by omega)]; exact i10, sI_same, by rw [sI_ne (by omega)]; exact i12⟩
      have T2 : RT (hp_sI h2 (R + 1) 11 1) R N T (tkX T N p) := t2.sI (by omega)
      have rK2 := S2.1.1.1
      have r32 := S2.1.2.2.2.2.1
      have gf2 : GF R F 0 0 h (hp_sI h2 (R + 1) 11 1) := GF_tr (s1.tr s2).gf0 GF_set (Nat.le_refl _) (Nat.le_refl _)
      refine rw_aload f_X10_once_53 rfl ?_
      refine rw_getR f_X10_once_54 (by assumption) (by first | assumption | rfl) ?_
      refine rw_aload f_X10_once_57 rfl ?_
      refine rw_const f_X10_once_58 ?_
      refine rw_const f_X10_once_59 ?_
      refine rw_callV f_X10_once_61 rfl (by assumption) (by first | assumption | omega) rfl rfl rfl rfl (rn_kx rfl rn_hi (C_number S2.1 T2 (fun v h3 e3 s3 t3 => ?_) (fun e h3 e3 s3 f3 => herr e h3 (by rw [e3]; rfl) (GF_tr gf2 s3.gf0 (Nat.le_refl _) (Nat.le_refl _)) f3)))
      have S3 := s3.rs S2
      have gK3 := S3.2.1.1.1
      obtain ⟨m5, m6, m7, m8, m9, m10, m11, m12⟩ := S3.2.1.2.2.2.2.1
      refine rw_putI f_X10_once_64 (by assumption) ?_
      refine rw_goto f_X10_once_67 ?_
      refine rx_vret f_X10_once_97 ?_
      refine hok _ _ (by rw [e3]; rfl) (RS_set S3 rfl rfl rfl ⟨?_, ?_, ?_, ?_, ?_, ?_, ?_, ?_⟩) (GF_tr (GF_tr gf2 s3.gf0 (Nat.le_refl _) (Nat.le_refl _)) GF_set (Nat.le_refl _) (Nat.le_refl _)) (t3.sI (a := R + 1) (by omega))
      · (rw [sI_ne (by omega)]; exact m5)
      · (rw [sI_ne (by omega)]; exact m6)
      · (rw [sI_ne (by omega)]; exact m7)
      · exact sI_same
      · (rw [sI_ne (by omega)]; exact m9)
      · (rw [sI_ne (by omega)]; exact m10)
      · (rw [sI_ne (by omega)]; exact m11)
      · (rw [sI_ne (by omega)]; exact m12)
    | false =>
      have cs' : ¬ isV T N p wSTORM = true := by rw [cs]; decide
      rw [if_neg cs'] at hok herr
      have gd := hz.2.2 cd' cs'
      refine rw_aload f_X10_once_0 rfl ?_
      refine rw_glob f_X10_once_1 ?_
      refine rw_callV f_X10_once_4 rfl (by assumption) (by first | assumption | omega) rfl rfl rfl rfl (rn_ki (C_hasW (i := wDAY) hS.1 hT (by decide) (fun h1 s1 t1 => ?_)))
      rw [cd] at t1 ⊢
      refine rw_ifT f_X10_once_7 (by decide) ?_
      rw [if_neg (show ¬ false = true by decide)] at t1
      have S0 := s1.rs hS
      have rK0 := S0.1.1.1
      refine rw_aload f_X10_once_35 rfl ?_
      refine rw_glob f_X10_once_36 ?_
      refine rw_callV f_X10_once_39 rfl (by assumption) (by first | assumption | omega) rfl rfl rfl rfl (rn_ki (C_hasW (i := wSTORM) S0.1 t1 (by decide) (fun h2 s2 t2 => ?_)))
      rw [cs] at t2 ⊢
      refine rw_ifT f_X10_once_42 (by decide) ?_
      rw [if_neg (show ¬ false = true by decide)] at t2
      have S0' := s2.rs S0
      have rK0' := S0'.1.1.1
      refine rw_aload f_X10_once_70 rfl ?_
      refine rw_callV f_X10_once_71 rfl (by assumption) (by first | assumption | omega) rfl rfl rfl rfl (rn_kv (C_next S0'.1.1 (tkE_ge t2.1).2 t2.2.2.1 (fun h4 on4 rf4 t4 => ?_)))
      have s4 : RSt R F h2 h4 := .R1 on4 rf4
      have S1 := s4.rs S0'
      have rK1 := S1.1.1.1
      have r31 := S1.1.2.2.2.2.1
      have gK1 := S1.2.1.1.1
      obtain ⟨i5, i6, i7, i8, i9, i10, i11, i12⟩ := S1.2.1.2.2.2.2.1
      refine rw_aload f_X10_once_74 rfl ?_
      refine rw_getR f_X10_once_75 (by assumption) (by first | assumption | rfl) ?_
      refine rw_const f_X10_once_78 ?_
      refine rw_putZ f_X10_once_79 (by assumption) (by first | exact Or.inl rfl | exact Or.inr rfl | exact bI_01 _ | assumption) ?_
      have S2 : RS (hp_sI h4 (R + 1) 12 1) R F tp N T (g.1, g.2.1, g.2.2.1, (g.2.2.2.1, g.2.2.2.2.1, some 0)) := RS_set S1 rfl rfl rfl ⟨by rw [sI_ne (by omega)]; exact i5, by rw [sI_ne (by omega)]; exact i6, by rw [sI_ne (by omega)]; exact i7, by rw [sI_ne (by omega)]; exact i8, by rw [sI_ne (by omega), i9, gd]; rfl, by rw [sI_ne (by omega)]; exact i10, by rw [sI_ne (by omega)]; exact i11, sI_same⟩
      have T2 : RT (hp_sI h4 (R + 1) 12 1) R N T (tkX T N p) := RT.sI t4 (by omega)
      have rK2 := S2.1.1.1
      have r32 := S2.1.2.2.2.2.1
      have gf2 : GF R F 0 0 h (hp_sI h4 (R + 1) 12 1) := GF_tr ((s1.tr s2).tr s4).gf0 GF_set (Nat.le_refl _) (Nat.le_refl _)
      refine rw_aload f_X10_once_82 rfl ?_
      refine rw_getR f_X10_once_83 (by assumption) (by first | assumption | rfl) ?_
      refine rw_aload f_X10_once_86 rfl ?_
      refine rw_const f_X10_once_87 ?_
      refine rw_const f_X10_once_88 ?_
      refine rw_callV f_X10_once_91 rfl (by assumption) (by first | assumption | omega) rfl rfl rfl rfl (rn_kx rfl rn_hi (C_number S2.1 T2 (fun v h3 e3 s3 t3 => ?_) (fun e h3 e3 s3 f3 => herr e h3 (by rw [e3]; rfl) (GF_tr gf2 s3.gf0 (Nat.le_refl _) (Nat.le_refl _)) f3)))
      have S3 := s3.rs S2
      have gK3 := S3.2.1.1.1
      obtain ⟨m5, m6, m7, m8, m9, m10, m11, m12⟩ := S3.2.1.2.2.2.2.1
      refine rw_putI f_X10_once_94 (by assumption) ?_
      refine rx_vret f_X10_once_97 ?_
      refine hok _ _ (by rw [e3]; rfl) (RS_set S3 rfl rfl rfl ⟨?_, ?_, ?_, ?_, ?_, ?_, ?_, ?_⟩) (GF_tr (GF_tr gf2 s3.gf0 (Nat.le_refl _) (Nat.le_refl _)) GF_set (Nat.le_refl _) (Nat.le_refl _)) (t3.sI (a := R + 1) (by omega))
      · (rw [sI_ne (by omega)]; exact m5)
      · (rw [sI_ne (by omega)]; exact m6)
      · (rw [sI_ne (by omega)]; exact m7)
      · (rw [sI_ne (by omega)]; exact m8)
      · exact sI_same
      · (rw [sI_ne (by omega)]; exact m10)
      · (rw [sI_ne (by omega)]; exact m11)
      · (rw [sI_ne (by omega)]; exact m12)
theorem C_line (hS : RS h R F tp N T g) {p : Nat} (hT : RT h R N T p) (hg : gI g) {k : am_H → Prop} {xk : Nat → am_H → Prop} (hok : ∀ v h', pLine T N g p = .inl v → RS h' R F tp N T v.1 → GL R F (v.2 - p) h h' → RT h' R N T v.2 → k h') (herr : ∀ e h', pLine T N g p = .inr e → GL R F (N + 2 - p) h h' → Flt h' F e → xk F h') : Rn (d + 58) n_X10_line 0 [am_r R] [] h (kX (kV k) xk) := by
  have rK := hS.1.1.1
  have rz := hS.1.1.2.1
  have fK := hS.1.2.2.1
  have hp := hT.1
  have hl := hg.1
  have hok' : ∀ v h', pLine T N g p = .inl v → RS h' R F tp N T v.1 → GF R F 2 110 h h' → RT h' R N T v.2 → k h' := fun v h' e r f t => hok v h' e r (GF_w f (by have := pLine_gI hg e; omega) (by have := pLine_gI hg e; omega)) t
  have herr' : ∀ e h', pLine T N g p = .inr e → GF R F 1 10 h h' → Flt h' F e → xk F h' := fun e h' e1 f t => herr e h' e1 (GF_w f (by omega) (by omega)) t
  have one : ∀ {q : Nat}, 2 ≤ N + 2 - p := fun {q} => by omega
  cases hc : canL T N g p with
  | false =>
    have eP : pLine T N g p = .inr (err1 T N p) := by unfold pLine; rw [if_pos hc]
    refine rw_aload f_X10_line_0 rfl ?_
    refine rw_callV f_X10_line_1 rfl (by assumption) (by first | assumption | omega) rfl rfl rfl rfl (rn_ki (C_canLine hS hT (by omega) ?_))
    rw [hc]
    refine rw_ifF f_X10_line_4 (by decide) ?_
    refine rw_aload f_X10_line_7 rfl ?_
    refine rw_callV f_X10_line_8 rfl (by assumption) (by first | assumption | omega) rfl rfl rfl rfl (rn_kr (C_wrong hS.1 hT (fun h1 st1 fK1 fl1 => ?_)))
    refine rx_throw f_X10_line_11 rfl (by assumption) ?_
    exact herr' _ h1 eP st1.gf fl1
  | true =>
    have hc' : ¬ canL T N g p = false := by rw [hc]; decide
    have nI_ : ∀ o : Option Int32, o.isNone = true → o = none := fun o z => by cases o; rfl; cases z
    have gl0 : ∀ h1, RSt R F h h1 → ∀ c s h2, GF R F c s h1 h2 → GF R F c s h h2 := fun h1 s1 c s h2 f => GF_tr s1.gf0 f (by omega) (by omega)
    have t104 : ∀ h1, RSt R F h h1 → RT h1 R N T p → isV T N p wMAN = false → isV T N p wDEED = false → isV T N p wBUTTON = false → isV T N p wFRIEND = false → isV T N p wWEAR = false → Rn (d + 58) n_X10_line 104 [am_r R] [] h1 (kX (kV k) xk) := by
      intro h1 s1 t1 c1 c2 c3 c4 c5
      have S1 := s1.rs hS
      have rK1 := S1.1.1.1
      have eP : pLine T N g p = pOnce T N g p := by
        unfold pLine pOnce
        rw [if_neg hc', c1, c2, c3, c4, c5]
        simp only [Bool.false_eq_true, if_false]
      have cl := hc
      unfold canL at cl
      rw [c1, c2, c3, c4, c5] at cl
      simp only [Bool.false_eq_true, if_false] at cl
      refine rw_aload f_X10_line_104 rfl ?_
      refine rw_callV f_X10_line_105 rfl (by assumption) (by first | assumption | omega) rfl rfl rfl rfl (rn_kx rfl rn_hv (C_once S1 t1 ⟨fun z => nI_ _ (by rw [if_pos z] at cl; exact cl), fun z1 z2 => nI_ _ (by rw [if_neg z1, if_pos z2] at cl; exact cl), fun z1 z2 => nI_ _ (by rw [if_neg z1, if_neg z2, Bool.and_eq_true] at cl; exact cl.2)⟩ (fun v h2 e2 r2 f2 t2 => ?_) (fun e h2 e2 f2 fl2 => herr' e h2 (by rw [eP]; exact e2) (gl0 h1 s1 _ _ _ (GF_w f2 (by omega) (by omega))) fl2)))
      refine rx_vret f_X10_line_108 ?_
      exact hok' v h2 (by rw [eP]; exact e2) r2 (gl0 h1 s1 _ _ _ (GF_w f2 (by omega) (by omega))) t2
    have t80 : ∀ h1, RSt R F h h1 → RT h1 R N T p → isV T N p wMAN = false → isV T N p wDEED = false → isV T N p wBUTTON = false → isV T N p wFRIEND = false → Rn (d + 58) n_X10_line 80 [am_r R] [] h1 (kX (kV k) xk) := by
      intro h1 s1 t1 c1 c2 c3 c4
      have S1 := s1.rs hS
      have rK1 := S1.1.1.1
      cases c5 : isV T N p wWEAR with
      | false =>
        refine rw_aload f_X10_line_80 rfl ?_
        refine rw_glob f_X10_line_81 ?_
        refine rw_callV f_X10_line_84 rfl (by assumption) (by first | assumption | omega) rfl rfl rfl rfl (rn_ki (C_hasW (i := wWEAR) S1.1 t1 (by decide) (fun h2 s2 t2 => ?_)))
        rw [c5] at t2 ⊢
        refine rw_ifT f_X10_line_87 (by decide) ?_
        rw [if_neg (show ¬ false = true by decide)] at t2
        exact t104 h2 (s1.tr s2) t2 c1 c2 c3 c4 c5
      | true =>
        have eP : pLine T N g p = pWear T N g (tkX T N p) := by
          unfold pLine
          rw [if_neg hc', c1, c2, c3, c4, c5]
          simp only [Bool.false_eq_true, if_false, if_true]
        have cl := hc
        unfold canL at cl
        rw [c1, c2, c3, c4, c5] at cl
        simp only [Bool.false_eq_true, if_false, if_true] at cl
        have gw : g.2.2.1.1 = none := by
          revert cl
          cases g.2.2.1.1 with
          | none => intro _; rfl
          | some c => intro z; cases z
        have gu0 : g.2.2.1.2 = 0 := by
          have q6 := hg.2.2.2.2.2
          rw [gw] at q6
          exact q6
        have lt := tkX_bd (T := T) (isV_lt c5)
        refine rw_aload f_X10_line_80 rfl ?_
        refine rw_glob f_X10_line_81 ?_
        refine rw_callV f_X10_line_84 rfl (by assumption) (by first | assumption | omega) rfl rfl rfl rfl (rn_ki (C_hasW (i := wWEAR) S1.1 t1 (by decide) (fun h2 s2 t2 => ?_)))
        rw [c5] at t2 ⊢
        refine rw_ifF f_X10_line_87 (by decide) ?_
        rw [if_pos rfl] at t2
        have st2 := s1.tr s2
        have S2 := st2.rs hS
        have rK2 := S2.1.1.1
        have r32 := S2.1.2.2.2.2.1
        refine rw_aload f_X10_line_90 rfl ?_
        refine rw_getR f_X10_line_91 (by assumption) (by first | assumption | rfl) ?_
        refine rw_aload f_X10_line_94 rfl ?_
        refine rw_callV f_X10_line_95 rfl (by assumption) (by first | assumption | omega) rfl rfl rfl rfl (rn_kx rfl rn_hr (C_formula (d := d) S2 gu0 t2 (fun v a h3 e3 r3 t3 f3 tr3 az => ?_) (fun e h3 e3 f3 fl3 => herr e h3 (by rw [eP]; unfold pWear; rw [e3]; rfl) (gl0 h2 st2 _ _ _ (GF_w (GF_FF f3) (by omega) (by omega))) fl3)))
        have gK3 := r3.2.1.1.1
        refine rw_putR f_X10_line_98 (by assumption) ?_
        refine rw_goto f_X10_line_101 ?_
        refine rx_vret f_X10_line_108 ?_
        refine hok ((g.1, g.2.1, (some v.1, v.2.2), g.2.2.2), v.2.1) _ (by rw [eP]; unfold pWear; rw [e3]; rfl) (RS_wear r3 tr3 az) (gl0 h2 st2 _ _ _ (GF_tr (GF_w (GF_FF f3) (Nat.le_refl _) (Nat.le_refl _)) (Fr_w (Fr_sR (a := R + 1)) (fun _ _ w => absurd w id) (fun b _ w => by have w' : b = R + 1 := w; omega) (Nat.le_refl 0) (Nat.le_refl 0)) ?_ ?_)) ?_
        · (show 3 * (v.2.1 - tkX T N p) + 0 ≤ 3 * (v.2.1 - p); omega)
        · (show 60 * (v.2.1 - tkX T N p) + 0 ≤ 60 * (v.2.1 - p); omega)
        · exact t3
    have t63 : ∀ h1, RSt R F h h1 → RT h1 R N T p → isV T N p wMAN = false → isV T N p wDEED = false → isV T N p wBUTTON = false → Rn (d + 58) n_X10_line 63 [am_r R] [] h1 (kX (kV k) xk) := by
      intro h1 s1 t1 c1 c2 c3
      have S1 := s1.rs hS
      have rK1 := S1.1.1.1
      cases c4 : isV T N p wFRIEND with
      | false =>
        refine rw_aload f_X10_line_63 rfl ?_
        refine rw_glob f_X10_line_64 ?_
        refine rw_callV f_X10_line_67 rfl (by assumption) (by first | assumption | omega) rfl rfl rfl rfl (rn_ki (C_hasW (i := wFRIEND) S1.1 t1 (by decide) (fun h2 s2 t2 => ?_)))
        rw [c4] at t2 ⊢
        refine rw_ifT f_X10_line_70 (by decide) ?_
        rw [if_neg (show ¬ false = true by decide)] at t2
        exact t80 h2 (s1.tr s2) t2 c1 c2 c3 c4
      | true =>
        have eP : pLine T N g p = pFriend T N g (tkX T N p) := by
          unfold pLine
          rw [if_neg hc', c1, c2, c3, c4]
          simp only [Bool.false_eq_true, if_false, if_true]
        refine rw_aload f_X10_line_63 rfl ?_
        refine rw_glob f_X10_line_64 ?_
        refine rw_callV f_X10_line_67 rfl (by assumption) (by first | assumption | omega) rfl rfl rfl rfl (rn_ki (C_hasW (i := wFRIEND) S1.1 t1 (by decide) (fun h2 s2 t2 => ?_)))
        rw [c4] at t2 ⊢
        refine rw_ifF f_X10_line_70 (by decide) ?_
        rw [if_pos rfl] at t2
        have st2 := s1.tr s2
        have S2 := st2.rs hS
        have rK2 := S2.1.1.1
        refine rw_aload f_X10_line_73 rfl ?_
        refine rw_callV f_X10_line_74 rfl (by assumption) (by first | assumption | omega) rfl rfl rfl rfl (rn_kx rfl rn_hv (C_friend S2 t2 hl.1 (fun v h3 e3 r3 f3 t3 => ?_) (fun e h3 e3 f3 fl3 => herr' e h3 (by rw [eP]; exact e3) (gl0 h2 st2 _ _ _ f3) fl3)))
        refine rw_goto f_X10_line_77 ?_
        refine rx_vret f_X10_line_108 ?_
        exact hok' v h3 (by rw [eP]; exact e3) r3 (gl0 h2 st2 _ _ _ f3) t3
    have t46 : ∀ h1, RSt R F h h1 → RT h1 R N T p → isV T N p wMAN = false → isV T N p wDEED = false → Rn (d + 58) n_X10_line 46 [am_r R] [] h1 (kX (kV k) xk) := by
      intro h1 s1 t1 c1 c2
      have S1 := s1.rs hS
      have rK1 := S1.1.1.1
      cases c4 : isV T N p wBUTTON with
      | false =>
        refine rw_aload f_X10_line_46 rfl ?_
        refine rw_glob f_X10_line_47 ?_
        refine rw_callV f_X10_line_50 rfl (by assumption) (by first | assumption | omega) rfl rfl rfl rfl (rn_ki (C_hasW (i := wBUTTON) S1.1 t1 (by decide) (fun h2 s2 t2 => ?_)))
        rw [c4] at t2 ⊢
        refine rw_ifT f_X10_line_53 (by decide) ?_
        rw [if_neg (show ¬ false = true by decide)] at t2
        exact t63 h2 (s1.tr s2) t2 c1 c2 c4
      | true =>
        have eP : pLine T N g p = pButton T N g (tkX T N p) := by
          unfold pLine
          rw [if_neg hc', c1, c2, c4]
          simp only [Bool.false_eq_true, if_false, if_true]
        refine rw_aload f_X10_line_46 rfl ?_
        refine rw_glob f_X10_line_47 ?_
        refine rw_callV f_X10_line_50 rfl (by assumption) (by first | assumption | omega) rfl rfl rfl rfl (rn_ki (C_hasW (i := wBUTTON) S1.1 t1 (by decide) (fun h2 s2 t2 => ?_)))
        rw [c4] at t2 ⊢
        refine rw_ifF f_X10_line_53 (by decide) ?_
        rw [if_pos rfl] at t2
        have st2 := s1.tr s2
        have S2 := st2.rs hS
        have rK2 := S2.1.1.1
        refine rw_aload f_X10_line_56 rfl ?_
        refine rw_callV f_X10_line_57 rfl (by assumption) (by first | assumption | omega) rfl rfl rfl rfl (rn_kx rfl rn_hv (C_buttonL S2 t2 (by omega) (fun v h3 e3 r3 f3 t3 => ?_) (fun e h3 e3 f3 fl3 => herr' e h3 (by rw [eP]; exact e3) (gl0 h2 st2 _ _ _ f3) fl3)))
        refine rw_goto f_X10_line_60 ?_
        refine rx_vret f_X10_line_108 ?_
        exact hok' v h3 (by rw [eP]; exact e3) r3 (gl0 h2 st2 _ _ _ f3) t3
    have t29 : ∀ h1, RSt R F h h1 → RT h1 R N T p → isV T N p wMAN = false → Rn (d + 58) n_X10_line 29 [am_r R] [] h1 (kX (kV k) xk) := by
      intro h1 s1 t1 c1
      have S1 := s1.rs hS
      have rK1 := S1.1.1.1
      cases c4 : isV T N p wDEED with
      | false =>
        refine rw_aload f_X10_line_29 rfl ?_
        refine rw_glob f_X10_line_30 ?_
        refine rw_callV f_X10_line_33 rfl (by assumption) (by first | assumption | omega) rfl rfl rfl rfl (rn_ki (C_hasW (i := wDEED) S1.1 t1 (by decide) (fun h2 s2 t2 => ?_)))
        rw [c4] at t2 ⊢
        refine rw_ifT f_X10_line_36 (by decide) ?_
        rw [if_neg (show ¬ false = true by decide)] at t2
        exact t46 h2 (s1.tr s2) t2 c1 c4
      | true =>
        have eP : pLine T N g p = pDeed T N g (tkX T N p) := by
          unfold pLine
          rw [if_neg hc', c1, c4]
          simp only [Bool.false_eq_true, if_false, if_true]
        refine rw_aload f_X10_line_29 rfl ?_
        refine rw_glob f_X10_line_30 ?_
        refine rw_callV f_X10_line_33 rfl (by assumption) (by first | assumption | omega) rfl rfl rfl rfl (rn_ki (C_hasW (i := wDEED) S1.1 t1 (by decide) (fun h2 s2 t2 => ?_)))
        rw [c4] at t2 ⊢
        refine rw_ifF f_X10_line_36 (by decide) ?_
        rw [if_pos rfl] at t2
        have st2 := s1.tr s2
        have S2 := st2.rs hS
        have rK2 := S2.1.1.1
        refine rw_aload f_X10_line_39 rfl ?_
        refine rw_callV f_X10_line_40 rfl (by assumption) (by first | assumption | omega) rfl rfl rfl rfl (rn_kx rfl rn_hv (C_deed S2 t2 (by omega) (fun v h3 e3 r3 f3 t3 => ?_) (fun e h3 e3 f3 fl3 => herr' e h3 (by rw [eP]; exact e3) (gl0 h2 st2 _ _ _ f3) fl3)))
        refine rw_goto f_X10_line_43 ?_
        refine rx_vret f_X10_line_108 ?_
        exact hok' v h3 (by rw [eP]; exact e3) r3 (gl0 h2 st2 _ _ _ f3) t3
    cases c4 : isV T N p wMAN with
    | false =>
      refine rw_aload f_X10_line_0 rfl ?_
      refine rw_callV f_X10_line_1 rfl (by assumption) (by first | assumption | omega) rfl rfl rfl rfl (rn_ki (C_canLine hS hT (by omega) ?_))
      rw [hc]
      refine rw_ifT f_X10_line_4 (by decide) ?_
      refine rw_aload f_X10_line_12 rfl ?_
      refine rw_glob f_X10_line_13 ?_
      refine rw_callV f_X10_line_16 rfl (by assumption) (by first | assumption | omega) rfl rfl rfl rfl (rn_ki (C_hasW (i := wMAN) hS.1 hT (by decide) (fun h2 s2 t2 => ?_)))
      rw [c4] at t2 ⊢
      refine rw_ifT f_X10_line_19 (by decide) ?_
      rw [if_neg (show ¬ false = true by decide)] at t2
      exact t29 h2 s2 t2 c4
    | true =>
      have eP : pLine T N g p = pMan T N g (tkX T N p) := by
        unfold pLine
        rw [if_neg hc', c4]
        simp only [if_true]
      refine rw_aload f_X10_line_0 rfl ?_
      refine rw_callV f_X10_line_1 rfl (by assumption) (by first | assumption | omega) rfl rfl rfl rfl (rn_ki (C_canLine hS hT (by omega) ?_))
      rw [hc]
      refine rw_ifT f_X10_line_4 (by decide) ?_
      refine rw_aload f_X10_line_12 rfl ?_
      refine rw_glob f_X10_line_13 ?_
      refine rw_callV f_X10_line_16 rfl (by assumption) (by first | assumption | omega) rfl rfl rfl rfl (rn_ki (C_hasW (i := wMAN) hS.1 hT (by decide) (fun h2 st2 t2 => ?_)))
      rw [c4] at t2 ⊢
      refine rw_ifF f_X10_line_19 (by decide) ?_
      rw [if_pos rfl] at t2
      have S2 := st2.rs hS
      have rK2 := S2.1.1.1
      refine rw_aload f_X10_line_22 rfl ?_
      refine rw_callV f_X10_line_23 rfl (by assumption) (by first | assumption | omega) rfl rfl rfl rfl (rn_kx rfl rn_hv (C_man S2 t2 (by omega) (fun v h3 e3 r3 f3 t3 => ?_) (fun e h3 e3 f3 fl3 => herr' e h3 (by rw [eP]; exact e3) (gl0 h2 st2 _ _ _ f3) fl3)))
      refine rw_goto f_X10_line_26 ?_
      refine rx_vret f_X10_line_108 ?_
      exact hok' v h3 (by rw [eP]; exact e3) r3 (gl0 h2 st2 _ _ _ f3) t3
theorem pAll_s {T : tx} {N n p : Nat} {g : rgT} : pAll T N (n + 1) g p = if tkD T N p = 0 then .inl g else bnd (pLine T N g p) fun r => bnd (pMust T N (isSH T N r.2 59) r.2) fun q => pAll T N n r.1 q := rfl
theorem C_readL {R F tp N : Nat} {T : tx} {h0 : am_H} {k : Nat → am_H → Prop} {xk : Nat → am_H → Prop} (p0 : Nat) (hok : ∀ g h', pAll T N (N + 1) rg0 p0 = .inl g → gI g → RS h' R F tp N T g → GL R F (N + 2) h0 h' → k (R + 1) h') (herr : ∀ e h', pAll T N (N + 1) rg0 p0 = .inr e → GL R F (N + 2) h0 h' → Flt h' F e → xk F h') : ∀ n (h : am_H) (g : rgT) (p : Nat), N + 1 - p ≤ n → p0 ≤ p → pAll T N (N + 1) rg0 p0 = pAll T N n g p → RS h R F tp N T g → gI g → RT h R N T p → GL R F (p - p0) h0 h → Rn (d + 59) n_X10_read 4 [am_r R] [] h (kX (kR k) xk) := by
  intro n
  induction n with
  | zero => intro h g p hn hp0 e hS hg hT fr; have := hT.1; omega
  | succ n ih =>
    intro h g p hn hp0 e hS hg hT fr
    have rK := hS.1.1.1
    have rz := hS.1.1.2.1
    have r3 := hS.1.2.2.2.2.1
    have e6 := hT.2.2.2.1
    have hpN := hT.1
    rw [pAll_s (n := n) (g := g) (p := p)] at e
    by_cases c : tkD T N p = 0
    · rw [if_pos c] at e
      refine rw_aload f_X10_read_4 rfl ?_
      refine rw_getI f_X10_read_5 (by assumption) ?_
      rw [e6, c]
      refine rw_ifT f_X10_read_8 (by decide) ?_
      refine rw_aload f_X10_read_28 rfl ?_
      refine rw_getR f_X10_read_29 (by assumption) (by first | assumption | rfl) ?_
      refine rx_aret f_X10_read_32 ?_
      exact hok g h e hg hS (GF_w fr (by omega) (by omega))
    · rw [if_neg c] at e
      refine rw_aload f_X10_read_4 rfl ?_
      refine rw_getI f_X10_read_5 (by assumption) ?_
      rw [e6]
      refine rw_ifF f_X10_read_8 (decide_eq_false c) ?_
      refine rw_aload f_X10_read_11 rfl ?_
      refine rw_callV f_X10_read_12 rfl (by assumption) (by first | assumption | omega) rfl rfl rfl rfl (rn_kx rfl rn_hv (C_line (d := d) hS hT hg (fun v h1 e1 r1 f1 t1 => ?_) (fun er h1 e1 f1 fl1 => herr er h1 (by rw [e, e1]; rfl) (GF_tr fr f1 (by omega) (by omega)) fl1)))
      have rK1 := r1.1.1.1
      refine rw_aload f_X10_read_15 rfl ?_
      refine rw_aload f_X10_read_16 rfl ?_
      refine rw_const f_X10_read_17 ?_
      refine rw_callV f_X10_read_19 rfl (by assumption) (by first | assumption | omega) rfl rfl rfl rfl (rn_ki (C_isSH r1.1 t1 ?_))
      have z := pLine_gI hg e1
      rw [e1, bnd_l] at e
      refine rw_callV f_X10_read_22 rfl (by assumption) (by first | assumption | omega) rfl rfl rfl rfl (rn_kx rfl rn_hv (C_must r1.1 t1 (fun q h2 e2 s2 t2 => ?_) (fun er h2 e2 s2 fl2 => herr er h2 (by rw [e, e2]; rfl) (GF_tr (GF_tr fr f1 (Nat.le_refl _) (Nat.le_refl _)) s2.gf0 (by omega) (by omega)) fl2)))
      refine rw_goto f_X10_read_25 ?_
      rw [e2, bnd_l] at e
      have z2 := pMust_in (fun w => by have := isSH_lt w; intro y; unfold isSH at w; rw [y] at w; cases w) e2
      exact ih h2 v.1 q (by omega) (by omega) e (s2.rs r1) z.1 t2 (GF_tr (GF_tr fr f1 (Nat.le_refl _) (Nat.le_refl _)) s2.gf0 (by omega) (by omega))
theorem C_read (hS : RS h R F tp N T rg0) (h5 : hp_I h R 5 = 0) {k : Nat → am_H → Prop} {xk : Nat → am_H → Prop} (hok : ∀ g h', pText T N = .inl g → gI g → RS h' R F tp N T g → GL R F (N + 2) h h' → k (R + 1) h') (herr : ∀ e h', pText T N = .inr e → GL R F (N + 2) h h' → Flt h' F e → xk F h') : Rn (d + 59) n_X10_read 0 [am_r R] [] h (kX (kR k) xk) := by
  have rK := hS.1.1.1
  have rz := hS.1.1.2.1
  have p0 : rEnd isSp T N 0 ≤ N := rEnd_N (Nat.zero_le _)
  refine rw_aload f_X10_read_0 rfl ?_
  refine rw_callV f_X10_read_1 rfl (by assumption) (by first | assumption | omega) rfl rfl rfl rfl (rn_kv (C_next (d := d + 56) hS.1.1 (Nat.zero_le _) h5 (fun h1 on1 rf1 rt1 => ?_)))
  have s1 : RSt R F h h1 := .R1 on1 rf1
  exact C_readL (rEnd isSp T N 0) (fun g h' e gi r f => hok g h' e gi r (GF_tr s1.gf0 f (by omega) (by omega))) (fun e h' e1 f fl => herr e h' e1 (GF_tr s1.gf0 f (by omega) (by omega)) fl) (N + 1) h1 rg0 _ (by omega) (Nat.le_refl _) rfl (s1.rs hS) gI_0 rt1 (by rw [Nat.sub_self]; exact Fr_refl)
end CRead4
