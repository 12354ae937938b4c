/-! THE CLASS: open, one -/
section CForm4
variable {h h' : am_H} {R F tp N : Nat} {T : tx} {g : rgT}
theorem FC.up {D K n dp dd : Nat} {L : List am_V} {A : fF} (U : FC D K n L R F tp N T g dp A) (e : D + K ≤ dd) : ∀ (h : am_H) (p u : Nat) (k : Nat → am_H → Prop) (xk : Nat → am_H → Prop), FS h R F tp N T g u dp → RT h R N T p → u ≤ 30 →
    (∀ v a h', A p u = .inl v → FS h' R F tp N T g v.2.2 dp → RT h' R N T v.2.1 → FF R F (v.2.1 - p) h h' → TreeL h' (hp_n h) v.1.length a v.1 → ¬ a = 0 → k a h') →
    (∀ e h', A p u = .inr e → FF R F (N + 1 - p) h h' → Flt h' F e → xk F h') → Rn dd n 0 (am_r R :: L) [] h (kX (kR k) xk) := by
  have := U (dd - D - K)
  rw [show dd - D - K + D + K = dd by omega] at this
  exact this
theorem FS.s9 {u dp dp2 : Nat} (q : FS h R F tp N T g u dp) : FS (hp_sI h R 9 (nI dp2)) R F tp N T g u dp2 := by
  have lR : R + 1 < hp_n h := Al_lt q.al q.1.2.1.1.1 (by decide)
  refine q.fr (c := 0) (s := 0) (Fr_w (Fr_sI (a := R)) (fun b _ w => Or.inr (Or.inl w)) (fun _ _ w => w) (by omega) (by omega)) ?_ ?_ ?_ ?_ (fun j _ => ?_)
  · rw [sI_ne (by omega)]
  · rw [sI_same]
  · rw [sI_ne (by omega)]; exact q.2.1
  · rw [sI_ne (by omega)]; exact q.1.2.1.2.2.2.2.1.2.1
  · rw [sI_ne (by omega)]
theorem RT.s9 {p : Nat} {v : Int32} (q : RT h R N T p) : RT (hp_sI h R 9 v) R N T p := by
  unfold RT
  rw [sI_ne (by omega), sI_ne (by omega), sI_ne (by omega), sI_ne (by omega)]
  exact q
theorem FF_s9 {k : Nat} {v : Int32} : FF R F k h (hp_sI h R 9 v) := Fr_w (Fr_sI (a := R)) (fun b _ w => Or.inr (Or.inl w)) (fun _ _ w => w) (by omega) (by omega)
theorem C_open {d u dp p : Nat} (hF : FS h R F tp N T g u dp) (hT : RT h R N T p) (hd : dp ≤ 7) {k : am_H → Prop} {xk : Nat → am_H → Prop} (hok : dp < 7 → ∀ h', FS h' R F tp N T g u (dp + 1) → RT h' R N T (tkX T N p) → FF R F 0 h h' → k h') (herr : dp = 7 → ∀ h', FF R F 0 h h' → Flt h' F (err1 T N p) → xk F h') : Rn (d + 3) n_X10_open 0 [am_r R] [] h (kX (kV k) xk) := by
  have rK := hF.1.1.1.1
  have rz := hF.1.1.1.2.1
  have e9 := hF.2.2
  by_cases h7 : dp = 7
  · refine rw_aload f_X10_open_0 rfl ?_
    refine rw_getI f_X10_open_1 (by assumption) ?_
    rw [e9, h7]
    refine rw_const f_X10_open_4 ?_
    refine rw_icmpF f_X10_open_6 (by decide) ?_
    refine rw_aload f_X10_open_9 rfl ?_
    refine rw_callV f_X10_open_10 rfl (by assumption) (by first | assumption | omega) rfl rfl rfl rfl (rn_kr (C_wrong hF.1.1 hT (fun h1 st1 fK1 fl1 => ?_)))
    refine rx_throw f_X10_open_13 rfl (by assumption) ?_
    exact herr h7 h1 st1.ff fl1
  · have f1 : FS (hp_sI h R 9 (nI (dp + 1))) R F tp N T g u (dp + 1) := hF.s9
    have t1 : RT (hp_sI h R 9 (nI (dp + 1))) R N T p := hT.s9
    have rK1 := f1.1.1.1.1
    refine rw_aload f_X10_open_0 rfl ?_
    refine rw_getI f_X10_open_1 (by assumption) ?_
    rw [e9]
    refine rw_const f_X10_open_4 ?_
    refine rw_icmpT f_X10_open_6 (decide_eq_true (fun z => h7 ((nI_eq (b := 7) (by omega) (by omega)).mp z))) ?_
    refine rw_aload f_X10_open_14 rfl ?_
    first | refine rw_dupr f_X10_open_15 ?_ | refine rw_dupi f_X10_open_15 ?_
    refine rw_getI f_X10_open_16 (by assumption) ?_
    rw [e9]
    refine rw_const f_X10_open_19 ?_
    refine rw_iadd f_X10_open_20 ?_
    rw [nI_1']
    refine rw_putI f_X10_open_21 (by assumption) ?_
    refine rw_aload f_X10_open_24 rfl ?_
    refine rw_callV f_X10_open_25 rfl (by assumption) (by first | assumption | omega) rfl rfl rfl rfl (rn_kv (C_next f1.1.1.1 (tkE_ge t1.1).2 t1.2.2.1 (fun h2 on2 rf2 t2 => ?_)))
    refine rx_vret f_X10_open_28 ?_
    exact hok (by omega) h2 (f1.st (.R1 on2 rf2)) t2 (FF_tr (k1 := 0) (k2 := 0) FF_s9 (RSt.ff (.R1 on2 rf2)) (by omega))
abbrev hNot (h : am_H) (b x : Nat) : am_H := hp_sR h b 0 x
/-- a part is denied: b new ahead of it -/
theorem not_ok {h0 h1 h2 : am_H} {u1 u2 dp b x k1 k2 c : Nat} {c1 : am_S} (f1 : FS h1 R F tp N T g u1 dp) (f2 : FS h2 R F tp N T g u2 dp) (fr1 : FF R F k1 h0 h1) (eb : b = hp_n h1) (fr2 : FF R F k2 (hp_new h1 118 0 1) h2) (t2 : TreeL h2 (hp_n (hp_new h1 118 0 1)) c1.length x c1) (hk : k1 + k2 + 1 ≤ c) : FS (hNot h2 b x) R F tp N T g u2 dp ∧ FF R F c h0 (hNot h2 b x) ∧ TreeL (hNot h2 b x) (hp_n h0) (c1 ++ [(2, 0)]).length b (c1 ++ [(2, 0)]) := by
  have al1 := f1.al
  have al2 := f2.al
  have ln1 := fr1.n
  have en : hp_n (hp_new h1 118 0 1) = hp_n h1 + 1 := rfl
  have ln2 := fr2.n
  have lR : R + 1 < hp_n h1 := Al_lt al1 f1.1.2.1.1.1 (by decide)
  have bK : hp_K h2 b = (118, 0) := by rw [fr2.K (by omega), eb]; exact new_K
  have fr12 : Fr (fS R F) no (3 * k2 + 1) (60 * k2 + 1) h1 h2 := Fr_tr (Fr_new (t := 118) (n := 0) (m := 1)) fr2 (fun _ _ w => absurd w id) (fun _ _ w => absurd w id) (fun _ _ w => w) (fun _ _ w => w) (by omega) (by omega)
  have fr13 : Fr (fS R F) no (3 * k2 + 1) (60 * k2 + 1) h1 (hNot h2 b x) := Fr_tr fr12 (Fr_sR (a := b)) (fun _ _ w => w) (fun _ _ w => w) (fun q hq w => absurd w id) (fun q hq w => by have : q = b := w; omega) (by omega) (by omega)
  refine ⟨?_, Fr_tr fr1 fr13 (fun _ _ w => w) (fun _ _ w => w) (fun _ _ w => w) (fun _ _ w => w) (by omega) (by omega), ?_⟩
  · refine f1.fr fr13 ?_ f2.2.2 f2.2.1 f2.1.2.1.2.2.2.2.1.2.1 ?_
    · have a1 := f1.1.1.1.2.2.2.2.1
      have a2 := f2.1.1.1.2.2.2.2.1
      show hp_I h2 R 1 = _
      rw [a1, a2]
    · intro j hj
      show hp_I h2 (R + 1) j = _
      obtain ⟨a5, _, a7, a8, a9, a10, a11, a12⟩ := f1.1.2.1.2.2.2.2.1
      obtain ⟨b5, _, b7, b8, b9, b10, b11, b12⟩ := f2.1.2.1.2.2.2.2.1
      rcases (by omega : j = 5 ∨ j = 7 ∨ j = 8 ∨ j = 9 ∨ j = 10 ∨ j = 11 ∨ j = 12) with e | e | e | e | e | e | e <;> rw [e]
      · rw [a5, b5]; rfl
      · rw [a7, b7]; rfl
      · rw [a8, b8]; rfl
      · rw [a9, b9]; rfl
      · rw [a10, b10]; rfl
      · rw [a11, b11]; rfl
      · rw [a12, b12]; rfl
  · have el : (c1 ++ [(2, 0)]).length = c1.length + 1 := by simp [List.length_append]
    rw [el]
    refine ⟨by omega, Or.inr (Or.inr (Or.inl ⟨bK, c1, ?_, rfl⟩))⟩
    have e2 : hp_R (hNot h2 b x) b 0 = x := sR_same
    rw [e2]
    exact (t2.fr al2 Fr_sR (fun q hq w => absurd w id) (fun q hq w => by have : q = b := w; omega)).le (by omega) (by omega)
theorem TreeL.s9 {lo n a : Nat} {cd : am_S} {v : Int32} {u dp : Nat} (q : FS h R F tp N T g u dp) (t : TreeL h lo n a cd) : TreeL (hp_sI h R 9 v) lo n a cd := t.fr q.al (FF_s9 (F := F) (k := 0)) (fun b _ w z => by have := q.kk b w; omega) (fun _ _ w => absurd w id)
theorem opR_none {p : Nat} (c1 : isSH T N p 60 = false) (c2 : isSH T N p 62 = false) (c3 : isSH T N p 61 = false) : opR T N p = none := by
  unfold opR
  rw [c1, c2, c3]
  simp
theorem opR_some {p : Nat} (c1 : isSH T N p 60 = true ∨ isSH T N p 62 = true ∨ isSH T N p 61 = true) : opR T N p = some (T p) := if_pos c1
theorem C_one {D D' dp : Nat} {O : Option fF} {S : fF} (hd : dp ≤ 7) (U : FC D 11 n_X10_sum [am_u, am_u] R F tp N T g dp S) (hS : fok T N 0 S) (hO : dp < 7 → D' + 1 ≤ D ∧ ∃ o w, O = some o ∧ fok T N w o ∧ FC D' 12 n_X10_one [am_u, am_u] R F tp N T g (dp + 1) o) (h7 : dp = 7 → O = none) : FC D 12 n_X10_one [am_u, am_u] R F tp N T g dp (fOne T N O S) := by
  intro d h p u k xk hF hT hu hok herr
  have rK := hF.1.1.1.1
  have rz := hF.1.1.1.2.1
  have hN := hF.1.1.1.2.2.2.2.2.1
  unfold fOne at hok herr
  cases hV : isV T N p wNOT with
  | true =>
    rw [if_pos hV] at hok herr
    have lx := tkX_bd (T := T) (isV_lt hV)
    refine rw_aload f_X10_one_0 rfl ?_
    refine rw_glob f_X10_one_1 ?_
    refine rw_callV f_X10_one_3 rfl (by assumption) (by first | assumption | omega) rfl rfl rfl rfl (rn_ki (C_isWord (i := wNOT) hF.1.1.2.2.2.2.2.1 hF.1.1.1 hT (by decide) ?_))
    rw [show isW T N p (wc wNOT) = true from hV]
    refine rw_ifF f_X10_one_6 (by decide) ?_
    refine rw_aload f_X10_one_9 rfl ?_
    refine rw_callV f_X10_one_10 rfl (by assumption) (by first | assumption | omega) rfl rfl rfl rfl (rn_kx rfl rn_hv (C_open hF hT hd (fun hd7 h1 f1 t1 fr1 => ?_) (fun e7 h1 fr1 fl1 => herr _ h1 (by rw [h7 e7]) (FF_tr (k2 := 0) fr1 Fr_refl (by omega)) fl1)))
    obtain ⟨lD, o, w, eo, ho, Uo⟩ := hO hd7
    rw [eo] at hok herr
    have fn : FS (hp_new h1 118 0 1) R F tp N T g u (dp + 1) := f1.new (by omega)
    have lR1 : R + 1 < hp_n h1 := Al_lt f1.al f1.1.2.1.1.1 (by decide)
    have tn : RT (hp_new h1 118 0 1) R N T (tkX T N p) := RT.new t1 (by omega)
    have rKn := fn.1.1.1.1
    refine rw_new f_X10_one_13 ?_
    first | refine rw_dupr f_X10_one_16 ?_ | refine rw_dupi f_X10_one_16 ?_
    refine rw_aload f_X10_one_17 rfl ?_
    refine rw_callV f_X10_one_18 rfl (by assumption) (by first | assumption | omega) rfl rfl rfl rfl (rn_kx rfl rn_hr (Uo.up (by omega) _ (tkX T N p) u _ _ fn tn hu (fun v b h3 e3 f3 t3 fr3 tr3 bz => ?_) (fun e h3 e3 fr3 fl3 => herr e h3 (by show bnd _ _ = _; rw [e3]; rfl) (FF_tr (FF_tr (k := 1) fr1 (FF_new (by omega)) (by omega)) fr3 (by omega)) fl3)))
    have o3 := ho _ _ _ lx.2 hu e3
    have bK3 : hp_K h3 (hp_n h1) = (118, 0) := by rw [fr3.K (by show hp_n h1 < hp_n h1 + 1; omega)]; exact new_K
    have nz : ¬ hp_n h1 = 0 := by omega
    refine rw_callI f_X10_one_21 rfl (by first | assumption | omega) rfl rfl rfl (rn_kv (C_notInit bK3 nz ?_))
    obtain ⟨z1, z2, z3⟩ := not_ok (c := v.2.1 - p) f1 f3 fr1 rfl fr3 tr3 (by omega)
    have rK4 := z1.1.1.1.1
    refine rw_astore f_X10_one_24 rfl rfl ?_
    refine rw_aload f_X10_one_25 rfl ?_
    first | refine rw_dupr f_X10_one_26 ?_ | refine rw_dupi f_X10_one_26 ?_
    refine rw_getI f_X10_one_27 (by assumption) ?_
    rw [show hp_I (hp_sR h3 (hp_n h1) 0 b) R 9 = nI (dp + 1) from f3.2.2]
    refine rw_const f_X10_one_30 ?_
    refine rw_isub f_X10_one_31 ?_
    rw [show nI (dp + 1) - 1 = nI dp by rw [← nI_1']; grind]
    refine rw_putI f_X10_one_32 (by assumption) ?_
    refine rw_aload f_X10_one_35 rfl ?_
    refine rx_aret f_X10_one_36 ?_
    exact hok (v.1 ++ [(2, 0)], v.2.1, v.2.2) _ _ (by show bnd _ _ = _; rw [e3]; rfl) z1.s9 (RT.s9 (RT.fr t3 (by have := fr3.n; have e : hp_n (hp_new h1 118 0 1) = hp_n h1 + 1 := rfl; omega) Fr_sR (fun w => w))) (FF_tr (k2 := 0) (k := v.2.1 - p) z2 FF_s9 (by omega)) (z3.s9 z1) nz
  | false =>
    rw [if_neg (show ¬ isV T N p wNOT = true by rw [hV]; decide)] at hok herr
    have more : ∀ v a h1, S p u = .inl v → FS h1 R F tp N T g v.2.2 dp → RT h1 R N T v.2.1 → FF R F (v.2.1 - p) h h1 → TreeL h1 (hp_n h) v.1.length a v.1 → ¬ a = 0 → (isSH T N v.2.1 60 = true ∨ isSH T N v.2.1 62 = true ∨ isSH T N v.2.1 61 = true) → Rn (d + D + 12) n_X10_one 71 [am_r R, am_r a, am_u] [] h1 (kX (kR k) xk) := by
      intro v a h1 e1 f1 t1 fr1 tr1 az co
      have rK1 := f1.1.1.1.1
      have hp1 := t1.1
      have lt : v.2.1 < N := by rcases co with z | z | z <;> exact isSH_lt z
      have lx := tkX_bd (T := T) lt
      have o1 := hS _ _ _ hT.1 hu e1
      rw [e1, bnd_l, opR_some co] at hok herr
      refine rw_aload f_X10_one_71 rfl ?_
      refine rw_aload f_X10_one_72 rfl ?_
      refine rw_getI f_X10_one_73 (by assumption) ?_
      rw [t1.2.1]
      refine rw_callV f_X10_one_76 rfl (by assumption) (by first | assumption | omega) rfl rfl rfl rfl (rn_ki (C_sign f1.1.1.1 (by omega) ?_))
      rw [show sg0 T N v.2.1 = T v.2.1 from if_pos lt]
      refine rw_istore f_X10_one_79 rfl rfl ?_
      refine rw_aload f_X10_one_80 rfl ?_
      refine rw_callV f_X10_one_81 rfl (by assumption) (by first | assumption | omega) rfl rfl rfl rfl (rn_kv (C_next f1.1.1.1 (tkE_ge t1.1).2 t1.2.2.1 (fun h2 on2 rf2 t2 => ?_)))
      have s2 : RSt R F h1 h2 := .R1 on2 rf2
      have f2 := f1.st s2
      have fn : FS (hp_new h2 121 0 3) R F tp N T g v.2.2 dp := f2.new (by omega)
      have lR2 : R + 1 < hp_n h2 := Al_lt f2.al f2.1.2.1.1.1 (by decide)
      have tn : RT (hp_new h2 121 0 3) R N T (tkX T N v.2.1) := RT.new t2 (by omega)
      have rKn := fn.1.1.1.1
      have fr2 : FF R F (v.2.1 - p) h h2 := FF_tr (k2 := 0) fr1 s2.ff (by omega)
      have tr2 : TreeL h2 (hp_n h) v.1.length a v.1 := tr1.fr f1.al (s2.ff (k := 0)) (fun q _ w z => by have := f1.kk q w; omega) (fun q _ w => absurd w id)
      refine rw_new f_X10_one_84 ?_
      first | refine rw_dupr f_X10_one_87 ?_ | refine rw_dupi f_X10_one_87 ?_
      refine rw_iload f_X10_one_88 rfl ?_
      refine rw_aload f_X10_one_89 rfl ?_
      refine rw_aload f_X10_one_90 rfl ?_
      refine rw_callV f_X10_one_91 rfl (by assumption) (by first | assumption | omega) rfl rfl rfl rfl (rn_kx rfl rn_hr (U d _ (tkX T N v.2.1) v.2.2 _ _ fn tn o1.2.1.2 (fun r b h3 e3 f3 t3 fr3 tr3 bz => ?_) (fun e h3 e3 fr3 fl3 => herr e h3 (by show bnd _ _ = _; rw [e3]; rfl) (FF_tr (FF_tr (k := v.2.1 - p + 1) fr2 (FF_new (by omega)) (by omega)) fr3 (by omega)) fl3)))
      have o3 := hS _ _ _ lx.2 o1.2.1.2 e3
      have bK3 : hp_K h3 (hp_n h2) = (121, 0) := by rw [fr3.K (by show hp_n h2 < hp_n h2 + 1; omega)]; exact new_K
      have nz : ¬ hp_n h2 = 0 := by omega
      refine rw_callI f_X10_one_94 rfl (by first | assumption | omega) rfl rfl rfl (rn_kv (C_twoInit bK3 nz ?_))
      refine rx_aret f_X10_one_97 ?_
      obtain ⟨z1, z2, z3⟩ := two_ok (c := r.2.1 - p) (v := T v.2.1) f2 f3 fr2 rfl fr3 tr2 tr3 (by omega)
      refine hok (v.1 ++ r.1 ++ [(3, T v.2.1)], r.2.1, r.2.2) _ _ (by show bnd _ _ = _; rw [e3]; rfl) z1 ?_ z2 z3 nz
      exact RT.fr t3 (by have := fr3.n; have e : hp_n (hp_new h2 121 0 3) = hp_n h2 + 1 := rfl; omega) Fr_two (fun w => by have : R = hp_n h2 := w; omega)
    refine rw_aload f_X10_one_0 rfl ?_
    refine rw_glob f_X10_one_1 ?_
    refine rw_callV f_X10_one_3 rfl (by assumption) (by first | assumption | omega) rfl rfl rfl rfl (rn_ki (C_isWord (i := wNOT) hF.1.1.2.2.2.2.2.1 hF.1.1.1 hT (by decide) ?_))
    rw [show isW T N p (wc wNOT) = false from hV]
    refine rw_ifT f_X10_one_6 (by decide) ?_
    refine rw_aload f_X10_one_37 rfl ?_
    refine rw_callV f_X10_one_38 rfl (by assumption) (by first | assumption | omega) rfl rfl rfl rfl (rn_kx rfl rn_hr (U d h p u _ _ hF hT hu (fun v a h1 e1 f1 t1 fr1 tr1 az => ?_) (fun e h1 e1 fr1 fl1 => herr e h1 (by rw [e1]; rfl) fr1 fl1)))
    have rK1 := f1.1.1.1.1
    refine rw_astore f_X10_one_41 rfl rfl ?_
    refine rw_aload f_X10_one_42 rfl ?_
    refine rw_const f_X10_one_43 ?_
    refine rw_callV f_X10_one_45 rfl (by assumption) (by first | assumption | omega) rfl rfl rfl rfl (rn_ki (C_isSH f1.1.1 t1 ?_))
    first | refine rw_ne0B f_X10_one_48 (fun c1 => ?_) (fun c1 => ?_) | refine rw_ne0 f_X10_one_48 (fun c1 => ?_) (fun c1 => ?_)
    · exact more v a h1 e1 f1 t1 fr1 tr1 az (by simp [c1])
    · refine rw_aload f_X10_one_51 rfl ?_
      refine rw_const f_X10_one_52 ?_
      refine rw_callV f_X10_one_54 rfl (by assumption) (by first | assumption | omega) rfl rfl rfl rfl (rn_ki (C_isSH f1.1.1 t1 ?_))
      first | refine rw_ne0B f_X10_one_57 (fun c2 => ?_) (fun c2 => ?_) | refine rw_ne0 f_X10_one_57 (fun c2 => ?_) (fun c2 => ?_)
      · exact more v a h1 e1 f1 t1 fr1 tr1 az (by simp [c1, c2])
      · refine rw_aload f_X10_one_60 rfl ?_
        refine rw_const f_X10_one_61 ?_
        refine rw_callV f_X10_one_63 rfl (by assumption) (by first | assumption | omega) rfl rfl rfl rfl (rn_ki (C_isSH f1.1.1 t1 ?_))
        first | refine rw_ne0B f_X10_one_66 (fun c3 => ?_) (fun c3 => ?_) | refine rw_ne0 f_X10_one_66 (fun c3 => ?_) (fun c3 => ?_)
        · exact more v a h1 e1 f1 t1 fr1 tr1 az (by simp [c1, c2, c3])
        · refine rw_aload f_X10_one_69 rfl ?_
          refine rx_aret f_X10_one_70 ?_
          exact hok v a h1 (by rw [e1, bnd_l, opR_none c1 c2 c3]) f1 t1 fr1 tr1 az
end CForm4
