/-! THE CLASS: sums, both, either -/
section CForm3
variable {h h' : am_H} {R F tp N : Nat} {T : tx} {g : rgT}
theorem opS_none {p : Nat} (c1 : isSH T N p 43 = false) (c2 : isSH T N p 45 = false) : opS T N p = none := by
  unfold opS
  rw [c1, c2]
  simp
theorem opS_some {p : Nat} (c1 : isSH T N p 43 = true ∨ isSH T N p 45 = true) : opS T N p = some (T p) := if_pos c1
theorem C_sum {D dp w : Nat} {A : fF} (U : FC D 10 n_X10_term [am_u, am_u] R F tp N T g dp A) (hA : fok T N w A) : FC D 11 n_X10_sum [am_u, am_u] R F tp N T g dp (fBin T N (opS T N) A) := by
  intro d h p u k xk hF hT hu hok herr
  have rK := hF.1.1.1.1
  have rz := hF.1.1.1.2.1
  have hN := hF.1.1.1.2.2.2.2.2.1
  have loop : ∀ n h1 a c p1 u1 x, FS h1 R F tp N T g u1 dp → RT h1 R N T p1 → u1 ≤ 30 → 31 ≤ n + u1 → p ≤ p1 → FF R F (p1 - p) h h1 → TreeL h1 (hp_n h) c.length a c → ¬ a = 0 → (∀ r, fLoop T N (opS T N) A n c p1 u1 = r → fBin T N (opS T N) A p u = r) → Rn (d + D + 11) n_X10_sum 5 [am_r R, am_r a, x] [] h1 (kX (kR k) xk) := by
    intro n
    induction n with
    | zero => intro h1 a c p1 u1 x f1 t1 l1 l2; omega
    | succ n ih =>
      intro h1 a c p1 u1 x f1 t1 l1 l2 lp fr1 tr1 az hr
      have rK1 := f1.1.1.1.1
      have hp1 := t1.1
      -- a sign
      have more : (isSH T N p1 43 = true ∨ isSH T N p1 45 = true) → Rn (d + D + 11) n_X10_sum 23 [am_r R, am_r a, x] [] h1 (kX (kR k) xk) := by
        intro co
        have lt : p1 < N := by rcases co with z | z <;> exact isSH_lt z
        have ho := opS_some co
        have lx := tkX_bd (T := T) lt
        unfold fLoop at hr
        rw [ho] at hr
        refine rw_aload f_X10_sum_23 rfl ?_
        refine rw_aload f_X10_sum_24 rfl ?_
        refine rw_getI f_X10_sum_25 (by assumption) ?_
        rw [t1.2.1]
        refine rw_callV f_X10_sum_28 rfl (by assumption) (by first | assumption | omega) rfl rfl rfl rfl (rn_ki (C_sign f1.1.1.1 (by omega) ?_))
        rw [show sg0 T N p1 = T p1 from if_pos lt]
        refine rw_istore f_X10_sum_31 rfl rfl ?_
        refine rw_aload f_X10_sum_32 rfl ?_
        refine rw_callV f_X10_sum_33 rfl (by assumption) (by first | assumption | omega) rfl rfl rfl rfl (rn_kv (C_next f1.1.1.1 (tkE_ge t1.1).2 t1.2.2.1 (fun h2 on2 rf2 t2 => ?_)))
        have s2 : RSt R F h1 h2 := .R1 on2 rf2
        have f2 := f1.st s2
        have fn : FS (hp_new h2 121 0 3) R F tp N T g u1 dp := f2.new (by omega)
        have lR2 : R + 1 < hp_n h2 := Al_lt f2.al f2.1.2.1.1.1 (by decide)
        have tn : RT (hp_new h2 121 0 3) R N T (tkX T N p1) := RT.new t2 (by omega)
        have rKn := fn.1.1.1.1
        have fr2 : FF R F (p1 - p) h h2 := FF_tr (k2 := 0) fr1 s2.ff (by omega)
        have tr2 : TreeL h2 (hp_n h) c.length a c := tr1.fr f1.al (s2.ff (k := 0)) (fun q _ w z => by have := f1.kk q w; omega) (fun q _ w => absurd w id)
        refine rw_new f_X10_sum_36 ?_
        first | refine rw_dupr f_X10_sum_39 ?_ | refine rw_dupi f_X10_sum_39 ?_
        refine rw_iload f_X10_sum_40 rfl ?_
        refine rw_aload f_X10_sum_41 rfl ?_
        refine rw_aload f_X10_sum_42 rfl ?_
        refine rw_callV f_X10_sum_43 rfl (by assumption) (by first | assumption | omega) rfl rfl rfl rfl (rn_kx rfl rn_hr (U d _ (tkX T N p1) u1 _ _ fn tn l1 (fun v b h3 e3 f3 t3 fr3 tr3 bz => ?_) (fun e h3 e3 fr3 fl3 => herr e h3 (hr _ (by rw [e3]; rfl)) (FF_tr (FF_tr (k := p1 - p + 1) fr2 (FF_new (by omega)) (by omega)) fr3 (by omega)) fl3)))
        have o3 := hA _ _ _ lx.2 l1 e3
        have bK3 : hp_K h3 (hp_n h2) = (121, 0) := by rw [fr3.K (by show hp_n h2 < hp_n h2 + 1; omega)]; exact new_K
        have nz : ¬ hp_n h2 = 0 := by omega
        have al3 := f3.al
        refine rw_callI f_X10_sum_46 rfl (by first | assumption | omega) rfl rfl rfl (rn_kv (C_twoInit bK3 nz ?_))
        refine rw_astore f_X10_sum_49 rfl rfl ?_
        refine rw_goto f_X10_sum_50 ?_
        obtain ⟨z1, z2, z3⟩ := two_ok (c := v.2.1 - p) (v := T p1) f2 f3 fr2 rfl fr3 tr2 tr3 (by omega)
        refine ih _ _ (c ++ v.1 ++ [(3, T p1)]) v.2.1 v.2.2 _ z1 ?_ o3.2.1.2 (by omega) (by omega) z2 z3 nz (fun r er => hr r (by rw [e3]; exact er))
        exact RT.fr t3 (by have := fr3.n; have e : hp_n (hp_new h2 121 0 3) = hp_n h2 + 1 := rfl; omega) Fr_two (fun w => by have : R = hp_n h2 := w; omega)
      refine rw_aload f_X10_sum_5 rfl ?_
      refine rw_const f_X10_sum_6 ?_
      refine rw_callV f_X10_sum_8 rfl (by assumption) (by first | assumption | omega) rfl rfl rfl rfl (rn_ki (C_isSH f1.1.1 t1 ?_))
      first | refine rw_ne0B f_X10_sum_11 (fun c1 => ?_) (fun c1 => ?_) | refine rw_ne0 f_X10_sum_11 (fun c1 => ?_) (fun c1 => ?_)
      · exact more (by simp [c1])
      · refine rw_aload f_X10_sum_14 rfl ?_
        refine rw_const f_X10_sum_15 ?_
        refine rw_callV f_X10_sum_17 rfl (by assumption) (by first | assumption | omega) rfl rfl rfl rfl (rn_ki (C_isSH f1.1.1 t1 ?_))
        first | refine rw_eq0B f_X10_sum_20 (fun c2 => ?_) (fun c2 => ?_) | refine rw_eq0 f_X10_sum_20 (fun c2 => ?_) (fun c2 => ?_)
        · refine rw_aload f_X10_sum_53 rfl ?_
          refine rx_aret f_X10_sum_54 ?_
          exact hok (c, p1, u1) a h1 (hr _ (by unfold fLoop; rw [opS_none c1 c2])) f1 t1 fr1 tr1 az
        · exact more (by simp [c1, c2])
  refine rw_aload f_X10_sum_0 rfl ?_
  refine rw_callV f_X10_sum_1 rfl (by assumption) (by first | assumption | omega) rfl rfl rfl rfl (rn_kx rfl rn_hr (U d h p u _ _ hF hT hu (fun v a h1 e1 f1 t1 fr1 tr1 az => ?_) (fun e h1 e1 fr1 fl1 => herr e h1 (by unfold fBin; rw [e1]; rfl) fr1 fl1)))
  refine rw_astore f_X10_sum_4 rfl rfl ?_
  exact loop 31 h1 a v.1 v.2.1 v.2.2 _ f1 t1 (hA p u v hT.1 hu e1).2.1.2 (by omega) (by have := (hA p u v hT.1 hu e1).1; omega) fr1 tr1 az (fun r er => by unfold fBin; rw [e1]; exact er)
theorem opA_none {p : Nat} (c : isV T N p wAND = false) : opA T N p = none := if_neg (by rw [c]; decide)
theorem opA_some {p : Nat} (c : isV T N p wAND = true) : opA T N p = some 38 := if_pos c
theorem C_both {D dp w : Nat} {A : fF} (U : FC D 12 n_X10_one [am_u, am_u] R F tp N T g dp A) (hA : fok T N w A) : FC D 13 n_X10_both [am_u] R F tp N T g dp (fBin T N (opA T N) A) := by
  intro d h p u k xk hF hT hu hok herr
  have rK := hF.1.1.1.1
  have rz := hF.1.1.1.2.1
  have loop : ∀ n h1 a c p1 u1, FS h1 R F tp N T g u1 dp → RT h1 R N T p1 → u1 ≤ 30 → 31 ≤ n + u1 → p ≤ p1 → FF R F (p1 - p) h h1 → TreeL h1 (hp_n h) c.length a c → ¬ a = 0 → (∀ r, fLoop T N (opA T N) A n c p1 u1 = r → fBin T N (opA T N) A p u = r) → Rn (d + D + 13) n_X10_both 5 [am_r R, am_r a] [] h1 (kX (kR k) xk) := by
    intro n
    induction n with
    | zero => intro h1 a c p1 u1 f1 t1 l1 l2; omega
    | succ n ih =>
      intro h1 a c p1 u1 f1 t1 l1 l2 lp fr1 tr1 az hr
      have rK1 := f1.1.1.1.1
      have hp1 := t1.1
      cases hV : isV T N p1 wAND with
      | true =>
        have lt := isV_lt hV
        have ho := opA_some hV
        have lx := tkX_bd (T := T) lt
        unfold fLoop at hr
        rw [ho] at hr
        refine rw_aload f_X10_both_5 rfl ?_
        refine rw_glob f_X10_both_6 ?_
        refine rw_callV f_X10_both_8 rfl (by assumption) (by first | assumption | omega) rfl rfl rfl rfl (rn_ki (C_hasW (i := wAND) f1.1.1 t1 (by decide) (fun h2 s2 t2 => ?_)))
        rw [hV]
        rw [if_pos hV] at t2
        refine rw_ifF f_X10_both_11 (by decide) ?_
        have f2 := f1.st s2
        have fn : FS (hp_new h2 121 0 3) R F tp N T g u1 dp := f2.new (by omega)
        have lR2 : R + 1 < hp_n h2 := Al_lt f2.al f2.1.2.1.1.1 (by decide)
        have tn : RT (hp_new h2 121 0 3) R N T (tkX T N p1) := RT.new t2 (by omega)
        have rKn := fn.1.1.1.1
        have fr2 : FF R F (p1 - p) h h2 := FF_tr (k2 := 0) fr1 s2.ff (by omega)
        have tr2 : TreeL h2 (hp_n h) c.length a c := tr1.fr f1.al (s2.ff (k := 0)) (fun q _ w z => by have := f1.kk q w; omega) (fun q _ w => absurd w id)
        refine rw_new f_X10_both_14 ?_
        first | refine rw_dupr f_X10_both_17 ?_ | refine rw_dupi f_X10_both_17 ?_
        refine rw_const f_X10_both_18 ?_
        refine rw_aload f_X10_both_20 rfl ?_
        refine rw_aload f_X10_both_21 rfl ?_
        refine rw_callV f_X10_both_22 rfl (by assumption) (by first | assumption | omega) rfl rfl rfl rfl (rn_kx rfl rn_hr (U d _ (tkX T N p1) u1 _ _ fn tn l1 (fun v b h3 e3 f3 t3 fr3 tr3 bz => ?_) (fun e h3 e3 fr3 fl3 => herr e h3 (hr _ (by rw [e3]; rfl)) (FF_tr (FF_tr (k := p1 - p + 1) fr2 (FF_new (by omega)) (by omega)) fr3 (by omega)) fl3)))
        have o3 := hA _ _ _ lx.2 l1 e3
        have bK3 : hp_K h3 (hp_n h2) = (121, 0) := by rw [fr3.K (by show hp_n h2 < hp_n h2 + 1; omega)]; exact new_K
        have nz : ¬ hp_n h2 = 0 := by omega
        have al3 := f3.al
        refine rw_callI f_X10_both_25 rfl (by first | assumption | omega) rfl rfl rfl (rn_kv (C_twoInit bK3 nz ?_))
        refine rw_astore f_X10_both_28 rfl rfl ?_
        refine rw_goto f_X10_both_29 ?_
        obtain ⟨z1, z2, z3⟩ := two_ok (c := v.2.1 - p) (v := 38) f2 f3 fr2 rfl fr3 tr2 tr3 (by omega)
        refine ih _ _ (c ++ v.1 ++ [(3, 38)]) v.2.1 v.2.2 z1 ?_ o3.2.1.2 (by omega) (by omega) z2 z3 nz (fun r er => hr r (by rw [e3]; exact er))
        exact RT.fr t3 (by have := fr3.n; have e : hp_n (hp_new h2 121 0 3) = hp_n h2 + 1 := rfl; omega) Fr_two (fun w => by have : R = hp_n h2 := w; omega)
      | false =>
        refine rw_aload f_X10_both_5 rfl ?_
        refine rw_glob f_X10_both_6 ?_
        refine rw_callV f_X10_both_8 rfl (by assumption) (by first | assumption | omega) rfl rfl rfl rfl (rn_ki (C_hasW (i := wAND) f1.1.1 t1 (by decide) (fun h2 s2 t2 => ?_)))
        rw [hV]
        rw [if_neg (by rw [hV]; decide)] at t2
        refine rw_ifT f_X10_both_11 (by decide) ?_
        refine rw_aload f_X10_both_32 rfl ?_
        refine rx_aret f_X10_both_33 ?_
        exact hok (c, p1, u1) a h2 (hr _ (by unfold fLoop; rw [opA_none hV])) (f1.st s2) t2 (FF_tr (k2 := 0) (k := p1 - p) fr1 s2.ff (by omega)) (tr1.fr f1.al (s2.ff (k := 0)) (fun q _ w z => by have := f1.kk q w; omega) (fun q _ w => absurd w id)) az
  refine rw_aload f_X10_both_0 rfl ?_
  refine rw_callV f_X10_both_1 rfl (by assumption) (by first | assumption | omega) rfl rfl rfl rfl (rn_kx rfl rn_hr (U d h p u _ _ hF hT hu (fun v a h1 e1 f1 t1 fr1 tr1 az => ?_) (fun e h1 e1 fr1 fl1 => herr e h1 (by unfold fBin; rw [e1]; rfl) fr1 fl1)))
  refine rw_astore f_X10_both_4 rfl rfl ?_
  exact loop 31 h1 a v.1 v.2.1 v.2.2 f1 t1 (hA p u v hT.1 hu e1).2.1.2 (by omega) (by have := (hA p u v hT.1 hu e1).1; omega) fr1 tr1 az (fun r er => by unfold fBin; rw [e1]; exact er)
theorem opO_none {p : Nat} (c : isV T N p wOR = false) : opO T N p = none := if_neg (by rw [c]; decide)
theorem opO_some {p : Nat} (c : isV T N p wOR = true) : opO T N p = some 124 := if_pos c
theorem C_either {D dp w : Nat} {A : fF} (U : FC D 13 n_X10_both [am_u] R F tp N T g dp A) (hA : fok T N w A) : FC D 14 n_X10_either [am_u] R F tp N T g dp (fBin T N (opO T N) A) := by
  intro d h p u k xk hF hT hu hok herr
  have rK := hF.1.1.1.1
  have rz := hF.1.1.1.2.1
  have loop : ∀ n h1 a c p1 u1, FS h1 R F tp N T g u1 dp → RT h1 R N T p1 → u1 ≤ 30 → 31 ≤ n + u1 → p ≤ p1 → FF R F (p1 - p) h h1 → TreeL h1 (hp_n h) c.length a c → ¬ a = 0 → (∀ r, fLoop T N (opO T N) A n c p1 u1 = r → fBin T N (opO T N) A p u = r) → Rn (d + D + 14) n_X10_either 5 [am_r R, am_r a] [] h1 (kX (kR k) xk) := by
    intro n
    induction n with
    | zero => intro h1 a c p1 u1 f1 t1 l1 l2; omega
    | succ n ih =>
      intro h1 a c p1 u1 f1 t1 l1 l2 lp fr1 tr1 az hr
      have rK1 := f1.1.1.1.1
      have hp1 := t1.1
      cases hV : isV T N p1 wOR with
      | true =>
        have lt := isV_lt hV
        have ho := opO_some hV
        have lx := tkX_bd (T := T) lt
        unfold fLoop at hr
        rw [ho] at hr
        refine rw_aload f_X10_either_5 rfl ?_
        refine rw_glob f_X10_either_6 ?_
        refine rw_callV f_X10_either_8 rfl (by assumption) (by first | assumption | omega) rfl rfl rfl rfl (rn_ki (C_hasW (i := wOR) f1.1.1 t1 (by decide) (fun h2 s2 t2 => ?_)))
        rw [hV]
        rw [if_pos hV] at t2
        refine rw_ifF f_X10_either_11 (by decide) ?_
        have f2 := f1.st s2
        have fn : FS (hp_new h2 121 0 3) R F tp N T g u1 dp := f2.new (by omega)
        have lR2 : R + 1 < hp_n h2 := Al_lt f2.al f2.1.2.1.1.1 (by decide)
        have tn : RT (hp_new h2 121 0 3) R N T (tkX T N p1) := RT.new t2 (by omega)
        have rKn := fn.1.1.1.1
        have fr2 : FF R F (p1 - p) h h2 := FF_tr (k2 := 0) fr1 s2.ff (by omega)
        have tr2 : TreeL h2 (hp_n h) c.length a c := tr1.fr f1.al (s2.ff (k := 0)) (fun q _ w z => by have := f1.kk q w; omega) (fun q _ w => absurd w id)
        refine rw_new f_X10_either_14 ?_
        first | refine rw_dupr f_X10_either_17 ?_ | refine rw_dupi f_X10_either_17 ?_
        refine rw_const f_X10_either_18 ?_
        refine rw_aload f_X10_either_20 rfl ?_
        refine rw_aload f_X10_either_21 rfl ?_
        refine rw_callV f_X10_either_22 rfl (by assumption) (by first | assumption | omega) rfl rfl rfl rfl (rn_kx rfl rn_hr (U d _ (tkX T N p1) u1 _ _ fn tn l1 (fun v b h3 e3 f3 t3 fr3 tr3 bz => ?_) (fun e h3 e3 fr3 fl3 => herr e h3 (hr _ (by rw [e3]; rfl)) (FF_tr (FF_tr (k := p1 - p + 1) fr2 (FF_new (by omega)) (by omega)) fr3 (by omega)) fl3)))
        have o3 := hA _ _ _ lx.2 l1 e3
        have bK3 : hp_K h3 (hp_n h2) = (121, 0) := by rw [fr3.K (by show hp_n h2 < hp_n h2 + 1; omega)]; exact new_K
        have nz : ¬ hp_n h2 = 0 := by omega
        have al3 := f3.al
        refine rw_callI f_X10_either_25 rfl (by first | assumption | omega) rfl rfl rfl (rn_kv (C_twoInit bK3 nz ?_))
        refine rw_astore f_X10_either_28 rfl rfl ?_
        refine rw_goto f_X10_either_29 ?_
        obtain ⟨z1, z2, z3⟩ := two_ok (c := v.2.1 - p) (v := 124) f2 f3 fr2 rfl fr3 tr2 tr3 (by omega)
        refine ih _ _ (c ++ v.1 ++ [(3, 124)]) v.2.1 v.2.2 z1 ?_ o3.2.1.2 (by omega) (by omega) z2 z3 nz (fun r er => hr r (by rw [e3]; exact er))
        exact RT.fr t3 (by have := fr3.n; have e : hp_n (hp_new h2 121 0 3) = hp_n h2 + 1 := rfl; omega) Fr_two (fun w => by have : R = hp_n h2 := w; omega)
      | false =>
        refine rw_aload f_X10_either_5 rfl ?_
        refine rw_glob f_X10_either_6 ?_
        refine rw_callV f_X10_either_8 rfl (by assumption) (by first | assumption | omega) rfl rfl rfl rfl (rn_ki (C_hasW (i := wOR) f1.1.1 t1 (by decide) (fun h2 s2 t2 => ?_)))
        rw [hV]
        rw [if_neg (by rw [hV]; decide)] at t2
        refine rw_ifT f_X10_either_11 (by decide) ?_
        refine rw_aload f_X10_either_32 rfl ?_
        refine rx_aret f_X10_either_33 ?_
        exact hok (c, p1, u1) a h2 (hr _ (by unfold fLoop; rw [opO_none hV])) (f1.st s2) t2 (FF_tr (k2 := 0) (k := p1 - p) fr1 s2.ff (by omega)) (tr1.fr f1.al (s2.ff (k := 0)) (fun q _ w z => by have := f1.kk q w; omega) (fun q _ w => absurd w id)) az
  refine rw_aload f_X10_either_0 rfl ?_
  refine rw_callV f_X10_either_1 rfl (by assumption) (by first | assumption | omega) rfl rfl rfl rfl (rn_kx rfl rn_hr (U d h p u _ _ hF hT hu (fun v a h1 e1 f1 t1 fr1 tr1 az => ?_) (fun e h1 e1 fr1 fl1 => herr e h1 (by unfold fBin; rw [e1]; rfl) fr1 fl1)))
  refine rw_astore f_X10_either_4 rfl rfl ?_
  exact loop 31 h1 a v.1 v.2.1 v.2.2 f1 t1 (hA p u v hT.1 hu e1).2.1.2 (by omega) (by have := (hA p u v hT.1 hu e1).1; omega) fr1 tr1 az (fun r er => by unfold fBin; rw [e1]; exact er)
end CForm3
