/-! THE CLASS: formulas, trees that are new -/
section CForm2
variable {WI WR : Nat → Prop} {c s : Nat} {h h' : am_H} {R F tp N : Nat} {T : tx} {g : rgT}
/-- a tree whose cells lie from lo on -/
def TreeL (h : am_H) (lo : Nat) : Nat → Nat → am_S → Prop
  | 0, _, _ => False
  | n + 1, a, c => lo ≤ a ∧ ((hp_K h a = (119, 0) ∧ c = [(0, hp_I h a 0)]) ∨ (hp_K h a = (120, 0) ∧ (∃ w, w < 4 ∧ hp_I h a 0 = nI w) ∧ c = [(1, hp_I h a 0)]) ∨ (hp_K h a = (118, 0) ∧ ∃ c1, TreeL h lo n (hp_R h a 0) c1 ∧ c = c1 ++ [(2, 0)]) ∨ (hp_K h a = (121, 0) ∧ ∃ c1 c2, TreeL h lo n (hp_R h a 1) c1 ∧ TreeL h lo n (hp_R h a 2) c2 ∧ c = c1 ++ c2 ++ [(3, hp_I h a 0)]))
theorem TreeL.tree {lo : Nat} : ∀ {n a : Nat} {cd : am_S}, TreeL h lo n a cd → Tree h n a cd := by
  intro n
  induction n with
  | zero => intro a cd t; exact t
  | succ n ih =>
    intro a cd t
    rcases t.2 with q | q | ⟨e, c1, q1, q2⟩ | ⟨e, c1, c2, q1, q2, q3⟩
    · exact Or.inl q
    · exact Or.inr (Or.inl q)
    · exact Or.inr (Or.inr (Or.inl ⟨e, c1, ih q1, q2⟩))
    · exact Or.inr (Or.inr (Or.inr ⟨e, c1, c2, ih q1, ih q2, q3⟩))
theorem TreeL.le {lo lo2 : Nat} (hl : lo2 ≤ lo) : ∀ {n m a : Nat} {cd : am_S}, TreeL h lo n a cd → n ≤ m → TreeL h lo2 m a cd := by
  intro n
  induction n with
  | zero => intro m a cd t; exact absurd t id
  | succ n ih =>
    intro m a cd t hm
    cases m with
    | zero => omega
    | succ m =>
      refine ⟨Nat.le_trans hl t.1, ?_⟩
      rcases t.2 with q | q | ⟨e, c1, q1, q2⟩ | ⟨e, c1, c2, q1, q2, q3⟩
      · exact Or.inl q
      · exact Or.inr (Or.inl q)
      · exact Or.inr (Or.inr (Or.inl ⟨e, c1, ih q1 (by omega), q2⟩))
      · exact Or.inr (Or.inr (Or.inr ⟨e, c1, c2, ih q1 (by omega), ih q2 (by omega), q3⟩))
theorem TreeL.fr {lo : Nat} (al : Al h) (fr : Fr WI WR c s h h') (hi : ∀ b, lo ≤ b → WI b → ¬ ((hp_K h b).1 = 119 ∨ (hp_K h b).1 = 120 ∨ (hp_K h b).1 = 121)) (hr : ∀ b, lo ≤ b → WR b → ¬ ((hp_K h b).1 = 118 ∨ (hp_K h b).1 = 121)) : ∀ {n a : Nat} {cd : am_S}, TreeL h lo n a cd → TreeL h' lo n a cd := by
  intro n
  induction n with
  | zero => intro a cd q; exact absurd q id
  | succ n ih =>
    intro a cd q
    refine ⟨q.1, ?_⟩
    have la0 := q.1
    rcases q.2 with ⟨e, q⟩ | ⟨e, q, q2⟩ | ⟨e, c1, q1, q2⟩ | ⟨e, c1, c2, q1, q2, q3⟩
    · have la := Al_lt al e (by decide)
      have eI := fr.I la (fun w => hi a la0 w (by rw [e]; simp))
      exact Or.inl ⟨by rw [fr.K la]; exact e, by rw [eI]; exact q⟩
    · have la := Al_lt al e (by decide)
      have eI := fr.I la (fun w => hi a la0 w (by rw [e]; simp))
      exact Or.inr (Or.inl ⟨by rw [fr.K la]; exact e, by rw [eI]; exact q, by rw [eI]; exact q2⟩)
    · have la := Al_lt al e (by decide)
      have eR := fr.R la (fun w => hr a la0 w (by rw [e]; simp))
      exact Or.inr (Or.inr (Or.inl ⟨by rw [fr.K la]; exact e, c1, by rw [eR]; exact ih q1, q2⟩))
    · have la := Al_lt al e (by decide)
      have eI := fr.I la (fun w => hi a la0 w (by rw [e]; simp))
      have eR := fr.R la (fun w => hr a la0 w (by rw [e]; simp))
      exact Or.inr (Or.inr (Or.inr ⟨by rw [fr.K la]; exact e, c1, c2, by rw [eR]; exact ih q1, by rw [eR]; exact ih q2, by rw [eI]; exact q3⟩))
/-- a method that reads a formula of one rank -/
def FC (D K n : Nat) (L : List am_V) (R F tp N : Nat) (T : tx) (g : rgT) (dp : Nat) (A : fF) : Prop :=
  ∀ (d : Nat) (h : am_H) (p u : Nat) (k : Nat → am_H → Prop) (xk : Nat → am_H → Prop), FS h R F tp N T g u dp → RT h R N T p → u ≤ 30 →
    (∀ v a h', A p u = .inl v → FS h' R F tp N T g v.2.2 dp → RT h' R N T v.2.1 → FF R F (v.2.1 - p) h h' → TreeL h' (hp_n h) v.1.length a v.1 → ¬ a = 0 → k a h') →
    (∀ e h', A p u = .inr e → FF R F (N + 1 - p) h h' → Flt h' F e → xk F h') → Rn (d + D + K) n 0 (am_r R :: L) [] h (kX (kR k) xk)
/-- a new cell of two -/
abbrev hTwo (h : am_H) (b x y : Nat) (v : Int32) : am_H := hp_sR (hp_sR (hp_sI h b 0 v) b 1 x) b 2 y
theorem Fr_two {b x y : Nat} {v : Int32} : Fr (at_ b) (at_ b) 0 0 h (hTwo h b x y v) := Fr_tr (Fr_tr (WI := at_ b) (WR := at_ b) (c := 0) (s := 0) Fr_sI Fr_sR (fun _ _ w => w) (fun _ _ w => absurd w id) (fun _ _ w => absurd w id) (fun _ _ w => w) (by omega) (by omega)) Fr_sR (fun _ _ w => w) (fun _ _ w => w) (fun _ _ w => absurd w id) (fun _ _ w => w) (by omega) (by omega)
/-- two parts are joined: h0 at the beginning, h1 with the first part, h2 with the second, b new between them -/
theorem two_ok {h0 h1 h2 : am_H} {u1 u2 dp b x y k1 k2 : Nat} {v : Int32} {c1 c2 : am_S} (f1 : FS h1 R F tp N T g u1 dp) (f2 : FS h2 R F tp N T g u2 dp) (fr1 : FF R F k1 h0 h1) (eb : b = hp_n h1) (fr2 : FF R F k2 (hp_new h1 121 0 3) h2) (t1 : TreeL h1 (hp_n h0) c1.length x c1) (t2 : TreeL h2 (hp_n (hp_new h1 121 0 3)) c2.length y c2) (hk : k1 + k2 + 1 ≤ c) : FS (hTwo h2 b x y v) R F tp N T g u2 dp ∧ FF R F c h0 (hTwo h2 b x y v) ∧ TreeL (hTwo h2 b x y v) (hp_n h0) (c1 ++ c2 ++ [(3, v)]).length b (c1 ++ c2 ++ [(3, v)]) := by
  have al1 := f1.al
  have al2 := f2.al
  have ln1 := fr1.n
  have en : hp_n (hp_new h1 121 0 3) = hp_n h1 + 1 := rfl
  have ln2 := fr2.n
  have lR : R + 1 < hp_n h1 := Al_lt al1 f1.1.2.1.1.1 (by decide)
  have bK : hp_K h2 b = (121, 0) := by rw [fr2.K (by omega), eb]; exact new_K
  have fr12 : Fr (fS R F) no (3 * k2 + 1) (60 * k2 + 3) h1 h2 := Fr_tr (Fr_new (t := 121) (n := 0) (m := 3)) fr2 (fun _ _ w => absurd w id) (fun _ _ w => absurd w id) (fun _ _ w => w) (fun _ _ w => w) (by omega) (by omega)
  have fr13 : Fr (fS R F) no (3 * k2 + 1) (60 * k2 + 3) h1 (hTwo h2 b x y v) := Fr_tr fr12 (Fr_two (b := b)) (fun _ _ w => w) (fun _ _ w => w) (fun q hq w => by have : q = b := w; omega) (fun q hq w => by have : q = b := w; omega) (by omega) (by omega)
  have sb : ∀ a j, a < hp_n h1 → hp_I (hTwo h2 b x y v) a j = hp_I h2 a j := fun a j ha => by
    show hp_I (hp_sI h2 b 0 v) a j = _
    rw [sI_ne (by omega)]
  refine ⟨?_, Fr_tr fr1 fr13 (fun _ _ w => w) (fun _ _ w => w) (fun _ _ w => w) (fun _ _ w => w) (by omega) (by omega), ?_⟩
  · refine f1.fr fr13 ?_ ?_ ?_ ?_ ?_
    · rw [sb _ _ (by omega)]
      have a1 := f1.1.1.1.2.2.2.2.1
      have a2 := f2.1.1.1.2.2.2.2.1
      rw [a1, a2]
    · rw [sb _ _ (by omega)]; exact f2.2.2
    · rw [sb _ _ (by omega)]; exact f2.2.1
    · rw [sb _ _ (by omega)]; exact f2.1.2.1.2.2.2.2.1.2.1
    · intro j hj
      rw [sb _ _ (by omega)]
      obtain ⟨a5, _, a7, a8, a9, a10, a11, a12⟩ := f1.1.2.1.2.2.2.2.1
      obtain ⟨b5, _, b7, b8, b9, b10, b11, b12⟩ := f2.1.2.1.2.2.2.2.1
      rcases (by omega : j = 5 ∨ j = 7 ∨ j = 8 ∨ j = 9 ∨ j = 10 ∨ j = 11 ∨ j = 12) with e | e | e | e | e | e | e <;> rw [e]
      · rw [a5, b5]; rfl
      · rw [a7, b7]; rfl
      · rw [a8, b8]; rfl
      · rw [a9, b9]; rfl
      · rw [a10, b10]; rfl
      · rw [a11, b11]; rfl
      · rw [a12, b12]; rfl
  · have el : (c1 ++ c2 ++ [(3, v)]).length = c1.length + c2.length + 1 := by simp [List.length_append]; omega
    rw [el]
    refine ⟨by omega, Or.inr (Or.inr (Or.inr ⟨bK, c1, c2, ?_, ?_, ?_⟩))⟩
    · have e1 : hp_R (hTwo h2 b x y v) b 1 = x := by
        show hp_R (hp_sR (hp_sR (hp_sI h2 b 0 v) b 1 x) b 2 y) b 1 = x
        rw [sR_ne (by simp), sR_same]
      rw [e1]
      exact (t1.fr al1 fr13 (fun q _ w z => by have := f1.kk q w; omega) (fun q _ w => absurd w id)).le (Nat.le_refl _) (by omega)
    · have e2 : hp_R (hTwo h2 b x y v) b 2 = y := sR_same
      rw [e2]
      exact (t2.fr al2 Fr_two (fun q hq w => by have : q = b := w; omega) (fun q hq w => by have : q = b := w; omega)).le (by omega) (by omega)
    · have e0 : hp_I (hTwo h2 b x y v) b 0 = v := sI_same
      rw [e0]
theorem FF_new {t m : Nat} (hm : m ≤ 60) : FF R F 1 h (hp_new h t 0 m) := Fr_w Fr_new (fun _ _ w => absurd w id) (fun _ _ w => absurd w id) (by omega) (by omega)
theorem FS.new {u dp t m : Nat} (q : FS h R F tp N T g u dp) (hm : m ≤ 60) : FS (hp_new h t 0 m) R F tp N T g u dp := by
  have lR : R + 1 < hp_n h := Al_lt q.al q.1.2.1.1.1 (by decide)
  refine q.fr (FF_new (R := R) (F := F) hm) ?_ ?_ ?_ ?_ (fun j _ => ?_)
  · rw [new_Ine (by omega)]
  · rw [new_Ine (by omega)]; exact q.2.2
  · rw [new_Ine (by omega)]; exact q.2.1
  · rw [new_Ine (by omega)]; exact q.1.2.1.2.2.2.2.1.2.1
  · rw [new_Ine (by omega)]
theorem opT_none {p : Nat} (c1 : isSH T N p 42 = false) (c2 : isSH T N p 47 = false) (c3 : isSH T N p 37 = false) : opT T N p = none := by
  unfold opT
  rw [c1, c2, c3]
  simp
theorem opT_some {p : Nat} (c1 : isSH T N p 42 = true ∨ isSH T N p 47 = true ∨ isSH T N p 37 = true) : opT T N p = some (T p) := if_pos c1
theorem C_term {D dp w : Nat} {A : fF} (U : FC D 9 n_X10_unit [am_u, am_u, am_u] R F tp N T g dp A) (hA : fok T N w A) : FC D 10 n_X10_term [am_u, am_u] R F tp N T g dp (fBin T N (opT T N) A) := by
  intro d h p u k xk hF hT hu hok herr
  have rK := hF.1.1.1.1
  have rz := hF.1.1.1.2.1
  have hN := hF.1.1.1.2.2.2.2.2.1
  have loop : ∀ n h1 a c p1 u1 x, FS h1 R F tp N T g u1 dp → RT h1 R N T p1 → u1 ≤ 30 → 31 ≤ n + u1 → p ≤ p1 → FF R F (p1 - p) h h1 → TreeL h1 (hp_n h) c.length a c → ¬ a = 0 → (∀ r, fLoop T N (opT T N) A n c p1 u1 = r → fBin T N (opT T N) A p u = r) → Rn (d + D + 10) n_X10_term 5 [am_r R, am_r a, x] [] h1 (kX (kR k) xk) := by
    intro n
    induction n with
    | zero => intro h1 a c p1 u1 x f1 t1 l1 l2; omega
    | succ n ih =>
      intro h1 a c p1 u1 x f1 t1 l1 l2 lp fr1 tr1 az hr
      have rK1 := f1.1.1.1.1
      have hp1 := t1.1
      -- a sign
      have more : (isSH T N p1 42 = true ∨ isSH T N p1 47 = true ∨ isSH T N p1 37 = true) → Rn (d + D + 10) n_X10_term 32 [am_r R, am_r a, x] [] h1 (kX (kR k) xk) := by
        intro co
        have lt : p1 < N := by rcases co with z | z | z <;> exact isSH_lt z
        have ho := opT_some co
        have lx := tkX_bd (T := T) lt
        unfold fLoop at hr
        rw [ho] at hr
        refine rw_aload f_X10_term_32 rfl ?_
        refine rw_aload f_X10_term_33 rfl ?_
        refine rw_getI f_X10_term_34 (by assumption) ?_
        rw [t1.2.1]
        refine rw_callV f_X10_term_37 rfl (by assumption) (by first | assumption | omega) rfl rfl rfl rfl (rn_ki (C_sign f1.1.1.1 (by omega) ?_))
        rw [show sg0 T N p1 = T p1 from if_pos lt]
        refine rw_istore f_X10_term_40 rfl rfl ?_
        refine rw_aload f_X10_term_41 rfl ?_
        refine rw_callV f_X10_term_42 rfl (by assumption) (by first | assumption | omega) rfl rfl rfl rfl (rn_kv (C_next f1.1.1.1 (tkE_ge t1.1).2 t1.2.2.1 (fun h2 on2 rf2 t2 => ?_)))
        have s2 : RSt R F h1 h2 := .R1 on2 rf2
        have f2 := f1.st s2
        have fn : FS (hp_new h2 121 0 3) R F tp N T g u1 dp := f2.new (by omega)
        have lR2 : R + 1 < hp_n h2 := Al_lt f2.al f2.1.2.1.1.1 (by decide)
        have tn : RT (hp_new h2 121 0 3) R N T (tkX T N p1) := RT.new t2 (by omega)
        have rKn := fn.1.1.1.1
        have fr2 : FF R F (p1 - p) h h2 := FF_tr (k2 := 0) fr1 s2.ff (by omega)
        have tr2 : TreeL h2 (hp_n h) c.length a c := tr1.fr f1.al (s2.ff (k := 0)) (fun q _ w z => by have := f1.kk q w; omega) (fun q _ w => absurd w id)
        refine rw_new f_X10_term_45 ?_
        first | refine rw_dupr f_X10_term_48 ?_ | refine rw_dupi f_X10_term_48 ?_
        refine rw_iload f_X10_term_49 rfl ?_
        refine rw_aload f_X10_term_50 rfl ?_
        refine rw_aload f_X10_term_51 rfl ?_
        refine rw_callV f_X10_term_52 rfl (by assumption) (by first | assumption | omega) rfl rfl rfl rfl (rn_kx rfl rn_hr (U d _ (tkX T N p1) u1 _ _ fn tn l1 (fun v b h3 e3 f3 t3 fr3 tr3 bz => ?_) (fun e h3 e3 fr3 fl3 => herr e h3 (hr _ (by rw [e3]; rfl)) (FF_tr (FF_tr (k := p1 - p + 1) fr2 (FF_new (by omega)) (by omega)) fr3 (by omega)) fl3)))
        have o3 := hA _ _ _ lx.2 l1 e3
        have bK3 : hp_K h3 (hp_n h2) = (121, 0) := by rw [fr3.K (by show hp_n h2 < hp_n h2 + 1; omega)]; exact new_K
        have nz : ¬ hp_n h2 = 0 := by omega
        have al3 := f3.al
        refine rw_callI f_X10_term_55 rfl (by first | assumption | omega) rfl rfl rfl (rn_kv (C_twoInit bK3 nz ?_))
        refine rw_astore f_X10_term_58 rfl rfl ?_
        refine rw_goto f_X10_term_59 ?_
        obtain ⟨z1, z2, z3⟩ := two_ok (c := v.2.1 - p) (v := T p1) f2 f3 fr2 rfl fr3 tr2 tr3 (by omega)
        refine ih _ _ (c ++ v.1 ++ [(3, T p1)]) v.2.1 v.2.2 _ z1 ?_ o3.2.1.2 (by omega) (by omega) z2 z3 nz (fun r er => hr r (by rw [e3]; exact er))
        exact RT.fr t3 (by have := fr3.n; have e : hp_n (hp_new h2 121 0 3) = hp_n h2 + 1 := rfl; omega) Fr_two (fun w => by have : R = hp_n h2 := w; omega)
      refine rw_aload f_X10_term_5 rfl ?_
      refine rw_const f_X10_term_6 ?_
      refine rw_callV f_X10_term_8 rfl (by assumption) (by first | assumption | omega) rfl rfl rfl rfl (rn_ki (C_isSH f1.1.1 t1 ?_))
      first | refine rw_ne0B f_X10_term_11 (fun c1 => ?_) (fun c1 => ?_) | refine rw_ne0 f_X10_term_11 (fun c1 => ?_) (fun c1 => ?_)
      · exact more (by simp [c1])
      · refine rw_aload f_X10_term_14 rfl ?_
        refine rw_const f_X10_term_15 ?_
        refine rw_callV f_X10_term_17 rfl (by assumption) (by first | assumption | omega) rfl rfl rfl rfl (rn_ki (C_isSH f1.1.1 t1 ?_))
        first | refine rw_ne0B f_X10_term_20 (fun c2 => ?_) (fun c2 => ?_) | refine rw_ne0 f_X10_term_20 (fun c2 => ?_) (fun c2 => ?_)
        · exact more (by simp [c1, c2])
        · refine rw_aload f_X10_term_23 rfl ?_
          refine rw_const f_X10_term_24 ?_
          refine rw_callV f_X10_term_26 rfl (by assumption) (by first | assumption | omega) rfl rfl rfl rfl (rn_ki (C_isSH f1.1.1 t1 ?_))
          first | refine rw_eq0B f_X10_term_29 (fun c3 => ?_) (fun c3 => ?_) | refine rw_eq0 f_X10_term_29 (fun c3 => ?_) (fun c3 => ?_)
          · refine rw_aload f_X10_term_62 rfl ?_
            refine rx_aret f_X10_term_63 ?_
            exact hok (c, p1, u1) a h1 (hr _ (by unfold fLoop; rw [opT_none c1 c2 c3])) f1 t1 fr1 tr1 az
          · exact more (by simp [c1, c2, c3])
  refine rw_aload f_X10_term_0 rfl ?_
  refine rw_callV f_X10_term_1 rfl (by assumption) (by first | assumption | omega) rfl rfl rfl rfl (rn_kx rfl rn_hr (U d h p u _ _ hF hT hu (fun v a h1 e1 f1 t1 fr1 tr1 az => ?_) (fun e h1 e1 fr1 fl1 => herr e h1 (by unfold fBin; rw [e1]; rfl) fr1 fl1)))
  refine rw_astore f_X10_term_4 rfl rfl ?_
  exact loop 31 h1 a v.1 v.2.1 v.2.2 _ f1 t1 (hA p u v hT.1 hu e1).2.1.2 (by omega) (by have := (hA p u v hT.1 hu e1).1; omega) fr1 tr1 az (fun r er => by unfold fBin; rw [e1]; exact er)
end CForm2
