/-! THE CLASS: lines of a man, of a deed -/
theorem bnd_l {α β : Type} {a : α} {f : α → res β} : bnd (.inl a) f = f a := rfl
theorem bnd_r {α β : Type} {e : er} {f : α → res β} : bnd (.inr e) f = .inr e := rfl
section CMan_
variable {d : Nat} {h : am_H} {R F tp N : Nat} {T : tx} {g : rgT}
theorem RT.sL {a j p : Nat} {v : Int64} (q : RT h R N T p) (ne : ¬ R = a) : RT (hp_sL h a j v) R N T p := by
  unfold RT
  rw [sL_ne ne]
  exact q
theorem C_called {a t : Nat} (ha : hp_K h a = (t, 0)) (ht : ([112, 113, 115, 116] : List Nat).contains t = true) (z : ¬ a = 0) {v : Int64} {k : am_H → Prop} (hk : k (hp_sL h a 0 v)) : Rn d n_X11_init 0 [am_r a, am_l v, am_u] [] h (kV k) := by
  refine rw_aload f_X11_init_0 rfl ?_
  refine rw_obj f_X11_init_1 (by first | assumption | omega) rfl ?_
  refine rw_aload f_X11_init_4 rfl ?_
  refine rw_lload f_X11_init_5 rfl ?_
  refine rw_putL f_X11_init_6 (ht := ht) ha ?_
  refine rw_vret f_X11_init_9 ?_
  exact hk
theorem C_manInit {a : Nat} (ha : hp_K h a = (112, 0)) (z : ¬ a = 0) {v : Int64} {k : am_H → Prop} (hk : k (hp_sI (hp_sL h a 0 v) a 2 2)) : Rn (d + 1) n_X12_init 0 [am_r a, am_l v, am_u] [] h (kV k) := by
  refine rw_aload f_X12_init_0 rfl ?_
  refine rw_lload f_X12_init_1 rfl ?_
  refine rw_callI f_X12_init_2 rfl (by first | assumption | omega) rfl rfl rfl (rn_kv (C_called ha rfl z ?_))
  refine rw_aload f_X12_init_5 rfl ?_
  refine rw_const f_X12_init_6 ?_
  refine rw_putI f_X12_init_7 (show hp_K (hp_sL h a 0 v) a = (112, 0) from ha) ?_
  refine rw_vret f_X12_init_10 ?_
  exact hk
theorem C_deedInit {a : Nat} (ha : hp_K h a = (113, 0)) (z : ¬ a = 0) {v : Int64} {k : am_H → Prop} (hk : k (hp_sL h a 0 v)) : Rn (d + 1) n_X13_init 0 [am_r a, am_l v, am_u] [] h (kV k) := by
  refine rw_aload f_X13_init_0 rfl ?_
  refine rw_lload f_X13_init_1 rfl ?_
  refine rw_callI f_X13_init_2 rfl (by first | assumption | omega) rfl rfl rfl (rn_kv (C_called ha rfl z ?_))
  refine rw_vret f_X13_init_5 ?_
  exact hk
/-- the world after a cell has joined its list -/
theorem RS_add {h1 h2 : am_H} {l A cap a : Nat} {g' : rgT} (hS : RS h R F tp N T g) (nc : NC R F h h1 a) (fr : Fr (at_ l) (fun b => b = l ∨ (b = A ∧ 0 < cap)) 1 100 h1 h2) (hl : hp_K h1 l = (130, 0)) (lR : R < l) (hA : 0 < cap → (hp_K h1 A).1 = 5 ∧ R < A) (q : Rg h2 R g') : RS h2 R F tp N T g' ∧ GF R F 2 110 h h2 := by
  have hS1 := nc.rs hS
  have al1 := hS1.1.2.2.2.2.2.2
  have kF := hS.1.2.2.1
  refine ⟨⟨hS1.1.fr fr (fun b w => by rw [show b = l from w, hl]; decide) (fun b w => ?_) ?_, q, hS.2.2⟩, Fr_tr nc.1 fr (fun b _ w => ?_) (fun b _ w => absurd w id) (fun b _ w => Or.inr (by have : b = l := w; omega)) (fun b _ w => ?_) (by omega) (by omega)⟩
  · rcases w with e | e
    · rw [e, hl]; exact ⟨by omega, by decide⟩
    · have := hA e.2
      rw [e.1]
      exact ⟨by omega, by omega, by omega⟩
  · rw [fr.I (Al_lt al1 hS1.1.1.1 (by decide)) (fun w => by have : R = l := w; omega)]
  · rcases w with e | e
    · exact Or.inr (by omega)
    · exact Or.inl e
  · rcases w with e | e
    · omega
    · have := hA e.2; omega
theorem NC.gf {h1 : am_H} {a : Nat} (nc : NC R F h h1 a) : GF R F 1 10 h h1 := Fr_w nc.1 (fun b _ w => by
    rcases w with e | e
    · exact Or.inr (by omega)
    · exact Or.inl e) (fun b _ w => absurd w id) (by omega) (by omega)
theorem RSt.gf {h1 : am_H} (st : RSt R F h h1) : GF R F 1 10 h h1 := Fr_w st.1.fr (fun b _ w => by
    rcases w with e | e
    · exact Or.inr (by omega)
    · exact Or.inl e) (fun b _ w => absurd w id) (by omega) (by omega)
theorem PMan_nl {xs : List mnT} {l : Nat} (q : LI PMan h l xs) : NL h l (xs.map (·.1)) := q.nl gMan (·.1) (fun a v z => ⟨z.2.1, by rw [z.1]; rfl⟩)
theorem PDeed_nl {xs : List ddT} {l : Nat} (q : LI PDeed h l xs) : NL h l (xs.map (·.1)) := q.nl gDeed (·.1) (fun a v z => ⟨z.2.1, by rw [z.1]; rfl⟩)
theorem POath_nl {xs : List oaT} {l : Nat} (q : LI POath h l xs) : NL h l (xs.map (·.1)) := q.nl gOath (·.1) (fun a v z => ⟨z.2.1, by rw [z.1]; cases v.2.2.2.2.1 <;> rfl⟩)
theorem C_man (hS : RS h R F tp N T g) {p : Nat} (hT : RT h R N T p) (hn : g.1.1.length < 61) {k : am_H → Prop} {xk : Nat → am_H → Prop} (hok : ∀ v h', pMan T N g p = .inl v → RS h' R F tp N T v.1 → GF R F 2 110 h h' → RT h' R N T v.2 → k h') (herr : ∀ e h', pMan T N g p = .inr e → GF R F 1 10 h h' → Flt h' F e → xk F h') : Rn (d + 8) n_X10_man 0 [am_r R, am_u] [] h (kX (kV k) xk) := by
  have al := hS.1.2.2.2.2.2.2
  have rK := hS.1.1.1
  have rz := hS.1.1.2.1
  have lR := Al_lt al rK (by decide)
  have lF := Al_lt al hS.1.2.2.1 (by decide)
  have az : ¬ hp_n h = 0 := by have := al.1; omega
  -- it joins
  have t76 : ∀ (h1 : am_H) (v : mnT) (q : Nat), NC R F h h1 (hp_n h) → PMan h1 (hp_n h) v → RT h1 R N T q → pMan T N g p = .inl (((g.1.1 ++ [v], g.1.2), g.2), q) → Rn (d + 8) n_X10_man 76 [am_r R, am_r (hp_n h)] [] h1 (kX (kV k) xk) := by
    intro h1 v q nc pm ht e
    have hS1 := nc.rs hS
    have rK1 := hS1.1.1.1
    have r3 := hS1.1.2.2.2.2.1
    have gK := hS1.2.1.1.1
    have g0 := hS1.2.1.1.2.1
    have lM := hS1.2.1.2.1.1
    have lK := lM.1.1.1
    have lz : ¬ R + 2 = 0 := by omega
    have al1 := hS1.1.2.2.2.2.2.2
    have sp : 0 < lcap h1 (R + 2) → R + 6 < arr h1 (R + 2) := fun hc => (hS1.2.1.2.2.1 0 (by omega) hc).1
    refine rw_aload f_X10_man_76 rfl ?_
    refine rw_getR f_X10_man_77 (by assumption) (by first | assumption | rfl) ?_
    refine rw_getR f_X10_man_80 (by assumption) (by first | assumption | rfl) ?_
    refine rw_aload f_X10_man_83 rfl ?_
    refine rw_callV f_X10_man_84 rfl (by assumption) (by first | assumption | omega) rfl rfl rfl rfl (rn_ki (J_add al1 lM.1.1 lM.1.2 hn (by rw [pm.1]; decide) (fun h2 A' cap' q1 qA q3 q4 fr => ?_)))
    first | refine rw_popi f_X10_man_87 ?_ | refine rw_popr f_X10_man_87 ?_
    refine rx_vret f_X10_man_88 ?_
    obtain ⟨z1, z2⟩ := RS_add hS nc fr lK (by omega) (fun hc => ⟨LST_k5 lM.1 hc, by have := sp hc; omega⟩) (Rg_addM al1 hS1.2.1 hn pm q1 qA q3 q4 fr)
    exact hok _ h2 e z1 z2 ⟨ht.1, by rw [fr.I (Al_lt al1 rK1 (by decide)) (fun w => by have : R = R + 2 := w; omega), fr.L (Al_lt al1 rK1 (by decide)) (fun w => by have : R = R + 2 := w; omega)]; exact ht.2⟩
  have t62 : ∀ (h1 : am_H) (nm : Int64) (c ho : Int32) (q : Nat), NC R F h h1 (hp_n h) → PMan h1 (hp_n h) (nm, c, ho, 0) → RT h1 R N T q → pMan T N g p = (if isV T N q wLEFT = true then .inl (((g.1.1 ++ [(nm, c, ho, 1)], g.1.2), g.2), tkX T N q) else .inl (((g.1.1 ++ [(nm, c, ho, 0)], g.1.2), g.2), q)) → Rn (d + 8) n_X10_man 62 [am_r R, am_r (hp_n h)] [] h1 (kX (kV k) xk) := by
    intro h1 nm c ho q nc pm ht e
    have hS1 := nc.rs hS
    have rK1 := hS1.1.1.1
    cases hV : isW T N q (wc wLEFT) with
    | true =>
      rw [if_pos hV] at e
      refine rw_aload f_X10_man_62 rfl ?_
      refine rw_glob f_X10_man_63 ?_
      refine rw_callV f_X10_man_65 rfl (by assumption) (by first | assumption | omega) rfl rfl rfl rfl (rn_ki (C_hasW (i := wLEFT) hS1.1 ht (by decide) (fun h2 s2 t2 => ?_)))
      rw [show isV T N q wLEFT = true from hV]
      rw [if_pos hV] at t2
      refine rw_ifF f_X10_man_68 (by decide) ?_
      refine rw_aload f_X10_man_71 rfl ?_
      refine rw_const f_X10_man_72 ?_
      refine rw_putI f_X10_man_73 (show hp_K h2 (hp_n h) = (112, 0) by rw [s2.1.K]; exact pm.1) ?_
      refine t76 _ (nm, c, ho, 1) _ (nc.st s2).sI ?_ (t2.sI (by omega)) e
      obtain ⟨p1, p2, p3, p4, p5⟩ := s2.P gMan hS1.1 pm
      exact ⟨p1, p2, by rw [sI_ne (by simp)]; exact p3, by rw [sI_ne (by simp)]; exact p4, sI_same⟩
    | false =>
      rw [if_neg (show ¬ isW T N q (wc wLEFT) = true by rw [hV]; simp)] at e
      refine rw_aload f_X10_man_62 rfl ?_
      refine rw_glob f_X10_man_63 ?_
      refine rw_callV f_X10_man_65 rfl (by assumption) (by first | assumption | omega) rfl rfl rfl rfl (rn_ki (C_hasW (i := wLEFT) hS1.1 ht (by decide) (fun h2 s2 t2 => ?_)))
      rw [show isV T N q wLEFT = false from hV]
      rw [if_neg (show ¬ isW T N q (wc wLEFT) = true by rw [hV]; simp)] at t2
      refine rw_ifT f_X10_man_68 (by decide) ?_
      exact t76 _ (nm, c, ho, 0) _ (nc.st s2) (s2.P gMan hS1.1 pm) t2 e
  have t41 : ∀ (h1 : am_H) (nm : Int64) (c : Int32) (q : Nat), NC R F h h1 (hp_n h) → PMan h1 (hp_n h) (nm, c, 2, 0) → RT h1 R N T q → pMan T N g p = bnd (pOpt T N wHOLES 1 4 2 q) (fun ho => if isV T N ho.2 wLEFT = true then .inl (((g.1.1 ++ [(nm, c, ho.1, 1)], g.1.2), g.2), tkX T N ho.2) else .inl (((g.1.1 ++ [(nm, c, ho.1, 0)], g.1.2), g.2), ho.2)) → Rn (d + 8) n_X10_man 41 [am_r R, am_r (hp_n h)] [] h1 (kX (kV k) xk) := by
    intro h1 nm c q nc pm ht e
    have hS1 := nc.rs hS
    have rK1 := hS1.1.1.1
    unfold pOpt at e
    cases hV : isW T N q (wc wHOLES) with
    | true =>
      rw [if_pos hV] at e
      refine rw_aload f_X10_man_41 rfl ?_
      refine rw_glob f_X10_man_42 ?_
      refine rw_callV f_X10_man_44 rfl (by assumption) (by first | assumption | omega) rfl rfl rfl rfl (rn_ki (C_isWord (i := wHOLES) hS1.1.2.2.2.2.2.1 hS1.1.1 ht (by decide) ?_))
      rw [hV]
      refine rw_ifF f_X10_man_47 (by decide) ?_
      refine rw_aload f_X10_man_50 rfl ?_
      refine rw_aload f_X10_man_51 rfl ?_
      refine rw_glob f_X10_man_52 ?_
      refine rw_const f_X10_man_54 ?_
      refine rw_const f_X10_man_55 ?_
      refine rw_callV f_X10_man_56 rfl (by assumption) (by first | assumption | omega) rfl rfl rfl rfl (rn_kx rfl rn_hi (C_after (i := wHOLES) hS1.1 ht (by decide) (fun v h2 e2 s2 t2 => ?_) (fun er h2 e2 s2 f2 => herr er h2 (by rw [e, e2]; rfl) (nc.st s2).gf f2)))
      refine rw_putI f_X10_man_59 (show hp_K h2 (hp_n h) = (112, 0) by rw [s2.1.K]; exact pm.1) ?_
      refine t62 _ nm c v.1 v.2 (nc.st s2).sI ?_ (t2.sI (by omega)) (by rw [e, e2]; rfl)
      obtain ⟨p1, p2, p3, p4, p5⟩ := s2.P gMan hS1.1 pm
      exact ⟨p1, p2, by rw [sI_ne (by simp)]; exact p3, sI_same, by rw [sI_ne (by simp)]; exact p5⟩
    | false =>
      rw [if_neg (show ¬ isW T N q (wc wHOLES) = true by rw [hV]; simp)] at e
      refine rw_aload f_X10_man_41 rfl ?_
      refine rw_glob f_X10_man_42 ?_
      refine rw_callV f_X10_man_44 rfl (by assumption) (by first | assumption | omega) rfl rfl rfl rfl (rn_ki (C_isWord (i := wHOLES) hS1.1.2.2.2.2.2.1 hS1.1.1 ht (by decide) ?_))
      rw [hV]
      refine rw_ifT f_X10_man_47 (by decide) ?_
      exact t62 _ nm c 2 q nc pm ht (by rw [e]; rfl)
  have t19 : ∀ (h1 : am_H) (nm : Int64) (q : Nat), NC R F h h1 (hp_n h) → PMan h1 (hp_n h) (nm, 0, 2, 0) → RT h1 R N T q → pMan T N g p = bnd (pOpt T N wCOLOUR 0 9 0 q) (fun c => bnd (pOpt T N wHOLES 1 4 2 c.2) (fun ho => if isV T N ho.2 wLEFT = true then .inl (((g.1.1 ++ [(nm, c.1, ho.1, 1)], g.1.2), g.2), tkX T N ho.2) else .inl (((g.1.1 ++ [(nm, c.1, ho.1, 0)], g.1.2), g.2), ho.2))) → Rn (d + 8) n_X10_man 19 [am_r R, am_r (hp_n h)] [] h1 (kX (kV k) xk) := by
    intro h1 nm q nc pm ht e
    have hS1 := nc.rs hS
    have rK1 := hS1.1.1.1
    rw [show pOpt T N wCOLOUR 0 9 0 q = _ from rfl] at e
    cases hV : isW T N q (wc wCOLOUR) with
    | true =>
      have eo : pOpt T N wCOLOUR 0 9 0 q = pAfter T N wCOLOUR 0 9 q := if_pos hV
      rw [eo] at e
      refine rw_aload f_X10_man_19 rfl ?_
      refine rw_glob f_X10_man_20 ?_
      refine rw_callV f_X10_man_22 rfl (by assumption) (by first | assumption | omega) rfl rfl rfl rfl (rn_ki (C_isWord (i := wCOLOUR) hS1.1.2.2.2.2.2.1 hS1.1.1 ht (by decide) ?_))
      rw [hV]
      refine rw_ifF f_X10_man_25 (by decide) ?_
      refine rw_aload f_X10_man_28 rfl ?_
      refine rw_aload f_X10_man_29 rfl ?_
      refine rw_glob f_X10_man_30 ?_
      refine rw_const f_X10_man_32 ?_
      refine rw_const f_X10_man_33 ?_
      refine rw_callV f_X10_man_35 rfl (by assumption) (by first | assumption | omega) rfl rfl rfl rfl (rn_kx rfl rn_hi (C_after (i := wCOLOUR) hS1.1 ht (by decide) (fun v h2 e2 s2 t2 => ?_) (fun er h2 e2 s2 f2 => herr er h2 (by rw [e, e2]; rfl) (nc.st s2).gf f2)))
      refine rw_putI f_X10_man_38 (show hp_K h2 (hp_n h) = (112, 0) by rw [s2.1.K]; exact pm.1) ?_
      refine t41 _ nm v.1 v.2 (nc.st s2).sI ?_ (t2.sI (by omega)) (by rw [e, e2]; rfl)
      obtain ⟨p1, p2, p3, p4, p5⟩ := s2.P gMan hS1.1 pm
      exact ⟨p1, p2, sI_same, by rw [sI_ne (by simp)]; exact p4, by rw [sI_ne (by simp)]; exact p5⟩
    | false =>
      have eo : pOpt T N wCOLOUR 0 9 0 q = .inl (0, q) := if_neg (show ¬ isW T N q (wc wCOLOUR) = true by rw [hV]; simp)
      rw [eo] at e
      refine rw_aload f_X10_man_19 rfl ?_
      refine rw_glob f_X10_man_20 ?_
      refine rw_callV f_X10_man_22 rfl (by assumption) (by first | assumption | omega) rfl rfl rfl rfl (rn_ki (C_isWord (i := wCOLOUR) hS1.1.2.2.2.2.2.1 hS1.1.1 ht (by decide) ?_))
      rw [hV]
      refine rw_ifT f_X10_man_25 (by decide) ?_
      exact t41 _ nm 0 q nc pm ht (by rw [e]; rfl)
  have nc0 : NC R F h (hp_new h 112 0 4) (hp_n h) := NC.new (by omega) lR lF
  have hS0 := nc0.rs hS
  have hT0 : RT (hp_new h 112 0 4) R N T p := hT.new lR
  have rK0 := hS0.1.1.1
  have r30 := hS0.1.2.2.2.2.1
  have gK0 := hS0.2.1.1.1
  have g00 := hS0.2.1.1.2.1
  have fin : pMan T N g p = bnd (pFresh T N (g.1.1.map (·.1)) p) _ := rfl
  refine rw_new f_X10_man_0 ?_
  first | refine rw_dupr f_X10_man_3 ?_ | refine rw_dupi f_X10_man_3 ?_
  refine rw_aload f_X10_man_4 rfl ?_
  refine rw_aload f_X10_man_5 rfl ?_
  refine rw_getR f_X10_man_6 (by assumption) (by first | assumption | rfl) ?_
  refine rw_getR f_X10_man_9 (by assumption) (by first | assumption | rfl) ?_
  refine rw_callV f_X10_man_12 rfl (by assumption) (by first | assumption | omega) rfl rfl rfl rfl (rn_kx rfl rn_hl (C_fresh hS0.1 hT0 (PMan_nl hS0.2.1.2.1.1) (fun v h2 e2 s2 t2 => ?_) (fun er h2 e2 s2 f2 => herr er h2 (by rw [fin, e2]; rfl) (nc0.st s2).gf f2)))
  have aK2 : hp_K h2 (hp_n h) = (112, 0) := by rw [s2.1.K]; exact new_K
  have aI2 : ∀ j, hp_I h2 (hp_n h) j = 0 := fun j => by rw [(s2.1.2 (hp_n h) (fun w => by rcases w with e | e <;> omega)).1]; exact new_I
  refine rw_callI f_X10_man_15 rfl (by first | assumption | omega) rfl rfl rfl (rn_kv (C_manInit aK2 az ?_))
  refine rw_astore f_X10_man_18 rfl rfl ?_
  refine t19 _ v.1 v.2 (nc0.st s2).sL.sI ?_ ((t2.sL (by omega)).sI (by omega)) (by rw [fin, e2]; rfl)
  exact ⟨aK2, sL_same, by rw [sI_ne (by simp)]; exact aI2 1, sI_same, by rw [sI_ne (by simp)]; exact aI2 3⟩
theorem C_deed (hS : RS h R F tp N T g) {p : Nat} (hT : RT h R N T p) (hn : g.1.2.1.length < 61) {k : am_H → Prop} {xk : Nat → am_H → Prop} (hok : ∀ v h', pDeed T N g p = .inl v → RS h' R F tp N T v.1 → GF R F 2 110 h h' → RT h' R N T v.2 → k h') (herr : ∀ e h', pDeed T N g p = .inr e → GF R F 1 10 h h' → Flt h' F e → xk F h') : Rn (d + 8) n_X10_deed 0 [am_r R, am_u] [] h (kX (kV k) xk) := by
  have al := hS.1.2.2.2.2.2.2
  have rK := hS.1.1.1
  have rz := hS.1.1.2.1
  have lR := Al_lt al rK (by decide)
  have lF := Al_lt al hS.1.2.2.1 (by decide)
  have az : ¬ hp_n h = 0 := by have := al.1; omega
  have lz : ¬ R + 2 + 1 = 0 := by omega
  have t32 : ∀ (h1 : am_H) (v : ddT) (q : Nat), NC R F h h1 (hp_n h) → PDeed h1 (hp_n h) v → RT h1 R N T q → pDeed T N g p = .inl (((g.1.1, g.1.2.1 ++ [v], g.1.2.2), g.2), q) → Rn (d + 8) n_X10_deed 32 [am_r R, am_r (hp_n h)] [] h1 (kX (kV k) xk) := by
    intro h1 v q nc pm ht e
    have hS1 := nc.rs hS
    have rK1 := hS1.1.1.1
    have r3 := hS1.1.2.2.2.2.1
    have gK := hS1.2.1.1.1
    have g0 := hS1.2.1.1.2.2.1
    have lM := hS1.2.1.2.1.2.1
    have lK := lM.1.1.1
    have al1 := hS1.1.2.2.2.2.2.2
    have sp : 0 < lcap h1 (R + 2 + 1) → R + 6 < arr h1 (R + 2 + 1) := fun hc => (hS1.2.1.2.2.1 1 (by omega) hc).1
    refine rw_aload f_X10_deed_32 rfl ?_
    refine rw_getR f_X10_deed_33 (by assumption) (by first | assumption | rfl) ?_
    refine rw_getR f_X10_deed_36 (by assumption) (by first | assumption | rfl) ?_
    refine rw_aload f_X10_deed_39 rfl ?_
    refine rw_callV f_X10_deed_40 rfl (by assumption) (by first | assumption | omega) rfl rfl rfl rfl (rn_ki (J_add al1 lM.1.1 lM.1.2 hn (by rw [pm.1]; decide) (fun h2 A' cap' q1 qA q3 q4 fr => ?_)))
    first | refine rw_popi f_X10_deed_43 ?_ | refine rw_popr f_X10_deed_43 ?_
    refine rx_vret f_X10_deed_44 ?_
    obtain ⟨z1, z2⟩ := RS_add hS nc fr lK (by omega) (fun hc => ⟨LST_k5 lM.1 hc, by have := sp hc; omega⟩) (Rg_addD al1 hS1.2.1 hn pm q1 qA q3 q4 fr)
    exact hok _ h2 e z1 z2 ⟨ht.1, by rw [fr.I (Al_lt al1 rK1 (by decide)) (fun w => by have : R = R + 2 + 1 := w; omega), fr.L (Al_lt al1 rK1 (by decide)) (fun w => by have : R = R + 2 + 1 := w; omega)]; exact ht.2⟩
  have nc0 : NC R F h (hp_new h 113 0 2) (hp_n h) := NC.new (by omega) lR lF
  have hS0 := nc0.rs hS
  have hT0 : RT (hp_new h 113 0 2) R N T p := hT.new lR
  have rK0 := hS0.1.1.1
  have r30 := hS0.1.2.2.2.2.1
  have gK0 := hS0.2.1.1.1
  have g00 := hS0.2.1.1.2.2.1
  have fin : pDeed T N g p = bnd (pFresh T N (g.1.2.1.map (·.1)) p) _ := rfl
  refine rw_new f_X10_deed_0 ?_
  first | refine rw_dupr f_X10_deed_3 ?_ | refine rw_dupi f_X10_deed_3 ?_
  refine rw_aload f_X10_deed_4 rfl ?_
  refine rw_aload f_X10_deed_5 rfl ?_
  refine rw_getR f_X10_deed_6 (by assumption) (by first | assumption | rfl) ?_
  refine rw_getR f_X10_deed_9 (by assumption) (by first | assumption | rfl) ?_
  refine rw_callV f_X10_deed_12 rfl (by assumption) (by first | assumption | omega) rfl rfl rfl rfl (rn_kx rfl rn_hl (C_fresh hS0.1 hT0 (PDeed_nl hS0.2.1.2.1.2.1) (fun v h2 e2 s2 t2 => ?_) (fun er h2 e2 s2 f2 => herr er h2 (by rw [fin, e2]; rfl) (nc0.st s2).gf f2)))
  have aK2 : hp_K h2 (hp_n h) = (113, 0) := by rw [s2.1.K]; exact new_K
  refine rw_callI f_X10_deed_15 rfl (by first | assumption | omega) rfl rfl rfl (rn_kv (C_deedInit aK2 az ?_))
  have nc2 := (nc0.st s2).sL (j := 0) (v := v.1)
  have hS2 := nc2.rs hS
  have rK2 := hS2.1.1.1
  have t2' : RT (hp_sL h2 (hp_n h) 0 v.1) R N T v.2 := t2.sL (by omega)
  refine rw_astore f_X10_deed_18 rfl rfl ?_
  refine rw_aload f_X10_deed_19 rfl ?_
  refine rw_aload f_X10_deed_20 rfl ?_
  refine rw_glob f_X10_deed_21 ?_
  refine rw_const f_X10_deed_23 ?_
  refine rw_const f_X10_deed_24 ?_
  refine rw_callV f_X10_deed_26 rfl (by assumption) (by first | assumption | omega) rfl rfl rfl rfl (rn_kx rfl rn_hi (C_after (i := wHOURS) hS2.1 t2' (by decide) (fun w h3 e3 s3 t3 => ?_) (fun er h3 e3 s3 f3 => herr er h3 (by rw [fin, e2, bnd_l, e3]; rfl) (nc2.st s3).gf f3)))
  have aK3 : hp_K h3 (hp_n h) = (113, 0) := by rw [s3.1.K]; exact aK2
  have aL3 : hp_L h3 (hp_n h) 0 = v.1 := by rw [(s3.1.2 (hp_n h) (fun w => by rcases w with e | e <;> omega)).2]; exact sL_same
  refine rw_putI f_X10_deed_29 (by assumption) ?_
  refine t32 _ (v.1, w.1) w.2 (nc2.st s3).sI ?_ (t3.sI (by omega)) (by rw [fin, e2, bnd_l, e3]; rfl)
  exact ⟨aK3, aL3, sI_same⟩
end CMan_
