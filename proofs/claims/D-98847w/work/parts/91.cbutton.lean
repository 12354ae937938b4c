/-! THE CLASS: lines of buttons -/
section PBut
variable (T : tx) (N : Nat) (g : rgT)
def pbA (nm : Int64) (on_ by_ de : Nat) (b : Bool) (un th : Int32) (q : Nat) : res (rgT × Nat) := if isV T N q wAFTER = true then bnd (pKnown T N (g.1.2.2.map (·.1)) (tkX T N q)) fun af => .inl (((g.1.1, g.1.2.1, g.1.2.2 ++ [(nm, on_, by_, de, b, un, th, nI af.1)]), g.2), af.2) else .inl (((g.1.1, g.1.2.1, g.1.2.2 ++ [(nm, on_, by_, de, b, un, th, -1)]), g.2), q)
def pbT (nm : Int64) (on_ by_ de : Nat) (b : Bool) (un : Int32) (q : Nat) : res (rgT × Nat) := bnd (pOpt T N wTHREAD 1 99 10 q) fun th => pbA T N g nm on_ by_ de b un th.1 th.2
def pbU (nm : Int64) (on_ by_ de : Nat) (b : Bool) (q : Nat) : res (rgT × Nat) := bnd (pOpt T N wUNTIL 1 60 60 q) fun un => pbT T N g nm on_ by_ de b un.1 un.2
def pbD (nm : Int64) (on_ by_ : Nat) (q : Nat) : res (rgT × Nat) := bnd (pMust T N (isV T N q wDOES || isV T N q wNEVER) q) fun p => bnd (pKnown T N (g.1.2.1.map (·.1)) p) fun de => pbU T N g nm on_ by_ de.1 (isV T N q wDOES) de.2
theorem pButton_eq (p : Nat) : pButton T N g p = bnd (pFresh T N (g.1.2.2.map (·.1)) p) (fun v => bnd (pMust T N (isV T N v.2 wON) v.2) fun p => bnd (pKnown T N (g.1.1.map (·.1)) p) fun on_ => bnd (pMust T N (isV T N on_.2 wBY) on_.2) fun pl => bnd (pKnown T N (g.1.1.map (·.1)) pl) fun by_ => if by_.1 = on_.1 then .inr (3, pl) else pbD T N g v.1 on_.1 by_.1 by_.2) := rfl
end PBut
section CBut
variable {d : Nat} {h h' : am_H} {R F tp N : Nat} {T : tx} {g : rgT}
abbrev k56 (b : Bool) : Nat := if b = true then 115 else 116
theorem k56_o (b : Bool) : ([115, 116] : List Nat).contains (k56 b) = true := by cases b <;> rfl
theorem k56_c (b : Bool) : ([112, 113, 115, 116] : List Nat).contains (k56 b) = true := by cases b <;> rfl
abbrev hOath (h : am_H) (a : Nat) (v : Int64) (o y e : Int32) : am_H := hp_sI (hp_sI (hp_sI (hp_sI (hp_sI (hp_sI (hp_sL h a 0 v) a 3 60) a 4 10) a 5 (-1)) a 0 o) a 1 y) a 2 e
theorem C_oathInit {a : Nat} {b : Bool} (ha : hp_K h a = (k56 b, 0)) (z : ¬ a = 0) {v : Int64} {o y e : Int32} {k : am_H → Prop} (hk : k (hOath h a v o y e)) : Rn (d + 1) n_X14_init 0 [am_r a, am_l v, am_u, am_i o, am_i y, am_i e] [] h (kV k) := by
  have ht := k56_o b
  refine rw_aload f_X14_init_0 rfl ?_
  refine rw_lload f_X14_init_1 rfl ?_
  refine rw_callI f_X14_init_2 rfl (by first | assumption | omega) rfl rfl rfl (rn_kv (C_called ha (k56_c b) z ?_))
  refine rw_aload f_X14_init_5 rfl ?_
  refine rw_const f_X14_init_6 ?_
  refine rw_putI f_X14_init_8 (ht := ht) ha ?_
  refine rw_aload f_X14_init_11 rfl ?_
  refine rw_const f_X14_init_12 ?_
  refine rw_putI f_X14_init_14 (ht := ht) ha ?_
  refine rw_aload f_X14_init_17 rfl ?_
  refine rw_const f_X14_init_18 ?_
  refine rw_putI f_X14_init_19 (ht := ht) ha ?_
  refine rw_aload f_X14_init_22 rfl ?_
  refine rw_iload f_X14_init_23 rfl ?_
  refine rw_putI f_X14_init_24 (ht := ht) ha ?_
  refine rw_aload f_X14_init_27 rfl ?_
  refine rw_iload f_X14_init_28 rfl ?_
  refine rw_putI f_X14_init_30 (ht := ht) ha ?_
  refine rw_aload f_X14_init_33 rfl ?_
  refine rw_iload f_X14_init_34 rfl ?_
  refine rw_putI f_X14_init_36 (ht := ht) ha ?_
  refine rw_vret f_X14_init_39 ?_
  exact hk
theorem C_promInit {a : Nat} (ha : hp_K h a = (115, 0)) (z : ¬ a = 0) {v : Int64} {o y e : Int32} {k : am_H → Prop} (hk : k (hOath h a v o y e)) : Rn (d + 2) n_X15_init 0 [am_r a, am_l v, am_u, am_i o, am_i y, am_i e] [] h (kV k) := by
  refine rw_aload f_X15_init_0 rfl ?_
  refine rw_lload f_X15_init_1 rfl ?_
  refine rw_iload f_X15_init_2 rfl ?_
  refine rw_iload f_X15_init_3 rfl ?_
  refine rw_iload f_X15_init_5 rfl ?_
  refine rw_callI f_X15_init_7 rfl (by first | assumption | omega) rfl rfl rfl (rn_kv (C_oathInit (b := true) ha z ?_))
  refine rw_vret f_X15_init_10 ?_
  exact hk
theorem C_banInit {a : Nat} (ha : hp_K h a = (116, 0)) (z : ¬ a = 0) {v : Int64} {o y e : Int32} {k : am_H → Prop} (hk : k (hOath h a v o y e)) : Rn (d + 2) n_X16_init 0 [am_r a, am_l v, am_u, am_i o, am_i y, am_i e] [] h (kV k) := by
  refine rw_aload f_X16_init_0 rfl ?_
  refine rw_lload f_X16_init_1 rfl ?_
  refine rw_iload f_X16_init_2 rfl ?_
  refine rw_iload f_X16_init_3 rfl ?_
  refine rw_iload f_X16_init_5 rfl ?_
  refine rw_callI f_X16_init_7 rfl (by first | assumption | omega) rfl rfl rfl (rn_kv (C_oathInit (b := false) ha z ?_))
  refine rw_vret f_X16_init_10 ?_
  exact hk
theorem POath_0 {a on_ by_ de : Nat} {b : Bool} {v : Int64} (ha : hp_K h a = (k56 b, 0)) : POath (hOath h a v (nI on_) (nI by_) (nI de)) a (v, on_, by_, de, b, 60, 10, -1) := by
  refine ⟨ha, sL_same, ?_, ?_, ?_, ?_, ?_, ?_⟩ <;> simp [sI_if]
theorem NC.oath {h0 : am_H} {a : Nat} {v : Int64} {o y e : Int32} (n : NC R F h0 h a) : NC R F h0 (hOath h a v o y e) a := n.sL.sI.sI.sI.sI.sI.sI
theorem RT.oath {a p : Nat} {v : Int64} {o y e : Int32} (q : RT h R N T p) (ne : ¬ R = a) : RT (hOath h a v o y e) R N T p := ((((((q.sL ne).sI ne).sI ne).sI ne).sI ne).sI ne).sI ne
theorem C_buttonL (hS : RS h R F tp N T g) {p : Nat} (hT : RT h R N T p) (hn : g.1.2.2.length < 61) {k : am_H → Prop} {xk : Nat → am_H → Prop} (hok : ∀ v h', pButton T N g p = .inl v → RS h' R F tp N T v.1 → GF R F 2 110 h h' → RT h' R N T v.2 → k h') (herr : ∀ e h', pButton T N g p = .inr e → GF R F 1 10 h h' → Flt h' F e → xk F h') : Rn (d + 8) n_X10_button 0 [am_r R, am_u, am_u, am_u, am_u, am_u, am_u, am_u, am_u] [] h (kX (kV k) xk) := by
  have al := hS.1.2.2.2.2.2.2
  have rK := hS.1.1.1
  have rz := hS.1.1.2.1
  have r3 := hS.1.2.2.2.2.1
  have gK := hS.2.1.1.1
  have lz : ¬ R + 2 + 2 = 0 := by omega
  have lR := Al_lt al rK (by decide)
  have lF := Al_lt al hS.1.2.2.1 (by decide)
  have az : ¬ hp_n h = 0 := by have := al.1; omega
  have gf : ∀ {h1 h2 : am_H} {a : Nat}, RSt R F h h1 → NC R F h1 h2 a → GF R F 1 10 h h2 := fun st nc => Fr_tr (c1 := 0) (s1 := 0) st.1.fr nc.1 (fun b _ w => by
    rcases w with e | e
    · exact Or.inr (by omega)
    · exact Or.inl e) (fun _ _ w => absurd w id) (fun b _ w => by
    rcases w with e | e
    · exact Or.inr (by omega)
    · exact Or.inl e) (fun _ _ w => absurd w id) (by omega) (by omega)
  have t231 : ∀ (h0 h1 : am_H) (x1 x2 x3 x4 x5 x6 x7 : am_V) (v : oaT) (q : Nat), RSt R F h h0 → NC R F h0 h1 (hp_n h) → POath h1 (hp_n h) v → RT h1 R N T q → pButton T N g p = .inl (((g.1.1, g.1.2.1, g.1.2.2 ++ [v]), g.2), q) → Rn (d + 8) n_X10_button 231 [am_r R, x1, x2, x3, x4, x5, x6, x7, am_r (hp_n h)] [] h1 (kX (kV k) xk) := by
    intro h0 h1 x1 x2 x3 x4 x5 x6 x7 v q st nc pm ht e
    have hS0 := st.rs hS
    have hS1 := nc.rs hS0
    have rK1 := hS1.1.1.1
    have r31 := hS1.1.2.2.2.2.1
    have gK1 := hS1.2.1.1.1
    have g01 := hS1.2.1.1.2.2.2.1
    have lM := hS1.2.1.2.1.2.2
    have lK := lM.1.1.1
    have al1 := hS1.1.2.2.2.2.2.2
    have sp : 0 < lcap h1 (R + 2 + 2) → R + 6 < arr h1 (R + 2 + 2) := fun hc => (hS1.2.1.2.2.1 2 (by omega) hc).1
    have kv := gOath.1 _ _ _ pm
    refine rw_aload f_X10_button_231 rfl ?_
    refine rw_getR f_X10_button_232 (by assumption) (by first | assumption | rfl) ?_
    refine rw_getR f_X10_button_235 (by assumption) (by first | assumption | rfl) ?_
    refine rw_aload f_X10_button_238 rfl ?_
    refine rw_callV f_X10_button_240 rfl (by assumption) (by first | assumption | omega) rfl rfl rfl rfl (rn_ki (J_add al1 lM.1.1 lM.1.2 hn (by omega) (fun h2 A' cap' q1 qA q3 q4 fr => ?_)))
    first | refine rw_popi f_X10_button_243 ?_ | refine rw_popr f_X10_button_243 ?_
    refine rx_vret f_X10_button_244 ?_
    obtain ⟨z1, z2⟩ := RS_add hS0 nc fr lK (by omega) (fun hc => ⟨LST_k5 lM.1 hc, by have := sp hc; omega⟩) (Rg_addO al1 hS1.2.1 hn pm q1 qA q3 q4 fr)
    exact hok _ h2 e z1 (Fr_tr (c1 := 0) (s1 := 0) st.1.fr z2 (fun b _ w => by rcases w with e | e; (exact Or.inr (by omega)); (exact Or.inl e)) (fun _ _ w => absurd w id) (fun _ _ w => w) (fun _ _ w => w) (by omega) (by omega)) ⟨ht.1, by rw [fr.I (Al_lt al1 rK1 (by decide)) (fun w => by have : R = R + 2 + 2 := w; omega), fr.L (Al_lt al1 rK1 (by decide)) (fun w => by have : R = R + 2 + 2 := w; omega)]; exact ht.2⟩
  have t206 : ∀ (h0 h1 : am_H) (x1 x2 x3 x4 x5 x6 x7 : am_V) (nm : Int64) (on_ by_ de : Nat) (b : Bool) (un th : Int32) (q : Nat), RSt R F h h0 → NC R F h0 h1 (hp_n h) → POath h1 (hp_n h) (nm, on_, by_, de, b, un, th, -1) → RT h1 R N T q → pButton T N g p = pbA T N g nm on_ by_ de b un th q → Rn (d + 8) n_X10_button 206 [am_r R, x1, x2, x3, x4, x5, x6, x7, am_r (hp_n h)] [] h1 (kX (kV k) xk) := by
    intro h0 h1 x1 x2 x3 x4 x5 x6 x7 nm on_ by_ de b un th q st nc pm ht e
    have hS0 := st.rs hS
    have hS1 := nc.rs hS0
    have rK1 := hS1.1.1.1
    unfold pbA at e
    cases hV : isW T N q (wc wAFTER) with
    | true =>
      rw [if_pos hV] at e
      refine rw_aload f_X10_button_206 rfl ?_
      refine rw_glob f_X10_button_207 ?_
      refine rw_callV f_X10_button_209 rfl (by assumption) (by first | assumption | omega) rfl rfl rfl rfl (rn_ki (C_hasW (i := wAFTER) hS1.1 ht (by decide) (fun h2 s2 t2 => ?_)))
      rw [show isV T N q wAFTER = true from hV]
      rw [if_pos hV] at t2
      refine rw_ifF f_X10_button_212 (by decide) ?_
      have hS2 := s2.rs hS1
      have rK2 := hS2.1.1.1
      have r32 := hS2.1.2.2.2.2.1
      have gK2 := hS2.2.1.1.1
      have g02 := hS2.2.1.1.2.2.2.1
      refine rw_aload f_X10_button_215 rfl ?_
      refine rw_aload f_X10_button_217 rfl ?_
      refine rw_aload f_X10_button_218 rfl ?_
      refine rw_getR f_X10_button_219 (by assumption) (by first | assumption | rfl) ?_
      refine rw_getR f_X10_button_222 (by assumption) (by first | assumption | rfl) ?_
      refine rw_callV f_X10_button_225 rfl (by assumption) (by first | assumption | omega) rfl rfl rfl rfl (rn_kx rfl rn_hi (C_known hS2.1 t2 (POath_nl hS2.2.1.2.1.2.2) (fun v h3 e3 lv3 s3 t3 => ?_) (fun er h3 e3 s3 f3 => herr er h3 (by rw [e, e3]; rfl) (gf st ((nc.st s2).st s3)) f3)))
      have pm3 := s3.P gOath hS2.1 (s2.P gOath hS1.1 pm)
      refine rw_putI f_X10_button_228 (ht := k56_o b) pm3.1 ?_
      refine t231 h0 _ _ _ _ _ _ _ _ (nm, on_, by_, de, b, un, th, nI v.1) v.2 st ((nc.st s2).st s3).sI ?_ (t3.sI (by omega)) (by rw [e, e3]; rfl)
      obtain ⟨p1, p2, p3, p4, p5, p6, p7, p8⟩ := pm3
      exact ⟨p1, p2, by rw [sI_ne (by simp)]; exact p3, by rw [sI_ne (by simp)]; exact p4, by rw [sI_ne (by simp)]; exact p5, by rw [sI_ne (by simp)]; exact p6, by rw [sI_ne (by simp)]; exact p7, sI_same⟩
    | false =>
      rw [if_neg (show ¬ isW T N q (wc wAFTER) = true by rw [hV]; simp)] at e
      refine rw_aload f_X10_button_206 rfl ?_
      refine rw_glob f_X10_button_207 ?_
      refine rw_callV f_X10_button_209 rfl (by assumption) (by first | assumption | omega) rfl rfl rfl rfl (rn_ki (C_hasW (i := wAFTER) hS1.1 ht (by decide) (fun h2 s2 t2 => ?_)))
      rw [show isV T N q wAFTER = false from hV]
      rw [if_neg (show ¬ isW T N q (wc wAFTER) = true by rw [hV]; simp)] at t2
      refine rw_ifT f_X10_button_212 (by decide) ?_
      exact t231 h0 _ _ _ _ _ _ _ _ _ _ st (nc.st s2) (s2.P gOath hS1.1 pm) t2 e
  have t183 : ∀ (h0 h1 : am_H) (x1 x2 x3 x4 x5 x6 x7 : am_V) (nm : Int64) (on_ by_ de : Nat) (b : Bool) (un : Int32) (q : Nat), RSt R F h h0 → NC R F h0 h1 (hp_n h) → POath h1 (hp_n h) (nm, on_, by_, de, b, un, 10, -1) → RT h1 R N T q → pButton T N g p = pbT T N g nm on_ by_ de b un q → Rn (d + 8) n_X10_button 183 [am_r R, x1, x2, x3, x4, x5, x6, x7, am_r (hp_n h)] [] h1 (kX (kV k) xk) := by
    intro h0 h1 x1 x2 x3 x4 x5 x6 x7 nm on_ by_ de b un q st nc pm ht e
    have hS0 := st.rs hS
    have hS1 := nc.rs hS0
    have rK1 := hS1.1.1.1
    unfold pbT at e
    cases hV : isW T N q (wc wTHREAD) with
    | true =>
      rw [show pOpt T N wTHREAD 1 99 10 q = pAfter T N wTHREAD 1 99 q from if_pos hV] at e
      refine rw_aload f_X10_button_183 rfl ?_
      refine rw_glob f_X10_button_184 ?_
      refine rw_callV f_X10_button_186 rfl (by assumption) (by first | assumption | omega) rfl rfl rfl rfl (rn_ki (C_isWord (i := wTHREAD) hS1.1.2.2.2.2.2.1 hS1.1.1 ht (by decide) ?_))
      rw [hV]
      refine rw_ifF f_X10_button_189 (by decide) ?_
      refine rw_aload f_X10_button_192 rfl ?_
      refine rw_aload f_X10_button_194 rfl ?_
      refine rw_glob f_X10_button_195 ?_
      refine rw_const f_X10_button_197 ?_
      refine rw_const f_X10_button_198 ?_
      refine rw_callV f_X10_button_200 rfl (by assumption) (by first | assumption | omega) rfl rfl rfl rfl (rn_kx rfl rn_hi (C_after (i := wTHREAD) hS1.1 ht (by decide) (fun v h2 e2 s2 t2 => ?_) (fun er h2 e2 s2 f2 => herr er h2 (by rw [e, e2]; rfl) (gf st (nc.st s2)) f2)))
      have pm2 := s2.P gOath hS1.1 pm
      refine rw_putI f_X10_button_203 (ht := k56_o b) pm2.1 ?_
      refine t206 h0 _ _ _ _ _ _ _ _ nm on_ by_ de b un v.1 v.2 st (nc.st s2).sI ?_ (t2.sI (by omega)) (by rw [e, e2]; rfl)
      obtain ⟨p1, p2, p3, p4, p5, p6, p7, p8⟩ := pm2
      exact ⟨p1, p2, by rw [sI_ne (by simp)]; exact p3, by rw [sI_ne (by simp)]; exact p4, by rw [sI_ne (by simp)]; exact p5, by rw [sI_ne (by simp)]; exact p6, sI_same, by rw [sI_ne (by simp)]; exact p8⟩
    | false =>
      rw [show pOpt T N wTHREAD 1 99 10 q = .inl (10, q) from if_neg (show ¬ isW T N q (wc wTHREAD) = true by rw [hV]; simp)] at e
      refine rw_aload f_X10_button_183 rfl ?_
      refine rw_glob f_X10_button_184 ?_
      refine rw_callV f_X10_button_186 rfl (by assumption) (by first | assumption | omega) rfl rfl rfl rfl (rn_ki (C_isWord (i := wTHREAD) hS1.1.2.2.2.2.2.1 hS1.1.1 ht (by decide) ?_))
      rw [hV]
      refine rw_ifT f_X10_button_189 (by decide) ?_
      exact t206 h0 _ _ _ _ _ _ _ _ nm on_ by_ de b un 10 q st nc pm ht (by rw [e]; rfl)
  have t160 : ∀ (h0 h1 : am_H) (x1 x2 x3 x4 x5 x6 x7 : am_V) (nm : Int64) (on_ by_ de : Nat) (b : Bool) (q : Nat), RSt R F h h0 → NC R F h0 h1 (hp_n h) → POath h1 (hp_n h) (nm, on_, by_, de, b, 60, 10, -1) → RT h1 R N T q → pButton T N g p = pbU T N g nm on_ by_ de b q → Rn (d + 8) n_X10_button 160 [am_r R, x1, x2, x3, x4, x5, x6, x7, am_r (hp_n h)] [] h1 (kX (kV k) xk) := by
    intro h0 h1 x1 x2 x3 x4 x5 x6 x7 nm on_ by_ de b q st nc pm ht e
    have hS0 := st.rs hS
    have hS1 := nc.rs hS0
    have rK1 := hS1.1.1.1
    unfold pbU at e
    cases hV : isW T N q (wc wUNTIL) with
    | true =>
      rw [show pOpt T N wUNTIL 1 60 60 q = pAfter T N wUNTIL 1 60 q from if_pos hV] at e
      refine rw_aload f_X10_button_160 rfl ?_
      refine rw_glob f_X10_button_161 ?_
      refine rw_callV f_X10_button_163 rfl (by assumption) (by first | assumption | omega) rfl rfl rfl rfl (rn_ki (C_isWord (i := wUNTIL) hS1.1.2.2.2.2.2.1 hS1.1.1 ht (by decide) ?_))
      rw [hV]
      refine rw_ifF f_X10_button_166 (by decide) ?_
      refine rw_aload f_X10_button_169 rfl ?_
      refine rw_aload f_X10_button_171 rfl ?_
      refine rw_glob f_X10_button_172 ?_
      refine rw_const f_X10_button_174 ?_
      refine rw_const f_X10_button_175 ?_
      refine rw_callV f_X10_button_177 rfl (by assumption) (by first | assumption | omega) rfl rfl rfl rfl (rn_kx rfl rn_hi (C_after (i := wUNTIL) hS1.1 ht (by decide) (fun v h2 e2 s2 t2 => ?_) (fun er h2 e2 s2 f2 => herr er h2 (by rw [e, e2]; rfl) (gf st (nc.st s2)) f2)))
      have pm2 := s2.P gOath hS1.1 pm
      refine rw_putI f_X10_button_180 (ht := k56_o b) pm2.1 ?_
      refine t183 h0 _ _ _ _ _ _ _ _ nm on_ by_ de b v.1 v.2 st (nc.st s2).sI ?_ (t2.sI (by omega)) (by rw [e, e2]; rfl)
      obtain ⟨p1, p2, p3, p4, p5, p6, p7, p8⟩ := pm2
      exact ⟨p1, p2, by rw [sI_ne (by simp)]; exact p3, by rw [sI_ne (by simp)]; exact p4, by rw [sI_ne (by simp)]; exact p5, sI_same, by rw [sI_ne (by simp)]; exact p7, by rw [sI_ne (by simp)]; exact p8⟩
    | false =>
      rw [show pOpt T N wUNTIL 1 60 60 q = .inl (60, q) from if_neg (show ¬ isW T N q (wc wUNTIL) = true by rw [hV]; simp)] at e
      refine rw_aload f_X10_button_160 rfl ?_
      refine rw_glob f_X10_button_161 ?_
      refine rw_callV f_X10_button_163 rfl (by assumption) (by first | assumption | omega) rfl rfl rfl rfl (rn_ki (C_isWord (i := wUNTIL) hS1.1.2.2.2.2.2.1 hS1.1.1 ht (by decide) ?_))
      rw [hV]
      refine rw_ifT f_X10_button_166 (by decide) ?_
      exact t183 h0 _ _ _ _ _ _ _ _ nm on_ by_ de b 60 q st nc pm ht (by rw [e]; rfl)
  have t108 : ∀ (h0 : am_H) (x2 x4 x7 x8 : am_V) (nm : Int64) (on_ by_ : Nat) (q : Nat) (c : Bool), RSt R F h h0 → RT h0 R N T q → c = (isV T N q wDOES || isV T N q wNEVER) → pButton T N g p = pbD T N g nm on_ by_ q → Rn (d + 8) n_X10_button 108 [am_r R, am_l nm, x2, am_i (nI on_), x4, am_i (nI by_), am_i (bI (isV T N q wDOES)), x7, x8] [am_i (bI c), am_r R] h0 (kX (kV k) xk) := by
    intro h0 x2 x4 x7 x8 nm on_ by_ q c st ht ec e
    have hS0 := st.rs hS
    have rK0 := hS0.1.1.1
    unfold pbD at e
    rw [← ec] at e
    cases hV : isV T N q wDOES with
    | true =>
      rw [hV] at e
      refine rw_callV f_X10_button_108 rfl (by assumption) (by first | assumption | omega) rfl rfl rfl rfl (rn_kx rfl rn_hv (C_must hS0.1 ht (fun q1 h1 e1 s1 t1 => ?_) (fun er h1 e1 s1 f1 => herr er h1 (by rw [e, e1]; rfl) (st.tr s1).gf f1)))
      have hS1 := s1.rs hS0
      have rK1 := hS1.1.1.1
      have r31 := hS1.1.2.2.2.2.1
      have gK1 := hS1.2.1.1.1
      have g01 := hS1.2.1.1.2.2.1
      rw [e1, bnd_l] at e
      refine rw_aload f_X10_button_111 rfl ?_
      refine rw_aload f_X10_button_112 rfl ?_
      refine rw_getR f_X10_button_113 (by assumption) (by first | assumption | rfl) ?_
      refine rw_getR f_X10_button_116 (by assumption) (by first | assumption | rfl) ?_
      refine rw_callV f_X10_button_119 rfl (by assumption) (by first | assumption | omega) rfl rfl rfl rfl (rn_kx rfl rn_hi (C_known hS1.1 t1 (PDeed_nl hS1.2.1.2.1.2.1) (fun v h2 e2 lv2 s2 t2 => ?_) (fun er h2 e2 s2 f2 => herr er h2 (by rw [e, e2]; rfl) ((st.tr s1).tr s2).gf f2)))
      have st2 := (st.tr s1).tr s2
      have en : hp_n h2 = hp_n h := st2.1.n
      have nc2 : NC R F h2 (hp_new h2 115 0 7) (hp_n h) := by rw [← en]; exact NC.new (by omega) (by omega) (by omega)
      have aK2 : hp_K (hp_new h2 115 0 7) (hp_n h) = (115, 0) := by rw [← en]; exact new_K
      refine rw_istore f_X10_button_122 rfl rfl ?_
      refine rw_iload f_X10_button_124 rfl ?_
      refine rw_ifF f_X10_button_126 (by decide) ?_
      refine rw_new f_X10_button_129 ?_
      rw [en]
      first | refine rw_dupr f_X10_button_132 ?_ | refine rw_dupi f_X10_button_132 ?_
      refine rw_lload f_X10_button_133 rfl ?_
      refine rw_iload f_X10_button_134 rfl ?_
      refine rw_iload f_X10_button_135 rfl ?_
      refine rw_iload f_X10_button_137 rfl ?_
      refine rw_callI f_X10_button_139 rfl (by first | assumption | omega) rfl rfl rfl (rn_kv (C_promInit aK2 az ?_))
      refine rw_goto f_X10_button_142 ?_
      refine rw_astore f_X10_button_158 rfl rfl ?_
      exact t160 h2 _ _ _ _ _ _ _ _ nm on_ by_ v.1 true v.2 st2 nc2.oath (POath_0 aK2) ((t2.new (by omega)).oath (by omega)) (by rw [e, e2]; rfl)
    | false =>
      rw [hV] at e
      refine rw_callV f_X10_button_108 rfl (by assumption) (by first | assumption | omega) rfl rfl rfl rfl (rn_kx rfl rn_hv (C_must hS0.1 ht (fun q1 h1 e1 s1 t1 => ?_) (fun er h1 e1 s1 f1 => herr er h1 (by rw [e, e1]; rfl) (st.tr s1).gf f1)))
      have hS1 := s1.rs hS0
      have rK1 := hS1.1.1.1
      have r31 := hS1.1.2.2.2.2.1
      have gK1 := hS1.2.1.1.1
      have g01 := hS1.2.1.1.2.2.1
      rw [e1, bnd_l] at e
      refine rw_aload f_X10_button_111 rfl ?_
      refine rw_aload f_X10_button_112 rfl ?_
      refine rw_getR f_X10_button_113 (by assumption) (by first | assumption | rfl) ?_
      refine rw_getR f_X10_button_116 (by assumption) (by first | assumption | rfl) ?_
      refine rw_callV f_X10_button_119 rfl (by assumption) (by first | assumption | omega) rfl rfl rfl rfl (rn_kx rfl rn_hi (C_known hS1.1 t1 (PDeed_nl hS1.2.1.2.1.2.1) (fun v h2 e2 lv2 s2 t2 => ?_) (fun er h2 e2 s2 f2 => herr er h2 (by rw [e, e2]; rfl) ((st.tr s1).tr s2).gf f2)))
      have st2 := (st.tr s1).tr s2
      have en : hp_n h2 = hp_n h := st2.1.n
      have nc2 : NC R F h2 (hp_new h2 116 0 7) (hp_n h) := by rw [← en]; exact NC.new (by omega) (by omega) (by omega)
      have aK2 : hp_K (hp_new h2 116 0 7) (hp_n h) = (116, 0) := by rw [← en]; exact new_K
      refine rw_istore f_X10_button_122 rfl rfl ?_
      refine rw_iload f_X10_button_124 rfl ?_
      refine rw_ifT f_X10_button_126 (by decide) ?_
      refine rw_new f_X10_button_145 ?_
      rw [en]
      first | refine rw_dupr f_X10_button_148 ?_ | refine rw_dupi f_X10_button_148 ?_
      refine rw_lload f_X10_button_149 rfl ?_
      refine rw_iload f_X10_button_150 rfl ?_
      refine rw_iload f_X10_button_151 rfl ?_
      refine rw_iload f_X10_button_153 rfl ?_
      refine rw_callI f_X10_button_155 rfl (by first | assumption | omega) rfl rfl rfl (rn_kv (C_banInit aK2 az ?_))
      refine rw_astore f_X10_button_158 rfl rfl ?_
      exact t160 h2 _ _ _ _ _ _ _ _ nm on_ by_ v.1 false v.2 st2 nc2.oath (POath_0 aK2) ((t2.new (by omega)).oath (by omega)) (by rw [e, e2]; rfl)
  rw [pButton_eq] at hok herr t108
  have g00 := hS.2.1.1.2.2.2.1
  refine rw_aload f_X10_button_0 rfl ?_
  refine rw_aload f_X10_button_1 rfl ?_
  refine rw_getR f_X10_button_2 (by assumption) (by first | assumption | rfl) ?_
  refine rw_getR f_X10_button_5 (by assumption) (by first | assumption | rfl) ?_
  refine rw_callV f_X10_button_8 rfl (by assumption) (by first | assumption | omega) rfl rfl rfl rfl (rn_kx rfl rn_hl (C_fresh hS.1 hT (POath_nl hS.2.1.2.1.2.2) (fun v h1 e1 s1 t1 => ?_) (fun er h1 e1 s1 f1 => herr er h1 (by rw [e1]; rfl) s1.gf f1)))
  have hS1 := s1.rs hS
  have rK1 := hS1.1.1.1
  rw [e1, bnd_l] at hok herr t108
  refine rw_lstore f_X10_button_11 rfl rfl ?_
  refine rw_aload f_X10_button_12 rfl ?_
  refine rw_aload f_X10_button_13 rfl ?_
  refine rw_glob f_X10_button_14 ?_
  refine rw_callV f_X10_button_16 rfl (by assumption) (by first | assumption | omega) rfl rfl rfl rfl (rn_ki (C_isWord (i := wON) hS1.1.2.2.2.2.2.1 hS1.1.1 t1 (by decide) ?_))
  refine rw_callV f_X10_button_19 rfl (by assumption) (by first | assumption | omega) rfl rfl rfl rfl (rn_kx rfl rn_hv (C_must hS1.1 t1 (fun q2 h2 e2 s2 t2 => ?_) (fun er h2 e2 s2 f2 => herr er h2 (by rw [e2]; rfl) (s1.tr s2).gf f2)))
  have st2 := s1.tr s2
  have hS2 := s2.rs hS1
  have rK2 := hS2.1.1.1
  have r32 := hS2.1.2.2.2.2.1
  have gK2 := hS2.2.1.1.1
  have g02 := hS2.2.1.1.2.1
  rw [e2, bnd_l] at hok herr t108
  refine rw_aload f_X10_button_22 rfl ?_
  refine rw_aload f_X10_button_23 rfl ?_
  refine rw_getR f_X10_button_24 (by assumption) (by first | assumption | rfl) ?_
  refine rw_getR f_X10_button_27 (by assumption) (by first | assumption | rfl) ?_
  refine rw_callV f_X10_button_30 rfl (by assumption) (by first | assumption | omega) rfl rfl rfl rfl (rn_kx rfl rn_hi (C_known hS2.1 t2 (PMan_nl hS2.2.1.2.1.1) (fun a h3 e3 la s3 t3 => ?_) (fun er h3 e3 s3 f3 => herr er h3 (by rw [e3]; rfl) (st2.tr s3).gf f3)))
  have st3 := st2.tr s3
  have hS3 := s3.rs hS2
  have rK3 := hS3.1.1.1
  rw [e3, bnd_l] at hok herr t108
  refine rw_istore f_X10_button_33 rfl rfl ?_
  refine rw_aload f_X10_button_34 rfl ?_
  refine rw_aload f_X10_button_35 rfl ?_
  refine rw_glob f_X10_button_36 ?_
  refine rw_callV f_X10_button_38 rfl (by assumption) (by first | assumption | omega) rfl rfl rfl rfl (rn_ki (C_isWord (i := wBY) hS3.1.2.2.2.2.2.1 hS3.1.1 t3 (by decide) ?_))
  refine rw_callV f_X10_button_41 rfl (by assumption) (by first | assumption | omega) rfl rfl rfl rfl (rn_kx rfl rn_hv (C_must hS3.1 t3 (fun q4 h4 e4 s4 t4 => ?_) (fun er h4 e4 s4 f4 => herr er h4 (by rw [e4]; rfl) (st3.tr s4).gf f4)))
  have st4 := st3.tr s4
  have hS4 := s4.rs hS3
  have rK4 := hS4.1.1.1
  have r34 := hS4.1.2.2.2.2.1
  have gK4 := hS4.2.1.1.1
  have g04 := hS4.2.1.1.2.1
  rw [e4, bnd_l] at hok herr t108
  refine rw_aload f_X10_button_44 rfl ?_
  refine rw_getI f_X10_button_45 (by assumption) ?_
  rw [t4.2.1]
  refine rw_istore f_X10_button_48 rfl rfl ?_
  refine rw_aload f_X10_button_50 rfl ?_
  refine rw_aload f_X10_button_51 rfl ?_
  refine rw_getR f_X10_button_52 (by assumption) (by first | assumption | rfl) ?_
  refine rw_getR f_X10_button_55 (by assumption) (by first | assumption | rfl) ?_
  refine rw_callV f_X10_button_58 rfl (by assumption) (by first | assumption | omega) rfl rfl rfl rfl (rn_kx rfl rn_hi (C_known hS4.1 t4 (PMan_nl hS4.2.1.2.1.1) (fun b h5 e5 lb s5 t5 => ?_) (fun er h5 e5 s5 f5 => herr er h5 (by rw [e5]; rfl) (st4.tr s5).gf f5)))
  have st5 := st4.tr s5
  have hS5 := s5.rs hS4
  have rK5 := hS5.1.1.1
  have r25 := hS5.1.2.1
  have fK5 := hS5.1.2.2.1
  have fz5 := hS5.1.2.2.2.1
  rw [e5, bnd_l] at hok herr t108
  have l61a := hS2.2.1.2.1.1.2.1
  rw [List.length_map] at la lb
  refine rw_istore f_X10_button_61 rfl rfl ?_
  refine rw_iload f_X10_button_63 rfl ?_
  refine rw_iload f_X10_button_65 rfl ?_
  refine rw_ne f_X10_button_66 (fun c1 => ?_) (fun c1 => ?_)
  · have cn : ¬ b.1 = a.1 := fun z => c1 (by rw [z])
    refine rw_aload f_X10_button_80 rfl ?_
    refine rw_glob f_X10_button_81 ?_
    refine rw_callV f_X10_button_83 rfl (by assumption) (by first | assumption | omega) rfl rfl rfl rfl (rn_ki (C_isWord (i := wDOES) hS5.1.2.2.2.2.2.1 hS5.1.1 t5 (by decide) ?_))
    refine rw_istore f_X10_button_86 rfl rfl ?_
    refine rw_aload f_X10_button_88 rfl ?_
    refine rw_iload f_X10_button_89 rfl ?_
    first | refine rw_ne0B f_X10_button_91 (fun c2 => ?_) (fun c2 => ?_) | refine rw_ne0 f_X10_button_91 (fun c2 => ?_) (fun c2 => ?_)
    · refine rw_const f_X10_button_103 ?_
      refine rw_goto f_X10_button_104 ?_
      first | refine t108 h5 _ _ _ _ _ _ _ _ true st5 t5 ?_ (if_neg cn) | refine t108 h5 _ _ _ _ _ _ _ _ false st5 t5 ?_ (if_neg cn)
      simp [isV, c1, c2]
    · refine rw_aload f_X10_button_94 rfl ?_
      refine rw_glob f_X10_button_95 ?_
      refine rw_callV f_X10_button_97 rfl (by assumption) (by first | assumption | omega) rfl rfl rfl rfl (rn_ki (C_isWord (i := wNEVER) hS5.1.2.2.2.2.2.1 hS5.1.1 t5 (by decide) ?_))
      first | refine rw_eq0B f_X10_button_100 (fun c3 => ?_) (fun c3 => ?_) | refine rw_eq0 f_X10_button_100 (fun c3 => ?_) (fun c3 => ?_)
      · refine rw_const f_X10_button_107 ?_
        first | refine t108 h5 _ _ _ _ _ _ _ _ true st5 t5 ?_ (if_neg cn) | refine t108 h5 _ _ _ _ _ _ _ _ false st5 t5 ?_ (if_neg cn)
        simp [isV, c1, c2, c3]
      · refine rw_const f_X10_button_103 ?_
        refine rw_goto f_X10_button_104 ?_
        first | refine t108 h5 _ _ _ _ _ _ _ _ true st5 t5 ?_ (if_neg cn) | refine t108 h5 _ _ _ _ _ _ _ _ false st5 t5 ?_ (if_neg cn)
        simp [isV, c1, c2, c3]
  · refine rw_aload f_X10_button_69 rfl ?_
    refine rw_getR f_X10_button_70 (by assumption) (by first | assumption | rfl) ?_
    refine rw_const f_X10_button_73 ?_
    refine rw_iload f_X10_button_74 rfl ?_
    refine rw_callV f_X10_button_76 rfl (by assumption) (by first | assumption | omega) rfl rfl rfl rfl (rn_kr (C_by fK5 ?_))
    have fK6 : hp_K (hp_sI (hp_sI h5 F 0 3) F 1 (nI q4)) F = (103, 0) := fK5
    refine rx_throw f_X10_button_79 rfl (by assumption) ?_
    exact herr (3, q4) _ (if_pos ((nI_eq (by omega) (by omega)).mp c1)) (GF_st st5.gf (st_by hS5.1)) (Flt_by F (3, q4))
end CBut
