/-! THE CLASS: a regiment is read -/
section CRegi2
variable {d : Nat} {h h' : am_H} {x r R F tp N nM nD nB nA nU nT nL : Nat} {V : am_M} {T : tx} {g : rgT}
theorem rn_kh {j i pc hp nx : Nat} {ls st' l0 : List am_V} {K : am_R → am_H → Prop} (hh : am_hnd i pc = some hp) (k : Rn d j 0 l0 [] h (kX (kR (fun x h' => Rn (d + 1) i nx ls (am_r x :: st') h' K)) (fun q h' => Rn (d + 1) i hp ls [am_r q] h' K))) : Rn d j 0 l0 [] h (rn_K true (d + 1) i pc ls st' nx K) := rn_mono k (fun r h' q => by
  rcases q with ⟨x, e, q⟩ | ⟨q, e, q2⟩
  · subst e; exact q
  · subst e
    dsimp only [rn_K]
    rw [hh]
    exact ⟨rfl, q2⟩)
/-- all is as at the start -/
theorem CR_mk (hW : CWa h x) (mk : ∀ b, x + 33 ≤ b → b ≤ x + 84 → (hp_K h b).1 = 1 ∨ (hp_K h b).1 = 3 ∨ (hp_K h b).1 = 4 ∨ (hp_K h b).1 = 109) (hr : hp_R h x 0 = R + 1) (hR : Rg h R g) (hg : gI g) (l1 : LST h (x + 15) 0) (l2 : LST h (x + 16) 0) (l3 : LST h (x + 28) 0) (sep : SLs h x R) (pl : R = x ∨ x + 84 < R) (dp : DP h (x + 7) (x + 8) (x + 9) (startF g)) (bx : ∀ b, b < 3 → hp_R h (x + (30 + b)) 0 = 0) (en : Enc V g) (es : EncS V g) (hI : CInt h V x 0) (ht : ∃ t, V 0 1 = nI t ∧ t ≤ 1600) : CR h V x (R + 1) g.1.1.length g.1.2.1.length g.1.2.2.length 0 0 0 0 := by
  obtain ⟨e1, e2, e3, e4, e5, e6⟩ := es
  have sp := hR.2.2.1
  have hR' := hR
  obtain ⟨⟨k1, k2, k3, k4, k5, k6⟩, ⟨lM, lD, lO⟩, -⟩ := hR'
  refine ⟨⟨hW.1, hW.2.1, hW.2.2.1, hW.2.2.2, mk⟩, hr, CReg_Rg hR en hg pl hW.1, CNow_dp dp e1, ⟨l1, l2, fun i hi => by omega, fun i j hi => by omega⟩, ⟨l3, fun i hi => by omega, fun i j hi => by omega⟩, fun b hb => Or.inl ⟨bx b hb, e6 b hb⟩, hI, ⟨fun l l' hl hl' hk ea => ?_, fun k hk => ?_⟩, WB_Enc en hg (PWear_PF hR), ⟨⟨e2, e3, by omega, e4, by omega, e5, by omega⟩, ht, ?_, fun i hi => by omega, fun b hb z => ?_, fun j hj => by omega⟩⟩
  · have three : ∀ l, isL h x (R + 1) l → (l = x + 15 ∨ l = x + 16 ∨ l = x + 28) ∨ ∃ i, i < 3 ∧ l = R + 2 + i := fun l z => by
      rcases z with z | z | z | z | z | z
      · exact Or.inl (Or.inl z)
      · exact Or.inl (Or.inr (Or.inl z))
      · exact Or.inl (Or.inr (Or.inr z))
      · exact Or.inr ⟨0, by omega, by rw [z, k2]⟩
      · exact Or.inr ⟨1, by omega, by rw [z, k3]⟩
      · exact Or.inr ⟨2, by omega, by rw [z, k4]⟩
    have Lx : ∀ l, (l = x + 15 ∨ l = x + 16 ∨ l = x + 28) → LST h l 0 := fun l z => by
      rcases z with z | z | z <;> rw [z] <;> assumption
    have LR : ∀ i, i < 3 → ∃ n, LST h (R + 2 + i) n := fun i hi => by
      rcases (by omega : i = 0 ∨ i = 1 ∨ i = 2) with z | z | z <;> rw [z]
      · exact ⟨_, lM.1⟩
      · exact ⟨_, lD.1⟩
      · exact ⟨_, lO.1⟩
    rcases three l hl with a | ⟨i, hi, a⟩
    · have c := LST_5c (Lx l a) hk
      rcases three l' hl' with b | ⟨j, hj, b⟩
      · exact sep.1 l l' a b c ea
      · rw [b] at ea; exact absurd ea (sep.2 l j a hj c)
    · obtain ⟨n, L⟩ := LR i hi
      rw [a] at hk ea ⊢
      have c := LST_5c L hk
      rcases three l' hl' with b | ⟨j, hj, b⟩
      · exfalso
        have hk' : (hp_K h (arr h l')).1 = 5 := by rw [← ea]; exact hk
        exact sep.2 l' i b hi (LST_5c (Lx l' b) hk') ea.symm
      · rw [b] at ea ⊢
        have := (sp i hi c).2 j hj ea
        rw [this]
  · rcases (by omega : k = 0 ∨ k = 1 ∨ k = 2) with z | z | z <;> rw [z]
    · rw [k2]; omega
    · rw [k3]; omega
    · rw [k4]; omega
  · intro b hb
    obtain ⟨t, t1, t2⟩ := okDay_start hg b hb
    exact ⟨t, t1, by rw [e1 (10 + b) (by omega)]; exact t2⟩
  · rw [e6 b hb] at z; exact absurd z (by decide)
theorem C_readerInit (kR : hp_K h R = (110, 0)) (hn : hp_n h = R + 1) (al : Al h) (em : EM h) (zI : ∀ j, hp_I h R j = 0) {k : am_H → Prop} (hk : ∀ h', Rg h' R rg0 → hp_K h' R = (110, 0) → hp_R h' R 0 = tp → hp_R h' R 2 = F → hp_R h' R 3 = R + 1 → hp_I h' R 1 = nI N → hp_I h' R 5 = 0 → Fr (at_ R) (at_ R) 6 63 h h' → hp_n h' = R + 7 → k h') : Rn (d + 4) n_X10_init 0 [am_r R, am_r tp, am_i (nI N), am_r F] [] h (kV k) := by
  have z : ¬ R = 0 := Al_ne al kR (by decide)
  have z1 : ¬ hp_n h = 0 := by omega
  have z1' : ¬ R + 1 = 0 := by omega
  have f0 : Fr no no 1 14 h (hp_new h 101 0 14) := Fr_new
  have al0 := f0.al al
  have em0 := em.fr al f0 id
  have k1 : hp_K (hp_new h 101 0 14) (R + 1) = (101, 0) := by rw [← hn]; exact new_K
  have n1 : hp_n (hp_new h 101 0 14) = R + 2 := by show hp_n h + 1 = _; omega
  refine rw_aload f_X10_init_0 rfl ?_
  refine rw_obj f_X10_init_1 (by first | assumption | omega) rfl ?_
  refine rw_aload f_X10_init_4 rfl ?_
  refine rw_new f_X10_init_5 ?_
  first | refine rw_dupr f_X10_init_8 ?_ | refine rw_dupi f_X10_init_8 ?_
  rw [hn]
  refine rw_callI f_X10_init_9 rfl (by first | assumption | omega) rfl rfl rfl (rn_kv (C_regInit (R := R) k1 n1 al0 em0 (fun j => by rw [← hn]; exact new_I) (by rw [← hn]; exact new_R) (fun h1 rg lc fr nh => ?_)))
  skip
  have lR : R < hp_n (hp_new h 101 0 14) := by omega
  have kR1 : hp_K h1 R = (110, 0) := by rw [fr.K lR, new_Kne (by omega)]; exact kR
  have I1 : ∀ j, hp_I h1 R j = 0 := fun j => by rw [fr.I lR (by show ¬ R = R + 1; omega), new_Ine (by omega)]; exact zI j
  have al1 := fr.al al0
  have kR2 : hp_K (hp_sR h1 R 3 (R + 1)) R = (110, 0) := kR1
  have kR3 : hp_K (hp_sR (hp_sR h1 R 3 (R + 1)) R 0 tp) R = (110, 0) := kR1
  have kR4 : hp_K (hp_sI (hp_sR (hp_sR h1 R 3 (R + 1)) R 0 tp) R 1 (nI N)) R = (110, 0) := kR1
  have fr2 : Fr (at_ R) (at_ R) 0 0 h1 (hp_sR (hp_sI (hp_sR (hp_sR h1 R 3 (R + 1)) R 0 tp) R 1 (nI N)) R 2 F) := Fr_tr (Fr_tr (Fr_tr (WI := at_ R) (WR := at_ R) (c := 0) (s := 0) Fr_sR Fr_sR (fun _ _ w => absurd w id) (fun _ _ w => w) (fun _ _ w => absurd w id) (fun _ _ w => w) (by omega) (by omega)) Fr_sI (WI := at_ R) (WR := at_ R) (c := 0) (s := 0) (fun _ _ w => w) (fun _ _ w => w) (fun _ _ w => w) (fun _ _ w => absurd w id) (by omega) (by omega)) Fr_sR (fun _ _ w => w) (fun _ _ w => w) (fun _ _ w => absurd w id) (fun _ _ w => w) (by omega) (by omega)
  refine rw_putR f_X10_init_12 (by assumption) ?_
  refine rw_aload f_X10_init_15 rfl ?_
  refine rw_aload f_X10_init_16 rfl ?_
  refine rw_putR f_X10_init_17 (by assumption) ?_
  refine rw_aload f_X10_init_20 rfl ?_
  refine rw_iload f_X10_init_21 rfl ?_
  refine rw_putI f_X10_init_22 (by assumption) ?_
  refine rw_aload f_X10_init_25 rfl ?_
  refine rw_aload f_X10_init_26 rfl ?_
  refine rw_putR f_X10_init_27 (by assumption) ?_
  refine rw_vret f_X10_init_30 ?_
  skip
  refine hk _ (rg.fr2 al1 fr2 (fun b w => by rw [show b = R from w, kR1]; exact ⟨by omega, by decide⟩) (fun b w => by rw [show b = R from w, kR1]; exact ⟨by omega, z, by decide, fun i hi y => by have := lc i hi; omega⟩)).1 kR1 ?_ sR_same ?_ ?_ ?_ (Fr_tr (Fr_tr f0 fr (WI := at_ R) (WR := at_ R) (c := 6) (s := 63) (fun _ _ w => absurd w id) (fun _ _ w => absurd w id) (fun b hb w => by have w' : b = R + 1 := w; omega) (fun b hb w => by have w' : b = R + 1 := w; omega) (by omega) (by omega)) fr2 (fun _ _ w => w) (fun _ _ w => w) (fun _ _ w => w) (fun _ _ w => w) (by omega) (by omega)) nh
  · rw [sR_ne (by omega)]; exact sR_same
  · rw [sR_ne (by omega)]
    show hp_R (hp_sR (hp_sR h1 R 3 (R + 1)) R 0 tp) R 3 = _
    rw [sR_ne (by omega)]; exact sR_same
  · show hp_I (hp_sI (hp_sR (hp_sR h1 R 3 (R + 1)) R 0 tp) R 1 (nI N)) R 1 = _
    exact sI_same
  · show hp_I (hp_sI (hp_sR (hp_sR h1 R 3 (R + 1)) R 0 tp) R 1 (nI N)) R 5 = _
    rw [sI_ne (by omega)]; exact I1 5
/-- a fault is told -/
def errV (V : am_M) (e : er) : am_M := fun a j => if a = 0 ∧ j = 1 then 0 else if a = 0 ∧ j = 2 then e.1 else if a = 0 ∧ j = 3 then nI e.2 else V a j
theorem errV_o {e : er} {a j : Nat} (h1 : ¬ (a = 0 ∧ (j = 1 ∨ j = 2 ∨ j = 3))) : errV V e a j = V a j := by unfold errV; rw [if_neg (by omega), if_neg (by omega), if_neg (by omega)]
/-- what stands over from ahead, when a regiment was read -/
def EncO (V V' : am_M) : Prop := V' 0 1 = 0 ∧ V' 0 2 = 0 ∧ V' 0 3 = -1 ∧ V' 0 94 = V 0 94 ∧ ∀ j, j < 1600 → V' 1 j = V 1 j
theorem C_regiment (hC : CR h V x r nM nD nB nA nU nT nL) (sw : SWd h) (em : EM h) {t : Nat} (ht : V 0 1 = nI t) (ht1 : t ≤ 1600) {k : Int32 → am_H → Prop} (hok : ∀ g h', pText (V 1) t = .inl g → gI g → (∀ V', Enc V' g → EncS V' g → EncO V V' → ∃ R, CR h' V' x (R + 1) g.1.1.length g.1.2.1.length g.1.2.2.length 0 0 0 0) → CFr x 4813 96200 h h' → k (nI g.1.2.2.length) h') (herr : ∀ e h', pText (V 1) t = .inr e → CR h' (errV V e) x r nM nD nB nA nU nT nL → CFr x 4813 96200 h h' → k (-1) h') : Rn (d + 60) n_X0_regiment 0 [am_r x, am_u, am_u] [] h (kI k) := by
  have hC0 := hC
  obtain ⟨hW, hr, hG, hN, hA, hT, hX, hI, hS, hF⟩ := hC
  have al := hW.al
  have k0 := hW.k0
  have e5 : hp_I h x 5 = nI t := by rw [hI.1.1]; exact ht
  -- the object is made ready
  generalize hH : hp_sI (hp_sI (hp_sI h x 5 0) x 7 0) x 8 (-1) = h1
  have on1 : On (at_ x) h h1 := by rw [← hH]; exact ((On_sI (S := at_ x) rfl).tr (On_sI (S := at_ x) rfl)).tr (On_sI (S := at_ x) rfl)
  have ix : hp_I h1 x 5 = 0 ∧ hp_I h1 x 7 = 0 ∧ hp_I h1 x 8 = -1 ∧ ∀ j, ¬ j = 5 → ¬ j = 7 → ¬ j = 8 → hp_I h1 x j = hp_I h x j := by
    rw [← hH]
    exact ⟨by rw [sI_ne (by omega), sI_ne (by omega), sI_same], by rw [sI_ne (by omega), sI_same], sI_same, fun j a b c => by rw [sI_ne (by omega), sI_ne (by omega), sI_ne (by omega)]⟩
  have nh1 : hp_n h1 = hp_n h := on1.n
  have W1 : CWa h1 x := CWa_fr hW.a on1.fr (fun _ _ _ _ w => w)
  have al1 : Al h1 := W1.2.2.2
  have em1 : EM h1 := em.fr al on1.fr id
  have l84 := hW.l84
  have k13 : hp_K h1 (x + 13) = (2, 1600) := W1.k rfl
  have k14 : hp_K h1 (x + 14) = (103, 0) := W1.k rfl
  -- the reader
  have f2 : Fr no no 1 11 h1 (hp_new h1 110 0 11) := Fr_new
  have kR2 : hp_K (hp_new h1 110 0 11) (hp_n h1) = (110, 0) := new_K
  have zR2 : ¬ hp_n h1 = 0 := by omega
  have hRn : hp_n (hp_new h1 110 0 11) = hp_n h1 + 1 := rfl
  have W2 : CWa (hp_new h1 110 0 11) x := CWa_fr W1 f2 (fun _ _ _ _ w => w)
  have f12 : Fr (at_ x) no 1 11 h (hp_new h1 110 0 11) := Fr_tr on1.fr f2 (fun _ _ w => w) (fun _ _ w => w) (fun _ _ w => absurd w id) (fun _ _ w => w) (by omega) (by omega)
  have hW0 := hW.a
  refine rw_aload f_X0_regiment_0 rfl ?_
  refine rw_getI f_X0_regiment_1 (by first | assumption | exact hW.k rfl | exact hW.k0) ?_
  rw [e5]
  refine rw_istore f_X0_regiment_4 rfl rfl ?_
  refine rw_aload f_X0_regiment_5 rfl ?_
  refine rw_const f_X0_regiment_6 ?_
  refine rw_putI f_X0_regiment_7 (by first | assumption | exact hW.k rfl | exact hW.k0) ?_
  refine rw_aload f_X0_regiment_10 rfl ?_
  refine rw_const f_X0_regiment_11 ?_
  refine rw_putI f_X0_regiment_12 (by first | assumption | exact hW.k rfl | exact hW.k0) ?_
  refine rw_aload f_X0_regiment_15 rfl ?_
  refine rw_const f_X0_regiment_16 ?_
  refine rw_putI f_X0_regiment_17 (by first | assumption | exact hW.k rfl | exact hW.k0) ?_
  rw [hH]
  refine rw_aload f_X0_regiment_20 rfl ?_
  refine rw_new f_X0_regiment_21 ?_
  refine rw_dupr f_X0_regiment_24 ?_
  refine rw_aload f_X0_regiment_25 rfl ?_
  refine rw_getR f_X0_regiment_26 W2.k0 (W2.r0 rfl) ?_
  refine rw_iload f_X0_regiment_29 rfl ?_
  refine rw_aload f_X0_regiment_30 rfl ?_
  refine rw_getR f_X0_regiment_31 W2.k0 (W2.r0 rfl) ?_
  refine rw_callI f_X0_regiment_34 rfl zR2 rfl rfl rfl (rn_kv (C_readerInit (d := d + 55) (R := hp_n h1) (tp := x + 13) (F := x + 14) (N := t) kR2 hRn (f2.al al1) (em1.fr al1 f2 id) (fun j => new_I) (fun h3 rg3 kR3 r03 r23 r33 i13 i53 f3 n3 => ?_)))
  have f13 : Fr (at_ x) no 7 74 h h3 := Fr_tr f12 f3 (fun _ _ w => w) (fun _ _ w => w) (fun b hb w => by have w' : b = hp_n h1 := w; omega) (fun b hb w => by have w' : b = hp_n h1 := w; omega) (by omega) (by omega)
  have al3 := f13.al al
  have sw3 : SWd h3 := sw.fr al f13 (fun b w => by rw [show b = x from w, k0]; decide) (fun b w => absurd w id)
  have tp3 : hp_K h3 (x + 13) = (2, 1600) := by rw [f13.K (by omega)]; exact hW.k rfl
  have F3 : hp_K h3 (x + 14) = (103, 0) := by rw [f13.K (by omega)]; exact hW.k rfl
  have tape3 : ∀ j, j < t → hp_I h3 (x + 13) j &&& 255 = V 1 j := fun j hj => by rw [f13.I (by omega) (by show ¬ x + 13 = x; omega)]; exact hI.2.2 j (by omega)
  have RS3 : RS h3 (hp_n h1) (x + 14) (x + 13) t (V 1) rg0 := ⟨⟨⟨kR3, zR2, r03, tp3, i13, ht1, tape3⟩, r23, F3, by omega, r33, sw3, al3⟩, rg3, by omega, by omega⟩
  refine rw_callV f_X0_regiment_37 rfl kR3 zR2 rfl rfl rfl rfl (rn_kh rfl (C_read (d := d) RS3 i53 (fun g h4 e4 gi4 rs4 gl4 => ?_) (fun e h4 e4 gl4 fl4 => ?_)))
  · -- a regiment
    have f14 : Fr (fun b => b = x ∨ b = x + 14) no (7 + 3 * (t + 2)) (74 + 60 * (t + 2)) h h4 := Fr_tr f13 gl4 (fun _ _ w => Or.inl w) (fun _ _ w => w) (fun b hb w => by rcases w with w | w; exact Or.inr w; omega) (fun b hb w => by omega) (Nat.le_refl _) (Nat.le_refl _)
    have W4 : CWa h4 x := CWa_fr hW.a f14 (fun _ _ _ _ w => w)
    have rg4 := rs4.2.1
    have al4 := f14.al al
    have k04 := W4.k0
    have x0 := hW.1
    -- the object's own regiment
    have f5 : Fr no (at_ x) 0 0 h4 (hp_sR h4 x 0 (hp_n h1 + 1)) := Fr_sR
    have W5 : CWa (hp_sR h4 x 0 (hp_n h1 + 1)) x := ⟨W4.1, W4.2.1, fun a k b e => by
      have nk : ¬ (x + a = x ∧ k = 0) := fun z => by
        have za : a = 0 := by omega
        rw [za, z.2] at e; cases e
      rw [sR_ne nk]; exact W4.2.2.1 a k b e, f5.al al4⟩
    have lcp : ∀ i, i < 3 → ∃ n, LST h4 (hp_n h1 + 2 + i) n := fun i hi => by
      rcases (by omega : i = 0 ∨ i = 1 ∨ i = 2) with z | z | z <;> rw [z]
      · exact ⟨_, rg4.2.1.1.1⟩
      · exact ⟨_, rg4.2.1.2.1.1⟩
      · exact ⟨_, rg4.2.1.2.2.1⟩
    obtain ⟨rg5, ar5⟩ := rg4.fr2 al4 f5 (fun b w => absurd w id) (fun b w => by
      rw [show b = x from w, k04]
      exact ⟨by omega, x0, by decide, fun i hi y => by
        obtain ⟨n, L⟩ := lcp i hi
        have := LST_k5 L y.2
        rw [← y.1, k04] at this; cases this⟩)
    have f15 : Fr (fun b => b = x ∨ b = x + 14) (at_ x) (7 + 3 * (t + 2)) (74 + 60 * (t + 2)) h (hp_sR h4 x 0 (hp_n h1 + 1)) := Fr_tr f14 f5 (fun _ _ w => w) (fun _ _ w => absurd w id) (fun _ _ w => absurd w id) (fun _ _ w => w) (Nat.le_refl _) (Nat.le_refl _)
    have kp : ∀ l n, LST h l n → ¬ l = x → ¬ l = x + 14 → LST (hp_sR h4 x 0 (hp_n h1 + 1)) l n ∧ arr (hp_sR h4 x 0 (hp_n h1 + 1)) l = arr h l := fun l n L z1 z2 => by
      have := LST_fr al L f15 (by omega) z1 (fun w => by
        have := LST_k5 L w.2
        have w' : arr h l = x := w.1
        rw [w', k0] at this; cases this) (by show ¬ 0 = x; omega)
      exact ⟨this.1, this.2.1⟩
    obtain ⟨A15, a15⟩ := kp _ _ hA.1 (by omega) (by omega)
    obtain ⟨A16, a16⟩ := kp _ _ hA.2.1 (by omega) (by omega)
    obtain ⟨A28, a28⟩ := kp _ _ hT.1 (by omega) (by omega)
    have oldL : ∀ l, (l = x + 15 ∨ l = x + 16 ∨ l = x + 28) → (∃ n, LST h l n) ∧ arr (hp_sR h4 x 0 (hp_n h1 + 1)) l = arr h l ∧ isL h x r l := fun l z => by
      rcases z with z | z | z <;> rw [z]
      · exact ⟨⟨_, hA.1⟩, a15, Or.inl rfl⟩
      · exact ⟨⟨_, hA.2.1⟩, a16, Or.inr (Or.inl rfl)⟩
      · exact ⟨⟨_, hT.1⟩, a28, Or.inr (Or.inr (Or.inl rfl))⟩
    have sep5 : SLs (hp_sR h4 x 0 (hp_n h1 + 1)) x (hp_n h1) := by
      constructor
      · intro l l' hl hl' hc ea
        obtain ⟨⟨n, L⟩, q1, q2⟩ := oldL l hl
        obtain ⟨⟨n', L'⟩, q1', q2'⟩ := oldL l' hl'
        have hc' : 0 < lcap h l := by
          have : lcap (hp_sR h4 x 0 (hp_n h1 + 1)) l = lcap h l := by
            show (hp_K h4 (arr (hp_sR h4 x 0 (hp_n h1 + 1)) l)).2 = _
            rw [q1, f14.K (arr_lt al L)]
          omega
        rw [q1, q1'] at ea
        exact hS.1 l l' q2 q2' (LST_k5 L hc') ea
      · intro l i hl hi hc ea
        obtain ⟨⟨n, L⟩, q1, q2⟩ := oldL l hl
        obtain ⟨n', L'⟩ := lcp i hi
        rw [q1, (ar5 i hi).1] at ea
        have lt := arr_lt al L
        have kk : hp_K h4 (arr h l) = hp_K h (arr h l) := f14.K lt
        have hc' : 0 < lcap h l := by
          have : lcap (hp_sR h4 x 0 (hp_n h1 + 1)) l = lcap h l := by
            show (hp_K h4 (arr (hp_sR h4 x 0 (hp_n h1 + 1)) l)).2 = _
            rw [q1, kk]
          omega
        have c' : 0 < lcap h4 (hp_n h1 + 2 + i) := LST_5c L' (by rw [← ea, kk]; exact LST_k5 L hc')
        have := (rg4.2.2.1 i hi c').1
        omega
    have r05 : hp_R (hp_sR h4 x 0 (hp_n h1 + 1)) x 0 = hp_n h1 + 1 := sR_same
    refine rw_putR f_X0_regiment_40 k04 ?_
    refine rw_goto f_X0_regiment_43 ?_
    refine rw_aload f_X0_regiment_65 rfl ?_
    refine rw_callV f_X0_regiment_66 rfl W5.k0 x0 rfl rfl rfl rfl (rn_kv (C_start (d := d + 55) W5 r05 rg5 gi4 A15 A16 A28 sep5 (Or.inr (by omega)) (fun h6 st6 m1 m2 m3 dp6 i12 ixx bx6 => ?_)))
    obtain ⟨W6, r06, rg6, f56, ar6, ar6'⟩ := st6
    refine rw_aload f_X0_regiment_69 rfl ?_
    refine rw_callV f_X0_regiment_70 rfl W6.k0 x0 rfl rfl rfl rfl (rn_ki (C_buttonsR (d := d + 58) W6 r06 rg6 ?_))
    refine rw_iret f_X0_regiment_73 ?_
    have n5 : hp_n (hp_sR h4 x 0 (hp_n h1 + 1)) = hp_n h4 := rfl
    refine hok g h6 e4 gi4 (fun V' en es eo => ⟨hp_n h1, ?_⟩) ?_
    · obtain ⟨o1, o2, o3, o4, o5⟩ := eo
      have sep6 : SLs h6 x (hp_n h1) := by
        refine ⟨fun l l' hl hl' hc ea => ?_, fun l i hl hi hc ea => ?_⟩
        · rw [(ar6 l hl).2] at hc
          rw [(ar6 l hl).1, (ar6 l' hl').1] at ea
          exact sep5.1 l l' hl hl' hc ea
        · rw [(ar6 l hl).2] at hc
          rw [(ar6 l hl).1, (ar6' i hi).1] at ea
          exact sep5.2 l i hl hi hc ea
      have mk : ∀ b, x + 33 ≤ b → b ≤ x + 84 → (hp_K h6 b).1 = 1 ∨ (hp_K h6 b).1 = 3 ∨ (hp_K h6 b).1 = 4 ∨ (hp_K h6 b).1 = 109 := fun b b1 b2 => by
        rw [f56.K (by have := f14.n; show b < hp_n h4; omega)]
        show (hp_K h4 b).1 = 1 ∨ (hp_K h4 b).1 = 3 ∨ (hp_K h4 b).1 = 4 ∨ (hp_K h4 b).1 = 109
        rw [f14.K (by omega)]
        exact hW.2.2.2.2 b b1 b2
      have ix4 : ∀ j, hp_I h4 x j = hp_I h1 x j := fun j => by
        have z1 : hp_I h3 x = hp_I h1 x := (f3.I (show x < hp_n (hp_new h1 110 0 11) by show x < hp_n h1 + 1; omega) (by show ¬ x = hp_n h1; omega)).trans (new_Ine (by omega))
        have z2 : hp_I h4 x = hp_I h3 x := gl4.I (by omega) (by omega)
        rw [z2, z1]
      have i6 : ∀ j, ¬ j = 12 → hp_I h6 x j = hp_I h1 x j := fun j hj => by rw [ixx j hj]; exact ix4 j
      refine CR_mk W6 mk r06 rg6 gi4 m1 m2 m3 sep6 (Or.inr (by omega)) dp6 bx6 en es ⟨⟨?_, ?_, ?_, ?_, i12, es.2.2.2.2.1⟩, fun j hj => by omega, fun j hj => ?_⟩ ⟨0, o1, by omega⟩
      · rw [i6 5 (by omega), ix.1, o1]
      · rw [i6 6 (by omega), ix.2.2.2 6 (by omega) (by omega) (by omega), hI.1.2.1, o4]
      · rw [i6 7 (by omega), ix.2.1, o2]
      · rw [i6 8 (by omega), ix.2.2.1, o3]
      · rw [o5 j hj, f56.I (show x + 13 < hp_n h4 by have := f14.n; omega) (by show ¬ stI x (x + 13); intro z; have z' : x + 13 = x ∨ (x + 7 ≤ x + 13 ∧ x + 13 ≤ x + 9) ∨ x + 13 = x + 15 ∨ x + 13 = x + 16 ∨ x + 13 = x + 28 := z; omega)]
        show hp_I h4 (x + 13) j &&& 255 = _
        rw [f14.I (by omega) (by omega)]
        exact hI.2.2 j hj
    · refine Fr_tr f15 f56 (fun b hb w => by left; omega) (fun b hb w => by left; have w' : b = x := w; omega) (fun b hb w => by left; have w' : b = x ∨ (x + 7 ≤ b ∧ b ≤ x + 9) ∨ b = x + 15 ∨ b = x + 16 ∨ b = x + 28 := w; omega) (fun b hb w => ?_) (by omega) (by omega)
      have out : ∀ l n, LST h l n → (b = arr (hp_sR h4 x 0 (hp_n h1 + 1)) l ∧ 0 < lcap (hp_sR h4 x 0 (hp_n h1 + 1)) l) → LST (hp_sR h4 x 0 (hp_n h1 + 1)) l n → b < x + 33 ∨ x + 84 < b := fun l n L z L5 => by
        have k5 := LST_k5 L5 z.2
        rw [← z.1] at k5
        have : (hp_K h b).1 = 5 := by
          have e : hp_K (hp_sR h4 x 0 (hp_n h1 + 1)) b = hp_K h b := f15.K hb
          rw [← e]; exact k5
        exact hW.om (by omega)
      rcases w with w | w | w | w
      · left; omega
      · exact out _ _ hA.1 w A15
      · exact out _ _ hA.2.1 w A16
      · exact out _ _ hT.1 w A28
  · -- a fault
    have f14 : Fr (fun b => b = x ∨ b = x + 14) no (7 + 3 * (t + 2)) (74 + 60 * (t + 2)) h h4 := Fr_tr f13 gl4 (fun _ _ w => Or.inl w) (fun _ _ w => w) (fun b hb w => by rcases w with w | w; exact Or.inr w; omega) (fun b hb w => by omega) (Nat.le_refl _) (Nat.le_refl _)
    have W4 : CWa h4 x := CWa_fr hW.a f14 (fun _ _ _ _ w => w)
    have k04 := W4.k0
    have k05 : hp_K (hp_sI h4 x 7 (hp_I h4 (x + 14) 0)) x = (100, 0) := k04
    have k144 : hp_K h4 (x + 14) = (103, 0) := W4.k rfl
    have k145 : hp_K (hp_sI h4 x 7 (hp_I h4 (x + 14) 0)) (x + 14) = (103, 0) := k144
    refine rw_astore f_X0_regiment_46 rfl rfl ?_
    refine rw_aload f_X0_regiment_47 rfl ?_
    refine rw_aload f_X0_regiment_48 rfl ?_
    refine rw_getI f_X0_regiment_49 k144 ?_
    refine rw_putI f_X0_regiment_52 k04 ?_
    refine rw_aload f_X0_regiment_55 rfl ?_
    refine rw_aload f_X0_regiment_56 rfl ?_
    refine rw_getI f_X0_regiment_57 k145 ?_
    refine rw_putI f_X0_regiment_60 k05 ?_
    refine rw_const f_X0_regiment_63 ?_
    refine rw_iret f_X0_regiment_64 ?_
    have ex1 : hp_I (hp_sI h4 x 7 (hp_I h4 (x + 14) 0)) (x + 14) 1 = nI e.2 := by rw [sI_ne (by omega)]; exact fl4.2
    rw [ex1, fl4.1]
    have fin : Fr (fun b => b = x ∨ b = x + 14) no (7 + 3 * (t + 2)) (74 + 60 * (t + 2)) h (hp_sI (hp_sI h4 x 7 e.1) x 8 (nI e.2)) := Fr_tr (Fr_tr f14 (Fr_sI (a := x)) (WI := fun b => b = x ∨ b = x + 14) (WR := no) (c := 7 + 3 * (t + 2)) (s := 74 + 60 * (t + 2)) (fun _ _ w => w) (fun _ _ w => w) (fun _ _ w => Or.inl w) (fun _ _ w => w) (Nat.le_refl _) (Nat.le_refl _)) (Fr_sI (a := x)) (fun _ _ w => w) (fun _ _ w => w) (fun _ _ w => Or.inl w) (fun _ _ w => w) (Nat.le_refl _) (Nat.le_refl _)
    have ix4 : ∀ j, hp_I h4 x j = hp_I h1 x j := fun j => by
      have z1 : hp_I h3 x = hp_I h1 x := (f3.I (show x < hp_n (hp_new h1 110 0 11) by show x < hp_n h1 + 1; omega) (by show ¬ x = hp_n h1; omega)).trans (new_Ine (by omega))
      have z2 : hp_I h4 x = hp_I h3 x := gl4.I (by omega) (by omega)
      rw [z2, z1]
    refine herr e _ e4 (CR_I2 (V' := errV V e) (nL' := nL) hC0 fin (fun b w => ?_) (fun a j z => errV_o (by omega)) ⟨⟨?_, ?_, ?_, ?_, ?_, ?_⟩, fun j hj => ?_, fun j hj => ?_⟩ ⟨by rw [errV_o (by omega)]; exact hF.2.1.2.2.2.2.2.1, hF.2.1.2.2.2.2.2.2⟩ ⟨0, if_pos ⟨rfl, rfl⟩, by omega⟩) (Fr_w fin (fun b hb w => by left; omega) (fun _ _ w => absurd w id) (by omega) (by omega))
    · rcases w with w | w
      · exact Or.inl w
      · exact Or.inr (Or.inr (Or.inr (Or.inl (Or.inl (by rw [w, hW.k (a := 14) rfl])))))
    · rw [sI_ne (by omega), sI_ne (by omega), ix4, ix.1]; exact (if_pos ⟨rfl, rfl⟩).symm
    · rw [sI_ne (by omega), sI_ne (by omega), ix4, ix.2.2.2 6 (by omega) (by omega) (by omega), errV_o (by omega)]; exact hI.1.2.1
    · rw [sI_ne (by omega), sI_same]; rfl
    · rw [sI_same]; rfl
    · rw [sI_ne (by omega), sI_ne (by omega), ix4, ix.2.2.2 12 (by omega) (by omega) (by omega)]; exact hI.1.2.2.2.2.1
    · rw [errV_o (by omega)]; exact hI.1.2.2.2.2.2
    · rw [fin.I (by omega) (by omega), errV_o (by omega)]; exact hI.2.1 j hj
    · rw [fin.I (by omega) (by omega), errV_o (by omega)]; exact hI.2.2 j hj
end CRegi2
