/-! THE CLASS: keep, rest, clash -/
/-- all orders of a man -/
def oL (V : am_M) (nB nD : Nat) (man bd : Int32) : List ord := dl V nB nD man bd nD ([], 0, 0)
def bstO (V : am_M) (nB nD : Nat) (man bd : Int32) : ord := ((oL V nB nD man bd).foldl updB none).getD ([], 0, 0)
theorem updB_some {b : Option ord} {o : ord} : ∃ c, updB b o = some c := by
  unfold updB
  cases b with
  | none => exact ⟨_, rfl⟩
  | some b => dsimp only; repeat' split
              all_goals exact ⟨_, rfl⟩
theorem fold_some : ∀ (L : List ord) (b : ord), ∃ c, L.foldl updB (some b) = some c
  | [], b => ⟨b, rfl⟩
  | o :: L, b => by
    obtain ⟨c, hc⟩ := updB_some (b := some b) (o := o)
    rw [List.foldl_cons, hc]
    exact fold_some L c
theorem oL_cons {V : am_M} {nB nD : Nat} {man bd : Int32} : ∃ L, oL V nB nD man bd = ([], 0, 0) :: L := by
  unfold oL
  cases nD with
  | zero => exact ⟨[], rfl⟩
  | succ n => exact ⟨_, rfl⟩
theorem bstO_eq {V : am_M} {nB nD : Nat} {man bd : Int32} : (oL V nB nD man bd).foldl updB none = some (bstO V nB nD man bd) := by
  obtain ⟨L, hL⟩ := oL_cons (V := V) (nB := nB) (nD := nD) (man := man) (bd := bd)
  obtain ⟨c, hc⟩ := fold_some L ([], 0, 0)
  have : (oL V nB nD man bd).foldl updB none = some c := by rw [hL]; exact hc
  unfold bstO
  rw [this]; rfl
/-- what all orders have: few deeds, small sets -/
theorem dl_all {V : am_M} {nB nD : Nat} {man bd : Int32} (hB : nB ≤ 10) (P : ord → Prop) (hP : ∀ o e p, P o → e < nD → child V nB man bd o e = some p → P p) : ∀ n o, P o → ∀ p ∈ dl V nB nD man bd n o, P p := by
  intro n
  induction n with
  | zero => intro o ho p hp; rw [dl, List.mem_singleton] at hp; rw [hp]; exact ho
  | succ n ih =>
    intro o ho p hp
    rw [dl, List.mem_cons] at hp
    rcases hp with hp | hp
    · rw [hp]; exact ho
    · rw [List.mem_flatMap] at hp
      obtain ⟨e, he, hp⟩ := hp
      rw [List.mem_range] at he
      cases hc : child V nB man bd o e with
      | none => rw [hc] at hp; cases hp
      | some q => rw [hc] at hp; exact ih q (hP o e q ho he hc) p hp
theorem fold_mem : ∀ (L : List ord) (b c : ord), L.foldl updB (some b) = some c → c = b ∨ c ∈ L
  | [], b, c, h => Or.inl (by cases h; rfl)
  | o :: L, b, c, h => by
    rw [List.foldl_cons] at h
    have : updB (some b) o = some b ∨ updB (some b) o = some o := by
      unfold updB; dsimp only; repeat' split
      all_goals simp
    rcases this with q | q
    · rw [q] at h
      rcases fold_mem L b c h with z | z
      · exact Or.inl z
      · exact Or.inr (List.mem_cons_of_mem _ z)
    · rw [q] at h
      rcases fold_mem L o c h with z | z
      · rw [z]; exact Or.inr List.mem_cons_self
      · exact Or.inr (List.mem_cons_of_mem _ z)
theorem bstO_mem {V : am_M} {nB nD : Nat} {man bd : Int32} : bstO V nB nD man bd ∈ oL V nB nD man bd := by
  obtain ⟨L, hL⟩ := oL_cons (V := V) (nB := nB) (nD := nD) (man := man) (bd := bd)
  have h := bstO_eq (V := V) (nB := nB) (nD := nD) (man := man) (bd := bd)
  rw [hL] at h ⊢
  rcases fold_mem L ([], 0, 0) _ h with z | z
  · rw [z]; exact List.mem_cons_self
  · exact List.mem_cons_of_mem _ z
theorem oL_ok {V : am_M} {nB nD : Nat} {man bd : Int32} (hB : nB ≤ 10) : ∀ o ∈ oL V nB nD man bd, s10 o.2.2 ∧ o.1.length + fc nD o.1 = nD := by
  refine dl_all hB (fun o => s10 o.2.2 ∧ o.1.length + fc nD o.1 = nD) (fun o e p ho he hc => ⟨s10_child hB hc ho.1, ?_⟩) nD ([], 0, 0) ⟨s10_0, by rw [fc_nil]; exact Nat.zero_add _⟩
  obtain ⟨c1, c2, c3⟩ := child_some hc
  rw [c2, List.length_append, List.length_singleton]
  have := fc_add he c1
  have := ho.2
  omega
theorem child_V {V V' : am_M} {nB : Nat} {man bd : Int32} (e : ∀ a j, regA a j = true → V' a j = V a j) (en : ∀ j, V' 34 j = V 34 j) (o : ord) (d : Nat) : child V' nB man bd o d = child V nB man bd o d := by
  have m : ∀ dy, oMt V' man d dy = oMt V man d dy := fun dy => by
    funext b
    unfold oMt
    rw [en b, e 26 b rfl, e 28 b rfl, e 29 b rfl]
  have p : ∀ b, V' 33 b = V 33 b := fun b => e 33 b rfl
  unfold child oForb oKept oDay
  simp only [m, p, e 18 d rfl, e 0 60 rfl]
theorem dl_V {V V' : am_M} {nB nD : Nat} {man bd : Int32} (e : ∀ a j, regA a j = true → V' a j = V a j) (en : ∀ j, V' 34 j = V 34 j) : ∀ n o, dl V' nB nD man bd n o = dl V nB nD man bd n o := by
  intro n
  induction n with
  | zero => intro o; rfl
  | succ n ih =>
    intro o
    simp only [dl, child_V e en, ih]
theorem bstO_V {V V' : am_M} {nB nD : Nat} {man bd : Int32} (e : ∀ a j, regA a j = true → V' a j = V a j) (en : ∀ j, V' 34 j = V 34 j) : bstO V' nB nD man bd = bstO V nB nD man bd := by
  unfold bstO oL
  rw [dl_V e en]
section COrders2
variable {d : Nat} {h : am_H} {V : am_M} {x r nM nD nB nA nU nT nL : Nat} {k : Int32 → am_H → Prop}
theorem C_lay (hC : CR h V x r nM nD nB nA nU nT nL) {man late bd : Int32} (hbd : V 34 20 + late = bd) {k : am_H → Prop} (hk : ∀ h', On (oS x) h h' → OBs h' x (some (bstO V nB nD man bd)) → OK1 h' x (oL V nB nD man bd) → k h') : Rn (d + 12) n_X4_lay 0 [am_r (x + 18), am_i man, am_i late, am_u] [] h (kV k) := by
  have hC0 := hC
  have hD6 := hC0.wb.1.2.2.2.1
  have hC' := hC
  obtain ⟨hW, hr, hG, hN, hA, hT, hX, hI, hS, hF⟩ := hC'
  obtain ⟨⟨rK, r0⟩, ⟨hLM, hM⟩, ⟨hLD, hD⟩, ⟨hLO, hO⟩, ⟨⟨hlk, hla⟩, hlike⟩, ⟨htk, hwear⟩, gf, gu, gh, gs⟩ := hG
  obtain ⟨⟨⟨fM, fM6, fD, fD6, fB, fB10⟩, fO, ⟨fH, fSt⟩, fHr, fFr, fWr⟩, ⟨fA, fU, fAU, fT, fT30, fL, fL10⟩, fTp, fNow, fWere, fBox, fTg⟩ := hF
  have kLM := hLM.1.1; have zLM := hLM.2
  have kLD := hLD.1.1; have zLD := hLD.2
  have kLO := hLO.1.1; have zLO := hLO.2
  refine rw_aload f_X4_lay_0 rfl ?_
  refine rw_iload f_X4_lay_1 rfl ?_
  refine rw_putI f_X4_lay_2 (by first | assumption | exact hW.k rfl | exact hW.k0) ?_
  refine rw_aload f_X4_lay_5 rfl ?_
  refine rw_iload f_X4_lay_6 rfl ?_
  refine rw_putI f_X4_lay_7 (by first | assumption | exact hW.k rfl | exact hW.k0) ?_
  refine rw_aload f_X4_lay_10 rfl ?_
  refine rw_const f_X4_lay_11 ?_
  refine rw_putI f_X4_lay_12 (by first | assumption | exact hW.k rfl | exact hW.k0) ?_
  refine rw_const f_X4_lay_15 ?_
  refine rw_istore f_X4_lay_16 rfl rfl ?_
  skip
  generalize hg : hp_sI (hp_sI (hp_sI h (x + 18) 3 man) (x + 18) 4 late) (x + 18) 5 (-1) = g
  have onG : On (oS x) h g := by
    rw [← hg]; exact ((On_sI (by omega)).tr (On_sI (by omega))).tr (On_sI (by omega))
  have g3 : hp_I g (x + 18) 3 = man := by rw [← hg]; simp [sI_if]
  have g4 : hp_I g (x + 18) 4 = late := by rw [← hg]; simp [sI_if]
  have g5 : hp_I g (x + 18) 5 = -1 := by rw [← hg]; simp [sI_if]
  refine rn_inv (N := 1024) (fun i ls hh => ls = [am_r (x + 18), am_i man, am_i late, am_i (nI i)] ∧ On (oS x) h hh ∧ (∀ j, j < i → hp_I hh (x + 19) j = 0) ∧ ∀ j, hp_I hh (x + 18) j = hp_I g (x + 18) j) (fun i hi ls hh q ih => ?_) (fun ls hh q => ?_) ⟨rfl, onG, fun j hj => absurd hj (Nat.not_lt_zero j), fun _ => rfl⟩
  · obtain ⟨rfl, on, h0, h18⟩ := q
    have hW := (CR_oS hC0 on).1
    have ih2 := ih _ (hp_sI hh (x + 19) i 0) ⟨rfl, on.tr (On_sI (by omega)), fun j hj => ?_, fun j => ?_⟩
    · refine rw_iload f_X4_lay_17 rfl ?_
      refine rw_aload f_X4_lay_18 rfl ?_
      refine rw_getR f_X4_lay_19 (by first | assumption | exact hW.k rfl | exact hW.k0) (by first | assumption | exact hW.r0 rfl | exact hW.r rfl | rfl) ?_
      refine rw_alen f_X4_lay_22 (by first | assumption | exact hW.k rfl | exact hW.k0) ?_
      rw [show Int32.ofNat 1024 = nI 1024 from rfl]
      refine rw_icmpF f_X4_lay_23 (decide_eq_false (nI_ge hi (by omega))) ?_
      refine rw_aload f_X4_lay_26 rfl ?_
      refine rw_getR f_X4_lay_27 (by first | assumption | exact hW.k rfl | exact hW.k0) (by first | assumption | exact hW.r0 rfl | exact hW.r rfl | rfl) ?_
      refine rw_iload f_X4_lay_30 rfl ?_
      refine rw_const f_X4_lay_31 ?_
      refine rw_zastE (j := i) f_X4_lay_32 (by first | assumption | exact hW.k rfl | exact hW.k0) (by first | rfl | exact nI_addl _ _ | (simp only [nI, Int32.ofNat_add, Int32.ofNat_mul]; rfl) | (simp only [nI_addl, nI_mull, nI_lit, nI_1']; done) | (simp only [nI_1, nI_0, nI_addl, nI_mull, ← nI_succ]; rfl)) (by omega) (by omega) (by first | exact Or.inl rfl | exact Or.inr rfl | exact bI_01 _ | assumption) ?_
      refine rw_iinc f_X4_lay_33 rfl rfl ?_
      refine rw_goto f_X4_lay_36 ?_
      rw [nI_1']
      exact ih2
    · by_cases e : j = i
      · rw [e]; exact sI_same
      · rw [sI_ne (by omega)]; exact h0 j (by omega)
    · rw [sI_ne (by omega)]; exact h18 j
  · obtain ⟨rfl, on, h0, h18⟩ := q
    have hW := (CR_oS hC0 on).1
    have go := C_go (d := d + 7 - nD) (man := man) (late := late) hC0 hbd nD ([], 0, 0) (by rw [fc_nil]; exact Nat.le_refl _) (by rw [fc_nil]; exact Nat.zero_add _) s10_0 hh [] 0 ⟨on, by rw [h18]; exact g3, by rw [h18]; exact g4, by show hp_I hh (x + 18) 5 = -1; rw [h18]; exact g5, fun j hj => by rw [h0 j hj]; rfl⟩ (fun i e q => by cases q) (fun e he => by rw [has_tb (by omega), tb_0]; rfl) (k := fun h' => Rn (d + 12) n_X4_lay 47 [am_r (x + 18), am_i man, am_i late, am_i (nI 1024)] [] h' (kV k)) (fun h2 hst hrow => ?_)
    · rw [show d + 7 - nD + nD + 4 = d + 11 by omega] at go
      refine rw_iload f_X4_lay_17 rfl ?_
      refine rw_aload f_X4_lay_18 rfl ?_
      refine rw_getR f_X4_lay_19 (by first | assumption | exact hW.k rfl | exact hW.k0) (by first | assumption | exact hW.r0 rfl | exact hW.r rfl | rfl) ?_
      refine rw_alen f_X4_lay_22 (by first | assumption | exact hW.k rfl | exact hW.k0) ?_
      rw [show Int32.ofNat 1024 = nI 1024 from rfl]
      refine rw_icmpT f_X4_lay_23 (decide_eq_true (Int32.le_refl _)) ?_
      refine rw_aload f_X4_lay_39 rfl ?_
      refine rw_const f_X4_lay_40 ?_
      refine rw_const f_X4_lay_41 ?_
      refine rw_const f_X4_lay_42 ?_
      refine rw_const f_X4_lay_43 ?_
      exact rw_callV f_X4_lay_44 rfl (hW.k rfl) (Nat.succ_ne_zero _) rfl rfl rfl rfl (rn_kv go)
    · obtain ⟨o1, o2, o3, o4, o5⟩ := hst
      rw [List.nil_append] at o4 o5
      refine rw_vret f_X4_lay_47 (hk h2 o1 ?_ o5)
      have : (dl V nB nD man bd nD ([], 0, 0)).foldl updB none = some (bstO V nB nD man bd) := bstO_eq
      rw [this] at o4
      exact o4
/-- a row is laid -/
def showV (V : am_M) (f : Nat → Int32) (n : Nat) : am_M := fun a j => if a = 0 ∧ j = 85 then nI n else if a = 42 ∧ j < n then f j else V a j
theorem showV_o {f : Nat → Int32} {n a j : Nat} (h1 : ¬ a = 42) (h2 : ¬ (a = 0 ∧ j = 85)) : showV V f n a j = V a j := by unfold showV; rw [if_neg h2, if_neg (fun q => h1 q.1)]
theorem CR_show {WI : Nat → Prop} {c s n : Nat} {f : Nat → Int32} {h' : am_H} (hC : CR h V x r nM nD nB nA nU nT nL) (fr : Fr WI no c s h h') (hi : ∀ b, WI b → b = x ∨ b = x + 17 ∨ Scr h x b) (e12 : hp_I h' x 12 = nI n) (ex : ∀ j, ¬ j = 12 → hp_I h' x j = hp_I h x j) (hn : n ≤ 10) (hf : ∀ j, j < n → hp_I h' (x + 17) j = f j) (h13 : ¬ WI (x + 13)) : CR h' (showV V f n) x r nM nD nB nA nU nT n := by
  obtain ⟨⟨i1, i2, i3, i4, i5, i6⟩, i7, i8⟩ := hC.2.2.2.2.2.2.2.1
  have k13 : hp_K h (x + 13) = (2, 1600) := hC.1.k rfl
  have e : ∀ {a j}, ¬ a = 42 → ¬ (a = 0 ∧ j = 85) → showV V f n a j = V a j := fun h1 h2 => showV_o h1 h2
  refine CR_I2 hC fr (fun b w => by rcases hi b w with q | q | q; exact Or.inl q; exact Or.inr (Or.inr (Or.inl q)); exact Or.inr (Or.inr (Or.inr q))) (fun a j q => e (by omega) (by omega)) ⟨⟨?_, ?_, ?_, ?_, e12, rfl⟩, fun j hj => ?_, fun j hj => ?_⟩ ⟨rfl, hn⟩ ?_
  · rw [e (by omega) (by omega), ex _ (by decide)]; exact i1
  · rw [e (by omega) (by omega), ex _ (by decide)]; exact i2
  · rw [e (by omega) (by omega), ex _ (by decide)]; exact i3
  · rw [e (by omega) (by omega), ex _ (by decide)]; exact i4
  · rw [hf j hj]; unfold showV; rw [if_neg (by omega), if_pos ⟨rfl, hj⟩]
  · rw [e (by omega) (by omega), fr.I (Al_lt hC.1.al k13 (by decide)) h13]; exact i8 j hj
  · rw [e (by omega) (by omega)]; exact hC.ws.2.1
abbrev xS (x : Nat) : Nat → Prop := fun b => b = x ∨ b = x + 17
theorem C_show (hW : CW h x) {a n u : Nat} (ka : hp_K h a = (1, u)) (hu : u ≤ 10) (hn : n ≤ u) (hax : ¬ a = x + 17) {k : am_H → Prop} (hk : ∀ h', On (xS x) h h' → hp_I h' x 12 = nI n → (∀ j, ¬ j = 12 → hp_I h' x j = hp_I h x j) → (∀ j, j < n → hp_I h' (x + 17) j = hp_I h a j) → k h') : Rn d n_X0_show 0 [am_r x, am_r a, am_i (nI n)] [] h (kV k) := by
  have k17 : hp_K h (x + 17) = (1, 10) := hW.k rfl
  refine rw_aload f_X0_show_0 rfl ?_
  refine rw_const f_X0_show_1 ?_
  refine rw_aload f_X0_show_2 rfl ?_
  refine rw_getR f_X0_show_3 (by first | assumption | exact hW.k rfl | exact hW.k0) (by first | assumption | exact hW.r0 rfl | exact hW.r rfl | rfl) ?_
  refine rw_const f_X0_show_6 ?_
  refine rw_iload f_X0_show_7 rfl ?_
  refine rw_acpyI f_X0_show_8 ka k17 ?_ ?_
  · rw [nI_clamp (by omega)]
    have := nI_pos (n := n) (by omega)
    intro z
    rcases z with z | z | z | z | z
    · exact this z
    · exact absurd z (by decide)
    · exact absurd z (by decide)
    · rw [show Int32.toNatClampNeg 0 = 0 from rfl] at z; omega
    · rw [show Int32.toNatClampNeg 0 = 0 from rfl] at z; omega
  rw [nI_clamp (by omega), show Int32.toNatClampNeg 0 = 0 from rfl]
  refine rw_aload f_X0_show_11 rfl ?_
  refine rw_iload f_X0_show_12 rfl ?_
  refine rw_putI f_X0_show_13 hW.k0 ?_
  refine rw_vret f_X0_show_16 ?_
  have rd : ∀ b j, ¬ (b = x + 17 ∧ j < n) → am_cpy h.1 a 0 (x + 17) 0 n b j = hp_I h b j := by
    intro b j hb
    unfold am_cpy
    rw [if_neg (by omega)]
  refine hk _ ⟨rfl, fun b hb => ?_⟩ sI_same (fun j hj => ?_) (fun j hj => ?_)
  · funext j
    rw [sI_ne (fun q => hb (Or.inl q.1))]
    exact rd b j (fun q => hb (Or.inr q.1))
  · rw [sI_ne (by omega)]
    exact rd x j (by omega)
  · rw [sI_ne (by omega)]
    show am_cpy h.1 a 0 (x + 17) 0 n (x + 17) j = _
    unfold am_cpy
    rw [if_pos ⟨rfl, Nat.zero_le _, by omega⟩, show 0 + (j - 0) = j by omega]
/-- what is laid, nothing -/
theorem CR_lay0 (hC : CR h V x r nM nD nB nA nU nT nL) (f : Nat → Int32) : CR (hp_sI h x 12 0) (showV V f 0) x r nM nD nB nA nU nT 0 :=
  CR_show hC Fr_sI (fun b w => Or.inl w) sI_same (fun j hj => sI_ne (by omega)) (by omega) (fun j hj => absurd hj (Nat.not_lt_zero j)) (show ¬ x + 13 = x by omega)
theorem CFr_xS {h' : am_H} {S : Nat → Prop} (on : On S h h') (hS : ∀ b, S b → b < x + 33 ∨ x + 84 < b) : CFr x 0 0 h h' := Fr_w on.fr (fun b _ w => hS b w) (fun _ _ w => absurd w id) (Nat.le_refl _) (Nat.le_refl _)
theorem showV_0 {f g : Nat → Int32} {n : Nat} : showV (showV V f 0) g n = showV V g n := by
  funext a j
  unfold showV
  by_cases e1 : a = 0 ∧ j = 85
  · simp [e1]
  · by_cases e2 : a = 42 ∧ j < n
    · simp [e2]
    · simp [e1, e2]
def ok_keep (V : am_M) (man what : Int32) : Bool := isIn man 0 (V 0 56 - 1) && isIn what 0 2
def an_keep (o : ord) (what : Int32) : Int32 := if what = 0 then pc o.2.2 else if what = 1 then o.2.1 else o.2.2
def rowF (l : List Nat) : Nat → Int32 := fun i => nI (l.getD i 0)
theorem C_keep (hC : CR h V x r nM nD nB nA nU nT nL) {man what : Int32} (hk0 : ok_keep V man what = false → ∀ h', CR h' (showV V (fun _ => 0) 0) x r nM nD nB nA nU nT 0 → CFr x 0 0 h h' → k (-1) h') (hk1 : ok_keep V man what = true → ∀ h', CR h' (showV V (rowF (bstO V nB nD man (V 34 20)).1) (bstO V nB nD man (V 34 20)).1.length) x r nM nD nB nA nU nT (bstO V nB nD man (V 34 20)).1.length → CFr x 0 0 h h' → k (an_keep (bstO V nB nD man (V 34 20)) what) h') : Rn (d + 13) n_X0_keep 0 [am_r x, am_i man, am_i what] [] h (kI k) := by
  have hD6 := hC.wb.1.2.2.2.1
  have hB10 := hC.wb.1.2.2.2.2.2
  have C0 := CR_lay0 hC (fun _ => 0)
  have on0 : On (at_ x) h (hp_sI h x 12 0) := On_sI rfl
  refine rw_aload f_X0_keep_0 rfl ?_
  refine rw_const f_X0_keep_1 ?_
  refine rw_putI f_X0_keep_2 hC.1.k0 ?_
  have hV0 : ∀ a j, ¬ a = 42 → ¬ (a = 0 ∧ j = 85) → showV V (fun _ => 0) 0 a j = V a j := fun a j h1 h2 => showV_o h1 h2
  have em : showV V (fun _ => 0) 0 0 56 = V 0 56 := hV0 _ _ (by decide) (by decide)
  have e20 : showV V (fun _ => 0) 0 34 20 = V 34 20 := hV0 _ _ (by decide) (by decide)
  unfold ok_keep at hk0 hk1
  have hC' := C0
  generalize hp_sI h x 12 0 = g at *
  have tail : (isIn man 0 (V 0 56 - 1) && isIn what 0 2) = true → Rn (d + 13) n_X0_keep 24 [am_r x, am_i man, am_i what] [] g (kI k) := by
    intro ok
    have hW := C0.1
    have ebst : bstO (showV V (fun _ => 0) 0) nB nD man (V 34 20) = bstO V nB nD man (V 34 20) := bstO_V (fun a j q => hV0 a j (by rintro rfl; cases q) (by rintro ⟨rfl, rfl⟩; cases q)) (fun j => hV0 _ _ (by decide) (by omega))
    refine rw_aload f_X0_keep_24 rfl ?_
    refine rw_getR f_X0_keep_25 (by first | assumption | exact hW.k rfl | exact hW.k0) (by first | assumption | exact hW.r0 rfl | exact hW.r rfl | rfl) ?_
    refine rw_iload f_X0_keep_28 rfl ?_
    refine rw_const f_X0_keep_29 ?_
    refine rw_callV f_X0_keep_30 rfl (by first | assumption | exact hW.k rfl | exact hW.k0) (by first | assumption | exact hW.1 | omega | exact Nat.succ_ne_zero _) rfl rfl rfl rfl (rn_kv (C_lay (bd := V 34 20) C0 (by rw [e20]; exact Int32.add_zero _) (fun h1 on1 b1 k1 => ?_)))
    skip
    rw [ebst] at b1
    obtain ⟨q1, q2, q3, q4, q5⟩ := b1
    have C1 := CR_oS C0 on1
    have hW := C1.1
    have blen := (oL_ok (V := V) (nD := nD) (man := man) (bd := V 34 20) hB10 _ bstO_mem).2
    have k21 : hp_K h1 (x + 21) = (1, 6) := hW.k rfl
    refine rw_aload f_X0_keep_33 rfl ?_
    refine rw_aload f_X0_keep_34 rfl ?_
    refine rw_getR f_X0_keep_35 (by first | assumption | exact hW.k rfl | exact hW.k0) (by first | assumption | exact hW.r0 rfl | exact hW.r rfl | rfl) ?_
    refine rw_getR f_X0_keep_38 (by first | assumption | exact hW.k rfl | exact hW.k0) (by first | assumption | exact hW.r0 rfl | exact hW.r rfl | rfl) ?_
    refine rw_aload f_X0_keep_41 rfl ?_
    refine rw_getR f_X0_keep_42 (by first | assumption | exact hW.k rfl | exact hW.k0) (by first | assumption | exact hW.r0 rfl | exact hW.r rfl | rfl) ?_
    refine rw_getI f_X0_keep_45 (by first | assumption | exact hW.k rfl | exact hW.k0) ?_
    rw [q2]
    refine rw_callV f_X0_keep_48 rfl (by first | assumption | exact hW.k rfl | exact hW.k0) (by first | assumption | exact hW.1 | omega | exact Nat.succ_ne_zero _) rfl rfl rfl rfl (rn_kv (C_show hW k21 (by omega) (by omega) (by omega) (fun h2 on2 r1 r2 r3 => ?_)))
    skip
    have C2 : CR h2 (showV V (rowF (bstO V nB nD man (V 34 20)).1) (bstO V nB nD man (V 34 20)).1.length) x r nM nD nB nA nU nT (bstO V nB nD man (V 34 20)).1.length := by
      have q := CR_show C1 on2.fr (fun b w => w.elim Or.inl (fun w => Or.inr (Or.inl w))) r1 r2 (by omega) (f := rowF (bstO V nB nD man (V 34 20)).1) (fun j hj => ?_) (show ¬ (x + 13 = x ∨ x + 13 = x + 17) by omega)
      · rw [showV_0] at q; exact q
      · rw [r3 j hj, q5 j _ (List.getElem?_eq_getElem hj)]
        unfold rowF
        rw [List.getD_eq_getElem?_getD, List.getElem?_eq_getElem hj]; rfl
    have hW := C2.1
    have z18 : ∀ j, hp_I h2 (x + 18) j = hp_I h1 (x + 18) j := fun j => by rw [on2.I (by omega)]
    have hk2 := hk1 ok h2 C2 ?_
    · unfold an_keep at hk2
      refine rw_iload f_X0_keep_51 rfl ?_
      first | refine rw_ne0B f_X0_keep_52 (fun c1 => ?_) (fun c1 => ?_) | refine rw_ne0 f_X0_keep_52 (fun c1 => ?_) (fun c1 => ?_)
      · refine rw_iload f_X0_keep_65 rfl ?_
        refine rw_const f_X0_keep_66 ?_
        refine rw_ne f_X0_keep_67 (fun c2 => ?_) (fun c2 => ?_)
        · refine rw_aload f_X0_keep_80 rfl ?_
          refine rw_getR f_X0_keep_81 (by first | assumption | exact hW.k rfl | exact hW.k0) (by first | assumption | exact hW.r0 rfl | exact hW.r rfl | rfl) ?_
          refine rw_getI f_X0_keep_84 (by first | assumption | exact hW.k rfl | exact hW.k0) ?_
          refine rw_iret f_X0_keep_87 ?_
          first | (rw [z18, q1]; simpa [c1, c2] using hk2) | (rw [z18, q3]; simpa [c1, c2] using hk2) | (rw [z18, q4]; simpa [c1, c2] using hk2)
        · refine rw_aload f_X0_keep_70 rfl ?_
          refine rw_getR f_X0_keep_71 (by first | assumption | exact hW.k rfl | exact hW.k0) (by first | assumption | exact hW.r0 rfl | exact hW.r rfl | rfl) ?_
          refine rw_getI f_X0_keep_74 (by first | assumption | exact hW.k rfl | exact hW.k0) ?_
          refine rw_goto f_X0_keep_77 ?_
          refine rw_iret f_X0_keep_87 ?_
          first | (rw [z18, q1]; simpa [c1, c2] using hk2) | (rw [z18, q3]; simpa [c1, c2] using hk2) | (rw [z18, q4]; simpa [c1, c2] using hk2)
      · refine rw_aload f_X0_keep_55 rfl ?_
        refine rw_getR f_X0_keep_56 (by first | assumption | exact hW.k rfl | exact hW.k0) (by first | assumption | exact hW.r0 rfl | exact hW.r rfl | rfl) ?_
        refine rw_getI f_X0_keep_59 (by first | assumption | exact hW.k rfl | exact hW.k0) ?_
        refine rw_goto f_X0_keep_62 ?_
        refine rw_iret f_X0_keep_87 ?_
        first | (rw [z18, q1]; simpa [c1] using hk2) | (rw [z18, q3]; simpa [c1] using hk2) | (rw [z18, q4]; simpa [c1] using hk2)
    · refine CFr_tr (CFr_tr (CFr_xS on0 (fun b w => by left; have w' : b = x := w; omega)) (CFr_xS on1 (fun b w => by left; have w' : x + 18 ≤ b ∧ b ≤ x + 21 := w; omega)) (Nat.le_refl _) (Nat.le_refl _)) (CFr_xS on2 (fun b w => by left; have w' : b = x ∨ b = x + 17 := w; omega)) (Nat.le_refl _) (Nat.le_refl _)
  have hC := C0
  have hW := C0.1
  refine rw_aload f_X0_keep_5 rfl ?_
  refine rw_iload f_X0_keep_6 rfl ?_
  refine rw_callV f_X0_keep_7 rfl (by first | assumption | exact hW.k rfl | exact hW.k0) (by first | assumption | exact hW.1 | omega | exact Nat.succ_ne_zero _) rfl rfl rfl rfl (rn_ki (C_isMan hC ?_))
  rw [em]
  first | refine rw_eq0B f_X0_keep_10 (fun c1 => ?_) (fun c1 => ?_) | refine rw_eq0 f_X0_keep_10 (fun c1 => ?_) (fun c1 => ?_)
  · refine rw_const f_X0_keep_22 ?_
    refine rw_iret f_X0_keep_23 ?_
    exact hk0 (by simp [c1]) g C0 (CFr_xS on0 (fun b w => by left; have w' : b = x := w; omega))
  · refine rw_iload f_X0_keep_13 rfl ?_
    refine rw_const f_X0_keep_14 ?_
    refine rw_const f_X0_keep_15 ?_
    refine rw_callS f_X0_keep_16 rfl rfl rfl (rn_ki (C_isIn ?_))
    first | refine rw_ne0B f_X0_keep_19 (fun c2 => ?_) (fun c2 => ?_) | refine rw_ne0 f_X0_keep_19 (fun c2 => ?_) (fun c2 => ?_)
    · exact tail (by simp [c1, c2])
    · refine rw_const f_X0_keep_22 ?_
      refine rw_iret f_X0_keep_23 ?_
      exact hk0 (by simp [c1, c2]) g C0 (CFr_xS on0 (fun b w => by left; have w' : b = x := w; omega))
/-- how long he can rest: n days at most, such that as much is kept -/
def restN (V : am_M) (nB nD : Nat) (man w : Int32) : Nat → Nat
  | 0 => 0
  | n + 1 => if pc (bstO V nB nD man (V 34 20 + nI (n + 1))).2.2 < w then restN V nB nD man w n else n + 1
def sp_rest (V : am_M) (nB nD : Nat) (man : Int32) : Int32 := if isIn man 0 (V 0 56 - 1) = false then -1 else nI (restN V nB nD man (pc (bstO V nB nD man (V 34 20)).2.2) 60)
theorem C_rest (hC : CR h V x r nM nD nB nA nU nT nL) {man : Int32} (hk : ∀ h', CR h' V x r nM nD nB nA nU nT nL → CFr x 0 0 h h' → k (sp_rest V nB nD man) h') : Rn (d + 13) n_X0_rest 0 [am_r x, am_i man, am_u, am_u] [] h (kI k) := by
  have C0 := hC
  have oF : ∀ {h'}, On (oS x) h h' → CFr x 0 0 h h' := fun on => CFr_xS on (fun b w => by left; have w' : x + 18 ≤ b ∧ b ≤ x + 21 := w; omega)
  unfold sp_rest at hk
  by_cases e : isIn man 0 (V 0 56 - 1) = true
  · have hk' : ∀ h' n, On (oS x) h h' → restN V nB nD man (pc (bstO V nB nD man (V 34 20)).2.2) 60 = n → k (nI n) h' := by
      intro h' n on q
      have := hk h' (CR_oS C0 on) (oF on)
      rw [if_neg (by rw [e]; decide), q] at this; exact this
    have loop : ∀ n, n ≤ 60 → ∀ hh, On (oS x) h hh → restN V nB nD man (pc (bstO V nB nD man (V 34 20)).2.2) 60 = restN V nB nD man (pc (bstO V nB nD man (V 34 20)).2.2) n → Rn (d + 13) n_X0_rest 30 [am_r x, am_i man, am_i (pc (bstO V nB nD man (V 34 20)).2.2), am_i (nI n)] [] hh (kI k) := by
      intro n
      induction n with
      | zero =>
        intro _ hh on q
        refine rw_iload f_X0_rest_30 rfl ?_
        refine rw_ifT f_X0_rest_31 (by decide) ?_
        refine rw_const f_X0_rest_62 ?_
        refine rw_iret f_X0_rest_63 ?_
        exact hk' hh 0 on q
      | succ n ih =>
        intro hn hh on q
        have C1 := CR_oS C0 on
        have hW := C1.1
        refine rw_iload f_X0_rest_30 rfl ?_
        refine rw_ifF f_X0_rest_31 (decide_eq_false (nI_nle (by omega) (by omega))) ?_
        refine rw_aload f_X0_rest_34 rfl ?_
        refine rw_getR f_X0_rest_35 (by first | assumption | exact hW.k rfl | exact hW.k0) (by first | assumption | exact hW.r0 rfl | exact hW.r rfl | rfl) ?_
        refine rw_iload f_X0_rest_38 rfl ?_
        refine rw_iload f_X0_rest_39 rfl ?_
        refine rw_callV f_X0_rest_40 rfl (by first | assumption | exact hW.k rfl | exact hW.k0) (by first | assumption | exact hW.1 | omega | exact Nat.succ_ne_zero _) rfl rfl rfl rfl (rn_kv (C_lay C1 rfl (fun h1 on1 b1 k1 => ?_)))
        skip
        have on2 := on.tr on1
        have hW := (CR_oS C0 on2).1
        have b5 := b1.1
        by_cases c : pc (bstO V nB nD man (V 34 20 + nI (n + 1))).2.2 < pc (bstO V nB nD man (V 34 20)).2.2
        · have q' : restN V nB nD man (pc (bstO V nB nD man (V 34 20)).2.2) 60 = restN V nB nD man (pc (bstO V nB nD man (V 34 20)).2.2) n := by rw [q]; simp only [restN, c, if_true]
          refine rw_aload f_X0_rest_43 rfl ?_
          refine rw_getR f_X0_rest_44 (by first | assumption | exact hW.k rfl | exact hW.k0) (by first | assumption | exact hW.r0 rfl | exact hW.r rfl | rfl) ?_
          refine rw_getI f_X0_rest_47 (by first | assumption | exact hW.k rfl | exact hW.k0) ?_
          rw [b5]
          refine rw_iload f_X0_rest_50 rfl ?_
          refine rw_icmpT f_X0_rest_51 (decide_eq_true c) ?_
          refine rw_iinc f_X0_rest_56 rfl rfl ?_
          refine rw_goto f_X0_rest_59 ?_
          rw [← Int32.sub_eq_add_neg, nI_pred]
          exact ih (by omega) h1 on2 q'
        · have q' : restN V nB nD man (pc (bstO V nB nD man (V 34 20)).2.2) 60 = n + 1 := by rw [q]; simp only [restN, c, if_false]
          refine rw_aload f_X0_rest_43 rfl ?_
          refine rw_getR f_X0_rest_44 (by first | assumption | exact hW.k rfl | exact hW.k0) (by first | assumption | exact hW.r0 rfl | exact hW.r rfl | rfl) ?_
          refine rw_getI f_X0_rest_47 (by first | assumption | exact hW.k rfl | exact hW.k0) ?_
          rw [b5]
          refine rw_iload f_X0_rest_50 rfl ?_
          refine rw_icmpF f_X0_rest_51 (decide_eq_false c) ?_
          refine rw_iload f_X0_rest_54 rfl ?_
          refine rw_iret f_X0_rest_55 ?_
          exact hk' h1 (n + 1) on2 q'
    have hC' := hC
    obtain ⟨hW, hr, hG, hN, hA, hT, hX, hI, hS, hF⟩ := hC'
    obtain ⟨⟨rK, r0⟩, ⟨hLM, hM⟩, ⟨hLD, hD⟩, ⟨hLO, hO⟩, ⟨⟨hlk, hla⟩, hlike⟩, ⟨htk, hwear⟩, gf, gu, gh, gs⟩ := hG
    obtain ⟨⟨⟨fM, fM6, fD, fD6, fB, fB10⟩, fO, ⟨fH, fSt⟩, fHr, fFr, fWr⟩, ⟨fA, fU, fAU, fT, fT30, fL, fL10⟩, fTp, fNow, fWere, fBox, fTg⟩ := hF
    have kLM := hLM.1.1; have zLM := hLM.2
    have kLD := hLD.1.1; have zLD := hLD.2
    have kLO := hLO.1.1; have zLO := hLO.2
    refine rw_aload f_X0_rest_0 rfl ?_
    refine rw_iload f_X0_rest_1 rfl ?_
    refine rw_callV f_X0_rest_2 rfl (by first | assumption | exact hW.k rfl | exact hW.k0) (by first | assumption | exact hW.1 | omega | exact Nat.succ_ne_zero _) rfl rfl rfl rfl (rn_ki (C_isMan hC ?_))
    refine rw_ifT f_X0_rest_5 (by rw [e]; decide) ?_
    refine rw_aload f_X0_rest_10 rfl ?_
    refine rw_getR f_X0_rest_11 (by first | assumption | exact hW.k rfl | exact hW.k0) (by first | assumption | exact hW.r0 rfl | exact hW.r rfl | rfl) ?_
    refine rw_iload f_X0_rest_14 rfl ?_
    refine rw_const f_X0_rest_15 ?_
    refine rw_callV f_X0_rest_16 rfl (by first | assumption | exact hW.k rfl | exact hW.k0) (by first | assumption | exact hW.1 | omega | exact Nat.succ_ne_zero _) rfl rfl rfl rfl (rn_kv (C_lay (bd := V 34 20) C0 (Int32.add_zero _) (fun h1 on1 b1 k1 => ?_)))
    skip
    have hW := (CR_oS C0 on1).1
    have b5 := b1.1
    refine rw_aload f_X0_rest_19 rfl ?_
    refine rw_getR f_X0_rest_20 (by first | assumption | exact hW.k rfl | exact hW.k0) (by first | assumption | exact hW.r0 rfl | exact hW.r rfl | rfl) ?_
    refine rw_getI f_X0_rest_23 (by first | assumption | exact hW.k rfl | exact hW.k0) ?_
    rw [b5]
    refine rw_istore f_X0_rest_26 rfl rfl ?_
    refine rw_const f_X0_rest_27 ?_
    refine rw_istore f_X0_rest_29 rfl rfl ?_
    exact loop 60 (Nat.le_refl _) h1 on1 rfl
  · have e' : isIn man 0 (V 0 56 - 1) = false := by simpa using e
    have hk2 := hk h hC Fr_refl
    rw [if_pos e'] at hk2
    have hC' := hC
    obtain ⟨hW, hr, hG, hN, hA, hT, hX, hI, hS, hF⟩ := hC'
    obtain ⟨⟨rK, r0⟩, ⟨hLM, hM⟩, ⟨hLD, hD⟩, ⟨hLO, hO⟩, ⟨⟨hlk, hla⟩, hlike⟩, ⟨htk, hwear⟩, gf, gu, gh, gs⟩ := hG
    obtain ⟨⟨⟨fM, fM6, fD, fD6, fB, fB10⟩, fO, ⟨fH, fSt⟩, fHr, fFr, fWr⟩, ⟨fA, fU, fAU, fT, fT30, fL, fL10⟩, fTp, fNow, fWere, fBox, fTg⟩ := hF
    have kLM := hLM.1.1; have zLM := hLM.2
    have kLD := hLD.1.1; have zLD := hLD.2
    have kLO := hLO.1.1; have zLO := hLO.2
    refine rw_aload f_X0_rest_0 rfl ?_
    refine rw_iload f_X0_rest_1 rfl ?_
    refine rw_callV f_X0_rest_2 rfl (by first | assumption | exact hW.k rfl | exact hW.k0) (by first | assumption | exact hW.1 | omega | exact Nat.succ_ne_zero _) rfl rfl rfl rfl (rn_ki (C_isMan hC ?_))
    refine rw_ifF f_X0_rest_5 (by rw [e']; decide) ?_
    refine rw_const f_X0_rest_8 ?_
    refine rw_iret f_X0_rest_9 ?_
    exact hk2
end COrders2
