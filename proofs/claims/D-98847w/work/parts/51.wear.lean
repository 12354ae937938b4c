/-! WEAR: what both sides make of a thread in a day -/
/-- only ints of cells in S are written -/
def On (S : Nat → Prop) (h h' : am_H) : Prop := h'.2 = h.2 ∧ ∀ b, ¬ S b → hp_I h' b = hp_I h b
section OnS
variable {S S1 S2 : Nat → Prop} {h h1 h2 : am_H}
theorem On_refl : On S h h := ⟨rfl, fun _ _ => rfl⟩
theorem On.K (q : On S h h1) : hp_K h1 = hp_K h := by show h1.2.2.2.1 = h.2.2.2.1; rw [q.1]
theorem On.R (q : On S h h1) : hp_R h1 = hp_R h := by show h1.2.2.1 = h.2.2.1; rw [q.1]
theorem On.L (q : On S h h1) : hp_L h1 = hp_L h := by show h1.2.1 = h.2.1; rw [q.1]
theorem On.n (q : On S h h1) : hp_n h1 = hp_n h := by show h1.2.2.2.2.1 = h.2.2.2.2.1; rw [q.1]
theorem On.u (q : On S h h1) : hp_u h1 = hp_u h := by show h1.2.2.2.2.2 = h.2.2.2.2.2; rw [q.1]
theorem On.I (q : On S h h1) {b : Nat} (hb : ¬ S b) : hp_I h1 b = hp_I h b := q.2 b hb
theorem On.tr (p : On S h h1) (q : On S h1 h2) : On S h h2 := ⟨q.1.trans p.1, fun b hb => (q.2 b hb).trans (p.2 b hb)⟩
theorem On.w (p : On S1 h h1) (hs : ∀ b, S1 b → S b) : On S h h1 := ⟨p.1, fun b hb => p.2 b (fun w => hb (hs b w))⟩
theorem On_sI {a k : Nat} {v : Int32} (ha : S a) : On S h (hp_sI h a k v) := ⟨rfl, fun b hb => funext fun j => sI_ne (fun e => hb (e.1 ▸ ha))⟩
theorem On.fr (q : On S h h1) : Fr S no 0 0 h h1 := by
  refine ⟨⟨by rw [q.n]; exact Nat.le_refl _, by rw [q.n]; exact Nat.le_refl _⟩, by rw [q.u]; exact Nat.le_refl _, fun _ _ => by rw [q.K], fun al => ?_, fun b _ hb => ⟨q.I hb, by rw [q.L]⟩, fun _ _ _ => by rw [q.R]⟩
  unfold Al
  rw [q.n, q.K]; exact al
theorem MW.on {m : Nat} (hW : MW h m) (q : On S h h1) : MW h1 m := hW.eq2 q.1
end OnS
theorem ev_congr {f g : Int32 → Int32} (hfg : ∀ w, w < 4 → f (nI w) = g (nI w)) : ∀ n c, PF n c → ∀ st, ev f c st = ev g c st := by
  intro n
  induction n with
  | zero => intro c q; exact absurd q id
  | succ n ih =>
    intro c q st
    rcases q with ⟨v, rfl⟩ | ⟨w, hw, rfl⟩ | ⟨c1, h1, rfl⟩ | ⟨c1, c2, s, h1, h2, rfl⟩
    · rfl
    · show f (nI w) :: st = g (nI w) :: st
      rw [hfg w hw]
    · rw [ev_app, ev_app, ih c1 h1]
      cases ev g c1 st <;> rfl
    · rw [ev_app, ev_app, ev_app, ev_app, ih c1 h1, ih c2 h2]
      generalize ev g c2 (ev g c1 st) = l
      rcases l with _ | ⟨a, _ | ⟨b, l⟩⟩ <;> rfl
/-- what is asked: thread, holes, storm, day -/
def wrF (th ho st dy : Int32) : Int32 → Int32 := fun w => if w = 0 then th else if w = 1 then ho else if w = 2 then st else dy
/-- the steps in force -/
def codeV (V : am_M) : am_S := stepsOf V (V 0 18).toNatClampNeg
def hdI (l : List Int32) : Int32 := match l with
  | [] => 0
  | v :: _ => v
def wrV (V : am_M) (th ho st dy : Int32) : Int32 := if V 0 66 = 0 then (if 1 ≤ th then 1 else th) else (if 0 ≤ hdI (ev (wrF th ho st dy) (codeV V) []) then (if hdI (ev (wrF th ho st dy) (codeV V) []) ≤ th then hdI (ev (wrF th ho st dy) (codeV V) []) else th) else 0)
/-- the holes of the man who a button is by -/
def hoV (V : am_M) (b : Nat) : Int32 := V 16 (V 27 b).toNatClampNeg
theorem wrV_in {V : am_M} {th ho st dy : Int32} (h0 : 0 ≤ th) : 0 ≤ wrV V th ho st dy ∧ wrV V th ho st dy ≤ th := by
  unfold wrV
  generalize hdI (ev (wrF th ho st dy) (codeV V) []) = v
  have e0 : (0 : Int32).toInt = 0 := rfl
  have e1 : (1 : Int32).toInt = 1 := rfl
  simp only [Int32.le_iff_toInt_le, e0, e1] at h0 ⊢
  repeat' split
  all_goals simp only [Int32.le_iff_toInt_le, e0, e1] at *
  all_goals omega
section CWears
variable {d : Nat} {h : am_H} {V : am_M} {x r nM nD nB nA nU nT nL : Nat} {k : Int32 → am_H → Prop}
theorem CB_told (hB : CB h V x r nM nD nB) {h' : am_H} (q : On (at_ (hp_R h r 13)) h h') : CB h' V x r nM nD nB :=
  CB_fr hB q.fr (fun b w => by
    have e : b = hp_R h r 13 := w
    exact nregI (t := 1) (u := 4) hB.2.2.1 (by rw [e]; exact hB.2.2.1.2.2.2.2.2.1.1) (by decide))
theorem C_wears (hB : CB h V x r nM nD nB) {b : Nat} (hb : b < nB) {th st dy : Int32} (h0 : 0 ≤ th) (hk : ∀ h', On (at_ (hp_R h r 13)) h h' → k (wrV V th (hoV V b) st dy) h') : Rn (d + 330) n_X1_wears 0 [am_r r, am_i (nI b), am_i th, am_i st, am_i dy] [] h (kI k) := by
  have hB0 := hB
  obtain ⟨-, -, hG, hF⟩ := hB0
  obtain ⟨⟨rK, r0⟩, -, -, -, -, ⟨htk, hwear⟩, -⟩ := hG
  have fWr := hF.2.2.2.2.2
  refine rw_aload f_X1_wears_0 rfl ?_
  refine rw_getR f_X1_wears_1 rK rfl ?_
  refine rw_null f_X1_wears_4 (fun c1 => ?_) (fun c1 => ?_)
  · refine rw_const f_X1_wears_7 ?_
    refine rw_iload f_X1_wears_8 rfl ?_
    refine rw_binR f_X1_wears_9 rfl ?_
    refine rw_iret f_X1_wears_12 ?_
    have hk2 := hk h On_refl
    have e : V 0 66 = 0 := by
      rcases hwear with q | q
      · exact q.2
      · exact absurd c1 q.1
    unfold wrV at hk2
    rw [if_pos e] at hk2
    unfold f_min
    by_cases e1 : (1 : Int32) ≤ th
    · rw [if_pos e1] at hk2
      rw [if_neg (Int32.not_lt.mpr e1)]; exact hk2
    · rw [if_neg e1] at hk2
      rw [if_pos (Int32.not_le.mp e1)]; exact hk2
  · refine rw_aload f_X1_wears_13 rfl ?_
    refine rw_getR f_X1_wears_14 rK rfl ?_
    refine rw_const f_X1_wears_17 ?_
    refine rw_iload f_X1_wears_18 rfl ?_
    refine rw_iastE (j := 0) f_X1_wears_19 htk rfl (by omega) (by omega) ?_
    generalize hg : hp_R h r 13 = t at *
    have hB1 : CB (hp_sI h t 0 th) V x r nM nD nB := CB_told hB (by rw [hg]; exact On_sI rfl)
    have o1 : On (at_ t) h (hp_sI h t 0 th) := On_sI rfl
    have e1 : hp_I (hp_sI h t 0 th) t 0 = th := sI_same
    generalize hp_sI h t 0 th = h1 at *
    have rK1 : hp_K h1 r = (101, 0) := by rw [o1.K]; exact rK
    have rt1 : hp_R h1 r 13 = t := by rw [o1.R]; exact hg
    have kt1 : hp_K h1 t = (1, 4) := by rw [o1.K]; exact htk
    have htk0 := htk
    have rK0 := rK
    have hw0 := hwear
    have hB0 := hB
    have on1 := o1
    have hB := hB1
    obtain ⟨hW, hr, hG, ⟨fM, fM6, fD, fD6, fB, fB10⟩, fO, ⟨fH, fSt⟩, fHr, fFr, fWr⟩ := hB
    obtain ⟨⟨rK, r0⟩, ⟨hLM, hM⟩, ⟨hLD, hD⟩, ⟨hLO, hO⟩, ⟨⟨hlk, hla⟩, hlike⟩, ⟨htk, hwear⟩, gf, gu, gh, gs⟩ := hG
    have kLM := hLM.1.1; have zLM := hLM.2
    have kLD := hLD.1.1; have zLD := hLD.2
    have kLO := hLO.1.1; have zLO := hLO.2
    obtain ⟨oc, op, oz, o0, o1, o2, o3, o4, o5⟩ := COath.parts hW.al (hO b (by omega))
    obtain ⟨a, ha, ea⟩ := (fO b hb).2.1
    have hm := hM a ha
    have km := hm.1
    refine rw_aload f_X1_wears_20 rfl ?_
    refine rw_getR f_X1_wears_21 (by first | assumption | exact hW.k rfl | exact hW.k0) (by first | assumption | exact hW.r0 rfl | exact hW.r rfl | rfl) ?_
    refine rw_const f_X1_wears_24 ?_
    refine rw_aload f_X1_wears_25 rfl ?_
    refine rw_getR f_X1_wears_26 (by first | assumption | exact hW.k rfl | exact hW.k0) (by first | assumption | exact hW.r0 rfl | exact hW.r rfl | rfl) ?_
    refine rw_aload f_X1_wears_29 rfl ?_
    refine rw_getR f_X1_wears_30 (by first | assumption | exact hW.k rfl | exact hW.k0) (by first | assumption | exact hW.r0 rfl | exact hW.r rfl | rfl) ?_
    refine rw_iload f_X1_wears_33 rfl ?_
    refine rw_callV f_X1_wears_34 rfl (by first | assumption | exact hW.k rfl | exact hW.k0) (by first | assumption | exact hW.1 | omega | exact Nat.succ_ne_zero _) rfl rfl rfl rfl (rn_kr (J_getL hLO hb ?_))
    refine rw_castC f_X1_wears_37 (by assumption) ?_
    refine rw_getIC f_X1_wears_40 (by assumption) ?_
    rw [o1, ea]
    refine rw_callV f_X1_wears_43 rfl (by first | assumption | exact hW.k rfl | exact hW.k0) (by first | assumption | exact hW.1 | omega | exact Nat.succ_ne_zero _) rfl rfl rfl rfl (rn_kr (J_getL hLM ha ?_))
    refine rw_cast f_X1_wears_46 (by first | assumption | exact hW.k rfl | exact hW.k0) ?_
    refine rw_getI f_X1_wears_49 (by first | assumption | exact hW.k rfl | exact hW.k0) ?_
    refine rw_iastE (j := 1) f_X1_wears_52 (by first | assumption | exact hW.k rfl | exact hW.k0) (by first | rfl | exact nI_addl _ _ | (simp only [nI, Int32.ofNat_add, Int32.ofNat_mul]; rfl) | (simp only [nI_addl, nI_mull, nI_lit, nI_1']; done) | (simp only [nI_1, nI_0, nI_addl, nI_mull, ← nI_succ]; rfl)) (by omega) (by omega) ?_
    skip
    rw [hm.2.2.1]
    have o2 : On (at_ t) h (hp_sI h1 t 1 (V 16 a)) := on1.tr (On_sI (show at_ t t from rfl))
    have e2 : hp_I (hp_sI h1 t 1 (V 16 a)) t 1 = V 16 a := sI_same
    have e20 : hp_I (hp_sI h1 t 1 (V 16 a)) t 0 = th := (sI_ne (by simp)).trans e1
    generalize hp_sI h1 t 1 (V 16 a) = h2 at *
    have rK2 : hp_K h2 r = (101, 0) := by rw [o2.K, ← on1.K]; exact rK1
    have rt2 : hp_R h2 r 13 = t := by rw [o2.R]; exact hg
    have kt2 : hp_K h2 t = (1, 4) := by rw [o2.K]; exact htk0
    refine rw_aload f_X1_wears_53 rfl ?_
    refine rw_getR f_X1_wears_54 (by first | assumption | exact hW.k rfl | exact hW.k0) (by first | assumption | exact hW.r0 rfl | exact hW.r rfl | rfl) ?_
    refine rw_const f_X1_wears_57 ?_
    refine rw_iload f_X1_wears_58 rfl ?_
    refine rw_iastE (j := 2) f_X1_wears_59 (by first | assumption | exact hW.k rfl | exact hW.k0) (by first | rfl | exact nI_addl _ _ | (simp only [nI, Int32.ofNat_add, Int32.ofNat_mul]; rfl) | (simp only [nI_addl, nI_mull, nI_lit, nI_1']; done) | (simp only [nI_1, nI_0, nI_addl, nI_mull, ← nI_succ]; rfl)) (by omega) (by omega) ?_
    refine rw_aload f_X1_wears_60 rfl ?_
    refine rw_getR f_X1_wears_61 (by first | assumption | exact hW.k rfl | exact hW.k0) (by first | assumption | exact hW.r0 rfl | exact hW.r rfl | rfl) ?_
    refine rw_const f_X1_wears_64 ?_
    refine rw_iload f_X1_wears_65 rfl ?_
    refine rw_iastE (j := 3) f_X1_wears_67 (by first | assumption | exact hW.k rfl | exact hW.k0) (by first | rfl | exact nI_addl _ _ | (simp only [nI, Int32.ofNat_add, Int32.ofNat_mul]; rfl) | (simp only [nI_addl, nI_mull, nI_lit, nI_1']; done) | (simp only [nI_1, nI_0, nI_addl, nI_mull, ← nI_succ]; rfl)) (by omega) (by omega) ?_
    refine rw_const f_X1_wears_68 ?_
    refine rw_iload f_X1_wears_69 rfl ?_
    refine rw_aload f_X1_wears_70 rfl ?_
    skip
    have o3 : On (at_ t) h (hp_sI (hp_sI h2 t 2 st) t 3 dy) := o2.tr ((On_sI (show at_ t t from rfl)).tr (On_sI (show at_ t t from rfl)))
    have q0 : hp_I (hp_sI (hp_sI h2 t 2 st) t 3 dy) t 0 = th := (sI_ne (by simp)).trans ((sI_ne (by simp)).trans e20)
    have q1 : hp_I (hp_sI (hp_sI h2 t 2 st) t 3 dy) t 1 = V 16 a := (sI_ne (by simp)).trans ((sI_ne (by simp)).trans e2)
    have q2 : hp_I (hp_sI (hp_sI h2 t 2 st) t 3 dy) t 2 = st := (sI_ne (by simp)).trans sI_same
    have q3 : hp_I (hp_sI (hp_sI h2 t 2 st) t 3 dy) t 3 = dy := sI_same
    generalize hp_sI (hp_sI h2 t 2 st) t 3 dy = h3 at *
    have al3 : Al h3 := o3.fr.al hB0.1.al
    have kt3 : hp_K h3 t = (1, 4) := by rw [o3.K]; exact htk0
    have rK3 : hp_K h3 r = (101, 0) := by rw [o3.K]; exact rK0
    obtain ⟨hz, hw1, n, hn1, hn2, hT3⟩ : ¬ hp_R h r 4 = 0 ∧ V 0 66 = 1 ∧ ∃ n, V 0 18 = nI n ∧ n ≤ 320 ∧ Tree h 320 (hp_R h r 4) (stepsOf V n) := by
      rcases hw0 with q | q
      · exact absurd q.1 c1
      · exact q
    have hT4 : Tree h3 320 (hp_R h r 4) (stepsOf V n) := Tree_fr hB0.1.al o3.fr (fun b w => by rw [show b = t from w, htk0]; simp) (fun b w => absurd w id) _ _ _ hT3
    have ec : stepsOf V n = codeV V := by unfold codeV; rw [hn1, nI_clamp (by omega)]
    refine rw_getR f_X1_wears_71 rK3 (show hp_R h3 r 4 = hp_R h r 4 by rw [o3.R]) ?_
    refine rw_aload f_X1_wears_74 rfl ?_
    refine rw_getR f_X1_wears_75 rK3 (show hp_R h3 r 13 = t by rw [o3.R]; exact hg) ?_
    refine rw_of (d := d + 9) f_X1_wears_78 (T_of al3 kt3 _ _ _ hT4) hz rfl (fun v hv => ?_)
    refine rw_binR f_X1_wears_81 rfl ?_
    refine rw_binR f_X1_wears_84 rfl ?_
    refine rw_iret f_X1_wears_87 ?_
    have hk2 := hk h3 o3
    have ef : hdI (ev (wrF th (hoV V b) st dy) (codeV V) []) = v := by
      rw [← ec, ev_congr (g := tld h3 t) (fun w hw => ?_) 320 _ (Tree_PF _ _ _ hT3), hv]
      · rfl
      · show wrF th (hoV V b) st dy (nI w) = hp_I h3 t (nI w).toNatClampNeg
        rw [nI_clamp (by omega)]
        unfold wrF hoV
        rw [ea, nI_clamp (by omega)]
        rcases (by omega : w = 0 ∨ w = 1 ∨ w = 2 ∨ w = 3) with e | e | e | e
        · subst e; rw [if_pos (by decide)]; exact q0.symm
        · subst e; rw [if_neg (by decide), if_pos (by decide)]; exact q1.symm
        · subst e; rw [if_neg (by decide), if_neg (by decide), if_pos (by decide)]; exact q2.symm
        · subst e; rw [if_neg (by decide), if_neg (by decide), if_neg (by decide)]; exact q3.symm
    unfold wrV at hk2
    rw [if_neg (by rw [hw1]; decide), ef] at hk2
    refine Eq.mp (congrArg (fun z => k z h3) ?_) hk2
    unfold f_max f_min
    have z0 : (0 : Int32).toInt = 0 := rfl
    simp only [Int32.le_iff_toInt_le, Int32.lt_iff_toInt_lt, z0] at h0 ⊢
    by_cases a1 : v.toInt < th.toInt
    · rw [if_pos a1]
      by_cases a2 : 0 ≤ v.toInt
      · rw [if_pos a2, if_pos (by omega)]
        by_cases a3 : 0 < v.toInt
        · rw [if_pos a3]
        · rw [if_neg a3]
          apply Int32.toInt_inj.mp
          omega
      · rw [if_neg a2, if_neg (by omega)]
    · rw [if_neg a1, if_pos (by omega)]
      by_cases a2 : 0 < th.toInt
      · rw [if_pos a2]
        by_cases a3 : v.toInt ≤ th.toInt
        · rw [if_pos a3]; apply Int32.toInt_inj.mp; omega
        · rw [if_neg a3]
      · rw [if_neg a2]
        by_cases a3 : v.toInt ≤ th.toInt
        · rw [if_pos a3]; apply Int32.toInt_inj.mp; omega
        · rw [if_neg a3]; apply Int32.toInt_inj.mp; omega
end CWears
