/-! THE CLASS: a regiment that is read, in force; the start -/
/-- the class's own cells (the model need not be there yet) -/
def CWa (h : am_H) (x : Nat) : Prop := ¬ x = 0 ∧ (∀ a t u, cw_K a = some (t, u) → hp_K h (x + a) = (t, u)) ∧ (∀ a k b, cw_R a k = some b → hp_R h (x + a) k = x + b) ∧ Al h
theorem CWa.k0 {h : am_H} {x : Nat} (hW : CWa h x) : hp_K h x = (100, 0) := hW.2.1 0 _ _ rfl
theorem CWa.k {h : am_H} {x : Nat} (hW : CWa h x) {a t u : Nat} (e : cw_K a = some (t, u)) : hp_K h (x + a) = (t, u) := hW.2.1 a t u e
theorem CWa.r {h : am_H} {x : Nat} (hW : CWa h x) {a k b : Nat} (e : cw_R a k = some b) : hp_R h (x + a) k = x + b := hW.2.2.1 a k b e
theorem CWa.r0 {h : am_H} {x : Nat} (hW : CWa h x) {k b : Nat} (e : cw_R 0 k = some b) : hp_R h x k = x + b := hW.2.2.1 0 k b e
theorem CW.a {h : am_H} {x : Nat} (hW : CW h x) : CWa h x := ⟨hW.1, hW.2.1, hW.2.2.1, hW.2.2.2.1⟩
/-- what the model's memory says of a regiment -/
def Enc (V : am_M) (g : rgT) : Prop :=
  (V 0 56 = nI g.1.1.length ∧ V 0 57 = nI g.1.2.1.length ∧ V 0 58 = nI g.1.2.2.length ∧ V 0 59 = nI g.2.1.2 ∧ V 0 21 = nI g.2.2.1.2 ∧ V 0 60 = g.2.2.2.1.getD 8 ∧ V 0 61 = g.2.2.2.2.1.getD 0) ∧
  (∀ (i : Nat) (v : mnT), g.1.1[i]? = some v → V 15 i = v.2.1 ∧ V 16 i = v.2.2.1 ∧ V 17 i = v.2.2.2) ∧
  (∀ (i : Nat) (v : ddT), g.1.2.1[i]? = some v → V 18 i = v.2) ∧
  (∀ (i : Nat) (v : oaT), g.1.2.2[i]? = some v → V 26 i = nI v.2.1 ∧ V 27 i = nI v.2.2.1 ∧ V 28 i = nI v.2.2.2.1 ∧ V 33 i = bI v.2.2.2.2.1 ∧ V 29 i = v.2.2.2.2.2.1 ∧ V 30 i = v.2.2.2.2.2.2.1 ∧ V 31 i = v.2.2.2.2.2.2.2) ∧
  (∀ a b, a < g.1.1.length → b < g.1.1.length → V 19 (6 * a + b) = g.2.1.1 (6 * a + b)) ∧
  (match g.2.2.1.1 with | none => V 0 66 = 0 | some c => V 0 66 = 1 ∧ V 0 18 = nI c.length ∧ stepsOf V c.length = c)
/-- how all is at the start -/
def startF (g : rgT) : Nat → Int32 := fun j => if 10 ≤ j ∧ j < 20 then (match g.1.2.2[j - 10]? with | some v => v.2.2.2.2.2.2.1 | none => 0) else if j = 21 then g.2.2.2.2.2.getD 0 else 0
def EncS (V : am_M) (g : rgT) : Prop := (∀ j, j < 23 → V 34 j = startF g j) ∧ V 0 69 = 0 ∧ V 0 70 = 0 ∧ V 0 93 = 0 ∧ V 0 85 = 0 ∧ ∀ b, b < 3 → V 50 b = 0
section CStart
variable {d : Nat} {h h' : am_H} {x R : Nat} {V : am_M} {g : rgT} {WI WR : Nat → Prop} {c s : Nat}
theorem Rg.fr2 (al : Al h) (q : Rg h R g) (fr : Fr WI WR c s h h') (hi : ∀ b, WI b → ¬ (R + 1 ≤ b ∧ b ≤ R + 6) ∧ ¬ (112 ≤ (hp_K h b).1 ∧ (hp_K h b).1 ≤ 121)) (hr : ∀ b, WR b → ¬ (R + 1 ≤ b ∧ b ≤ R + 6) ∧ ¬ b = 0 ∧ ¬ (112 ≤ (hp_K h b).1 ∧ (hp_K h b).1 ≤ 121) ∧ ∀ i, i < 3 → ¬ (b = arr h (R + 2 + i) ∧ 0 < lcap h (R + 2 + i))) : Rg h' R g ∧ ∀ i, i < 3 → arr h' (R + 2 + i) = arr h (R + 2 + i) ∧ lcap h' (R + 2 + i) = lcap h (R + 2 + i) := by
  obtain ⟨⟨k1, k2, k3, k4, k5, k6⟩, ⟨lM, lD, lO⟩, sp, ⟨b1, b2, b3⟩, is, w⟩ := q
  have l1 := Al_lt al k1 (by decide)
  have l5 := Al_lt al b1 (by decide)
  have l6 := Al_lt al b3 (by decide)
  have nI : ∀ b, R + 1 ≤ b → b ≤ R + 6 → ¬ WI b := fun b e1 e2 w => (hi b w).1 ⟨e1, e2⟩
  have nR : ∀ b, R + 1 ≤ b → b ≤ R + 6 → ¬ WR b := fun b e1 e2 w => (hr b w).1 ⟨e1, e2⟩
  have n0 : ¬ WR 0 := fun w => (hr 0 w).2.1 rfl
  have eR : hp_R h' (R + 1) = hp_R h (R + 1) := fr.R l1 (nR _ (by omega) (by omega))
  have eI : hp_I h' (R + 1) = hp_I h (R + 1) := fr.I l1 (nI _ (by omega) (by omega))
  have hi2 : ∀ b, WI b → ¬ (112 ≤ (hp_K h b).1 ∧ (hp_K h b).1 ≤ 116) := fun b w z => (hi b w).2 (by omega)
  have zM := LI_fr gMan al lM fr (nI _ (by omega) (by omega)) (nR _ (by omega) (by omega)) (fun z => (hr _ z.1).2.2.2 0 (by omega) ⟨rfl, z.2⟩) n0 hi2
  have zD := LI_fr gDeed al lD fr (nI _ (by omega) (by omega)) (nR _ (by omega) (by omega)) (fun z => (hr _ z.1).2.2.2 1 (by omega) ⟨rfl, z.2⟩) n0 hi2
  have zO := LI_fr gOath al lO fr (nI _ (by omega) (by omega)) (nR _ (by omega) (by omega)) (fun z => (hr _ z.1).2.2.2 2 (by omega) ⟨rfl, z.2⟩) n0 hi2
  have ee : ∀ i, i < 3 → arr h' (R + 2 + i) = arr h (R + 2 + i) ∧ lcap h' (R + 2 + i) = lcap h (R + 2 + i) := by
    intro i hi
    rcases (by omega : i = 0 ∨ i = 1 ∨ i = 2) with e | e | e <;> rw [e]
    · exact zM.2
    · exact zD.2
    · exact zO.2
  refine ⟨?_, ee⟩
  unfold Rg
  rw [eR, eI, fr.K l1, fr.K l5, fr.K l6, fr.I l5 (nI _ (by omega) (by omega))]
  refine ⟨⟨k1, k2, k3, k4, k5, k6⟩, ⟨zM.1, zD.1, zO.1⟩, ?_, ⟨b1, b2, b3⟩, is, ?_⟩
  · intro i hi hc
    rw [(ee i hi).2] at hc
    obtain ⟨p1, p2⟩ := sp i hi hc
    refine ⟨by rw [(ee i hi).1]; exact p1, fun j hj e => p2 j hj ?_⟩
    rw [(ee i hi).1, (ee j hj).1] at e; exact e
  · revert w
    cases g.2.2.1.1 with
    | none => exact id
    | some c => exact fun w => ⟨w.1, Tree_fr al fr (fun b w q => (hi b w).2 (by omega)) (fun b w q => (hr b w).2.2.1 (by omega)) _ _ _ w.2⟩
theorem get_of {α : Type} {l : List α} {i : Nat} (h : i < l.length) : ∃ v, l[i]? = some v := ⟨l[i], List.getElem?_eq_getElem h⟩
/-- the regiment as the class sees it -/
theorem CReg_Rg (q : Rg h R g) (en : Enc V g) (gi : gI g) (pl : R = x ∨ x + 84 < R) (x0 : ¬ x = 0) : CReg h V x (R + 1) g.1.1.length g.1.2.1.length g.1.2.2.length := by
  obtain ⟨⟨k1, k2, k3, k4, k5, k6⟩, ⟨lM, lD, lO⟩, sp, ⟨b1, b2, b3⟩, ⟨i5, i6, i7, i8, i9, i10, i11, i12⟩, w⟩ := q
  obtain ⟨⟨n1, n2, n3, n4, n5, n6, n7⟩, eM, eD, eO, eF, eW⟩ := en
  have gi0 := gi
  obtain ⟨⟨g1, g2, g3, g4⟩, -⟩ := gi
  refine ⟨⟨k1, by omega⟩, ?_, ?_, ?_, ?_, ?_, ?_, ?_, ?_, ?_⟩
  · rw [k2]
    refine ⟨lM.1, fun i hi => ?_⟩
    obtain ⟨v, hv⟩ := get_of hi
    obtain ⟨p1, p2, p3, p4, p5⟩ := lM.2.2 i v hv
    obtain ⟨e1, e2, e3⟩ := eM i v hv
    exact ⟨p1, by rw [p3, e1], by rw [p4, e2], by rw [p5, e3]⟩
  · rw [k3]
    refine ⟨lD.1, fun i hi => ?_⟩
    obtain ⟨v, hv⟩ := get_of hi
    obtain ⟨p1, p2, p3⟩ := lD.2.2 i v hv
    exact ⟨p1, by rw [p3, eD i v hv]⟩
  · rw [k4]
    refine ⟨lO.1, fun i hi => ?_⟩
    obtain ⟨v, hv⟩ := get_of hi
    obtain ⟨p1, p2, p3, p4, p5, p6, p7, p8⟩ := lO.2.2 i v hv
    obtain ⟨e1, e2, e3, e4, e5, e6, e7⟩ := eO i v hv
    refine ⟨?_, by rw [p3, e1], by rw [p4, e2], by rw [p5, e3], by rw [p6, e5], by rw [p7, e6], by rw [p8, e7]⟩
    rw [e4, p1]
    cases v.2.2.2.2.1 with
    | true => exact Or.inl ⟨rfl, rfl⟩
    | false => exact Or.inr ⟨rfl, rfl⟩
  · rw [k5, k6]
    exact ⟨⟨b1, by omega, by omega⟩, fun i j hi hj => by rw [b2 _ (by omega), eF i j hi hj]⟩
  · rw [k6]
    refine ⟨b3, ?_⟩
    revert w eW
    cases hw : g.2.2.1.1 with
    | none => exact fun w eW => Or.inl ⟨w, eW⟩
    | some c =>
      intro w eW
      obtain ⟨w1, w2⟩ := w
      obtain ⟨e1, e2, e3⟩ := eW
      refine Or.inr ⟨w1, e1, c.length, e2, ?_, by rw [e3]; exact w2⟩
      have := gi0.2.2.2.2.2
      rw [hw] at this
      exact this.1
  · rw [i5, n4]
  · rw [i6, n5]
  · rw [i7, n6]
  · rw [i8, n7]
theorem WB_Enc (en : Enc V g) (gi : gI g) (hw : ∀ c, g.2.2.1.1 = some c → PF 320 c) : WB V g.1.1.length g.1.2.1.length g.1.2.2.length := by
  obtain ⟨⟨n1, n2, n3, n4, n5, n6, n7⟩, eM, eD, eO, eF, eW⟩ := en
  obtain ⟨⟨g1, g2, g3, g4⟩, gO, gD, ⟨gh, gs⟩, gf, gw⟩ := gi
  refine ⟨⟨n1, g1, n2, g2, n3, g3⟩, fun b hb => ?_, ⟨?_, ?_⟩, fun i hi => ?_, fun a b ha hb => ?_, ?_⟩
  · obtain ⟨v, hv⟩ := get_of hb
    obtain ⟨e1, e2, e3, e4, e5, e6, e7⟩ := eO b v hv
    obtain ⟨q1, q2, q3, ⟨t, q4, q5⟩, q6⟩ := gO b v hv
    refine ⟨⟨_, q1, e1⟩, ⟨_, q2, e2⟩, ⟨_, q3, e3⟩, ⟨t, q4, by rw [e6, q5]⟩, by rw [e7]; exact q6, ?_⟩
    rw [e4]
    exact bI_01 _
  · rw [n6]
    cases e : g.2.2.2.1 with
    | none => exact ⟨8, by decide, by decide, rfl⟩
    | some v => exact gh v e
  · rw [n7]
    cases e : g.2.2.2.2.1 with
    | none => exact ⟨0, by decide, rfl⟩
    | some v => exact gs v e
  · obtain ⟨v, hv⟩ := get_of hi
    rw [eD i v hv]
    exact gD i v hv
  · obtain ⟨f1, f2⟩ := gf a b (by omega) (by omega)
    rw [eF a a ha ha, eF a b ha hb, eF b a hb ha]
    exact ⟨f1, f2⟩
  · unfold okWear
    revert eW gw
    cases e : g.2.2.1.1 with
    | none => exact fun eW _ => Or.inl eW
    | some c => exact fun eW gw => Or.inr ⟨eW.1, c.length, eW.2.1, gw.1, by rw [eW.2.2]; exact hw c e, by rw [eW.2.2]; exact gw.2⟩
theorem PWear_PF (q : Rg h R g) : ∀ c, g.2.2.1.1 = some c → PF 320 c := by
  intro c e
  have w := q.2.2.2.2.2
  rw [e] at w
  exact Tree_PF _ _ _ w.2
theorem okDay_start (gi : gI g) : okDay (startF g) := by
  intro b hb
  unfold startF
  rw [if_pos (by omega), Nat.add_sub_cancel_left]
  cases e : g.1.2.2[b]? with
  | none => exact ⟨0, by omega, rfl⟩
  | some v =>
    obtain ⟨-, -, -, ⟨t, q4, q5⟩, -⟩ := gi.2.1 b v e
    exact ⟨t, q4, q5⟩
/-- what the start may write -/
abbrev stI (x : Nat) : Nat → Prop := fun b => b = x ∨ (x + 7 ≤ b ∧ b ≤ x + 9) ∨ b = x + 15 ∨ b = x + 16 ∨ b = x + 28
abbrev stR (h : am_H) (x : Nat) : Nat → Prop := fun b => (x + 30 ≤ b ∧ b ≤ x + 32) ∨ (b = arr h (x + 15) ∧ 0 < lcap h (x + 15)) ∨ (b = arr h (x + 16) ∧ 0 < lcap h (x + 16)) ∨ (b = arr h (x + 28) ∧ 0 < lcap h (x + 28))
/-- the lists of the class and those of a regiment are apart -/
def SLs (h : am_H) (x R : Nat) : Prop := (∀ l l', (l = x + 15 ∨ l = x + 16 ∨ l = x + 28) → (l' = x + 15 ∨ l' = x + 16 ∨ l' = x + 28) → 0 < lcap h l → arr h l = arr h l' → l = l') ∧ (∀ l i, (l = x + 15 ∨ l = x + 16 ∨ l = x + 28) → i < 3 → 0 < lcap h l → ¬ arr h l = arr h (R + 2 + i))
theorem CWa_fr (hW : CWa h x) (fr : Fr WI WR c s h h') (hr : ∀ a k b, cw_R a k = some b → ¬ WR (x + a)) : CWa h' x := by
  obtain ⟨w1, w2, w3, al⟩ := hW
  refine ⟨w1, fun a t u e => ?_, fun a k b e => ?_, fr.al al⟩
  · have hk := w2 a t u e
    have ht : ¬ t = 0 := fun z => by
      subst z
      revert e
      unfold cw_K
      split <;> (intro e; cases e)
    rw [fr.K (Al_lt al hk ht)]; exact hk
  · have lt : x + a < hp_n h := by
      have : ∃ t u, cw_K a = some (t, u) ∧ ¬ t = 0 := by
        revert e
        unfold cw_R
        split <;> (intro e; first | (cases e; done) | exact ⟨_, _, rfl, by decide⟩)
      obtain ⟨t, u, e2, ht⟩ := this
      exact Al_lt al (w2 a t u e2) ht
    rw [fr.R lt (hr a k b e)]; exact w3 a k b e
/-- the world of the start goes on -/
def ST (h0 hh : am_H) (x R : Nat) (g : rgT) : Prop := CWa hh x ∧ hp_R hh x 0 = R + 1 ∧ Rg hh R g ∧ Fr (stI x) (stR h0 x) 0 0 h0 hh ∧ (∀ l, (l = x + 15 ∨ l = x + 16 ∨ l = x + 28) → arr hh l = arr h0 l ∧ lcap hh l = lcap h0 l) ∧ ∀ i, i < 3 → arr hh (R + 2 + i) = arr h0 (R + 2 + i) ∧ lcap hh (R + 2 + i) = lcap h0 (R + 2 + i)
/-- kinds of what the start may write -/
theorem stI_k (hW : CWa h x) {b : Nat} (w : stI x b) : (hp_K h b).1 = 100 ∨ (hp_K h b).1 = 102 ∨ (hp_K h b).1 = 1 ∨ (hp_K h b).1 = 130 := by
  have k7 : hp_K h (x + 7) = (102, 0) := hW.k rfl
  have k8 : hp_K h (x + 8) = (1, 10) := hW.k rfl
  have k9 : hp_K h (x + 9) = (1, 10) := hW.k rfl
  have k15 : hp_K h (x + 15) = (130, 0) := hW.k rfl
  have k16 : hp_K h (x + 16) = (130, 0) := hW.k rfl
  have k28 : hp_K h (x + 28) = (130, 0) := hW.k rfl
  rcases w with w | w | w | w | w
  · rw [w, hW.k0]; decide
  · rcases (by omega : b = x + 7 ∨ b = x + 8 ∨ b = x + 9) with e | e | e <;> rw [e]
    · rw [k7]; decide
    · rw [k8]; decide
    · rw [k9]; decide
  · rw [w, k15]; decide
  · rw [w, k16]; decide
  · rw [w, k28]; decide
theorem stR_k {n1 n2 n3 : Nat} (hW : CWa h x) (l1 : LST h (x + 15) n1) (l2 : LST h (x + 16) n2) (l3 : LST h (x + 28) n3) {b : Nat} (w : stR h x b) : hp_K h b = (108, 0) ∨ (hp_K h b).1 = 5 := by
  have k30 : hp_K h (x + 30) = (108, 0) := hW.k rfl
  have k31 : hp_K h (x + 31) = (108, 0) := hW.k rfl
  have k32 : hp_K h (x + 32) = (108, 0) := hW.k rfl
  rcases w with w | w | w | w
  · left
    rcases (by omega : b = x + 30 ∨ b = x + 31 ∨ b = x + 32) with e | e | e <;> rw [e] <;> assumption
  · right; rw [w.1]; exact LST_k5 l1 w.2
  · right; rw [w.1]; exact LST_k5 l2 w.2
  · right; rw [w.1]; exact LST_k5 l3 w.2
theorem ST.step {h0 hh hh' : am_H} {n1 n2 n3 : Nat} (W0 : CWa h0 x) (l1 : LST h0 (x + 15) n1) (l2 : LST h0 (x + 16) n2) (l3 : LST h0 (x + 28) n3) (sep : SLs h0 x R) (pl : R = x ∨ x + 84 < R) (q : ST h0 hh x R g) (fr : Fr WI WR 0 0 hh hh') (hi : ∀ b, WI b → stI x b) (hr : ∀ b, WR b → stR h0 x b) : ST h0 hh' x R g := by
  obtain ⟨q1, q2, q3, q4, q5, q6⟩ := q
  have al0 : Al h0 := W0.2.2.2
  have al : Al hh := q1.2.2.2
  have en : hp_n hh = hp_n h0 := by have := q4.1; omega
  have kR : ∀ b, WR b → hp_K hh b = (108, 0) ∨ (hp_K hh b).1 = 5 := fun b w => by
    have z := stR_k W0 l1 l2 l3 (hr b w)
    have lt : b < hp_n h0 := Al_lt' al0 (by rcases z with z | z <;> rw [z] <;> decide)
    rw [q4.K lt]; exact z
  have rR : ∀ a k b, cw_R a k = some b → ¬ WR (x + a) := fun a k b e w => by
    have z := kR _ w
    have : ∃ t u, cw_K a = some (t, u) ∧ ¬ t = 5 ∧ ¬ t = 108 := by
      revert e
      unfold cw_R
      split <;> (intro e; first | (cases e; done) | exact ⟨_, _, rfl, by decide, by decide⟩)
    obtain ⟨t, u, e2, t5, t8⟩ := this
    rw [q1.k e2] at z
    rcases z with z | z
    · cases z; exact t8 rfl
    · exact t5 z
  have x0 := q1.1
  have fr0 : Fr (stI x) (stR h0 x) 0 0 h0 hh' := Fr_tr q4 fr (fun _ _ w => w) (fun _ _ w => w) (fun b _ w => hi b w) (fun b _ w => hr b w) (Nat.le_refl _) (Nat.le_refl _)
  obtain ⟨g1, g2⟩ := q3.fr2 al fr (fun b w => by
    have z := stI_k q1 (hi b w)
    have w' := hi b w
    exact ⟨by omega, by omega⟩) (fun b w => by
    have z := kR b w
    have w' := hr b w
    refine ⟨fun y => ?_, fun y => ?_, by rcases z with z | z <;> rw [z] <;> decide, fun i hi3 y => ?_⟩
    · obtain ⟨⟨c1, -⟩, ⟨lM, lD, lO⟩, -, ⟨b1, -, b3⟩, -⟩ := q3
      rcases (by omega : b = R + 1 ∨ b = R + 2 ∨ b = R + 2 + 1 ∨ b = R + 2 + 2 ∨ b = R + 5 ∨ b = R + 6) with e | e | e | e | e | e <;> rw [e] at z
      · rw [c1] at z; rcases z with z | z <;> cases z
      · rw [lM.1.1.1] at z; rcases z with z | z <;> cases z
      · rw [lD.1.1.1] at z; rcases z with z | z <;> cases z
      · rw [lO.1.1.1] at z; rcases z with z | z <;> cases z
      · rw [b1] at z; rcases z with z | z <;> cases z
      · rw [b3] at z; rcases z with z | z <;> cases z
    · rw [y] at z
      have := al.2 0 (Or.inr rfl)
      rcases z with z | z
      · rw [z] at this; cases this
      · omega
    · rw [(q6 i hi3).1, (q6 i hi3).2] at y
      rcases w' with w' | w' | w' | w'
      · have z2 : hp_K h0 b = (108, 0) := by
          rcases stR_k W0 l1 l2 l3 (hr b w) with z3 | z3
          · exact z3
          · exfalso
            have k30 : hp_K h0 (x + 30) = (108, 0) := W0.k rfl
            have k31 : hp_K h0 (x + 31) = (108, 0) := W0.k rfl
            have k32 : hp_K h0 (x + 32) = (108, 0) := W0.k rfl
            rcases (by omega : b = x + 30 ∨ b = x + 31 ∨ b = x + 32) with e | e | e <;> rw [e] at z3
            · rw [k30] at z3; cases z3
            · rw [k31] at z3; cases z3
            · rw [k32] at z3; cases z3
        have : lcap hh (R + 2 + i) = 0 := by
          show (hp_K hh (arr hh (R + 2 + i))).2 = 0
          rw [(q6 i hi3).1, ← y.1, q4.K (Al_lt al0 z2 (by decide)), z2]
        have := (q6 i hi3).2
        omega
      · exact sep.2 _ i (Or.inl rfl) hi3 w'.2 (w'.1.symm.trans y.1)
      · exact sep.2 _ i (Or.inr (Or.inl rfl)) hi3 w'.2 (w'.1.symm.trans y.1)
      · exact sep.2 _ i (Or.inr (Or.inr rfl)) hi3 w'.2 (w'.1.symm.trans y.1))
  have nl : ∀ l n, LST h0 l n → (l = x + 15 ∨ l = x + 16 ∨ l = x + 28) → arr hh' l = arr h0 l ∧ lcap hh' l = lcap h0 l := fun l n L hl => by
    have kl : hp_K h0 l = (130, 0) := L.1.1
    have lt : l < hp_n h0 := Al_lt al0 kl (by decide)
    have nw : ¬ stR h0 x l := fun w => by
      rcases stR_k W0 l1 l2 l3 w with z | z
      · rw [kl] at z; cases z
      · rw [kl] at z; cases z
    have ea : arr hh' l = arr h0 l := by show hp_R hh' l 1 = hp_R h0 l 1; rw [fr0.R lt nw]
    refine ⟨ea, ?_⟩
    show (hp_K hh' (arr hh' l)).2 = _
    rw [ea, fr0.K (arr_lt al0 L)]
  refine ⟨CWa_fr q1 fr rR, ?_, g1, fr0, fun l hl => ?_, fun i hi3 => ?_⟩
  · have nx : ¬ WR x := fun w => by
      have z := kR _ w
      rw [q1.k0] at z
      rcases z with z | z <;> cases z
    rw [fr.R (Al_lt al q1.k0 (by decide)) nx]; exact q2
  · rcases hl with e | e | e
    · rw [e]; exact nl _ _ l1 (Or.inl rfl)
    · rw [e]; exact nl _ _ l2 (Or.inr (Or.inl rfl))
    · rw [e]; exact nl _ _ l3 (Or.inr (Or.inr rfl))
  · rw [(g2 i hi3).1, (g2 i hi3).2]; exact q6 i hi3
theorem C_buttonsR (hW : CWa h x) (hr : hp_R h x 0 = R + 1) (hR : Rg h R g) {k : Int32 → am_H → Prop} (hk : k (nI g.1.2.2.length) h) : Rn (d + 1) n_X0_buttons 0 [am_r x] [] h (kI k) := by
  have gK := hR.1.1
  have g2 := hR.1.2.2.2.1
  have lK := hR.2.1.2.2.1.1.1
  have lz : ¬ R + 2 + 2 = 0 := by omega
  refine rw_aload f_X0_buttons_0 rfl ?_
  refine rw_getR f_X0_buttons_1 (by first | assumption | exact hW.k rfl | exact hW.k0) (by first | assumption | exact hW.r0 rfl | exact hW.r rfl | rfl) ?_
  refine rw_getR f_X0_buttons_4 (by first | assumption | exact hW.k rfl | exact hW.k0) (by first | assumption | exact hW.r0 rfl | exact hW.r rfl | rfl) ?_
  refine rw_callV f_X0_buttons_7 rfl (by first | assumption | exact hW.k rfl | exact hW.k0) (by first | assumption | exact hW.1 | omega | exact Nat.succ_ne_zero _) rfl rfl rfl rfl (rn_ki (J_sizeL hR.2.1.2.2.1 ?_))
  refine rw_iret f_X0_buttons_10 ?_
  exact hk
theorem C_start (hW0 : CWa h x) (hr0 : hp_R h x 0 = R + 1) (hR0 : Rg h R g) (hg : gI g) {n1 n2 n3 : Nat} (l1 : LST h (x + 15) n1) (l2 : LST h (x + 16) n2) (l3 : LST h (x + 28) n3) (sep : SLs h x R) (pl : R = x ∨ x + 84 < R) {k : am_H → Prop} (hk : ∀ h', ST h h' x R g → LST h' (x + 15) 0 → LST h' (x + 16) 0 → LST h' (x + 28) 0 → DP h' (x + 7) (x + 8) (x + 9) (startF g) → hp_I h' x 12 = 0 → (∀ j, ¬ j = 12 → hp_I h' x j = hp_I h x j) → (∀ b, b < 3 → hp_R h' (x + (30 + b)) 0 = 0) → k h') : Rn (d + 4) n_X0_start 0 [am_r x, am_u] [] h (kV k) := by
  have st0 : ST h h x R g := ⟨hW0, hr0, hR0, Fr_refl, fun _ _ => ⟨rfl, rfl⟩, fun _ _ => ⟨rfl, rfl⟩⟩
  have z15 : ¬ x + 15 = 0 := by omega
  have z16 : ¬ x + 16 = 0 := by omega
  have z28 : ¬ x + 28 = 0 := by omega
  have stp : ∀ {WI WR : Nat → Prop} {hh hh' : am_H}, ST h hh x R g → Fr WI WR 0 0 hh hh' → (∀ b, WI b → stI x b) → (∀ b, WR b → stR h x b) → ST h hh' x R g := fun q fr hi hr => q.step hW0 l1 l2 l3 sep pl fr hi hr
  -- boxes
  have t120 : ∀ n b, b + n = 3 → ∀ hh, ST h hh x R g → LST hh (x + 15) 0 → LST hh (x + 16) 0 → LST hh (x + 28) 0 → DP hh (x + 7) (x + 8) (x + 9) (startF g) → hp_I hh x 12 = 0 → (∀ j, ¬ j = 12 → hp_I hh x j = hp_I h x j) → (∀ c, c < b → hp_R hh (x + (30 + c)) 0 = 0) → Rn (d + 4) n_X0_start 120 [am_r x, am_i (nI b)] [] hh (kV k) := by
    intro n
    induction n with
    | zero =>
      intro b hb hh st m1 m2 m3 dp i12 ix hz
      obtain rfl : b = 3 := by omega
      have hW := st.1
      refine rw_iload f_X0_start_120 rfl ?_
      refine rw_const f_X0_start_121 ?_
      refine rw_icmpT f_X0_start_122 (by decide) ?_
      refine rw_vret f_X0_start_141 ?_
      exact hk hh st m1 m2 m3 dp i12 ix hz
    | succ n ih =>
      intro b hb hh st m1 m2 m3 dp i12 ix hz
      have hW := st.1
      have k29 : hp_K hh (x + 29) = (6, 3) := hW.k rfl
      have eb : hp_R hh (x + 29) b = x + (30 + b) := by
        rcases (by omega : b = 0 ∨ b = 1 ∨ b = 2) with e | e | e <;> subst e
        · exact hW.r rfl
        · exact hW.r rfl
        · exact hW.r rfl
      have kb : hp_K hh (x + (30 + b)) = (108, 0) := by
        rcases (by omega : b = 0 ∨ b = 1 ∨ b = 2) with e | e | e <;> subst e
        · exact hW.k rfl
        · exact hW.k rfl
        · exact hW.k rfl
      have al : Al hh := hW.2.2.2
      have fr : Fr no (at_ (x + (30 + b))) 0 0 hh (hp_sR hh (x + (30 + b)) 0 0) := Fr_sR
      have kA : ∀ l m, LST hh l m → LST (hp_sR hh (x + (30 + b)) 0 0) l m := fun l m L => (LST_fr al L fr id (fun w => by have w' : l = x + (30 + b) := w; have := L.1.1; rw [w', kb] at this; cases this) (fun w => by have w' : arr hh l = x + (30 + b) := w.1; have := LST_k5 L w.2; rw [w', kb] at this; cases this) (fun w => by have w' : 0 = x + (30 + b) := w; omega)).1
      refine rw_iload f_X0_start_120 rfl ?_
      refine rw_const f_X0_start_121 ?_
      refine rw_icmpF f_X0_start_122 (decide_eq_false (by rw [show (3 : Int32) = nI 3 from rfl]; exact nI_ge (by omega) (by omega))) ?_
      refine rw_aload f_X0_start_125 rfl ?_
      refine rw_getR f_X0_start_126 (by first | assumption | exact hW.k rfl | exact hW.k0) (by first | assumption | exact hW.r0 rfl | exact hW.r rfl | rfl) ?_
      refine rw_iload f_X0_start_129 rfl ?_
      refine rw_aaldE (j := b) f_X0_start_130 (by first | assumption | exact hW.k rfl | exact hW.k0) (by first | rfl | exact nI_addl _ _ | (simp only [nI, Int32.ofNat_add, Int32.ofNat_mul]; rfl) | (simp only [nI_addl, nI_mull, nI_lit, nI_1']; done) | (simp only [nI_1, nI_0, nI_addl, nI_mull, ← nI_succ]; rfl)) (by omega) (by omega) (by first | assumption | exact hW.r0 rfl | exact hW.r rfl | rfl) ?_
      refine rw_const f_X0_start_131 ?_
      refine rw_putR f_X0_start_132 (by first | assumption | exact hW.k rfl | exact hW.k0) ?_
      refine rw_iinc f_X0_start_135 rfl rfl ?_
      refine rw_goto f_X0_start_138 ?_
      rw [nI_1']
      refine ih (b + 1) (by omega) _ (stp st fr (fun _ w => absurd w id) (fun c w => Or.inl (by have w' : c = x + (30 + b) := w; omega))) (kA _ _ m1) (kA _ _ m2) (kA _ _ m3) dp i12 ix (fun c hc => ?_)
      by_cases e : c = b
      · subst e; exact sR_same
      · rw [sR_ne (by omega)]; exact hz c (by omega)
  -- the lists
  have t62 : ∀ hh y, ST h hh x R g → LST hh (x + 15) n1 → LST hh (x + 16) n2 → LST hh (x + 28) n3 → (∀ j, j < 10 → hp_I hh (x + 8) j = startF g j ∧ hp_I hh (x + 9) j = startF g (10 + j)) → (∀ j, hp_I hh x j = hp_I h x j) → Rn (d + 4) n_X0_start 62 [am_r x, y] [] hh (kV k) := by
    intro hh y st m1 m2 m3 hd ix
    have hW := st.1
    have hR := st.2.2.1
    have gK := hR.1.1
    have r0 := st.2.1
    have e9 : hp_I hh (R + 1) 9 = g.2.2.2.2.2.getD 0 := hR.2.2.2.2.1.2.2.2.2.1
    have al : Al hh := hW.2.2.2
    have nx7 : ¬ R + 1 = x + 7 := by omega
    refine rw_aload f_X0_start_62 rfl ?_
    refine rw_getR f_X0_start_63 (by first | assumption | exact hW.k rfl | exact hW.k0) (by first | assumption | exact hW.r0 rfl | exact hW.r rfl | rfl) ?_
    refine rw_const f_X0_start_66 ?_
    refine rw_putI f_X0_start_67 (by first | assumption | exact hW.k rfl | exact hW.k0) ?_
    refine rw_aload f_X0_start_70 rfl ?_
    refine rw_getR f_X0_start_71 (by first | assumption | exact hW.k rfl | exact hW.k0) (by first | assumption | exact hW.r0 rfl | exact hW.r rfl | rfl) ?_
    refine rw_aload f_X0_start_74 rfl ?_
    refine rw_getR f_X0_start_75 (by first | assumption | exact hW.k rfl | exact hW.k0) (by first | assumption | exact hW.r0 rfl | exact hW.r rfl | rfl) ?_
    refine rw_getI f_X0_start_78 (by first | assumption | exact hW.k rfl | exact hW.k0) ?_
    rw [show hp_I (hp_sI hh (x + 7) 2 0) (R + 1) 9 = g.2.2.2.2.2.getD 0 from (sI_ne (by omega)).trans e9]
    refine rw_putI f_X0_start_81 (by first | assumption | exact hW.k rfl | exact hW.k0) ?_
    refine rw_aload f_X0_start_84 rfl ?_
    refine rw_getR f_X0_start_85 (by first | assumption | exact hW.k rfl | exact hW.k0) (by first | assumption | exact hW.r0 rfl | exact hW.r rfl | rfl) ?_
    refine rw_const f_X0_start_88 ?_
    refine rw_putI f_X0_start_89 (by first | assumption | exact hW.k rfl | exact hW.k0) ?_
    skip
    generalize hH : hp_sI (hp_sI (hp_sI hh (x + 7) 2 0) (x + 7) 3 (g.2.2.2.2.2.getD 0)) (x + 7) 4 0 = h1
    have on1 : On (at_ (x + 7)) hh h1 := by rw [← hH]; exact ((On_sI (S := at_ (x + 7)) rfl).tr (On_sI (S := at_ (x + 7)) rfl)).tr (On_sI (S := at_ (x + 7)) rfl)
    have st1 : ST h h1 x R g := stp st on1.fr (fun b w => Or.inr (Or.inl (by have w' : b = x + 7 := w; omega))) (fun b w => absurd w id)
    have dp1 : DP h1 (x + 7) (x + 8) (x + 9) (startF g) := by
      refine ⟨fun j hj => ?_, ?_, ?_, ?_⟩
      · rw [on1.I (show ¬ x + 8 = x + 7 by omega), on1.I (show ¬ x + 9 = x + 7 by omega)]; exact hd j hj
      · rw [← hH, sI_ne (by omega), sI_ne (by omega), sI_same]; rfl
      · rw [← hH, sI_ne (by omega), sI_same]; rfl
      · rw [← hH, sI_same]; rfl
    have kp : ∀ l m, LST hh l m → ¬ l = x + 7 → LST h1 l m := fun l m L ne => (LST_fr al L on1.fr ne id (fun w => w.1) id).1
    have m11 := kp _ _ m1 (by omega)
    have m21 := kp _ _ m2 (by omega)
    have m31 := kp _ _ m3 (by omega)
    have ix1 : ∀ j, hp_I h1 x j = hp_I h x j := fun j => by rw [on1.I (show ¬ x = x + 7 by omega)]; exact ix j
    clear hH
    have hW1 := st1.1
    have alx : Al h := hW0.2.2.2
    -- clear one list: the others stand
    have cl : ∀ (ha hb : am_H) (l n : Nat), (l = x + 15 ∨ l = x + 16 ∨ l = x + 28) → ST h ha x R g → LST ha l n → AL hb l 0 (arr ha l) (lcap ha l) → Fr (at_ l) (fun b => b = arr ha l ∧ 0 < lcap ha l) 0 0 ha hb → ST h hb x R g ∧ LST hb l 0 ∧ (∀ l' m, (l' = x + 15 ∨ l' = x + 16 ∨ l' = x + 28) → ¬ l' = l → LST ha l' m → LST hb l' m) ∧ (DP ha (x + 7) (x + 8) (x + 9) (startF g) → DP hb (x + 7) (x + 8) (x + 9) (startF g)) ∧ (∀ j, hp_I hb x j = hp_I ha x j) := by
      intro ha hb l n hl sa L L' fr
      have Wa := sa.1
      have ala : Al ha := Wa.2.2.2
      have eA := sa.2.2.2.2.1 l hl
      have sb : ST h hb x R g := stp sa fr (fun b w => by
        have w' : b = l := w
        rcases hl with e | e | e
        · exact Or.inr (Or.inr (Or.inl (by omega)))
        · exact Or.inr (Or.inr (Or.inr (Or.inl (by omega))))
        · exact Or.inr (Or.inr (Or.inr (Or.inr (by omega))))) (fun b w => by
        rw [eA.1, eA.2] at w
        rcases hl with e | e | e <;> rw [e] at w
        · exact Or.inr (Or.inl w)
        · exact Or.inr (Or.inr (Or.inl w))
        · exact Or.inr (Or.inr (Or.inr w)))
      have ea : arr hb l = arr ha l := L'.2.1
      have lz : ¬ l = 0 := L.2
      have lc : lcap hb l = lcap ha l := by show (hp_K hb (arr hb l)).2 = _; rw [ea, fr.K (arr_lt ala L)]
      refine ⟨sb, ⟨by rw [ea, lc]; exact L', lz⟩, fun l' m hl' ne L2 => ?_, fun dp => ?_, fun j => ?_⟩
      · have eA' := sa.2.2.2.2.1 l' hl'
        refine (LST_fr ala L2 fr ne (fun w => ?_) (fun w => ?_) (fun w => ?_)).1
        · have := LST_k5 L w.2
          rw [← w.1, L2.1.1] at this; cases this
        · exact ne (sep.1 l' l hl' hl (by rw [← eA'.2]; exact w.2) (by rw [← eA'.1, ← eA.1]; exact w.1.1))
        · have := Al_ne ala (show hp_K ha (arr ha l) = ((hp_K ha (arr ha l)).1, (hp_K ha (arr ha l)).2) from rfl) (by rw [LST_k5 L w.2]; decide)
          exact this w.1.symm
      · obtain ⟨d1, d2, d3, d4⟩ := dp
        have k7 : hp_K ha (x + 7) = (102, 0) := Wa.k rfl
        have k8 : hp_K ha (x + 8) = (1, 10) := Wa.k rfl
        have k9 : hp_K ha (x + 9) = (1, 10) := Wa.k rfl
        have n7 : ¬ x + 7 = l := by omega
        have n8 : ¬ x + 8 = l := by omega
        have n9 : ¬ x + 9 = l := by omega
        unfold DP
        rw [fr.I (Al_lt ala k7 (by decide)) n7, fr.I (Al_lt ala k8 (by decide)) n8, fr.I (Al_lt ala k9 (by decide)) n9]
        exact ⟨d1, d2, d3, d4⟩
      · rw [fr.I (Al_lt ala Wa.k0 (by decide)) (show ¬ x = l by omega)]
    have hW := hW1
    refine rw_aload f_X0_start_92 rfl ?_
    refine rw_getR f_X0_start_93 (by first | assumption | exact hW.k rfl | exact hW.k0) (by first | assumption | exact hW.r0 rfl | exact hW.r rfl | rfl) ?_
    refine rw_callV f_X0_start_96 rfl (by first | assumption | exact hW.k rfl | exact hW.k0) (by first | assumption | exact hW.1 | omega | exact Nat.succ_ne_zero _) rfl rfl rfl rfl (rn_kv (J_clear m11.1 (fun ha qa fa => ?_)))
    skip
    obtain ⟨sa, a1, ao, ad, ai⟩ := cl h1 ha (x + 15) n1 (Or.inl rfl) st1 m11 qa fa
    have a2 := ao _ _ (Or.inr (Or.inl rfl)) (by omega) m21
    have a3 := ao _ _ (Or.inr (Or.inr rfl)) (by omega) m31
    have hW := sa.1
    refine rw_aload f_X0_start_99 rfl ?_
    refine rw_getR f_X0_start_100 (by first | assumption | exact hW.k rfl | exact hW.k0) (by first | assumption | exact hW.r0 rfl | exact hW.r rfl | rfl) ?_
    refine rw_callV f_X0_start_103 rfl (by first | assumption | exact hW.k rfl | exact hW.k0) (by first | assumption | exact hW.1 | omega | exact Nat.succ_ne_zero _) rfl rfl rfl rfl (rn_kv (J_clear a2.1 (fun hb qb fb => ?_)))
    skip
    obtain ⟨sb, b2, bo, bd, bi⟩ := cl ha hb (x + 16) n2 (Or.inr (Or.inl rfl)) sa a2 qb fb
    have b1 := bo _ _ (Or.inl rfl) (by omega) a1
    have b3 := bo _ _ (Or.inr (Or.inr rfl)) (by omega) a3
    have hW := sb.1
    refine rw_aload f_X0_start_106 rfl ?_
    refine rw_getR f_X0_start_107 (by first | assumption | exact hW.k rfl | exact hW.k0) (by first | assumption | exact hW.r0 rfl | exact hW.r rfl | rfl) ?_
    refine rw_callV f_X0_start_110 rfl (by first | assumption | exact hW.k rfl | exact hW.k0) (by first | assumption | exact hW.1 | omega | exact Nat.succ_ne_zero _) rfl rfl rfl rfl (rn_kv (J_clear b3.1 (fun hc qc fc => ?_)))
    skip
    obtain ⟨sc, c3, co, cd, ci⟩ := cl hb hc (x + 28) n3 (Or.inr (Or.inr rfl)) sb b3 qc fc
    have c1 := co _ _ (Or.inl rfl) (by omega) b1
    have c2 := co _ _ (Or.inr (Or.inl rfl)) (by omega) b2
    have hW := sc.1
    have alc : Al hc := hW.2.2.2
    have fr : Fr (at_ x) no 0 0 hc (hp_sI hc x 12 0) := Fr_sI
    have kp : ∀ l m, LST hc l m → ¬ l = x → LST (hp_sI hc x 12 0) l m := fun l m L ne => (LST_fr alc L fr ne id (fun w => w.1) id).1
    have dpc := cd (bd (ad dp1))
    refine rw_aload f_X0_start_113 rfl ?_
    refine rw_const f_X0_start_114 ?_
    refine rw_putI f_X0_start_115 (by first | assumption | exact hW.k rfl | exact hW.k0) ?_
    refine rw_const f_X0_start_118 ?_
    refine rw_istore f_X0_start_119 rfl rfl ?_
    refine t120 3 0 (by omega) _ (stp sc fr (fun b w => Or.inl w) (fun b w => absurd w id)) (kp _ _ c1 (by omega)) (kp _ _ c2 (by omega)) (kp _ _ c3 (by omega)) ?_ sI_same (fun j hj => ?_) (fun c hc => absurd hc (Nat.not_lt_zero c))
    · obtain ⟨d1, d2, d3, d4⟩ := dpc
      refine ⟨fun j hj => ?_, ?_, ?_, ?_⟩
      · rw [sI_ne (by omega), sI_ne (by omega)]; exact d1 j hj
      · rw [sI_ne (by omega)]; exact d2
      · rw [sI_ne (by omega)]; exact d3
      · rw [sI_ne (by omega)]; exact d4
    · rw [sI_ne (by omega), ci, bi, ai, ix1]
  refine rw_const f_X0_start_0 ?_
  refine rw_istore f_X0_start_1 rfl rfl ?_
  refine rn_inv (N := 10) (fun b ls hh => ls = [am_r x, am_i (nI b)] ∧ On (fun c => x + 8 ≤ c ∧ c ≤ x + 9) h hh ∧ ∀ j, j < b → hp_I hh (x + 8) j = 0 ∧ hp_I hh (x + 9) j = startF g (10 + j)) (fun b hb ls hh hI ih => ?_) (fun ls hh hI => ?_) ⟨rfl, On_refl, fun j hj => absurd hj (Nat.not_lt_zero j)⟩
  · obtain ⟨rfl, on, hq⟩ := hI
    have st := stp st0 on.fr (fun c w => Or.inr (Or.inl (by have w' : x + 8 ≤ c ∧ c ≤ x + 9 := w; omega))) (fun b w => absurd w id)
    have hW := st.1
    have fin : ∀ v, v = startF g (10 + b) → Rn (d + 4) n_X0_start 2 [am_r x, am_i (nI (b + 1))] [] (hp_sI (hp_sI hh (x + 8) b 0) (x + 9) b v) (kV k) := by
      intro v hv
      refine ih _ _ ⟨rfl, (on.tr (On_sI (show x + 8 ≤ x + 8 ∧ x + 8 ≤ x + 9 by omega))).tr (On_sI (show x + 8 ≤ x + 9 ∧ x + 9 ≤ x + 9 by omega)), fun j hj => ?_⟩
      rw [sI_ne (by omega)]
      by_cases e : j = b
      · subst e; exact ⟨sI_same, by rw [sI_same, hv]⟩
      · rw [sI_ne (by omega), sI_ne (by omega), sI_ne (by omega)]; exact hq j (by omega)
    have on2 : On (at_ (x + 8)) hh (hp_sI hh (x + 8) b 0) := On_sI rfl
    have st2 := stp st on2.fr (fun c w => Or.inr (Or.inl (by have w' : c = x + 8 := w; omega))) (fun b w => absurd w id)
    have hW2 := st2.1
    have r02 := st2.2.1
    have hR2 := st2.2.2.1
    have gK2 := hR2.1.1
    have g22 := hR2.1.2.2.2.1
    have lO := hR2.2.1.2.2
    have lK := lO.1.1.1
    have lz : ¬ R + 2 + 2 = 0 := by omega
    have g10 := hg.1.2.2.1
    have eS : startF g (10 + b) = (match g.1.2.2[b]? with | some v => v.2.2.2.2.2.2.1 | none => 0) := by
      unfold startF; rw [if_pos (by omega), Nat.add_sub_cancel_left]
    by_cases cb : b < g.1.2.2.length
    · obtain ⟨v, hv⟩ := get_of cb
      obtain ⟨p1, p2, p3, p4, p5, p6, p7, p8⟩ := lO.2.2 b v hv
      have oc : ([115, 116] : List Nat).contains (hp_K (hp_sI hh (x + 8) b 0) (el (hp_sI hh (x + 8) b 0) (R + 2 + 2) b)).1 = true := by rw [p1]; cases v.2.2.2.2.1 <;> rfl
      refine rw_iload f_X0_start_2 rfl ?_
      refine rw_const f_X0_start_3 ?_
      refine rw_icmpF f_X0_start_5 (decide_eq_false (by rw [show (10 : Int32) = nI 10 from rfl]; exact nI_ge hb (by omega))) ?_
      refine rw_aload f_X0_start_8 rfl ?_
      refine rw_getR f_X0_start_9 (by first | assumption | exact hW.k rfl | exact hW.k0) (by first | assumption | exact hW.r0 rfl | exact hW.r rfl | rfl) ?_
      refine rw_getR f_X0_start_12 (by first | assumption | exact hW.k rfl | exact hW.k0) (by first | assumption | exact hW.r0 rfl | exact hW.r rfl | rfl) ?_
      refine rw_iload f_X0_start_15 rfl ?_
      refine rw_const f_X0_start_16 ?_
      refine rw_iastE (j := b) f_X0_start_17 (by first | assumption | exact hW.k rfl | exact hW.k0) (by first | rfl | exact nI_addl _ _ | (simp only [nI, Int32.ofNat_add, Int32.ofNat_mul]; rfl) | (simp only [nI_addl, nI_mull, nI_lit, nI_1']; done) | (simp only [nI_1, nI_0, nI_addl, nI_mull, ← nI_succ]; rfl)) (by omega) (by omega) ?_
      refine rw_aload f_X0_start_18 rfl ?_
      refine rw_getR f_X0_start_19 (by first | assumption | exact hW.k rfl | exact hW.k0) (by first | assumption | exact hW.r0 rfl | exact hW.r rfl | rfl) ?_
      refine rw_getR f_X0_start_22 (by first | assumption | exact hW.k rfl | exact hW.k0) (by first | assumption | exact hW.r0 rfl | exact hW.r rfl | rfl) ?_
      refine rw_iload f_X0_start_25 rfl ?_
      refine rw_iload f_X0_start_26 rfl ?_
      refine rw_aload f_X0_start_27 rfl ?_
      refine rw_callV f_X0_start_28 rfl (by first | assumption | exact hW.k rfl | exact hW.k0) (by first | assumption | exact hW.1 | omega | exact Nat.succ_ne_zero _) rfl rfl rfl rfl (rn_ki (C_buttonsR hW2 r02 hR2 ?_))
      refine rw_icmpF f_X0_start_31 (decide_eq_false (nI_ge cb (by omega))) ?_
      refine rw_aload f_X0_start_34 rfl ?_
      refine rw_getR f_X0_start_35 (by first | assumption | exact hW.k rfl | exact hW.k0) (by first | assumption | exact hW.r0 rfl | exact hW.r rfl | rfl) ?_
      refine rw_getR f_X0_start_38 (by first | assumption | exact hW.k rfl | exact hW.k0) (by first | assumption | exact hW.r0 rfl | exact hW.r rfl | rfl) ?_
      refine rw_iload f_X0_start_41 rfl ?_
      refine rw_callV f_X0_start_42 rfl (by first | assumption | exact hW.k rfl | exact hW.k0) (by first | assumption | exact hW.1 | omega | exact Nat.succ_ne_zero _) rfl rfl rfl rfl (rn_kr (J_getL lO.1 cb ?_))
      refine rw_castC f_X0_start_45 (by assumption) ?_
      refine rw_getIC f_X0_start_48 (by assumption) ?_
      rw [p7]
      refine rw_goto f_X0_start_51 ?_
      refine rw_iastE (j := b) f_X0_start_55 (by first | assumption | exact hW.k rfl | exact hW.k0) (by first | rfl | exact nI_addl _ _ | (simp only [nI, Int32.ofNat_add, Int32.ofNat_mul]; rfl) | (simp only [nI_addl, nI_mull, nI_lit, nI_1']; done) | (simp only [nI_1, nI_0, nI_addl, nI_mull, ← nI_succ]; rfl)) (by omega) (by omega) ?_
      refine rw_iinc f_X0_start_56 rfl rfl ?_
      refine rw_goto f_X0_start_59 ?_
      rw [nI_1']
      exact fin _ (by rw [eS, hv])
    · have hv : g.1.2.2[b]? = none := List.getElem?_eq_none (by omega)
      refine rw_iload f_X0_start_2 rfl ?_
      refine rw_const f_X0_start_3 ?_
      refine rw_icmpF f_X0_start_5 (decide_eq_false (by rw [show (10 : Int32) = nI 10 from rfl]; exact nI_ge hb (by omega))) ?_
      refine rw_aload f_X0_start_8 rfl ?_
      refine rw_getR f_X0_start_9 (by first | assumption | exact hW.k rfl | exact hW.k0) (by first | assumption | exact hW.r0 rfl | exact hW.r rfl | rfl) ?_
      refine rw_getR f_X0_start_12 (by first | assumption | exact hW.k rfl | exact hW.k0) (by first | assumption | exact hW.r0 rfl | exact hW.r rfl | rfl) ?_
      refine rw_iload f_X0_start_15 rfl ?_
      refine rw_const f_X0_start_16 ?_
      refine rw_iastE (j := b) f_X0_start_17 (by first | assumption | exact hW.k rfl | exact hW.k0) (by first | rfl | exact nI_addl _ _ | (simp only [nI, Int32.ofNat_add, Int32.ofNat_mul]; rfl) | (simp only [nI_addl, nI_mull, nI_lit, nI_1']; done) | (simp only [nI_1, nI_0, nI_addl, nI_mull, ← nI_succ]; rfl)) (by omega) (by omega) ?_
      refine rw_aload f_X0_start_18 rfl ?_
      refine rw_getR f_X0_start_19 (by first | assumption | exact hW.k rfl | exact hW.k0) (by first | assumption | exact hW.r0 rfl | exact hW.r rfl | rfl) ?_
      refine rw_getR f_X0_start_22 (by first | assumption | exact hW.k rfl | exact hW.k0) (by first | assumption | exact hW.r0 rfl | exact hW.r rfl | rfl) ?_
      refine rw_iload f_X0_start_25 rfl ?_
      refine rw_iload f_X0_start_26 rfl ?_
      refine rw_aload f_X0_start_27 rfl ?_
      refine rw_callV f_X0_start_28 rfl (by first | assumption | exact hW.k rfl | exact hW.k0) (by first | assumption | exact hW.1 | omega | exact Nat.succ_ne_zero _) rfl rfl rfl rfl (rn_ki (C_buttonsR hW2 r02 hR2 ?_))
      refine rw_icmpT f_X0_start_31 (decide_eq_true (nI_le (by omega) (by omega))) ?_
      refine rw_const f_X0_start_54 ?_
      refine rw_iastE (j := b) f_X0_start_55 (by first | assumption | exact hW.k rfl | exact hW.k0) (by first | rfl | exact nI_addl _ _ | (simp only [nI, Int32.ofNat_add, Int32.ofNat_mul]; rfl) | (simp only [nI_addl, nI_mull, nI_lit, nI_1']; done) | (simp only [nI_1, nI_0, nI_addl, nI_mull, ← nI_succ]; rfl)) (by omega) (by omega) ?_
      refine rw_iinc f_X0_start_56 rfl rfl ?_
      refine rw_goto f_X0_start_59 ?_
      rw [nI_1']
      exact fin _ (by rw [eS, hv])
  · obtain ⟨rfl, on, hq⟩ := hI
    have st := stp st0 on.fr (fun c w => Or.inr (Or.inl (by have w' : x + 8 ≤ c ∧ c ≤ x + 9 := w; omega))) (fun b w => absurd w id)
    have al : Al h := hW0.2.2.2
    have kp : ∀ l m, LST h l m → ¬ (x + 8 ≤ l ∧ l ≤ x + 9) → LST hh l m := fun l m L ne => (LST_fr al L on.fr ne id (fun w => w.1) id).1
    have s0 : ∀ j, j < 10 → startF g j = 0 := fun j hj => by unfold startF; rw [if_neg (by omega), if_neg (by omega)]
    have hW := st.1
    refine rw_iload f_X0_start_2 rfl ?_
    refine rw_const f_X0_start_3 ?_
    refine rw_icmpT f_X0_start_5 (by decide) ?_
    exact t62 hh _ st (kp _ _ l1 (by omega)) (kp _ _ l2 (by omega)) (kp _ _ l3 (by omega)) (fun j hj => by rw [s0 j hj]; exact hq j hj) (fun j => by rw [on.I (show ¬ (x + 8 ≤ x ∧ x ≤ x + 9) by omega)])
end CStart
