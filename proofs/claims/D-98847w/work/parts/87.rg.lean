/-! THE CLASS: a regiment that is being read, at R + 1 (lists R + 2, 3, 4; likes R + 5; told R + 6) -/
section RgW
variable {WI WR : Nat → Prop} {c s : Nat} {h h' : am_H} {α : Type}
/-- a picture of a cell that rests on its kind, ints, longs -/
def Pgood (P : am_H → Nat → α → Prop) : Prop := (∀ h a v, P h a v → 112 ≤ (hp_K h a).1 ∧ (hp_K h a).1 ≤ 116 ∧ (hp_K h a).2 = 0) ∧ (∀ h h' a v, hp_K h' a = hp_K h a → hp_I h' a = hp_I h a → hp_L h' a = hp_L h a → P h a v → P h' a v)
/-- a list of cells and its picture -/
def LI (P : am_H → Nat → α → Prop) (h : am_H) (l : Nat) (xs : List α) : Prop := LST h l xs.length ∧ xs.length ≤ 61 ∧ ∀ i v, xs[i]? = some v → P h (el h l i) v
theorem LI_fr {P : am_H → Nat → α → Prop} (g : Pgood P) (al : Al h) {l : Nat} {xs : List α} (hL : LI P h l xs) (fr : Fr WI WR c s h h') (hl : ¬ WI l) (hl2 : ¬ WR l) (hA : ¬ (WR (arr h l) ∧ 0 < lcap h l)) (h0 : ¬ WR 0) (hi : ∀ b, WI b → ¬ (112 ≤ (hp_K h b).1 ∧ (hp_K h b).1 ≤ 116)) : LI P h' l xs ∧ arr h' l = arr h l ∧ lcap h' l = lcap h l := by
  obtain ⟨a1, a2, a3⟩ := LST_fr al hL.1 fr hl hl2 hA h0
  refine ⟨⟨a1, hL.2.1, fun i v e => ?_⟩, a2, ?_⟩
  · have li : i < xs.length := (List.getElem?_eq_some_iff.mp e).1
    rw [a3 i li]
    have q := hL.2.2 i v e
    have kq := g.1 _ _ _ q
    have lt : el h l i < hp_n h := Al_lt' al (by omega)
    exact g.2 _ _ _ _ (fr.K lt) (fr.I lt (fun w => hi _ w ⟨kq.1, kq.2.1⟩)) (fr.L lt (fun w => hi _ w ⟨kq.1, kq.2.1⟩)) q
  · show (hp_K h' (arr h' l)).2 = _
    rw [a2, fr.K (arr_lt al hL.1)]
theorem LI_add {P : am_H → Nat → α → Prop} (g : Pgood P) (al : Al h) {l a A' cap' : Nat} {xs : List α} {v : α} (hL : LI P h l xs) (hn : xs.length < 61) (hv : P h a v) (q1 : AL h' l (xs.length + 1) A' cap') (q3 : ∀ j, j < xs.length → hp_R h' A' j = el h l j) (q4 : hp_R h' A' xs.length = a) (fr : Fr (at_ l) (fun b => b = l ∨ (b = arr h l ∧ 0 < lcap h l)) 1 100 h h') : LI P h' l (xs ++ [v]) ∧ arr h' l = A' := by
  have lK := hL.1.1.1
  have eA : arr h' l = A' := q1.2.1
  have eC : lcap h' l = cap' := by
    show (hp_K h' (arr h' l)).2 = _
    rw [eA]
    rcases q1.2.2.2.2.2.1 with e | e
    · rw [e.1]
    · rw [e.2.2]; exact e.1.symm
  have keep : ∀ b v, P h b v → P h' b v := by
    intro b v q
    have kq := g.1 _ _ _ q
    have lt : b < hp_n h := Al_lt' al (by omega)
    have ne : ¬ b = l := fun e => by rw [e, lK] at kq; have := kq.2.1; dsimp only at this; omega
    exact g.2 _ _ _ _ (fr.K lt) (fr.I lt ne) (fr.L lt ne) q
  refine ⟨⟨⟨by rw [eA, eC, List.length_append]; exact q1, hL.1.2⟩, by rw [List.length_append]; exact hn, fun i w e => ?_⟩, eA⟩
  show P h' (hp_R h' (arr h' l) i) w
  rw [eA]
  by_cases hi : i < xs.length
  · rw [q3 i hi]
    rw [List.getElem?_append_left hi] at e
    exact keep _ _ (hL.2.2 i w e)
  · rw [List.getElem?_append_right (by omega)] at e
    have : i - xs.length = 0 := by
      have := (List.getElem?_eq_some_iff.mp e).1
      simp at this
      omega
    rw [this] at e
    have ei : i = xs.length := by omega
    simp at e
    rw [ei, q4, ← e]
    exact keep _ _ hv
def PMan (h : am_H) (a : Nat) (v : mnT) : Prop := hp_K h a = (112, 0) ∧ hp_L h a 0 = v.1 ∧ hp_I h a 1 = v.2.1 ∧ hp_I h a 2 = v.2.2.1 ∧ hp_I h a 3 = v.2.2.2
def PDeed (h : am_H) (a : Nat) (v : ddT) : Prop := hp_K h a = (113, 0) ∧ hp_L h a 0 = v.1 ∧ hp_I h a 1 = v.2
def POath (h : am_H) (a : Nat) (v : oaT) : Prop := hp_K h a = (if v.2.2.2.2.1 = true then 115 else 116, 0) ∧ hp_L h a 0 = v.1 ∧ hp_I h a 0 = nI v.2.1 ∧ hp_I h a 1 = nI v.2.2.1 ∧ hp_I h a 2 = nI v.2.2.2.1 ∧ hp_I h a 3 = v.2.2.2.2.2.1 ∧ hp_I h a 4 = v.2.2.2.2.2.2.1 ∧ hp_I h a 5 = v.2.2.2.2.2.2.2
theorem gMan : Pgood PMan := ⟨fun h a v q => by rw [q.1]; decide, fun h h' a v e1 e2 e3 q => by unfold PMan; rw [e1, e2, e3]; exact q⟩
theorem gDeed : Pgood PDeed := ⟨fun h a v q => by rw [q.1]; decide, fun h h' a v e1 e2 e3 q => by unfold PDeed; rw [e1, e2, e3]; exact q⟩
theorem gOath : Pgood POath := ⟨fun h a v q => by rw [q.1]; cases v.2.2.2.2.1 <;> decide, fun h h' a v e1 e2 e3 q => by unfold POath; rw [e1, e2, e3]; exact q⟩
/-- the lists' rows are apart, and new -/
def SepL (h : am_H) (R : Nat) : Prop := ∀ i, i < 3 → 0 < lcap h (R + 2 + i) → R + 6 < arr h (R + 2 + i) ∧ ∀ j, j < 3 → arr h (R + 2 + i) = arr h (R + 2 + j) → i = j
def PWear (h : am_H) (a : Nat) (w : Option am_S) : Prop := match w with
  | none => a = 0
  | some c => ¬ a = 0 ∧ Tree h 320 a c
def Rg (h : am_H) (R : Nat) (g : rgT) : Prop :=
  (hp_K h (R + 1) = (101, 0) ∧ hp_R h (R + 1) 0 = R + 2 ∧ hp_R h (R + 1) 1 = R + 2 + 1 ∧ hp_R h (R + 1) 2 = R + 2 + 2 ∧ hp_R h (R + 1) 3 = R + 5 ∧ hp_R h (R + 1) 13 = R + 6) ∧
  (LI PMan h (R + 2) g.1.1 ∧ LI PDeed h (R + 2 + 1) g.1.2.1 ∧ LI POath h (R + 2 + 2) g.1.2.2) ∧ SepL h R ∧
  (hp_K h (R + 5) = (1, 36) ∧ (∀ j, j < 36 → hp_I h (R + 5) j = g.2.1.1 j) ∧ hp_K h (R + 6) = (1, 4)) ∧
  (hp_I h (R + 1) 5 = nI g.2.1.2 ∧ hp_I h (R + 1) 6 = nI g.2.2.1.2 ∧ hp_I h (R + 1) 7 = g.2.2.2.1.getD 8 ∧ hp_I h (R + 1) 8 = g.2.2.2.2.1.getD 0 ∧ hp_I h (R + 1) 9 = g.2.2.2.2.2.getD 0 ∧ hp_I h (R + 1) 10 = bI g.2.2.2.1.isSome ∧ hp_I h (R + 1) 11 = bI g.2.2.2.2.1.isSome ∧ hp_I h (R + 1) 12 = bI g.2.2.2.2.2.isSome) ∧
  PWear h (hp_R h (R + 1) 4) g.2.2.1.1
/-- the picture stands while only a reader, a fault and new cells are written -/
theorem Rg.fr {R : Nat} {g : rgT} (al : Al h) (q : Rg h R g) (fr : Fr WI WR c s h h') (hi : ∀ b, WI b → (hp_K h b).1 = 110 ∨ (hp_K h b).1 = 103) (hr : ∀ b, ¬ WR b) : Rg h' R g := by
  obtain ⟨⟨k1, k2, k3, k4, k5, k6⟩, ⟨lM, lD, lO⟩, sp, ⟨b1, b2, b3⟩, is, w⟩ := q
  have l1 := Al_lt al k1 (by decide)
  have l5 := Al_lt al b1 (by decide)
  have l6 := Al_lt al b3 (by decide)
  have nI : ∀ b t u, hp_K h b = (t, u) → ¬ t = 110 → ¬ t = 103 → ¬ WI b := fun b t u e n1 n2 w => by
    rcases hi b w with z | z <;> (rw [e] at z; first | exact n1 z | exact n2 z)
  have eR : hp_R h' (R + 1) = hp_R h (R + 1) := fr.R l1 (hr _)
  have eI : hp_I h' (R + 1) = hp_I h (R + 1) := fr.I l1 (nI _ _ _ k1 (by decide) (by decide))
  have hi2 : ∀ b, WI b → ¬ (112 ≤ (hp_K h b).1 ∧ (hp_K h b).1 ≤ 116) := fun b w => by
    rcases hi b w with z | z <;> omega
  have zM := LI_fr gMan al lM fr (nI _ _ _ lM.1.1.1 (by decide) (by decide)) (hr _) (fun z => hr _ z.1) (hr _) hi2
  have zD := LI_fr gDeed al lD fr (nI _ _ _ lD.1.1.1 (by decide) (by decide)) (hr _) (fun z => hr _ z.1) (hr _) hi2
  have zO := LI_fr gOath al lO fr (nI _ _ _ lO.1.1.1 (by decide) (by decide)) (hr _) (fun z => hr _ z.1) (hr _) hi2
  unfold Rg
  rw [eR, eI, fr.K l1, fr.K l5, fr.K l6, fr.I l5 (nI _ _ _ b1 (by decide) (by decide))]
  refine ⟨⟨k1, k2, k3, k4, k5, k6⟩, ⟨zM.1, zD.1, zO.1⟩, ?_, ⟨b1, b2, b3⟩, is, ?_⟩
  · have ee : ∀ i, i < 3 → arr h' (R + 2 + i) = arr h (R + 2 + i) ∧ lcap h' (R + 2 + i) = lcap h (R + 2 + i) := by
      intro i hi
      rcases (by omega : i = 0 ∨ i = 1 ∨ i = 2) with e | e | e <;> rw [e]
      · exact zM.2
      · exact zD.2
      · exact zO.2
    intro i hi hc
    rw [(ee i hi).2] at hc
    obtain ⟨p1, p2⟩ := sp i hi hc
    refine ⟨by rw [(ee i hi).1]; exact p1, fun j hj e => p2 j hj ?_⟩
    rw [(ee i hi).1, (ee j hj).1] at e; exact e
  · revert w
    cases g.2.2.1.1 with
    | none => exact id
    | some c => exact fun w => ⟨w.1, Tree_fr al fr (fun b w q => by rcases hi b w with z | z <;> omega) (fun b w => absurd w (hr b)) _ _ _ w.2⟩
theorem LI.nl {β : Type} {P : am_H → Nat → β → Prop} {l : Nat} {xs : List β} (g : Pgood P) (f : β → Int64) (hf : ∀ a v, P h a v → hp_L h a 0 = f v ∧ ([112, 113, 115, 116] : List Nat).contains (hp_K h a).1 = true) (q : LI P h l xs) : NL h l (xs.map f) := by
  refine ⟨by rw [List.length_map]; exact q.1, by rw [List.length_map]; exact q.2.1, fun i hi => ?_⟩
  rw [List.length_map] at hi
  have e := q.2.2 i xs[i] (List.getElem?_eq_getElem hi)
  have kq := g.1 _ _ _ e
  have z := hf _ _ e
  refine ⟨⟨(hp_K h (el h l i)).1, ?_, z.2⟩, ?_⟩
  · rw [← kq.2.2]
  · rw [z.1, List.getD_eq_getElem?_getD, List.getElem?_map, List.getElem?_eq_getElem hi]; rfl
end RgW
