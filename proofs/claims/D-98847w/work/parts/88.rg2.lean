/-! THE CLASS: the regiment grows -/
section RgW2
variable {c s : Nat} {h h' : am_H} {R F tp N : Nat} {T : tx} {g : rgT}
/-- one list has grown: all else stands -/
theorem Rg_list {i A' : Nat} (al : Al h) (q : Rg h R g) (hi3 : i < 3) (qA : A' = arr h (R + 2 + i) ∧ 0 < lcap h (R + 2 + i) ∨ A' = hp_n h) (eA : arr h' (R + 2 + i) = A') (fr : Fr (at_ (R + 2 + i)) (fun b => b = R + 2 + i ∨ (b = arr h (R + 2 + i) ∧ 0 < lcap h (R + 2 + i))) 1 100 h h') : (hp_K h' (R + 1) = hp_K h (R + 1) ∧ hp_R h' (R + 1) = hp_R h (R + 1) ∧ hp_I h' (R + 1) = hp_I h (R + 1)) ∧ (¬ i = 0 → LI PMan h' (R + 2) g.1.1) ∧ (¬ i = 1 → LI PDeed h' (R + 2 + 1) g.1.2.1) ∧ (¬ i = 2 → LI POath h' (R + 2 + 2) g.1.2.2) ∧ SepL h' R ∧ (hp_K h' (R + 5) = hp_K h (R + 5) ∧ hp_I h' (R + 5) = hp_I h (R + 5) ∧ hp_K h' (R + 6) = hp_K h (R + 6)) ∧ PWear h' (hp_R h (R + 1) 4) g.2.2.1.1 := by
  obtain ⟨⟨k1, k2, k3, k4, k5, k6⟩, ⟨lM, lD, lO⟩, sp, ⟨b1, b2, b3⟩, is, w⟩ := q
  have l1 := Al_lt al k1 (by decide)
  have l5 := Al_lt al b1 (by decide)
  have l6 := Al_lt al b3 (by decide)
  -- every list of the three
  have ls : ∀ j, j < 3 → ∃ n, LST h (R + 2 + j) n := by
    intro j hj
    rcases (by omega : j = 0 ∨ j = 1 ∨ j = 2) with e | e | e <;> rw [e]
    · exact ⟨_, lM.1⟩
    · exact ⟨_, lD.1⟩
    · exact ⟨_, lO.1⟩
  obtain ⟨n0, lI⟩ := ls i hi3
  have a5 : 0 < lcap h (R + 2 + i) → (hp_K h (arr h (R + 2 + i))).1 = 5 := LST_k5 lI
  have w0 : ¬ (0 = R + 2 + i ∨ (0 = arr h (R + 2 + i) ∧ 0 < lcap h (R + 2 + i))) := by
    intro w
    rcases w with e | e
    · omega
    · have := a5 e.2; rw [← e.1, al.2 0 (Or.inr rfl)] at this; cases this
  have oth : ∀ j, j < 3 → ¬ j = i → ¬ ((R + 2 + j = R + 2 + i) ∨ (R + 2 + j = arr h (R + 2 + i) ∧ 0 < lcap h (R + 2 + i))) ∧ ¬ ((arr h (R + 2 + j) = R + 2 + i ∨ (arr h (R + 2 + j) = arr h (R + 2 + i) ∧ 0 < lcap h (R + 2 + i))) ∧ 0 < lcap h (R + 2 + j)) := by
    intro j hj ne
    obtain ⟨n, lJ⟩ := ls j hj
    refine ⟨fun w => ?_, fun w => ?_⟩
    · rcases w with e | e
      · omega
      · have := a5 e.2; rw [← e.1, lJ.1.1] at this; cases this
    · rcases w.1 with e | e
      · have := LST_k5 lJ w.2; rw [e, lI.1.1] at this; cases this
      · exact ne ((sp j hj w.2).2 i hi3 e.1)
  have hk : ∀ b, at_ (R + 2 + i) b → ¬ (112 ≤ (hp_K h b).1 ∧ (hp_K h b).1 ≤ 116) := fun b w => by rw [w, lI.1.1]; decide
  have nl : ∀ b t u, hp_K h b = (t, u) → ¬ t = 130 → ¬ at_ (R + 2 + i) b := fun b t u e n w => by rw [w, lI.1.1] at e; cases e; exact n rfl
  have nr : ∀ b t u, hp_K h b = (t, u) → ¬ t = 130 → ¬ t = 5 → ¬ (b = R + 2 + i ∨ (b = arr h (R + 2 + i) ∧ 0 < lcap h (R + 2 + i))) := fun b t u e n n2 w => by
    rcases w with z | z
    · rw [z, lI.1.1] at e; cases e; exact n rfl
    · have := a5 z.2; rw [← z.1, e] at this; exact n2 this
  have zM : ¬ i = 0 → LI PMan h' (R + 2) g.1.1 ∧ arr h' (R + 2) = arr h (R + 2) ∧ lcap h' (R + 2) = lcap h (R + 2) := fun n => LI_fr gMan al lM fr (fun w => by have : R + 2 = R + 2 + i := w; omega) (oth 0 (by omega) (by omega)).1 (oth 0 (by omega) (by omega)).2 w0 hk
  have zD : ¬ i = 1 → LI PDeed h' (R + 2 + 1) g.1.2.1 ∧ arr h' (R + 2 + 1) = arr h (R + 2 + 1) ∧ lcap h' (R + 2 + 1) = lcap h (R + 2 + 1) := fun n => LI_fr gDeed al lD fr (fun w => by have : R + 2 + 1 = R + 2 + i := w; omega) (oth 1 (by omega) (by omega)).1 (oth 1 (by omega) (by omega)).2 w0 hk
  have zO : ¬ i = 2 → LI POath h' (R + 2 + 2) g.1.2.2 ∧ arr h' (R + 2 + 2) = arr h (R + 2 + 2) ∧ lcap h' (R + 2 + 2) = lcap h (R + 2 + 2) := fun n => LI_fr gOath al lO fr (fun w => by have : R + 2 + 2 = R + 2 + i := w; omega) (oth 2 (by omega) (by omega)).1 (oth 2 (by omega) (by omega)).2 w0 hk
  have ee : ∀ j, j < 3 → ¬ j = i → arr h' (R + 2 + j) = arr h (R + 2 + j) ∧ lcap h' (R + 2 + j) = lcap h (R + 2 + j) := by
    intro j hj ne
    rcases (by omega : j = 0 ∨ j = 1 ∨ j = 2) with e | e | e <;> rw [e]
    · exact (zM (by omega)).2
    · exact (zD (by omega)).2
    · exact (zO (by omega)).2
  have alt : ∀ j, j < 3 → arr h (R + 2 + j) < hp_n h := fun j hj => by
    obtain ⟨n, lJ⟩ := ls j hj
    exact arr_lt al lJ
  refine ⟨⟨fr.K l1, fr.R l1 (nr _ _ _ k1 (by decide) (by decide)), fr.I l1 (nl _ _ _ k1 (by decide))⟩, fun n => (zM n).1, fun n => (zD n).1, fun n => (zO n).1, ?_, ⟨fr.K l5, fr.I l5 (nl _ _ _ b1 (by decide)), fr.K l6⟩, ?_⟩
  · intro j hj hc
    by_cases ej : j = i
    · subst ej
      rw [eA]
      rcases qA with ⟨e, e2⟩ | e
      · rw [e]
        refine ⟨(sp j hj e2).1, fun m hm z => ?_⟩
        by_cases em : m = j
        · exact em.symm
        · rw [(ee m hm em).1] at z; exact (sp j hj e2).2 m hm z
      · rw [e]
        refine ⟨l6, fun m hm z => ?_⟩
        by_cases em : m = j
        · exact em.symm
        · rw [(ee m hm em).1] at z; have := alt m hm; omega
    · rw [(ee j hj ej).2] at hc
      rw [(ee j hj ej).1]
      obtain ⟨p1, p2⟩ := sp j hj hc
      refine ⟨p1, fun m hm z => ?_⟩
      by_cases em : m = i
      · rw [em, eA] at z
        rcases qA with ⟨e, e2⟩ | e
        · rw [em]; exact p2 i hi3 (by rw [z, e])
        · have := alt j hj; omega
      · rw [(ee m hm em).1] at z; exact p2 m hm z
  · revert w
    cases g.2.2.1.1 with
    | none => exact id
    | some c => exact fun w => ⟨w.1, Tree_fr al fr (fun b w q => by rw [w, lI.1.1] at q; dsimp only at q; omega) (fun b w q => by
        rcases w with z | z
        · rw [z, lI.1.1] at q; dsimp only at q; omega
        · have := a5 z.2; rw [← z.1] at this; omega) _ _ _ w.2⟩
theorem Rg_addM {a A' cap' : Nat} {v : mnT} (al : Al h) (q : Rg h R g) (hn : g.1.1.length < 61) (hv : PMan h a v) (q1 : AL h' (R + 2) (g.1.1.length + 1) A' cap') (qA : A' = arr h (R + 2) ∧ 0 < lcap h (R + 2) ∨ A' = hp_n h) (q3 : ∀ j, j < g.1.1.length → hp_R h' A' j = el h (R + 2) j) (q4 : hp_R h' A' g.1.1.length = a) (fr : Fr (at_ (R + 2)) (fun b => b = R + 2 ∨ (b = arr h (R + 2) ∧ 0 < lcap h (R + 2))) 1 100 h h') : Rg h' R ((g.1.1 ++ [v], g.1.2), g.2) := by
  obtain ⟨z1, eA⟩ := LI_add gMan al q.2.1.1 hn hv q1 q3 q4 fr
  obtain ⟨⟨a1, a2, a3⟩, _, a5, a6, a7, ⟨b1, b2, b3⟩, w⟩ := Rg_list (i := 0) al q (by omega) qA eA fr
  obtain ⟨p1, p2, p3, p4, p5, p6⟩ := q
  unfold Rg
  rw [a1, a2, a3, b1, b2, b3]
  exact ⟨p1, ⟨z1, a5 (by omega), a6 (by omega)⟩, a7, p4, p5, w⟩
theorem Rg_addD {a A' cap' : Nat} {v : ddT} (al : Al h) (q : Rg h R g) (hn : g.1.2.1.length < 61) (hv : PDeed h a v) (q1 : AL h' (R + 2 + 1) (g.1.2.1.length + 1) A' cap') (qA : A' = arr h (R + 2 + 1) ∧ 0 < lcap h (R + 2 + 1) ∨ A' = hp_n h) (q3 : ∀ j, j < g.1.2.1.length → hp_R h' A' j = el h (R + 2 + 1) j) (q4 : hp_R h' A' g.1.2.1.length = a) (fr : Fr (at_ (R + 2 + 1)) (fun b => b = R + 2 + 1 ∨ (b = arr h (R + 2 + 1) ∧ 0 < lcap h (R + 2 + 1))) 1 100 h h') : Rg h' R ((g.1.1, g.1.2.1 ++ [v], g.1.2.2), g.2) := by
  obtain ⟨z1, eA⟩ := LI_add gDeed al q.2.1.2.1 hn hv q1 q3 q4 fr
  obtain ⟨⟨a1, a2, a3⟩, a4, _, a6, a7, ⟨b1, b2, b3⟩, w⟩ := Rg_list (i := 1) al q (by omega) qA eA fr
  obtain ⟨p1, p2, p3, p4, p5, p6⟩ := q
  unfold Rg
  rw [a1, a2, a3, b1, b2, b3]
  exact ⟨p1, ⟨a4 (by omega), z1, a6 (by omega)⟩, a7, p4, p5, w⟩
theorem Rg_addO {a A' cap' : Nat} {v : oaT} (al : Al h) (q : Rg h R g) (hn : g.1.2.2.length < 61) (hv : POath h a v) (q1 : AL h' (R + 2 + 2) (g.1.2.2.length + 1) A' cap') (qA : A' = arr h (R + 2 + 2) ∧ 0 < lcap h (R + 2 + 2) ∨ A' = hp_n h) (q3 : ∀ j, j < g.1.2.2.length → hp_R h' A' j = el h (R + 2 + 2) j) (q4 : hp_R h' A' g.1.2.2.length = a) (fr : Fr (at_ (R + 2 + 2)) (fun b => b = R + 2 + 2 ∨ (b = arr h (R + 2 + 2) ∧ 0 < lcap h (R + 2 + 2))) 1 100 h h') : Rg h' R ((g.1.1, g.1.2.1, g.1.2.2 ++ [v]), g.2) := by
  obtain ⟨z1, eA⟩ := LI_add gOath al q.2.1.2.2 hn hv q1 q3 q4 fr
  obtain ⟨⟨a1, a2, a3⟩, a4, a5, _, a7, ⟨b1, b2, b3⟩, w⟩ := Rg_list (i := 2) al q (by omega) qA eA fr
  obtain ⟨p1, p2, p3, p4, p5, p6⟩ := q
  unfold Rg
  rw [a1, a2, a3, b1, b2, b3]
  exact ⟨p1, ⟨a4 (by omega), a5 (by omega), z1⟩, a7, p4, p5, w⟩
/-- the reader's world -/
def RS (h : am_H) (R F tp N : Nat) (T : tx) (g : rgT) : Prop := PW h R F (R + 1) tp N T ∧ Rg h R g ∧ F < R ∧ tp < R
/-- what reading may write: the fault, all that is new -/
abbrev GF (R F c s : Nat) (h h' : am_H) : Prop := Fr (fun b => b = F ∨ R ≤ b) (fun b => R ≤ b) c s h h'
theorem PW.fr {WI WR : Nat → Prop} {r : Nat} (hP : PW h R F r tp N T) (fr : Fr WI WR c s h h') (hi : ∀ b, WI b → ¬ (hp_K h b).1 = 2 ∧ ¬ (hp_K h b).1 = 12) (hr : ∀ b, WR b → ¬ b = 0 ∧ ¬ (hp_K h b).1 = 17 ∧ ¬ (hp_K h b).1 = 110) (e1 : hp_I h' R 1 = hp_I h R 1) : PW h' R F r tp N T := by
  obtain ⟨⟨rK, rz, r0, tK, rN, hN, hT⟩, p2, p3, p4, p5, p6, p7⟩ := hP
  have lR := Al_lt p7 rK (by decide)
  have lt := Al_lt p7 tK (by decide)
  have eR := fr.R lR (fun w => (hr _ w).2.2 (by rw [rK]))
  refine ⟨⟨by rw [fr.K lR]; exact rK, rz, by rw [eR]; exact r0, by rw [fr.K lt]; exact tK, by rw [e1]; exact rN, hN, fun j hj => ?_⟩, by rw [eR]; exact p2, by rw [fr.K (Al_lt p7 p3 (by decide))]; exact p3, p4, by rw [eR]; exact p5, ?_, fr.al p7⟩
  · rw [fr.I lt (fun w => (hi _ w).1 (by rw [tK]))]; exact hT j hj
  · exact p6.fr p7 fr (fun b w => (hi b w).2) (fun b w => ⟨(hr b w).1, (hr b w).2.1⟩)
/-- a new cell is made ready (a), the reader goes on -/
def NC (R F : Nat) (h0 h : am_H) (a : Nat) : Prop := Fr (rS R F) no 1 8 h0 h ∧ hp_I h R 1 = hp_I h0 R 1 ∧ hp_n h0 ≤ a ∧ R < hp_n h0 ∧ F < hp_n h0
theorem NC.rs {h0 : am_H} {a : Nat} (n : NC R F h0 h a) (q : RS h0 R F tp N T g) : RS h R F tp N T g := by
  have kk : ∀ b, rS R F b → (hp_K h0 b).1 = 110 ∨ (hp_K h0 b).1 = 103 := by
    intro b w
    rcases w with e | e
    · rw [e, q.1.1.1]; exact Or.inl rfl
    · rw [e, q.1.2.2.1]; exact Or.inr rfl
  exact ⟨q.1.fr n.1 (fun b w => by have := kk b w; omega) (fun b w => absurd w id) n.2.1, q.2.1.fr q.1.2.2.2.2.2.2 n.1 kk (fun b w => w), q.2.2⟩
theorem NC.st {h0 : am_H} {a : Nat} (n : NC R F h0 h a) (st : RSt R F h h') : NC R F h0 h' a := ⟨Fr_tr n.1 st.1.fr (fun _ _ w => w) (fun _ _ w => w) (fun _ _ w => w) (fun _ _ w => w) (by omega) (by omega), by rw [st.2 1 (by omega)]; exact n.2.1, n.2.2⟩
theorem NC.sI {h0 : am_H} {a j : Nat} {v : Int32} (n : NC R F h0 h a) : NC R F h0 (hp_sI h a j v) a := ⟨Fr_tr n.1 (Fr_sI (a := a)) (fun _ _ w => w) (fun _ _ w => w) (fun b hb w => by have : b = a := w; have := n.2.2.1; omega) (fun _ _ w => absurd w id) (by omega) (by omega), by rw [sI_ne (by have := n.2.2; omega)]; exact n.2.1, n.2.2⟩
theorem NC.sL {h0 : am_H} {a j : Nat} {v : Int64} (n : NC R F h0 h a) : NC R F h0 (hp_sL h a j v) a := ⟨Fr_tr n.1 (Fr_sL (a := a)) (fun _ _ w => w) (fun _ _ w => w) (fun b hb w => by have : b = a := w; have := n.2.2.1; omega) (fun _ _ w => absurd w id) (by omega) (by omega), n.2.1, n.2.2⟩
theorem NC.new {t m : Nat} (hm : m ≤ 8) (lR : R < hp_n h) (lF : F < hp_n h) : NC R F h (hp_new h t 0 m) (hp_n h) := ⟨Fr_w Fr_new (fun _ _ w => absurd w id) (fun _ _ w => absurd w id) (by omega) hm, by rw [new_Ine (by omega)], Nat.le_refl _, lR, lF⟩
theorem RT.sI {a j p : Nat} {v : Int32} (q : RT h R N T p) (ne : ¬ R = a) : RT (hp_sI h a j v) R N T p := by
  unfold RT
  rw [sI_ne (fun z => ne z.1), sI_ne (fun z => ne z.1), sI_ne (fun z => ne z.1), sI_ne (fun z => ne z.1)]
  exact q
theorem RT.new {t n m p : Nat} (q : RT h R N T p) (lR : R < hp_n h) : RT (hp_new h t n m) R N T p := by
  unfold RT
  rw [new_Ine (by omega), new_Lne (by omega)]
  exact q
theorem RSt.P {α : Type} {P : am_H → Nat → α → Prop} {a : Nat} {v : α} (g : Pgood P) (hP : PW h R F (R + 1) tp N T) (st : RSt R F h h') (q : P h a v) : P h' a v := by
  have kq := g.1 _ _ _ q
  have ne : ¬ rS R F a := fun w => by
    rcases w with e | e
    · rw [e, hP.1.1] at kq; have := kq.2.1; have := kq.1; dsimp only at *; omega
    · rw [e, hP.2.2.1] at kq; have := kq.1; dsimp only at *; omega
  exact g.2 _ _ _ _ (by rw [st.1.K]) (st.1.2 a ne).1 (st.1.2 a ne).2 q
end RgW2
