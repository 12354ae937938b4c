/-! THE LAW: each call, of the class and then of the model (written by tools/gen_lawq.py) -/
section LawQ
variable {h : am_H} {x b L N U : Nat} {S : Nat → Int32}
theorem and255 (y : Int32) : 0 ≤ y &&& 255 := by
  apply Int32.le_iff_toInt_le.mpr
  have e : (y &&& 255).toBitVec.toNat ≤ 255 := by
    rw [show (y &&& 255).toBitVec = y.toBitVec &&& 255#32 from rfl, BitVec.toNat_and]
    exact Nat.le_trans Nat.and_le_right (by decide)
  have q : (y &&& 255).toInt = ((y &&& 255).toBitVec.toNat : Int) := BitVec.toInt_eq_toNat_of_lt (by omega)
  rw [q]
  exact Int.natCast_nonneg _
theorem P_fault (w : WL b L S x N U h) {a1 : Int32} {k : Int32 → am_H → Prop} (hk : ∀ v h1, Mdl b L S x N U n_X9_fault [am_r (x + 33), am_i a1] v h1 → hp_K h1 (x + 33) = (109, 0) → hp_K h1 b = (11, L) → hp_I h1 b = S → k v h1) : Rn 1199 n_X0_fault 0 [am_r x, am_i a1] [] h (kI k) := by
  obtain ⟨⟨r, nM, nD, nB, nA, nU, nT, nL, hC⟩, hW, hSW, hEM, sc, hN, hU⟩ := id w
  obtain ⟨hF1, hF2⟩ := hC.2.2.2.2.2.2.2.2.2
  obtain ⟨⟨fM, fM6, fD, fD6, fB, fB10⟩, fO, -⟩ := id hF1
  obtain ⟨⟨fA, fU, fAU, fT, fT30, fL, fL10⟩, ⟨t, ft, ft1⟩, ok, -, -, -⟩ := id hF2
  exact C_fault hC (hk _ h (fun k2 hk2 => M_fault hW (hk2 h w.mono)) hW.1 sc.1 sc.2)
theorem P_button (w : WL b L S x N U h) {a1 a2 : Int32} {k : Int32 → am_H → Prop} (hk : ∀ v h1, Mdl b L S x N U n_X9_button [am_r (x + 33), am_i a1, am_i a2] v h1 → hp_K h1 (x + 33) = (109, 0) → hp_K h1 b = (11, L) → hp_I h1 b = S → k v h1) : Rn 1199 n_X0_button 0 [am_r x, am_i a1, am_i a2, am_u] [] h (kI k) := by
  obtain ⟨⟨r, nM, nD, nB, nA, nU, nT, nL, hC⟩, hW, hSW, hEM, sc, hN, hU⟩ := id w
  obtain ⟨hF1, hF2⟩ := hC.2.2.2.2.2.2.2.2.2
  obtain ⟨⟨fM, fM6, fD, fD6, fB, fB10⟩, fO, -⟩ := id hF1
  obtain ⟨⟨fA, fU, fAU, fT, fT30, fL, fL10⟩, ⟨t, ft, ft1⟩, ok, -, -, -⟩ := id hF2
  exact C_button hC (hk _ h (fun k2 hk2 => M_button hW fB fB10 (fun j hj => (fO j hj).2.2.2.2.2) (hk2 h w.mono)) hW.1 sc.1 sc.2)
theorem P_coat (w : WL b L S x N U h) {a1 a2 : Int32} {k : Int32 → am_H → Prop} (hk : ∀ v h1, Mdl b L S x N U n_X9_coat [am_r (x + 33), am_i a1, am_i a2, am_u, am_u, am_u] v h1 → hp_K h1 (x + 33) = (109, 0) → hp_K h1 b = (11, L) → hp_I h1 b = S → k v h1) : Rn 1199 n_X0_coat 0 [am_r x, am_i a1, am_i a2, am_u, am_u, am_u, am_u] [] h (kI k) := by
  obtain ⟨⟨r, nM, nD, nB, nA, nU, nT, nL, hC⟩, hW, hSW, hEM, sc, hN, hU⟩ := id w
  obtain ⟨hF1, hF2⟩ := hC.2.2.2.2.2.2.2.2.2
  obtain ⟨⟨fM, fM6, fD, fD6, fB, fB10⟩, fO, -⟩ := id hF1
  obtain ⟨⟨fA, fU, fAU, fT, fT30, fL, fL10⟩, ⟨t, ft, ft1⟩, ok, -, -, -⟩ := id hF2
  exact C_coat hC (hk _ h (fun k2 hk2 => M_coat hW fB fB10 (hk2 h w.mono)) hW.1 sc.1 sc.2)
theorem P_free (w : WL b L S x N U h) {k : Int32 → am_H → Prop} (hk : ∀ v h1, Mdl b L S x N U n_X9_free [am_r (x + 33), am_u, am_u] v h1 → hp_K h1 (x + 33) = (109, 0) → hp_K h1 b = (11, L) → hp_I h1 b = S → k v h1) : Rn 1199 n_X0_free 0 [am_r x, am_u, am_u] [] h (kI k) := by
  obtain ⟨⟨r, nM, nD, nB, nA, nU, nT, nL, hC⟩, hW, hSW, hEM, sc, hN, hU⟩ := id w
  obtain ⟨hF1, hF2⟩ := hC.2.2.2.2.2.2.2.2.2
  obtain ⟨⟨fM, fM6, fD, fD6, fB, fB10⟩, fO, -⟩ := id hF1
  obtain ⟨⟨fA, fU, fAU, fT, fT30, fL, fL10⟩, ⟨t, ft, ft1⟩, ok, -, -, -⟩ := id hF2
  exact C_free hC (hk _ h (fun k2 hk2 => M_free hW fM fM6 fB fB10 (hk2 h w.mono)) hW.1 sc.1 sc.2)
theorem P_sworn (w : WL b L S x N U h) {a1 a2 : Int32} {k : Int32 → am_H → Prop} (hk : ∀ v h1, Mdl b L S x N U n_X9_sworn [am_r (x + 33), am_i a1, am_i a2, am_u, am_u] v h1 → hp_K h1 (x + 33) = (109, 0) → hp_K h1 b = (11, L) → hp_I h1 b = S → k v h1) : Rn 1199 n_X0_sworn 0 [am_r x, am_i a1, am_i a2, am_u, am_u, am_u] [] h (kI k) := by
  obtain ⟨⟨r, nM, nD, nB, nA, nU, nT, nL, hC⟩, hW, hSW, hEM, sc, hN, hU⟩ := id w
  obtain ⟨hF1, hF2⟩ := hC.2.2.2.2.2.2.2.2.2
  obtain ⟨⟨fM, fM6, fD, fD6, fB, fB10⟩, fO, -⟩ := id hF1
  obtain ⟨⟨fA, fU, fAU, fT, fT30, fL, fL10⟩, ⟨t, ft, ft1⟩, ok, -, -, -⟩ := id hF2
  exact C_sworn hC (hk _ h (fun k2 hk2 => M_sworn hW fB fB10 (hk2 h w.mono)) hW.1 sc.1 sc.2)
theorem P_many (w : WL b L S x N U h) {a1 : Int32} {k : Int32 → am_H → Prop} (hk : ∀ v h1, Mdl b L S x N U n_X9_many [am_r (x + 33), am_i a1, am_u, am_u] v h1 → hp_K h1 (x + 33) = (109, 0) → hp_K h1 b = (11, L) → hp_I h1 b = S → k v h1) : Rn 1199 n_X0_many 0 [am_r x, am_i a1, am_u, am_u] [] h (kI k) := by
  obtain ⟨⟨r, nM, nD, nB, nA, nU, nT, nL, hC⟩, hW, hSW, hEM, sc, hN, hU⟩ := id w
  obtain ⟨hF1, hF2⟩ := hC.2.2.2.2.2.2.2.2.2
  obtain ⟨⟨fM, fM6, fD, fD6, fB, fB10⟩, fO, -⟩ := id hF1
  obtain ⟨⟨fA, fU, fAU, fT, fT30, fL, fL10⟩, ⟨t, ft, ft1⟩, ok, -, -, -⟩ := id hF2
  exact C_many hC (hk _ h (fun k2 hk2 => M_many hW fB fB10 (hk2 h w.mono)) hW.1 sc.1 sc.2)
theorem P_ties (w : WL b L S x N U h) {a1 a2 : Int32} {k : Int32 → am_H → Prop} (hk : ∀ v h1, Mdl b L S x N U n_X9_ties [am_r (x + 33), am_i a1, am_i a2, am_u, am_u] v h1 → hp_K h1 (x + 33) = (109, 0) → hp_K h1 b = (11, L) → hp_I h1 b = S → k v h1) : Rn 1199 n_X0_ties 0 [am_r x, am_i a1, am_i a2, am_u, am_u] [] h (kI k) := by
  obtain ⟨⟨r, nM, nD, nB, nA, nU, nT, nL, hC⟩, hW, hSW, hEM, sc, hN, hU⟩ := id w
  obtain ⟨hF1, hF2⟩ := hC.2.2.2.2.2.2.2.2.2
  obtain ⟨⟨fM, fM6, fD, fD6, fB, fB10⟩, fO, -⟩ := id hF1
  obtain ⟨⟨fA, fU, fAU, fT, fT30, fL, fL10⟩, ⟨t, ft, ft1⟩, ok, -, -, -⟩ := id hF2
  exact C_ties hC (hk _ h (fun k2 hk2 => M_ties hW fB fB10 (hk2 h w.mono)) hW.1 sc.1 sc.2)
theorem P_likes (w : WL b L S x N U h) {a1 a2 : Int32} {k : Int32 → am_H → Prop} (hk : ∀ v h1, Mdl b L S x N U n_X9_likes [am_r (x + 33), am_i a1, am_i a2] v h1 → hp_K h1 (x + 33) = (109, 0) → hp_K h1 b = (11, L) → hp_I h1 b = S → k v h1) : Rn 1199 n_X0_likes 0 [am_r x, am_i a1, am_i a2] [] h (kI k) := by
  obtain ⟨⟨r, nM, nD, nB, nA, nU, nT, nL, hC⟩, hW, hSW, hEM, sc, hN, hU⟩ := id w
  obtain ⟨hF1, hF2⟩ := hC.2.2.2.2.2.2.2.2.2
  obtain ⟨⟨fM, fM6, fD, fD6, fB, fB10⟩, fO, -⟩ := id hF1
  obtain ⟨⟨fA, fU, fAU, fT, fT30, fL, fL10⟩, ⟨t, ft, ft1⟩, ok, -, -, -⟩ := id hF2
  exact C_likes hC (hk _ h (fun k2 hk2 => M_likes hW fM fM6 (hk2 h w.mono)) hW.1 sc.1 sc.2)
theorem P_lies (w : WL b L S x N U h) {a1 : Int32} {k : Int32 → am_H → Prop} (hk : ∀ v h1, Mdl b L S x N U n_X9_lies [am_r (x + 33), am_i a1] v h1 → hp_K h1 (x + 33) = (109, 0) → hp_K h1 b = (11, L) → hp_I h1 b = S → k v h1) : Rn 1199 n_X0_lies 0 [am_r x, am_i a1] [] h (kI k) := by
  obtain ⟨⟨r, nM, nD, nB, nA, nU, nT, nL, hC⟩, hW, hSW, hEM, sc, hN, hU⟩ := id w
  obtain ⟨hF1, hF2⟩ := hC.2.2.2.2.2.2.2.2.2
  obtain ⟨⟨fM, fM6, fD, fD6, fB, fB10⟩, fO, -⟩ := id hF1
  obtain ⟨⟨fA, fU, fAU, fT, fT30, fL, fL10⟩, ⟨t, ft, ft1⟩, ok, -, -, -⟩ := id hF2
  exact C_lies hC (hk _ h (fun k2 hk2 => M_lies hW fL fL10 (hk2 h w.mono)) hW.1 sc.1 sc.2)
theorem P_swore (w : WL b L S x N U h) {a1 : Int32} {k : Int32 → am_H → Prop} (hk : ∀ v h1, Mdl b L S x N U n_X9_swore [am_r (x + 33), am_i a1, am_u, am_u] v h1 → hp_K h1 (x + 33) = (109, 0) → hp_K h1 b = (11, L) → hp_I h1 b = S → k v h1) : Rn 1199 n_X0_swore 0 [am_r x, am_i a1, am_u, am_u, am_u, am_u] [] h (kI k) := by
  obtain ⟨⟨r, nM, nD, nB, nA, nU, nT, nL, hC⟩, hW, hSW, hEM, sc, hN, hU⟩ := id w
  obtain ⟨hF1, hF2⟩ := hC.2.2.2.2.2.2.2.2.2
  obtain ⟨⟨fM, fM6, fD, fD6, fB, fB10⟩, fO, -⟩ := id hF1
  obtain ⟨⟨fA, fU, fAU, fT, fT30, fL, fL10⟩, ⟨t, ft, ft1⟩, ok, -, -, -⟩ := id hF2
  exact C_swore hC (hk _ h (fun k2 hk2 => M_swore hW fM fM6 fT fT30 (hk2 h w.mono)) hW.1 sc.1 sc.2)
theorem P_ask (w : WL b L S x N U h) {a1 a2 : Int32} {k : Int32 → am_H → Prop} (hk : ∀ v h1, Mdl b L S x N U n_X9_ask [am_r (x + 33), am_i a1, am_i a2, am_u, am_u, am_u] v h1 → hp_K h1 (x + 33) = (109, 0) → hp_K h1 b = (11, L) → hp_I h1 b = S → k v h1) : Rn 1199 n_X0_ask 0 [am_r x, am_i a1, am_i a2, am_u, am_u, am_u] [] h (kI k) := by
  obtain ⟨⟨r, nM, nD, nB, nA, nU, nT, nL, hC⟩, hW, hSW, hEM, sc, hN, hU⟩ := id w
  obtain ⟨hF1, hF2⟩ := hC.2.2.2.2.2.2.2.2.2
  obtain ⟨⟨fM, fM6, fD, fD6, fB, fB10⟩, fO, -⟩ := id hF1
  obtain ⟨⟨fA, fU, fAU, fT, fT30, fL, fL10⟩, ⟨t, ft, ft1⟩, ok, -, -, -⟩ := id hF2
  exact C_ask hC (hk _ h (fun k2 hk2 => M_ask hW fM fM6 fT fT30 (hk2 h w.mono)) hW.1 sc.1 sc.2)
theorem P_about (w : WL b L S x N U h) {a1 : Int32} {k : Int32 → am_H → Prop} (hk : ∀ v h1, Mdl b L S x N U n_X9_about [am_r (x + 33), am_i a1] v h1 → hp_K h1 (x + 33) = (109, 0) → hp_K h1 b = (11, L) → hp_I h1 b = S → k v h1) : Rn 1199 n_X0_about 0 [am_r x, am_i a1] [] h (kI k) := by
  obtain ⟨⟨r, nM, nD, nB, nA, nU, nT, nL, hC⟩, hW, hSW, hEM, sc, hN, hU⟩ := id w
  obtain ⟨hF1, hF2⟩ := hC.2.2.2.2.2.2.2.2.2
  obtain ⟨⟨fM, fM6, fD, fD6, fB, fB10⟩, fO, -⟩ := id hF1
  obtain ⟨⟨fA, fU, fAU, fT, fT30, fL, fL10⟩, ⟨t, ft, ft1⟩, ok, -, -, -⟩ := id hF2
  exact C_about hC (hk _ h (fun k2 hk2 => M_about hW (hk2 h w.mono)) hW.1 sc.1 sc.2)
theorem P_asked (w : WL b L S x N U h) {a1 a2 : Int32} {k : Int32 → am_H → Prop} (hk : ∀ v h1, Mdl b L S x N U n_X9_asked_2 [am_r (x + 33), am_i a1, am_i a2, am_u, am_u, am_u] v h1 → hp_K h1 (x + 33) = (109, 0) → hp_K h1 b = (11, L) → hp_I h1 b = S → k v h1) : Rn 1199 n_X0_asked 0 [am_r x, am_i a1, am_i a2, am_u, am_u, am_u] [] h (kI k) := by
  obtain ⟨⟨r, nM, nD, nB, nA, nU, nT, nL, hC⟩, hW, hSW, hEM, sc, hN, hU⟩ := id w
  obtain ⟨hF1, hF2⟩ := hC.2.2.2.2.2.2.2.2.2
  obtain ⟨⟨fM, fM6, fD, fD6, fB, fB10⟩, fO, -⟩ := id hF1
  obtain ⟨⟨fA, fU, fAU, fT, fT30, fL, fL10⟩, ⟨t, ft, ft1⟩, ok, -, -, -⟩ := id hF2
  obtain ⟨mw1, e1, sc1, cl⟩ := leaf w hC hC CFr_refl (by omega) (by omega) RO_refl
  refine C_asked hC (hk _ h (fun k2 hk2 => ?_) hW.1 sc.1 sc.2)
  have g : Rn 1199 n_X9_asked_2 0 [am_r (x + 33), am_i a1, am_i a2, am_u, am_u, am_u] [] (mh h (x + 33) (nV h (x + 33))) (kI k2) := rn_roI (m_asked2 mw1 hF1 (fun ro2 => hk2 _ (cl _ .refl ro2)))
  rw [e1] at g; exact g
theorem P_rest (w : WL b L S x N U h) {a1 : Int32} {k : Int32 → am_H → Prop} (hk : ∀ v h1, Mdl b L S x N U n_X9_rest [am_r (x + 33), am_i a1, am_u, am_u] v h1 → hp_K h1 (x + 33) = (109, 0) → hp_K h1 b = (11, L) → hp_I h1 b = S → k v h1) : Rn 1199 n_X0_rest 0 [am_r x, am_i a1, am_u, am_u] [] h (kI k) := by
  obtain ⟨⟨r, nM, nD, nB, nA, nU, nT, nL, hC⟩, hW, hSW, hEM, sc, hN, hU⟩ := id w
  obtain ⟨hF1, hF2⟩ := hC.2.2.2.2.2.2.2.2.2
  obtain ⟨⟨fM, fM6, fD, fD6, fB, fB10⟩, fO, -⟩ := id hF1
  obtain ⟨⟨fA, fU, fAU, fT, fT30, fL, fL10⟩, ⟨t, ft, ft1⟩, ok, -, -, -⟩ := id hF2
  refine rn_roI (C_rest hC (fun h1 hC1 fr ro => ?_))
  obtain ⟨mw1, e1, sc1, cl⟩ := leaf w hC hC1 fr (by omega) (by omega) ro
  refine hk _ h1 (fun k2 hk2 => ?_) mw1.1 sc1.1 sc1.2
  have g : Rn 1199 n_X9_rest 0 [am_r (x + 33), am_i a1, am_u, am_u] [] (mh h1 (x + 33) (nV h (x + 33))) (kI k2) := rn_roI (m_rest mw1 hF1 (fun X e ro2 => hk2 _ (cl X e ro2)))
  rw [e1] at g; exact g
theorem P_clash (w : WL b L S x N U h) {a1 a2 : Int32} {k : Int32 → am_H → Prop} (hk : ∀ v h1, Mdl b L S x N U n_X9_clash [am_r (x + 33), am_i a1, am_i a2, am_u, am_u, am_u] v h1 → hp_K h1 (x + 33) = (109, 0) → hp_K h1 b = (11, L) → hp_I h1 b = S → k v h1) : Rn 1199 n_X0_clash 0 [am_r x, am_i a1, am_i a2, am_u, am_u, am_u] [] h (kI k) := by
  obtain ⟨⟨r, nM, nD, nB, nA, nU, nT, nL, hC⟩, hW, hSW, hEM, sc, hN, hU⟩ := id w
  obtain ⟨hF1, hF2⟩ := hC.2.2.2.2.2.2.2.2.2
  obtain ⟨⟨fM, fM6, fD, fD6, fB, fB10⟩, fO, -⟩ := id hF1
  obtain ⟨⟨fA, fU, fAU, fT, fT30, fL, fL10⟩, ⟨t, ft, ft1⟩, ok, -, -, -⟩ := id hF2
  refine rn_roI (C_clash hC (fun h1 hC1 fr ro => ?_))
  obtain ⟨mw1, e1, sc1, cl⟩ := leaf w hC hC1 fr (by omega) (by omega) ro
  refine hk _ h1 (fun k2 hk2 => ?_) mw1.1 sc1.1 sc1.2
  have g : Rn 1199 n_X9_clash 0 [am_r (x + 33), am_i a1, am_i a2, am_u, am_u, am_u] [] (mh h1 (x + 33) (nV h (x + 33))) (kI k2) := rn_roI (m_clash mw1 hF1 (fun X e ro2 => hk2 _ (cl X e ro2)))
  rw [e1] at g; exact g
theorem P_holds (w : WL b L S x N U h) {a1 a2 a3 : Int32} {k : Int32 → am_H → Prop} (hk : ∀ v h1, Mdl b L S x N U n_X9_holds [am_r (x + 33), am_i a1, am_i a2, am_i a3] v h1 → hp_K h1 (x + 33) = (109, 0) → hp_K h1 b = (11, L) → hp_I h1 b = S → k v h1) : Rn 1199 n_X0_holds 0 [am_r x, am_i a1, am_i a2, am_i a3, am_u, am_u] [] h (kI k) := by
  obtain ⟨⟨r, nM, nD, nB, nA, nU, nT, nL, hC⟩, hW, hSW, hEM, sc, hN, hU⟩ := id w
  obtain ⟨hF1, hF2⟩ := hC.2.2.2.2.2.2.2.2.2
  obtain ⟨⟨fM, fM6, fD, fD6, fB, fB10⟩, fO, -⟩ := id hF1
  obtain ⟨⟨fA, fU, fAU, fT, fT30, fL, fL10⟩, ⟨t, ft, ft1⟩, ok, -, -, -⟩ := id hF2
  refine rn_roI (C_holds hC (fun h1 hC1 fr ro => ?_))
  obtain ⟨mw1, e1, sc1, cl⟩ := leaf w hC hC1 fr (by omega) (by omega) ro
  refine hk _ h1 (fun k2 hk2 => ?_) mw1.1 sc1.1 sc1.2
  have g : Rn 1199 n_X9_holds 0 [am_r (x + 33), am_i a1, am_i a2, am_i a3] [] (mh h1 (x + 33) (nV h (x + 33))) (kI k2) := rn_roI (m_holds mw1 hF1 ok (fun X e ro2 => hk2 _ (cl X e ro2)))
  rw [e1] at g; exact g
theorem P_odds (w : WL b L S x N U h) {a1 a2 a3 : Int32} {k : Int64 → am_H → Prop} (hk : ∀ v h1, MdlL b L S x N U n_X9_odds [am_r (x + 33), am_i a1, am_i a2, am_i a3, am_u, am_u, am_u, am_u, am_u, am_u, am_u, am_u] v h1 → hp_K h1 (x + 33) = (109, 0) → hp_K h1 b = (11, L) → hp_I h1 b = S → k v h1) : Rn 1199 n_X0_odds 0 [am_r x, am_i a1, am_i a2, am_i a3, am_u, am_u, am_u, am_u, am_u] [] h (kL k) := by
  obtain ⟨⟨r, nM, nD, nB, nA, nU, nT, nL, hC⟩, hW, hSW, hEM, sc, hN, hU⟩ := id w
  obtain ⟨hF1, hF2⟩ := hC.2.2.2.2.2.2.2.2.2
  obtain ⟨⟨fM, fM6, fD, fD6, fB, fB10⟩, fO, -⟩ := id hF1
  obtain ⟨⟨fA, fU, fAU, fT, fT30, fL, fL10⟩, ⟨t, ft, ft1⟩, ok, -, -, -⟩ := id hF2
  refine rn_roL (C_odds hC (fun h1 hC1 fr ro => ?_))
  obtain ⟨mw1, e1, sc1, cl⟩ := leaf w hC hC1 fr (by omega) (by omega) ro
  refine hk _ h1 (fun k2 hk2 => ?_) mw1.1 sc1.1 sc1.2
  have g : Rn 1199 n_X9_odds 0 [am_r (x + 33), am_i a1, am_i a2, am_i a3, am_u, am_u, am_u, am_u, am_u, am_u, am_u, am_u] [] (mh h1 (x + 33) (nV h (x + 33))) (kL k2) := rn_roL (m_odds mw1 hF1 ok (fun X e ro2 => hk2 _ (cl X e ro2)))
  rw [e1] at g; exact g
theorem P_first (w : WL b L S x N U h) {a1 : Int32} {k : Int32 → am_H → Prop} (hk : ∀ v h1, Mdl b L S x N U n_X9_first [am_r (x + 33), am_i a1, am_u, am_u, am_u, am_u] v h1 → hp_K h1 (x + 33) = (109, 0) → hp_K h1 b = (11, L) → hp_I h1 b = S → k v h1) : Rn 1199 n_X0_first 0 [am_r x, am_i a1, am_u, am_u] [] h (kI k) := by
  obtain ⟨⟨r, nM, nD, nB, nA, nU, nT, nL, hC⟩, hW, hSW, hEM, sc, hN, hU⟩ := id w
  obtain ⟨hF1, hF2⟩ := hC.2.2.2.2.2.2.2.2.2
  obtain ⟨⟨fM, fM6, fD, fD6, fB, fB10⟩, fO, -⟩ := id hF1
  obtain ⟨⟨fA, fU, fAU, fT, fT30, fL, fL10⟩, ⟨t, ft, ft1⟩, ok, -, -, -⟩ := id hF2
  refine rn_roI (C_first hC (fun h1 hC1 fr ro => ?_))
  obtain ⟨mw1, e1, sc1, cl⟩ := leaf w hC hC1 fr (by omega) (by omega) ro
  refine hk _ h1 (fun k2 hk2 => ?_) mw1.1 sc1.1 sc1.2
  have g : Rn 1199 n_X9_first 0 [am_r (x + 33), am_i a1, am_u, am_u, am_u, am_u] [] (mh h1 (x + 33) (nV h (x + 33))) (kI k2) := rn_roI (m_first mw1 hF1 (fun X e ro2 => hk2 _ (cl X e ro2)))
  rw [e1] at g; exact g
theorem P_will (w : WL b L S x N U h) {a1 a2 : Int32} {k : Int32 → am_H → Prop} (hk : ∀ v h1, Mdl b L S x N U n_X9_will [am_r (x + 33), am_i a1, am_i a2, am_u] v h1 → hp_K h1 (x + 33) = (109, 0) → hp_K h1 b = (11, L) → hp_I h1 b = S → k v h1) : Rn 1199 n_X0_will 0 [am_r x, am_i a1, am_i a2, am_u] [] h (kI k) := by
  obtain ⟨⟨r, nM, nD, nB, nA, nU, nT, nL, hC⟩, hW, hSW, hEM, sc, hN, hU⟩ := id w
  obtain ⟨hF1, hF2⟩ := hC.2.2.2.2.2.2.2.2.2
  obtain ⟨⟨fM, fM6, fD, fD6, fB, fB10⟩, fO, -⟩ := id hF1
  obtain ⟨⟨fA, fU, fAU, fT, fT30, fL, fL10⟩, ⟨t, ft, ft1⟩, ok, -, -, -⟩ := id hF2
  refine rn_roI (C_will hC (fun h1 hC1 fr ro => ?_))
  obtain ⟨mw1, e1, sc1, cl⟩ := leaf w hC hC1 fr (by omega) (by omega) ro
  refine hk _ h1 (fun k2 hk2 => ?_) mw1.1 sc1.1 sc1.2
  have g : Rn 1199 n_X9_will 0 [am_r (x + 33), am_i a1, am_i a2, am_u] [] (mh h1 (x + 33) (nV h (x + 33))) (kI k2) := rn_roI (m_will mw1 hF1 (fun X e ro2 => hk2 _ (cl X e ro2)))
  rw [e1] at g; exact g
theorem P_truce (w : WL b L S x N U h) {k : Int32 → am_H → Prop} (hk : ∀ v h1, Mdl b L S x N U n_X9_truce [am_r (x + 33), am_u, am_u, am_u, am_u, am_u] v h1 → hp_K h1 (x + 33) = (109, 0) → hp_K h1 b = (11, L) → hp_I h1 b = S → k v h1) : Rn 1199 n_X0_truce 0 [am_r x] [] h (kI k) := by
  obtain ⟨⟨r, nM, nD, nB, nA, nU, nT, nL, hC⟩, hW, hSW, hEM, sc, hN, hU⟩ := id w
  obtain ⟨hF1, hF2⟩ := hC.2.2.2.2.2.2.2.2.2
  obtain ⟨⟨fM, fM6, fD, fD6, fB, fB10⟩, fO, -⟩ := id hF1
  obtain ⟨⟨fA, fU, fAU, fT, fT30, fL, fL10⟩, ⟨t, ft, ft1⟩, ok, -, -, -⟩ := id hF2
  refine rn_roI (C_truce hC (fun h1 hC1 fr ro => ?_))
  obtain ⟨mw1, e1, sc1, cl⟩ := leaf w hC hC1 fr (by omega) (by omega) ro
  refine hk _ h1 (fun k2 hk2 => ?_) mw1.1 sc1.1 sc1.2
  have g : Rn 1199 n_X9_truce 0 [am_r (x + 33), am_u, am_u, am_u, am_u, am_u] [] (mh h1 (x + 33) (nV h (x + 33))) (kI k2) := rn_roI (m_truce mw1 hF1 (fun X e ro2 => hk2 _ (cl X e ro2)))
  rw [e1] at g; exact g
theorem P_calm (w : WL b L S x N U h) {k : Int32 → am_H → Prop} (hk : ∀ v h1, Mdl b L S x N U n_X9_calm [am_r (x + 33), am_u, am_u, am_u] v h1 → hp_K h1 (x + 33) = (109, 0) → hp_K h1 b = (11, L) → hp_I h1 b = S → k v h1) : Rn 1199 n_X0_calm 0 [am_r x] [] h (kI k) := by
  obtain ⟨⟨r, nM, nD, nB, nA, nU, nT, nL, hC⟩, hW, hSW, hEM, sc, hN, hU⟩ := id w
  obtain ⟨hF1, hF2⟩ := hC.2.2.2.2.2.2.2.2.2
  obtain ⟨⟨fM, fM6, fD, fD6, fB, fB10⟩, fO, -⟩ := id hF1
  obtain ⟨⟨fA, fU, fAU, fT, fT30, fL, fL10⟩, ⟨t, ft, ft1⟩, ok, -, -, -⟩ := id hF2
  refine rn_roI (C_calm hC (fun h1 hC1 fr ro => ?_))
  obtain ⟨mw1, e1, sc1, cl⟩ := leaf w hC hC1 fr (by omega) (by omega) ro
  refine hk _ h1 (fun k2 hk2 => ?_) mw1.1 sc1.1 sc1.2
  have g : Rn 1199 n_X9_calm 0 [am_r (x + 33), am_u, am_u, am_u] [] (mh h1 (x + 33) (nV h (x + 33))) (kI k2) := rn_roI (m_calm mw1 hF1 (fun X e ro2 => hk2 _ (cl X e ro2)))
  rw [e1] at g; exact g
theorem P_does (w : WL b L S x N U h) {a1 a2 : Int32} {k : Int32 → am_H → Prop} (hk : ∀ v h1, Mdl b L S x N U n_X9_does [am_r (x + 33), am_i a1, am_i a2, am_u, am_u, am_u] v h1 → hp_K h1 (x + 33) = (109, 0) → hp_K h1 b = (11, L) → hp_I h1 b = S → k v h1) : Rn 1199 n_X0_does 0 [am_r x, am_i a1, am_i a2, am_u, am_u, am_u] [] h (kI k) := by
  obtain ⟨⟨r, nM, nD, nB, nA, nU, nT, nL, hC⟩, hW, hSW, hEM, sc, hN, hU⟩ := id w
  obtain ⟨hF1, hF2⟩ := hC.2.2.2.2.2.2.2.2.2
  obtain ⟨⟨fM, fM6, fD, fD6, fB, fB10⟩, fO, -⟩ := id hF1
  obtain ⟨⟨fA, fU, fAU, fT, fT30, fL, fL10⟩, ⟨t, ft, ft1⟩, ok, -, -, -⟩ := id hF2
  refine rn_roI (C_does hC (fun c ro => ?_) (fun c h1 hC1 fr ro => ?_))
  · obtain ⟨mw1, e1, sc1, cl⟩ := leaf w hC hC CFr_refl (by omega) (by omega) RO_refl
    refine hk _ h (fun k2 hk2 => ?_) mw1.1 sc1.1 sc1.2
    have g : Rn 1199 n_X9_does 0 [am_r (x + 33), am_i a1, am_i a2, am_u, am_u, am_u] [] (mh h (x + 33) (nV h (x + 33))) (kI k2) := rn_roI (m_does mw1 hF1 fA (by omega) (fun _ ro2 => hk2 _ (cl _ .refl ro2)) (fun c' => absurd (c.symm.trans c') (by decide)))
    rw [e1] at g; exact g
  · obtain ⟨mw1, e1, sc1, cl⟩ := leaf w hC hC1 fr (by omega) (by omega) ro
    refine hk _ h1 (fun k2 hk2 => ?_) mw1.1 sc1.1 sc1.2
    have g : Rn 1199 n_X9_does 0 [am_r (x + 33), am_i a1, am_i a2, am_u, am_u, am_u] [] (mh h1 (x + 33) (nV h (x + 33))) (kI k2) := rn_roI (m_does mw1 hF1 fA (by omega) (fun c' => absurd (c.symm.trans c') (by decide)) (fun _ ro2 => hk2 _ (cl _ .refl ro2)))
    rw [e1] at g; exact g
theorem P_undoes (w : WL b L S x N U h) {a1 : Int32} {k : Int32 → am_H → Prop} (hk : ∀ v h1, Mdl b L S x N U n_X9_undoes [am_r (x + 33), am_i a1] v h1 → hp_K h1 (x + 33) = (109, 0) → hp_K h1 b = (11, L) → hp_I h1 b = S → k v h1) : Rn 1199 n_X0_undoes 0 [am_r x, am_i a1] [] h (kI k) := by
  obtain ⟨⟨r, nM, nD, nB, nA, nU, nT, nL, hC⟩, hW, hSW, hEM, sc, hN, hU⟩ := id w
  obtain ⟨hF1, hF2⟩ := hC.2.2.2.2.2.2.2.2.2
  obtain ⟨⟨fM, fM6, fD, fD6, fB, fB10⟩, fO, -⟩ := id hF1
  obtain ⟨⟨fA, fU, fAU, fT, fT30, fL, fL10⟩, ⟨t, ft, ft1⟩, ok, -, -, -⟩ := id hF2
  refine rn_roI (C_undoes hC (fun c ro => ?_) (fun c h1 hC1 fr ro => ?_))
  · obtain ⟨mw1, e1, sc1, cl⟩ := leaf w hC hC CFr_refl (by omega) (by omega) RO_refl
    refine hk _ h (fun k2 hk2 => ?_) mw1.1 sc1.1 sc1.2
    have g : Rn 1199 n_X9_undoes 0 [am_r (x + 33), am_i a1] [] (mh h (x + 33) (nV h (x + 33))) (kI k2) := rn_roI (m_undoes mw1 hF1 fA (by omega) (fun _ ro2 => hk2 _ (cl _ .refl ro2)) (fun c' => absurd (c.symm.trans c') (by decide)))
    rw [e1] at g; exact g
  · obtain ⟨mw1, e1, sc1, cl⟩ := leaf w hC hC1 fr (by omega) (by omega) ro
    refine hk _ h1 (fun k2 hk2 => ?_) mw1.1 sc1.1 sc1.2
    have g : Rn 1199 n_X9_undoes 0 [am_r (x + 33), am_i a1] [] (mh h1 (x + 33) (nV h (x + 33))) (kI k2) := rn_roI (m_undoes mw1 hF1 fA (by omega) (fun c' => absurd (c.symm.trans c') (by decide)) (fun _ ro2 => hk2 _ (cl _ .refl ro2)))
    rw [e1] at g; exact g
theorem P_cut (w : WL b L S x N U h) {a1 : Int32} {k : Int32 → am_H → Prop} (hk : ∀ v h1, Mdl b L S x N U n_X9_cut [am_r (x + 33), am_i a1] v h1 → hp_K h1 (x + 33) = (109, 0) → hp_K h1 b = (11, L) → hp_I h1 b = S → k v h1) : Rn 1199 n_X0_cut 0 [am_r x, am_i a1] [] h (kI k) := by
  obtain ⟨⟨r, nM, nD, nB, nA, nU, nT, nL, hC⟩, hW, hSW, hEM, sc, hN, hU⟩ := id w
  obtain ⟨hF1, hF2⟩ := hC.2.2.2.2.2.2.2.2.2
  obtain ⟨⟨fM, fM6, fD, fD6, fB, fB10⟩, fO, -⟩ := id hF1
  obtain ⟨⟨fA, fU, fAU, fT, fT30, fL, fL10⟩, ⟨t, ft, ft1⟩, ok, -, -, -⟩ := id hF2
  refine rn_roI (C_cut hC (fun c ro => ?_) (fun c h1 hC1 fr ro => ?_))
  · obtain ⟨mw1, e1, sc1, cl⟩ := leaf w hC hC CFr_refl (by omega) (by omega) RO_refl
    refine hk _ h (fun k2 hk2 => ?_) mw1.1 sc1.1 sc1.2
    have g : Rn 1199 n_X9_cut 0 [am_r (x + 33), am_i a1] [] (mh h (x + 33) (nV h (x + 33))) (kI k2) := rn_roI (m_cut mw1 hF1 fA (by omega) (fun _ ro2 => hk2 _ (cl _ .refl ro2)) (fun c' => absurd (c.symm.trans c') (by decide)))
    rw [e1] at g; exact g
  · obtain ⟨mw1, e1, sc1, cl⟩ := leaf w hC hC1 fr (by omega) (by omega) ro
    refine hk _ h1 (fun k2 hk2 => ?_) mw1.1 sc1.1 sc1.2
    have g : Rn 1199 n_X9_cut 0 [am_r (x + 33), am_i a1] [] (mh h1 (x + 33) (nV h (x + 33))) (kI k2) := rn_roI (m_cut mw1 hF1 fA (by omega) (fun c' => absurd (c.symm.trans c') (by decide)) (fun _ ro2 => hk2 _ (cl _ .refl ro2)))
    rw [e1] at g; exact g
theorem P_sew (w : WL b L S x N U h) {a1 : Int32} {k : Int32 → am_H → Prop} (hk : ∀ v h1, Mdl b L S x N U n_X9_sew [am_r (x + 33), am_i a1, am_u] v h1 → hp_K h1 (x + 33) = (109, 0) → hp_K h1 b = (11, L) → hp_I h1 b = S → k v h1) : Rn 1199 n_X0_sew 0 [am_r x, am_i a1, am_u] [] h (kI k) := by
  obtain ⟨⟨r, nM, nD, nB, nA, nU, nT, nL, hC⟩, hW, hSW, hEM, sc, hN, hU⟩ := id w
  obtain ⟨hF1, hF2⟩ := hC.2.2.2.2.2.2.2.2.2
  obtain ⟨⟨fM, fM6, fD, fD6, fB, fB10⟩, fO, -⟩ := id hF1
  obtain ⟨⟨fA, fU, fAU, fT, fT30, fL, fL10⟩, ⟨t, ft, ft1⟩, ok, -, -, -⟩ := id hF2
  refine rn_roI (C_sew hC (fun c ro => ?_) (fun c h1 hC1 fr ro => ?_))
  · obtain ⟨mw1, e1, sc1, cl⟩ := leaf w hC hC CFr_refl (by omega) (by omega) RO_refl
    refine hk _ h (fun k2 hk2 => ?_) mw1.1 sc1.1 sc1.2
    have g : Rn 1199 n_X9_sew 0 [am_r (x + 33), am_i a1, am_u] [] (mh h (x + 33) (nV h (x + 33))) (kI k2) := rn_roI (m_sew mw1 hF1 fA (by omega) (fun _ ro2 => hk2 _ (cl _ .refl ro2)) (fun c' => absurd (c.symm.trans c') (by decide)))
    rw [e1] at g; exact g
  · obtain ⟨mw1, e1, sc1, cl⟩ := leaf w hC hC1 fr (by omega) (by omega) ro
    refine hk _ h1 (fun k2 hk2 => ?_) mw1.1 sc1.1 sc1.2
    have g : Rn 1199 n_X9_sew 0 [am_r (x + 33), am_i a1, am_u] [] (mh h1 (x + 33) (nV h (x + 33))) (kI k2) := rn_roI (m_sew mw1 hF1 fA (by omega) (fun c' => absurd (c.symm.trans c') (by decide)) (fun _ ro2 => hk2 _ (cl _ .refl ro2)))
    rw [e1] at g; exact g
theorem P_day (w : WL b L S x N U h) {k : Int32 → am_H → Prop} (hk : ∀ v h1, Mdl b L S x N U n_X9_day [am_r (x + 33), am_u, am_u] v h1 → hp_K h1 (x + 33) = (109, 0) → hp_K h1 b = (11, L) → hp_I h1 b = S → k v h1) : Rn 1199 n_X0_day 0 [am_r x] [] h (kI k) := by
  obtain ⟨⟨r, nM, nD, nB, nA, nU, nT, nL, hC⟩, hW, hSW, hEM, sc, hN, hU⟩ := id w
  obtain ⟨hF1, hF2⟩ := hC.2.2.2.2.2.2.2.2.2
  obtain ⟨⟨fM, fM6, fD, fD6, fB, fB10⟩, fO, -⟩ := id hF1
  obtain ⟨⟨fA, fU, fAU, fT, fT30, fL, fL10⟩, ⟨t, ft, ft1⟩, ok, -, -, -⟩ := id hF2
  refine rn_roI (C_day hC (fun c ro => ?_) (fun c h1 hC1 fr ro => ?_))
  · obtain ⟨mw1, e1, sc1, cl⟩ := leaf w hC hC CFr_refl (by omega) (by omega) RO_refl
    refine hk _ h (fun k2 hk2 => ?_) mw1.1 sc1.1 sc1.2
    have g : Rn 1199 n_X9_day 0 [am_r (x + 33), am_u, am_u] [] (mh h (x + 33) (nV h (x + 33))) (kI k2) := rn_roI (m_day mw1 hF1 fA (by omega) (fun _ ro2 => hk2 _ (cl _ .refl ro2)) (fun c' => absurd c c'))
    rw [e1] at g; exact g
  · obtain ⟨mw1, e1, sc1, cl⟩ := leaf w hC hC1 fr (by omega) (by omega) ro
    refine hk _ h1 (fun k2 hk2 => ?_) mw1.1 sc1.1 sc1.2
    have g : Rn 1199 n_X9_day 0 [am_r (x + 33), am_u, am_u] [] (mh h1 (x + 33) (nV h (x + 33))) (kI k2) := rn_roI (m_day mw1 hF1 fA (by omega) (fun c' => absurd c' c) (fun _ X e ro2 => hk2 _ (cl X e ro2)))
    rw [e1] at g; exact g
theorem P_keep (w : WL b L S x N U h) {a1 a2 : Int32} {k : Int32 → am_H → Prop} (hk : ∀ v h1, Mdl b L S x N U n_X9_keep [am_r (x + 33), am_i a1, am_i a2, am_u] v h1 → hp_K h1 (x + 33) = (109, 0) → hp_K h1 b = (11, L) → hp_I h1 b = S → k v h1) : Rn 1199 n_X0_keep 0 [am_r x, am_i a1, am_i a2] [] h (kI k) := by
  obtain ⟨⟨r, nM, nD, nB, nA, nU, nT, nL, hC⟩, hW, hSW, hEM, sc, hN, hU⟩ := id w
  obtain ⟨hF1, hF2⟩ := hC.2.2.2.2.2.2.2.2.2
  obtain ⟨⟨fM, fM6, fD, fD6, fB, fB10⟩, fO, -⟩ := id hF1
  obtain ⟨⟨fA, fU, fAU, fT, fT30, fL, fL10⟩, ⟨t, ft, ft1⟩, ok, -, -, -⟩ := id hF2
  refine rn_roI (C_keep hC (fun c h1 hC1 fr ro => ?_) (fun c h1 hC1 fr ro => ?_))
  · obtain ⟨mw1, e1, sc1, cl⟩ := leaf w hC hC1 fr (by omega) (by omega) ro
    refine hk _ h1 (fun k2 hk2 => ?_) mw1.1 sc1.1 sc1.2
    have g : Rn 1199 n_X9_keep 0 [am_r (x + 33), am_i a1, am_i a2, am_u] [] (mh h1 (x + 33) (nV h (x + 33))) (kI k2) := rn_roI (m_keep mw1 hF1 (fun _ ro2 => hk2 _ (cl _ .refl ro2)) (fun c' => absurd (c.symm.trans c') (by decide)))
    rw [e1] at g; exact g
  · obtain ⟨mw1, e1, sc1, cl⟩ := leaf w hC hC1 fr (by omega) (by omega) ro
    refine hk _ h1 (fun k2 hk2 => ?_) mw1.1 sc1.1 sc1.2
    have g : Rn 1199 n_X9_keep 0 [am_r (x + 33), am_i a1, am_i a2, am_u] [] (mh h1 (x + 33) (nV h (x + 33))) (kI k2) := rn_roI (m_keep mw1 hF1 (fun c' => absurd (c.symm.trans c') (by decide)) (fun _ X e ro2 => hk2 _ (cl X e ro2)))
    rw [e1] at g; exact g
theorem P_leave (w : WL b L S x N U h) {a1 a2 : Int32} {k : Int32 → am_H → Prop} (hk : ∀ v h1, Mdl b L S x N U n_X9_leave [am_r (x + 33), am_i a1, am_i a2, am_u, am_u] v h1 → hp_K h1 (x + 33) = (109, 0) → hp_K h1 b = (11, L) → hp_I h1 b = S → k v h1) : Rn 1199 n_X0_leave 0 [am_r x, am_i a1, am_i a2, am_u, am_u] [] h (kI k) := by
  obtain ⟨⟨r, nM, nD, nB, nA, nU, nT, nL, hC⟩, hW, hSW, hEM, sc, hN, hU⟩ := id w
  obtain ⟨hF1, hF2⟩ := hC.2.2.2.2.2.2.2.2.2
  obtain ⟨⟨fM, fM6, fD, fD6, fB, fB10⟩, fO, -⟩ := id hF1
  obtain ⟨⟨fA, fU, fAU, fT, fT30, fL, fL10⟩, ⟨t, ft, ft1⟩, ok, -, -, -⟩ := id hF2
  refine rn_roI (C_leave hC (fun c h1 hC1 fr ro => ?_) (fun c h1 hC1 fr ro => ?_))
  · obtain ⟨mw1, e1, sc1, cl⟩ := leaf w hC hC1 fr (by omega) (by omega) ro
    refine hk _ h1 (fun k2 hk2 => ?_) mw1.1 sc1.1 sc1.2
    have g : Rn 1199 n_X9_leave 0 [am_r (x + 33), am_i a1, am_i a2, am_u, am_u] [] (mh h1 (x + 33) (nV h (x + 33))) (kI k2) := rn_roI (m_leave mw1 hF1 (fun _ ro2 => hk2 _ (cl _ .refl ro2)) (fun c' => absurd (c.symm.trans c') (by decide)))
    rw [e1] at g; exact g
  · obtain ⟨mw1, e1, sc1, cl⟩ := leaf w hC hC1 fr (by omega) (by omega) ro
    refine hk _ h1 (fun k2 hk2 => ?_) mw1.1 sc1.1 sc1.2
    have g : Rn 1199 n_X9_leave 0 [am_r (x + 33), am_i a1, am_i a2, am_u, am_u] [] (mh h1 (x + 33) (nV h (x + 33))) (kI k2) := rn_roI (m_leave mw1 hF1 (fun c' => absurd (c.symm.trans c') (by decide)) (fun _ ro2 => hk2 _ (cl _ .refl ro2)))
    rw [e1] at g; exact g
theorem P_tug (w : WL b L S x N U h) {a1 a2 a3 : Int32} (hb : a3 = 0 ∨ a3 = 1) {k : Int32 → am_H → Prop} (hk : ∀ v h1, Mdl b L S x N U n_X9_tug [am_r (x + 33), am_i a1, am_i a2, am_i a3] v h1 → hp_K h1 (x + 33) = (109, 0) → hp_K h1 b = (11, L) → hp_I h1 b = S → k v h1) : Rn 1199 n_X0_tug 0 [am_r x, am_i a1, am_i a2, am_i a3] [] h (kI k) := by
  obtain ⟨⟨r, nM, nD, nB, nA, nU, nT, nL, hC⟩, hW, hSW, hEM, sc, hN, hU⟩ := id w
  obtain ⟨hF1, hF2⟩ := hC.2.2.2.2.2.2.2.2.2
  obtain ⟨⟨fM, fM6, fD, fD6, fB, fB10⟩, fO, -⟩ := id hF1
  obtain ⟨⟨fA, fU, fAU, fT, fT30, fL, fL10⟩, ⟨t, ft, ft1⟩, ok, -, -, -⟩ := id hF2
  refine rn_roI (C_tug hC hb (fun c ro => ?_) (fun c h1 hC1 fr ro => ?_))
  · obtain ⟨mw1, e1, sc1, cl⟩ := leaf w hC hC CFr_refl (by omega) (by omega) RO_refl
    refine hk _ h (fun k2 hk2 => ?_) mw1.1 sc1.1 sc1.2
    have g : Rn 1199 n_X9_tug 0 [am_r (x + 33), am_i a1, am_i a2, am_i a3] [] (mh h (x + 33) (nV h (x + 33))) (kI k2) := rn_roI (m_tug mw1 fT fT30 hb (fun _ ro2 => hk2 _ (cl _ .refl ro2)) (fun c' => absurd (c.symm.trans c') (by decide)))
    rw [e1] at g; exact g
  · obtain ⟨mw1, e1, sc1, cl⟩ := leaf w hC hC1 fr (by omega) (by omega) ro
    refine hk _ h1 (fun k2 hk2 => ?_) mw1.1 sc1.1 sc1.2
    have g : Rn 1199 n_X9_tug 0 [am_r (x + 33), am_i a1, am_i a2, am_i a3] [] (mh h1 (x + 33) (nV h (x + 33))) (kI k2) := rn_roI (m_tug mw1 fT fT30 hb (fun c' => absurd (c.symm.trans c') (by decide)) (fun _ ro2 => hk2 _ (cl _ .refl ro2)))
    rw [e1] at g; exact g
theorem P_untell (w : WL b L S x N U h) {a1 : Int32} {k : Int32 → am_H → Prop} (hk : ∀ v h1, Mdl b L S x N U n_X9_untell [am_r (x + 33), am_i a1] v h1 → hp_K h1 (x + 33) = (109, 0) → hp_K h1 b = (11, L) → hp_I h1 b = S → k v h1) : Rn 1199 n_X0_untell 0 [am_r x, am_i a1] [] h (kI k) := by
  obtain ⟨⟨r, nM, nD, nB, nA, nU, nT, nL, hC⟩, hW, hSW, hEM, sc, hN, hU⟩ := id w
  obtain ⟨hF1, hF2⟩ := hC.2.2.2.2.2.2.2.2.2
  obtain ⟨⟨fM, fM6, fD, fD6, fB, fB10⟩, fO, -⟩ := id hF1
  obtain ⟨⟨fA, fU, fAU, fT, fT30, fL, fL10⟩, ⟨t, ft, ft1⟩, ok, -, -, -⟩ := id hF2
  refine rn_roI (C_untell hC (fun c ro => ?_) (fun c h1 hC1 fr ro => ?_))
  · obtain ⟨mw1, e1, sc1, cl⟩ := leaf w hC hC CFr_refl (by omega) (by omega) RO_refl
    refine hk _ h (fun k2 hk2 => ?_) mw1.1 sc1.1 sc1.2
    have g : Rn 1199 n_X9_untell 0 [am_r (x + 33), am_i a1] [] (mh h (x + 33) (nV h (x + 33))) (kI k2) := rn_roI (m_untell mw1 fT fT30 (fun _ ro2 => hk2 _ (cl _ .refl ro2)) (fun c' => absurd (c.symm.trans c') (by decide)))
    rw [e1] at g; exact g
  · obtain ⟨mw1, e1, sc1, cl⟩ := leaf w hC hC1 fr (by omega) (by omega) ro
    refine hk _ h1 (fun k2 hk2 => ?_) mw1.1 sc1.1 sc1.2
    have g : Rn 1199 n_X9_untell 0 [am_r (x + 33), am_i a1] [] (mh h1 (x + 33) (nV h (x + 33))) (kI k2) := rn_roI (m_untell mw1 fT fT30 (fun c' => absurd (c.symm.trans c') (by decide)) (fun _ ro2 => hk2 _ (cl _ .refl ro2)))
    rw [e1] at g; exact g
theorem P_image (w : WL b L S x N U h) {a1 : Int32} {k : Int32 → am_H → Prop} (hk : ∀ v h1, Mdl b L S x N U n_X9_image [am_r (x + 33), am_i a1, am_u] v h1 → hp_K h1 (x + 33) = (109, 0) → hp_K h1 b = (11, L) → hp_I h1 b = S → k v h1) : Rn 1199 n_X0_image 0 [am_r x, am_i a1] [] h (kI k) := by
  obtain ⟨⟨r, nM, nD, nB, nA, nU, nT, nL, hC⟩, hW, hSW, hEM, sc, hN, hU⟩ := id w
  obtain ⟨hF1, hF2⟩ := hC.2.2.2.2.2.2.2.2.2
  obtain ⟨⟨fM, fM6, fD, fD6, fB, fB10⟩, fO, -⟩ := id hF1
  obtain ⟨⟨fA, fU, fAU, fT, fT30, fL, fL10⟩, ⟨t, ft, ft1⟩, ok, -, -, -⟩ := id hF2
  refine rn_roI (C_image hC (fun c ro => ?_) (fun c h1 hC1 fr ro => ?_))
  · obtain ⟨mw1, e1, sc1, cl⟩ := leaf w hC hC CFr_refl (by omega) (by omega) RO_refl
    refine hk _ h (fun k2 hk2 => ?_) mw1.1 sc1.1 sc1.2
    have g : Rn 1199 n_X9_image 0 [am_r (x + 33), am_i a1, am_u] [] (mh h (x + 33) (nV h (x + 33))) (kI k2) := rn_roI (m_image mw1  (fun _ ro2 => hk2 _ (cl _ .refl ro2)) (fun c' => absurd (c.symm.trans c') (by decide)))
    rw [e1] at g; exact g
  · obtain ⟨mw1, e1, sc1, cl⟩ := leaf w hC hC1 fr (by omega) (by omega) ro
    refine hk _ h1 (fun k2 hk2 => ?_) mw1.1 sc1.1 sc1.2
    have g : Rn 1199 n_X9_image 0 [am_r (x + 33), am_i a1, am_u] [] (mh h1 (x + 33) (nV h (x + 33))) (kI k2) := rn_roI (m_image mw1  (fun c' => absurd (c.symm.trans c') (by decide)) (fun _ ro2 => hk2 _ (cl _ .refl ro2)))
    rw [e1] at g; exact g
theorem P_back (w : WL b L S x N U h) {a1 : Int32} {k : Int32 → am_H → Prop} (hk : ∀ v h1, Mdl b L S x N U n_X9_back [am_r (x + 33), am_i a1, am_u] v h1 → hp_K h1 (x + 33) = (109, 0) → hp_K h1 b = (11, L) → hp_I h1 b = S → k v h1) : Rn 1199 n_X0_back 0 [am_r x, am_i a1] [] h (kI k) := by
  obtain ⟨⟨r, nM, nD, nB, nA, nU, nT, nL, hC⟩, hW, hSW, hEM, sc, hN, hU⟩ := id w
  obtain ⟨hF1, hF2⟩ := hC.2.2.2.2.2.2.2.2.2
  obtain ⟨⟨fM, fM6, fD, fD6, fB, fB10⟩, fO, -⟩ := id hF1
  obtain ⟨⟨fA, fU, fAU, fT, fT30, fL, fL10⟩, ⟨t, ft, ft1⟩, ok, -, -, -⟩ := id hF2
  have hx : ∀ b, b < 3 → nV h (x + 33) 50 b = 0 ∨ nV h (x + 33) 50 b = 1 := fun b hb => (hC.2.2.2.2.2.2.1 b hb).elim (fun z => Or.inl z.2) (fun z => Or.inr z.2.1)
  refine rn_roI (C_back hC (fun c ro => ?_) (fun c h1 hC1 fr ro => ?_))
  · obtain ⟨mw1, e1, sc1, cl⟩ := leaf w hC hC CFr_refl (by omega) (by omega) RO_refl
    refine hk _ h (fun k2 hk2 => ?_) mw1.1 sc1.1 sc1.2
    have g : Rn 1199 n_X9_back 0 [am_r (x + 33), am_i a1, am_u] [] (mh h (x + 33) (nV h (x + 33))) (kI k2) := rn_roI (m_back mw1 hx (fun _ ro2 => hk2 _ (cl _ .refl ro2)) (fun c' => absurd (c.symm.trans c') (by decide)))
    rw [e1] at g; exact g
  · obtain ⟨mw1, e1, sc1, cl⟩ := leaf w hC hC1 fr (by omega) (by omega) ro
    refine hk _ h1 (fun k2 hk2 => ?_) mw1.1 sc1.1 sc1.2
    have g : Rn 1199 n_X9_back 0 [am_r (x + 33), am_i a1, am_u] [] (mh h1 (x + 33) (nV h (x + 33))) (kI k2) := rn_roI (m_back mw1 hx (fun c' => absurd (c.symm.trans c') (by decide)) (fun _ ro2 => hk2 _ (cl _ .refl ro2)))
    rw [e1] at g; exact g
theorem P_feed (w : WL b L S x N U h) {a1 a2 a3 a4 a5 : Int32} {k : Int32 → am_H → Prop} (hk : ∀ v h1, Mdl b L S x N U n_X9_feed [am_r (x + 33), am_i a1, am_i a2, am_i a3, am_i a4, am_i a5] v h1 → hp_K h1 (x + 33) = (109, 0) → hp_K h1 b = (11, L) → hp_I h1 b = S → k v h1) : Rn 1199 n_X0_feed 0 [am_r x, am_i a1, am_i a2, am_i a3, am_i a4, am_i a5] [] h (kI k) := by
  obtain ⟨⟨r, nM, nD, nB, nA, nU, nT, nL, hC⟩, hW, hSW, hEM, sc, hN, hU⟩ := id w
  obtain ⟨hF1, hF2⟩ := hC.2.2.2.2.2.2.2.2.2
  obtain ⟨⟨fM, fM6, fD, fD6, fB, fB10⟩, fO, -⟩ := id hF1
  obtain ⟨⟨fA, fU, fAU, fT, fT30, fL, fL10⟩, ⟨t, ft, ft1⟩, ok, -, -, -⟩ := id hF2
  refine rn_roI (C_feed hC ft ft1 (fun c ro => ?_) (fun c h1 hC1 fr ro => ?_))
  · obtain ⟨mw1, e1, sc1, cl⟩ := leaf w hC hC CFr_refl (by omega) (by omega) RO_refl
    refine hk _ h (fun k2 hk2 => ?_) mw1.1 sc1.1 sc1.2
    have g : Rn 1199 n_X9_feed 0 [am_r (x + 33), am_i a1, am_i a2, am_i a3, am_i a4, am_i a5] [] (mh h (x + 33) (nV h (x + 33))) (kI k2) := rn_roI (m_feed mw1 ft ft1 (fun _ ro2 => hk2 _ (cl _ .refl ro2)) (fun c' => absurd c' c))
    rw [e1] at g; exact g
  · obtain ⟨mw1, e1, sc1, cl⟩ := leaf w hC hC1 fr (by omega) (by omega) ro
    refine hk _ h1 (fun k2 hk2 => ?_) mw1.1 sc1.1 sc1.2
    have g : Rn 1199 n_X9_feed 0 [am_r (x + 33), am_i a1, am_i a2, am_i a3, am_i a4, am_i a5] [] (mh h1 (x + 33) (nV h (x + 33))) (kI k2) := rn_roI (m_feed mw1 ft ft1 (fun c' => absurd c c') (fun _ ro2 => hk2 _ (cl _ .refl ro2)))
    rw [e1] at g; exact g
theorem P_undo (w : WL b L S x N U h) {k : Int32 → am_H → Prop} (hk : ∀ v h1, Mdl b L S x N U n_X9_undo [am_r (x + 33)] v h1 → hp_K h1 (x + 33) = (109, 0) → hp_K h1 b = (11, L) → hp_I h1 b = S → k v h1) : Rn 1199 n_X0_undo 0 [am_r x] [] h (kI k) := by
  obtain ⟨⟨r, nM, nD, nB, nA, nU, nT, nL, hC⟩, hW, hSW, hEM, sc, hN, hU⟩ := id w
  obtain ⟨hF1, hF2⟩ := hC.2.2.2.2.2.2.2.2.2
  obtain ⟨⟨fM, fM6, fD, fD6, fB, fB10⟩, fO, -⟩ := id hF1
  obtain ⟨⟨fA, fU, fAU, fT, fT30, fL, fL10⟩, ⟨t, ft, ft1⟩, ok, -, -, -⟩ := id hF2
  refine rn_roI (C_undo hC (fun c ro => ?_) (fun n c h1 hC1 fr ro => ?_))
  · obtain ⟨mw1, e1, sc1, cl⟩ := leaf w hC hC CFr_refl (by omega) (by omega) RO_refl
    refine hk _ h (fun k2 hk2 => ?_) mw1.1 sc1.1 sc1.2
    have g : Rn 1199 n_X9_undo 0 [am_r (x + 33)] [] (mh h (x + 33) (nV h (x + 33))) (kI k2) := rn_roI (m_undo mw1 fA fU fAU (fun _ ro2 => hk2 _ (cl _ .refl ro2)) (fun n e => absurd e (by omega)))
    rw [e1] at g; exact g
  · obtain ⟨mw1, e1, sc1, cl⟩ := leaf w hC hC1 fr (by omega) (by omega) ro
    refine hk _ h1 (fun k2 hk2 => ?_) mw1.1 sc1.1 sc1.2
    have g : Rn 1199 n_X9_undo 0 [am_r (x + 33)] [] (mh h1 (x + 33) (nV h (x + 33))) (kI k2) := rn_roI (m_undo mw1 fA fU fAU (fun e => absurd e (by omega)) (fun n' e ro2 => by have z : n' = n := (by omega); subst z; exact hk2 _ (cl _ .refl ro2)))
    rw [e1] at g; exact g
theorem P_redo (w : WL b L S x N U h) {k : Int32 → am_H → Prop} (hk : ∀ v h1, Mdl b L S x N U n_X9_redo [am_r (x + 33)] v h1 → hp_K h1 (x + 33) = (109, 0) → hp_K h1 b = (11, L) → hp_I h1 b = S → k v h1) : Rn 1199 n_X0_redo 0 [am_r x] [] h (kI k) := by
  obtain ⟨⟨r, nM, nD, nB, nA, nU, nT, nL, hC⟩, hW, hSW, hEM, sc, hN, hU⟩ := id w
  obtain ⟨hF1, hF2⟩ := hC.2.2.2.2.2.2.2.2.2
  obtain ⟨⟨fM, fM6, fD, fD6, fB, fB10⟩, fO, -⟩ := id hF1
  obtain ⟨⟨fA, fU, fAU, fT, fT30, fL, fL10⟩, ⟨t, ft, ft1⟩, ok, -, -, -⟩ := id hF2
  refine rn_roI (C_redo hC (fun c ro => ?_) (fun n c h1 hC1 fr ro => ?_))
  · obtain ⟨mw1, e1, sc1, cl⟩ := leaf w hC hC CFr_refl (by omega) (by omega) RO_refl
    refine hk _ h (fun k2 hk2 => ?_) mw1.1 sc1.1 sc1.2
    have g : Rn 1199 n_X9_redo 0 [am_r (x + 33)] [] (mh h (x + 33) (nV h (x + 33))) (kI k2) := rn_roI (m_redo mw1 fA fU fAU (fun _ ro2 => hk2 _ (cl _ .refl ro2)) (fun n e => absurd e (by omega)))
    rw [e1] at g; exact g
  · obtain ⟨mw1, e1, sc1, cl⟩ := leaf w hC hC1 fr (by omega) (by omega) ro
    refine hk _ h1 (fun k2 hk2 => ?_) mw1.1 sc1.1 sc1.2
    have g : Rn 1199 n_X9_redo 0 [am_r (x + 33)] [] (mh h1 (x + 33) (nV h (x + 33))) (kI k2) := rn_roI (m_redo mw1 fA fU fAU (fun e => absurd e (by omega)) (fun n' e ro2 => by have z : n' = n := (by omega); subst z; exact hk2 _ (cl _ .refl ro2)))
    rw [e1] at g; exact g
theorem P_end (w : WL b L S x N U h) {a1 : Int32} {k : Int32 → am_H → Prop} (hk : ∀ v h1, Mdl b L S x N U n_X9_end [am_r (x + 33), am_i a1] v h1 → hp_K h1 (x + 33) = (109, 0) → hp_K h1 b = (11, L) → hp_I h1 b = S → k v h1) : Rn 1199 n_X0_end 0 [am_r x, am_i a1] [] h (kI k) := by
  obtain ⟨⟨r, nM, nD, nB, nA, nU, nT, nL, hC⟩, hW, hSW, hEM, sc, hN, hU⟩ := id w
  obtain ⟨hF1, hF2⟩ := hC.2.2.2.2.2.2.2.2.2
  obtain ⟨⟨fM, fM6, fD, fD6, fB, fB10⟩, fO, -⟩ := id hF1
  obtain ⟨⟨fA, fU, fAU, fT, fT30, fL, fL10⟩, ⟨t, ft, ft1⟩, ok, -, -, -⟩ := id hF2
  refine rn_roI (C_end hC (fun ro => ?_))
  cases c : sp_end a1 (nV h (x + 33) 0 1) with
  | false =>
    show k (-1) h
    obtain ⟨mw1, e1, sc1, cl⟩ := leaf w hC hC CFr_refl (by omega) (by omega) RO_refl
    refine hk _ h (fun k2 hk2 => ?_) mw1.1 sc1.1 sc1.2
    refine M_end hW ?_
    have c2 : sp_end a1 (hp_I h (x + 33) 1) = false := c
    rw [c2]; exact hk2 h w.mono
  | true =>
    rw [c, if_pos rfl] at ro
    rw [if_pos rfl, if_pos rfl]
    have on : On (fun b => b = x) h (hp_sI h x 5 a1) := On_sI rfl
    have fr : CFr x 0 0 h (hp_sI h x 5 a1) := Fr_w on.fr (fun b _ w => by have w' : b = x := w; left; omega) (fun _ _ w => absurd w id) (Nat.le_refl _) (Nat.le_refl _)
    have hC1 : CR (hp_sI h x 5 a1) (am_up (nV h (x + 33)) 0 1 a1) x r nM nD nB nA nU nT nL := by
      refine CR_I2 hC on.fr (fun b w => Or.inl w) (fun a j z => up_ne (by omega)) ?_ ?_ ?_
      · obtain ⟨⟨i1, i2, i3, i4, i5, i6⟩, i7, i8⟩ := hC.2.2.2.2.2.2.2.1
        refine ⟨⟨?_, ?_, ?_, ?_, ?_, ?_⟩, fun j hj => ?_, fun j hj => ?_⟩
        · rw [sI_same, up_same]
        · rw [sI_ne (by omega), up_ne (by omega)]; exact i2
        · rw [sI_ne (by omega), up_ne (by omega)]; exact i3
        · rw [sI_ne (by omega), up_ne (by omega)]; exact i4
        · rw [sI_ne (by omega)]; exact i5
        · rw [up_ne (by omega)]; exact i6
        · rw [sI_ne (by omega), up_ne (by omega)]; exact i7 j hj
        · rw [sI_ne (by omega), up_ne (by omega)]; exact i8 j hj
      · exact ⟨by rw [up_ne (by omega)]; exact fL, fL10⟩
      · rw [up_same]
        unfold sp_end at c
        rw [ft] at c
        rw [Bool.and_eq_true, decide_eq_true_eq, decide_eq_true_eq] at c
        have cc := c
        obtain ⟨t2, q1, q2, q3⟩ := num_nat (a := 0) (b := t) (by omega) (by omega) cc.1 cc.2
        exact ⟨t2, q3, by omega⟩
    obtain ⟨mw1, e1, sc1, cl⟩ := leaf w hC hC1 fr (by omega) (by omega) ro
    refine hk _ _ (fun k2 hk2 => ?_) mw1.1 sc1.1 sc1.2
    have em : hp_sI (hp_sI h x 5 a1) (x + 33) 1 a1 = mh (hp_sI h x 5 a1) (x + 33) (am_up (nV h (x + 33)) 0 1 a1) := by
      rw [← mh_s0, e1]
    have ei : hp_I (hp_sI h x 5 a1) (x + 33) 1 = nV h (x + 33) 0 1 := sI_ne (by omega)
    refine rn_roI (M_end mw1 (fun ro2 => ?_))
    rw [ei] at ro2 ⊢
    rw [c, if_pos rfl] at ro2
    rw [c, if_pos rfl, if_pos rfl]
    rw [em] at ro2 ⊢
    exact hk2 _ (cl _ .refl (by rw [e1]; exact ro2))
theorem P_later (w : WL b L S x N U h) {a1 : Int32} {k : Int32 → am_H → Prop} (hk : ∀ v h1, Mdl b L S x N U n_X9_later [am_r (x + 33), am_i a1] v h1 → hp_K h1 (x + 33) = (109, 0) → hp_K h1 b = (11, L) → hp_I h1 b = S → k v h1) : Rn 1199 n_X0_later 0 [am_r x, am_i a1] [] h (kI k) := by
  obtain ⟨⟨r, nM, nD, nB, nA, nU, nT, nL, hC⟩, hW, hSW, hEM, sc, hN, hU⟩ := id w
  obtain ⟨hF1, hF2⟩ := hC.2.2.2.2.2.2.2.2.2
  obtain ⟨⟨fM, fM6, fD, fD6, fB, fB10⟩, fO, -⟩ := id hF1
  obtain ⟨⟨fA, fU, fAU, fT, fT30, fL, fL10⟩, ⟨t, ft, ft1⟩, ok, -, -, -⟩ := id hF2
  refine rn_roI (C_later hC (fun ro => ?_))
  cases c : sp_later (nV h (x + 33) 0 94) a1 with
  | false =>
    show k (-1) h
    obtain ⟨mw1, e1, sc1, cl⟩ := leaf w hC hC CFr_refl (by omega) (by omega) RO_refl
    refine hk _ h (fun k2 hk2 => ?_) mw1.1 sc1.1 sc1.2
    refine M_later hW ?_
    have c2 : sp_later (hp_I h (x + 33) 94) a1 = false := c
    rw [c2]; exact hk2 h w.mono
  | true =>
    rw [c, if_pos rfl] at ro
    rw [if_pos rfl, if_pos rfl]
    have on : On (fun b => b = x) h (hp_sI h x 6 (nV h (x + 33) 0 94 + a1)) := On_sI rfl
    have fr : CFr x 0 0 h (hp_sI h x 6 (nV h (x + 33) 0 94 + a1)) := Fr_w on.fr (fun b _ w => by have w' : b = x := w; left; omega) (fun _ _ w => absurd w id) (Nat.le_refl _) (Nat.le_refl _)
    have hC1 : CR (hp_sI h x 6 (nV h (x + 33) 0 94 + a1)) (am_up (nV h (x + 33)) 0 94 (nV h (x + 33) 0 94 + a1)) x r nM nD nB nA nU nT nL := by
      refine CR_I2 hC on.fr (fun b w => Or.inl w) (fun a j z => up_ne (by omega)) ?_ ?_ ?_
      · obtain ⟨⟨i1, i2, i3, i4, i5, i6⟩, i7, i8⟩ := hC.2.2.2.2.2.2.2.1
        refine ⟨⟨?_, ?_, ?_, ?_, ?_, ?_⟩, fun j hj => ?_, fun j hj => ?_⟩
        · rw [sI_ne (by omega), up_ne (by omega)]; exact i1
        · rw [sI_same, up_same]
        · rw [sI_ne (by omega), up_ne (by omega)]; exact i3
        · rw [sI_ne (by omega), up_ne (by omega)]; exact i4
        · rw [sI_ne (by omega)]; exact i5
        · rw [up_ne (by omega)]; exact i6
        · rw [sI_ne (by omega), up_ne (by omega)]; exact i7 j hj
        · rw [sI_ne (by omega), up_ne (by omega)]; exact i8 j hj
      · exact ⟨by rw [up_ne (by omega)]; exact fL, fL10⟩
      · rw [up_ne (by omega)]; exact ⟨t, ft, ft1⟩
    obtain ⟨mw1, e1, sc1, cl⟩ := leaf w hC hC1 fr (by omega) (by omega) ro
    refine hk _ _ (fun k2 hk2 => ?_) mw1.1 sc1.1 sc1.2
    have em : hp_sI (hp_sI h x 6 (nV h (x + 33) 0 94 + a1)) (x + 33) 94 (nV h (x + 33) 0 94 + a1) = mh (hp_sI h x 6 (nV h (x + 33) 0 94 + a1)) (x + 33) (am_up (nV h (x + 33)) 0 94 (nV h (x + 33) 0 94 + a1)) := by
      rw [← mh_s0, e1]
    have ei : hp_I (hp_sI h x 6 (nV h (x + 33) 0 94 + a1)) (x + 33) 94 = nV h (x + 33) 0 94 := sI_ne (by omega)
    refine rn_roI (M_later mw1 (fun ro2 => ?_))
    rw [ei] at ro2 ⊢
    rw [c, if_pos rfl] at ro2
    rw [c, if_pos rfl, if_pos rfl]
    rw [em] at ro2 ⊢
    exact hk2 _ (cl _ .refl (by rw [e1]; exact ro2))
theorem P_regiment (w : WL b L S x N U h) {k : Int32 → am_H → Prop} (hk : ∀ v h1, Mdl b L S x N U n_X9_regiment [am_r (x + 33), am_u, am_u] v h1 → hp_K h1 (x + 33) = (109, 0) → hp_K h1 b = (11, L) → hp_I h1 b = S → k v h1) : Rn 1199 n_X0_regiment 0 [am_r x, am_u, am_u] [] h (kI k) := by
  obtain ⟨⟨r, nM, nD, nB, nA, nU, nT, nL, hC⟩, hW, hSW, hEM, sc, hN, hU⟩ := id w
  obtain ⟨hF1, hF2⟩ := hC.2.2.2.2.2.2.2.2.2
  obtain ⟨⟨fM, fM6, fD, fD6, fB, fB10⟩, fO, -⟩ := id hF1
  obtain ⟨⟨fA, fU, fAU, fT, fT30, fL, fL10⟩, ⟨t, ft, ft1⟩, ok, -, -, -⟩ := id hF2
  have hp : ∀ j, j < t → 0 ≤ nV h (x + 33) 1 j := fun j hj => by
    rw [← hC.2.2.2.2.2.2.2.1.2.2 j (by omega)]; exact and255 _
  have al := hC.1.al
  have frl : ∀ {h1 h2 : am_H} {V1 : am_M} {r' nM' nD' nB' nA' nU' nT' nL' : Nat}, CR h1 V1 x r' nM' nD' nB' nA' nU' nT' nL' → Lx (x + 33) h1 h2 → CR h2 V1 x r' nM' nD' nB' nA' nU' nT' nL' := fun {h1 h2 V1 r' nM' nD' nB' nA' nU' nT' nL'} q lx => by
    refine CR_fr q (WI := fun b => b = x + 33 ∨ b = x + 33 + 2) (c := 0) (s := 0) ?_ (fun b w => ?_)
    · have ol : OnL (fun b => b = x + 33 ∨ b = x + 33 + 2) h1 h2 := ⟨lx.2.1, fun b hb => ⟨by rw [show hp_I h2 = h2.1 from rfl, lx.1], lx.2.2 b (fun z => hb (Or.inl z)) (fun z => hb (Or.inr z))⟩⟩
      exact ol.fr
    · exact Or.inr (Or.inr (Or.inr (Or.inr (Or.inr (Or.inr ⟨by omega, by omega, q.1.2.2.2.2 b (by omega) (by omega)⟩)))))
  have fin : ∀ {h1 h2 : am_H} {W : am_M} {V1 : am_M} {r' nM' nD' nB' nA' nU' nT' nL' : Nat}, CR h1 V1 x r' nM' nD' nB' nA' nU' nT' nL' → Lx (x + 33) h1 h2 → Eqv V1 W → CFr x 4813 96200 h h1 → RO h h1 → RO h1 (mh h2 (x + 33) W) → WL b L S x (N + 4813) (U + 96200) (mh h2 (x + 33) W) := fun {h1 h2 W V1 r' nM' nD' nB' nA' nU' nT' nL'} q lx e fr ro ro2 => by
    have rr := ro.tr ro2
    have n2 : hp_n h2 = hp_n h1 := by show h2.2.2.2.2.1 = _; rw [lx.2.1]
    have u2 : hp_u h2 = hp_u h1 := by show h2.2.2.2.2.2 = _; rw [lx.2.1]
    refine ⟨⟨r', nM', nD', nB', nA', nU', nT', nL', close_M (frl q lx) e⟩, lx.mw (mid_W hC hW fr), SWd_RO al hSW rr, EM_RO al hEM rr, w.sc al rr, ?_, ?_⟩
    · show hp_n h2 ≤ _
      have := fr.1.2
      omega
    · show hp_u h2 ≤ _
      have := fr.2.1
      omega
  refine rn_roI (C_regiment hC hSW hEM ft ft1 (fun g h1 eg gi mk fr ro => ?_) (fun e h1 ee hC1 fr ro => ?_))
  · have e1 : mh h1 (x + 33) (nV h (x + 33)) = h1 := by rw [← mid_V hC fr]; exact mh_self
    have sc1 := w.sc al ro
    refine hk _ h1 (fun k2 hk2 => ?_) (mid_W hC hW fr).1 sc1.1 sc1.2
    have g : Rn 1199 n_X9_regiment 0 [am_r (x + 33), am_u, am_u] [] (mh h1 (x + 33) (nV h (x + 33))) (kI k2) := by
      refine rn_roI (m_regiment (mid_W hC hW fr) ft ft1 hp (fun h2 W g' eg' gi' lx en es eo ro2 => ?_) (fun h2 W e' ee' lx q ro2 => ?_))
      · have z : g' = g := by rw [eg] at eg'; cases eg'; rfl
        subst z
        obtain ⟨R, q⟩ := mk W en es eo
        rw [e1] at ro2
        exact hk2 _ (fin q lx .refl fr ro ro2)
      · rw [eg] at ee'; cases ee'
    rw [e1] at g; exact g
  · have e1 : mh h1 (x + 33) (nV h (x + 33)) = h1 := by rw [← mid_V hC fr]; exact mh_self
    have sc1 := w.sc al ro
    refine hk _ h1 (fun k2 hk2 => ?_) (mid_W hC hW fr).1 sc1.1 sc1.2
    have g : Rn 1199 n_X9_regiment 0 [am_r (x + 33), am_u, am_u] [] (mh h1 (x + 33) (nV h (x + 33))) (kI k2) := by
      refine rn_roI (m_regiment (mid_W hC hW fr) ft ft1 hp (fun h2 W g' eg' gi' lx en es eo ro2 => ?_) (fun h2 W e' ee' lx q ro2 => ?_))
      · rw [ee] at eg'; cases eg'
      · have z : e' = e := by rw [ee] at ee'; cases ee'; rfl
        subst z
        rw [e1] at ro2
        exact hk2 _ (fin hC1 lx q fr ro ro2)
    rw [e1] at g; exact g
end LawQ
