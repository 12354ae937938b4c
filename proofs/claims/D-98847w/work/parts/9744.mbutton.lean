/-! THE MODEL: buttons and friends are read -/
section MButton
variable {d : Nat} {h h' : am_H} {m : Nat} {V W : am_M} {T : tx} {N p : Nat} {g : rgT} {k : am_H → Prop}
theorem EN_button (q : EN h m V g) {v : oaT} (hn : g.1.2.2.length < 10) (hm : g.1.1.length ≤ 6) (hd : g.1.2.1.length ≤ 6) (ln : Ln m (12 + g.1.2.2.length) v.1 h h') (nw : ixN (g.1.2.2.map (·.1)) v.1 = none) (hA : ∀ a j, enp a j → ¬ (((20 ≤ a ∧ a ≤ 25) ∨ a = 32) ∧ j = g.1.2.2.length) → ¬ (a = 0 ∧ j = 51) → W a j = V a j) (w1 : W 0 51 = nI (g.1.2.2.length + 1)) (w2 : W 20 g.1.2.2.length = nI v.2.1 ∧ W 21 g.1.2.2.length = nI v.2.2.1 ∧ W 22 g.1.2.2.length = nI v.2.2.2.1 ∧ W 32 g.1.2.2.length = bI v.2.2.2.2.1 ∧ W 23 g.1.2.2.length = v.2.2.2.2.2.1 ∧ W 24 g.1.2.2.length = v.2.2.2.2.2.2.1 ∧ W 25 g.1.2.2.length = v.2.2.2.2.2.2.2) : EN h' m W ((g.1.1, g.1.2.1, g.1.2.2 ++ [v]), g.2) := by
  obtain ⟨⟨n1, n2, n3, n4⟩, ⟨n5, n6, n7, n8⟩, ⟨n9, n10, n11, n12⟩, ⟨l1, l2, l3⟩, eM, eD, eO, ⟨eF, eG⟩, eW⟩ := q
  have e0 : ∀ j, (j = 3 ∨ j = 17 ∨ j = 20 ∨ j = 49 ∨ j = 50 ∨ (52 ≤ j ∧ j ≤ 55) ∨ (62 ≤ j ∧ j ≤ 65)) → W 0 j = V 0 j := fun j z => hA 0 j (by unfold enp; omega) (by omega) (by omega)
  have er : ∀ a j, (a = 3 ∨ a = 4 ∨ (10 ≤ a ∧ a ≤ 14)) → W a j = V a j := fun a j z => hA a j (by unfold enp; omega) (by omega) (by omega)
  have eb : ∀ a j, ((20 ≤ a ∧ a ≤ 25) ∨ a = 32) → ¬ j = g.1.2.2.length → W a j = V a j := fun a j z z2 => hA a j (by unfold enp; omega) (by omega) (by omega)
  refine ⟨⟨?_, ?_, ?_, ?_⟩, ⟨?_, ?_, ?_, ?_⟩, ⟨?_, ?_, ?_, ?_⟩, ⟨?_, ?_, ?_⟩, fun i v hv => ?_, fun i v hv => ?_, fun i u hu => ?_, ⟨fun a b ha hb => ?_, eG⟩, ?_⟩
  · rw [e0 _ (by omega)]; exact n1
  · rw [e0 _ (by omega)]; exact n2
  · rw [w1, List.length_append]; rfl
  · rw [e0 _ (by omega)]; exact n4
  · rw [e0 _ (by omega)]; exact n5
  · rw [e0 _ (by omega)]; exact n6
  · rw [e0 _ (by omega)]; exact n7
  · rw [e0 _ (by omega)]; exact n8
  · rw [e0 _ (by omega)]; exact n9
  · rw [e0 _ (by omega)]; exact n10
  · rw [e0 _ (by omega)]; exact n11
  · exact ⟨by rw [e0 _ (by omega)]; exact n12.1, by rw [e0 _ (by omega)]; exact n12.2⟩
  · exact NM_oth l1 ln (Or.inr (by rw [List.length_map]; show 0 + g.1.1.length ≤ _; omega))
  · exact NM_oth l2 ln (Or.inr (by rw [List.length_map]; show 6 + g.1.2.1.length ≤ _; omega))
  · rw [List.map_append]; exact NM_add l3 (by rw [List.length_map]) ln nw
  · rw [er _ _ (by omega), er _ _ (by omega), er _ _ (by omega)]; exact eM i v hv
  · rw [er _ _ (by omega)]; exact eD i v hv
  · rcases get_snoc hu with z | ⟨z1, z2⟩
    · have := (List.getElem?_eq_some_iff.mp z).1
      rw [eb _ _ (by omega) (by omega), eb _ _ (by omega) (by omega), eb _ _ (by omega) (by omega), eb _ _ (by omega) (by omega), eb _ _ (by omega) (by omega), eb _ _ (by omega) (by omega), eb _ _ (by omega) (by omega)]; exact eO i u z
    · rw [z1, z2]; exact w2
  · rw [er _ _ (by omega)]; exact eF a b ha hb
  · show match g.2.2.1.1 with | none => True | some c => _
    revert eW
    cases g.2.2.1.1 with
    | none => exact id
    | some c =>
      intro eW
      refine ⟨by rw [e0 _ (by omega)]; exact eW.1, fun i s hs => ?_⟩
      rw [er _ _ (by omega), er _ _ (by omega)]; exact eW.2 i s hs
/-- a state on the way: nothing wrong so far -/
def St (h : am_H) (m : Nat) (V : am_M) (n : Nat) (w : Int64) (A : Nat → Prop) (h' : am_H) (W : am_M) : Prop := Ln m (12 + n) w h h' ∧ Ps V W ∧ ∀ a j, enp a j → ¬ (A a ∧ j = n) → W a j = V a j
theorem St.tk {n : Nat} {w : Int64} {A : Nat → Prop} {h2 : am_H} {W2 : am_M} (q : St h m V n w A h' W) (lw : Lw m h' h2) (tk : Tk W W2) : St h m V n w A h2 W2 := ⟨q.1.tr lw, q.2.1.tr tk.ps, fun a j z z2 => (tk.en a j z).trans (q.2.2 a j z z2)⟩
theorem St.up {n b : Nat} {w : Int64} {A : Nat → Prop} {v : Int32} (q : St h m V n w A h' W) (hb : psc b n) : St h m V n w (fun a => A a ∨ a = b) h' (am_up W b n v) := ⟨q.1, q.2.1.up hb, fun a j z z2 => by
  rw [up_ne (fun y => z2 ⟨Or.inr y.1, y.2⟩)]; exact q.2.2 a j z (fun y => z2 ⟨Or.inl y.1, y.2⟩)⟩
theorem m_readButton (hW : MW h m) (ok : OK h m V T N p) (kw : tkD T N p = 1) (en : EN h m V g) (hn : g.1.2.2.length < 10) (hm : g.1.1.length ≤ 6) (hd : g.1.2.1.length ≤ 6) (h1 : ∀ h' W v, pButton T N g (tkX T N p) = .inl v → Lx m h h' → Ps V W → OK h' m W T N v.2 → EN h' m W v.1 → k (mh h' m W)) (h2 : ∀ h' W e, pButton T N g (tkX T N p) = .inr e → Lx m h h' → Ps V W → ER W e → k (mh h' m W)) : Rn (d + 5) n_X9_readButton 0 [am_r m, am_u] [] (mh h m V) (kV k) := by
  have en0 := en
  obtain ⟨⟨n1, n2, n3, n4⟩, -, -, ⟨l1, l2, l3⟩, -⟩ := en
  have n3' : V 0 51 = nI (g.1.2.2.map (·.1)).length := by rw [List.length_map]; exact n3
  generalize hl : g.1.2.2.length = n at hn n3
  unfold pButton at h1 h2
  -- an error told: the ends
  have E282 : ∀ h' W e, MW h' m → ER W e → (∀ X, ER X e → Ps W X → k (mh h' m X)) → Rn (d + 5) n_X9_readButton 282 [am_r m, am_i (nI n)] [] (mh h' m W) (kV k) := by
    intro h' W e hW er hk
    refine rw_aload f_X9_readButton_282 rfl ?_
    refine rm_getI f_X9_readButton_283 hW ?_
    refine rw_ifT f_X9_readButton_286 (decide_eq_true er.ne) ?_
    refine rw_vret f_X9_readButton_299 ?_
    exact hk _ er .refl
  have E270 : ∀ h' W y e, MW h' m → ER W e → (∀ X, ER X e → Ps W X → k (mh h' m X)) → Rn (d + 5) n_X9_readButton 270 [am_r m, am_i (nI n)] [am_i y, am_i (nI n), am_r (m + 25)] (mh h' m W) (kV k) := by
    intro h' W y e hW er hk
    have er2 : ER (am_up W 25 n y) e := er.up (by omega)
    refine rm_iast f_X9_readButton_270 hW (by exact rfl) rfl (by omega) ?_
    refine rw_aload f_X9_readButton_271 rfl ?_
    refine rm_getI f_X9_readButton_272 hW ?_
    refine rw_ifT f_X9_readButton_275 (decide_eq_true er2.ne) ?_
    exact E282 h' _ e hW er2 (fun X ex px => hk X ex ((Ps.refl.up (by unfold psc; omega)).tr px))
  have E226 : ∀ h' W y e, MW h' m → ER W e → (∀ X, ER X e → Ps W X → k (mh h' m X)) → Rn (d + 5) n_X9_readButton 226 [am_r m, am_i (nI n)] [am_i y, am_i (nI n), am_r (m + 24)] (mh h' m W) (kV k) := by
    intro h' W y e hW er hk
    have er2 : ER (am_up W 24 n y) e := er.up (by omega)
    have er3 : ER (am_up (am_up W 24 n y) 25 n (-1)) e := er2.up (by omega)
    refine rm_iast f_X9_readButton_226 hW (by exact rfl) rfl (by omega) ?_
    refine rw_aload f_X9_readButton_227 rfl ?_
    refine rm_getR f_X9_readButton_228 hW rfl ?_
    refine rw_iload f_X9_readButton_231 rfl ?_
    refine rw_const f_X9_readButton_232 ?_
    refine rm_iast f_X9_readButton_233 hW (by exact rfl) rfl (by omega) ?_
    refine rw_aload f_X9_readButton_234 rfl ?_
    refine rm_getI f_X9_readButton_235 hW ?_
    refine rw_ifT f_X9_readButton_238 (decide_eq_true er3.ne) ?_
    exact E282 h' _ e hW er3 (fun X ex px => hk X ex (((Ps.refl.up (by unfold psc; omega)).up (by unfold psc; omega)).tr px))
  have E208 : ∀ h' W y e, MW h' m → ER W e → (∀ X, ER X e → Ps W X → k (mh h' m X)) → Rn (d + 5) n_X9_readButton 208 [am_r m, am_i (nI n)] [am_i y, am_i (nI n), am_r (m + 23)] (mh h' m W) (kV k) := by
    intro h' W y e hW er hk
    have er2 : ER (am_up W 23 n y) e := er.up (by omega)
    refine rm_iast f_X9_readButton_208 hW (by exact rfl) rfl (by omega) ?_
    refine rw_aload f_X9_readButton_209 rfl ?_
    refine rm_getR f_X9_readButton_210 hW rfl ?_
    refine rw_iload f_X9_readButton_213 rfl ?_
    refine rw_aload f_X9_readButton_214 rfl ?_
    refine rw_const f_X9_readButton_215 ?_
    refine rw_const f_X9_readButton_218 ?_
    refine rw_const f_X9_readButton_219 ?_
    refine rw_const f_X9_readButton_221 ?_
    refine rw_callV f_X9_readButton_223 rfl hW.1 hW.2.1 rfl rfl rfl rfl (rn_ki (m_optionE hW er2 ?_))
    exact E226 h' _ _ e hW er2 (fun X ex px => hk X ex ((Ps.refl.up (by unfold psc; omega)).tr px))
  have E179 : ∀ h' W y e, MW h' m → ER W e → (∀ X, ER X e → Ps W X → k (mh h' m X)) → Rn (d + 5) n_X9_readButton 179 [am_r m, am_i (nI n)] [am_i y, am_i (nI n), am_r (m + 22)] (mh h' m W) (kV k) := by
    intro h' W y e hW er hk
    have er2 : ER (am_up W 22 n y) e := er.up (by omega)
    refine rm_iast f_X9_readButton_179 hW (by exact rfl) rfl (by omega) ?_
    refine rw_aload f_X9_readButton_180 rfl ?_
    refine rm_getI f_X9_readButton_181 hW ?_
    refine rw_ifT f_X9_readButton_184 (decide_eq_true er2.ne) ?_
    refine rw_aload f_X9_readButton_191 rfl ?_
    refine rm_getR f_X9_readButton_192 hW rfl ?_
    refine rw_iload f_X9_readButton_195 rfl ?_
    refine rw_aload f_X9_readButton_196 rfl ?_
    refine rw_const f_X9_readButton_197 ?_
    refine rw_const f_X9_readButton_200 ?_
    refine rw_const f_X9_readButton_201 ?_
    refine rw_const f_X9_readButton_203 ?_
    refine rw_callV f_X9_readButton_205 rfl hW.1 hW.2.1 rfl rfl rfl rfl (rn_ki (m_optionE hW er2 ?_))
    exact E208 h' _ _ e hW er2 (fun X ex px => hk X ex ((Ps.refl.up (by unfold psc; omega)).tr px))
  have E140 : ∀ h' W e, MW h' m → ER W e → (∀ X, ER X e → Ps W X → k (mh h' m X)) → Rn (d + 5) n_X9_readButton 140 [am_r m, am_i (nI n)] [] (mh h' m W) (kV k) := by
    intro h' W e hW er hk
    have er2 : ∀ b, ER (am_up W 32 n (bI b)) e := fun b => er.up (by omega)
    refine rw_aload f_X9_readButton_140 rfl ?_
    refine rm_getR f_X9_readButton_141 hW rfl ?_
    refine rw_iload f_X9_readButton_144 rfl ?_
    refine rw_aload f_X9_readButton_145 rfl ?_
    refine rw_const f_X9_readButton_146 ?_
    refine rw_callV f_X9_readButton_149 rfl hW.1 hW.2.1 rfl rfl rfl rfl (rn_ki (m_isWordE hW (fun b => ?_)))
    refine rm_zast f_X9_readButton_152 hW (by exact rfl) rfl (by omega) (by first | exact Or.inl rfl | exact Or.inr rfl | exact bI_01 _ | assumption) ?_
    refine rw_aload f_X9_readButton_153 rfl ?_
    refine rm_getI f_X9_readButton_154 hW ?_
    refine rw_ifT f_X9_readButton_157 (decide_eq_true (er2 b).ne) ?_
    refine rw_aload f_X9_readButton_164 rfl ?_
    refine rm_getR f_X9_readButton_165 hW rfl ?_
    refine rw_iload f_X9_readButton_168 rfl ?_
    refine rw_aload f_X9_readButton_169 rfl ?_
    refine rw_const f_X9_readButton_170 ?_
    refine rw_aload f_X9_readButton_172 rfl ?_
    refine rm_getI f_X9_readButton_173 hW ?_
    refine rw_callV f_X9_readButton_176 rfl hW.1 hW.2.1 rfl rfl rfl rfl (rn_ki (m_oldNameE hW (er2 b) ?_))
    exact E179 h' _ _ e hW (er2 b) (fun X ex px => hk X ex ((Ps.refl.up (by unfold psc; omega)).tr px))
  have E97 : ∀ h' W e, MW h' m → ER W e → (∀ X, ER X e → Ps W X → k (mh h' m X)) → Rn (d + 5) n_X9_readButton 97 [am_r m, am_i (nI n)] [] (mh h' m W) (kV k) := by
    intro h' W e hW er hk
    refine rw_aload f_X9_readButton_97 rfl ?_
    refine rm_getI f_X9_readButton_98 hW ?_
    refine rw_ifT f_X9_readButton_101 (decide_eq_true er.ne) ?_
    refine rw_aload f_X9_readButton_108 rfl ?_
    refine rm_getI f_X9_readButton_109 hW ?_
    refine rw_ifT f_X9_readButton_112 (decide_eq_true er.ne) ?_
    exact E140 h' _ e hW er hk
  have E69 : ∀ h' W y e, MW h' m → ER W e → (∀ X, ER X e → Ps W X → k (mh h' m X)) → Rn (d + 5) n_X9_readButton 69 [am_r m, am_i (nI n)] [am_i y, am_i (nI n), am_r (m + 21)] (mh h' m W) (kV k) := by
    intro h' W y e hW er hk
    have er2 : ER (am_up W 21 n y) e := er.up (by omega)
    refine rm_iast f_X9_readButton_69 hW (by exact rfl) rfl (by omega) ?_
    refine rw_aload f_X9_readButton_70 rfl ?_
    refine rm_getI f_X9_readButton_71 hW ?_
    refine rw_ifT f_X9_readButton_74 (decide_eq_true er2.ne) ?_
    exact E97 h' _ e hW er2 (fun X ex px => hk X ex ((Ps.refl.up (by unfold psc; omega)).tr px))
  have E55 : ∀ h' W e, MW h' m → ER W e → (∀ X, ER X e → Ps W X → k (mh h' m X)) → Rn (d + 5) n_X9_readButton 55 [am_r m, am_i (nI n)] [] (mh h' m W) (kV k) := by
    intro h' W e hW er hk
    refine rw_aload f_X9_readButton_55 rfl ?_
    refine rm_getR f_X9_readButton_56 hW rfl ?_
    refine rw_iload f_X9_readButton_59 rfl ?_
    refine rw_aload f_X9_readButton_60 rfl ?_
    refine rw_const f_X9_readButton_61 ?_
    refine rw_aload f_X9_readButton_62 rfl ?_
    refine rm_getI f_X9_readButton_63 hW ?_
    refine rw_callV f_X9_readButton_66 rfl hW.1 hW.2.1 rfl rfl rfl rfl (rn_ki (m_oldNameE hW er ?_))
    exact E69 h' _ _ e hW er hk
  have E36 : ∀ h' W y e, MW h' m → ER W e → (∀ X, ER X e → Ps W X → k (mh h' m X)) → Rn (d + 5) n_X9_readButton 36 [am_r m, am_i (nI n)] [am_i y, am_i (nI n), am_r (m + 20)] (mh h' m W) (kV k) := by
    intro h' W y e hW er hk
    have er2 : ER (am_up W 20 n y) e := er.up (by omega)
    refine rm_iast f_X9_readButton_36 hW (by exact rfl) rfl (by omega) ?_
    refine rw_aload f_X9_readButton_37 rfl ?_
    refine rm_getI f_X9_readButton_38 hW ?_
    refine rw_ifT f_X9_readButton_41 (decide_eq_true er2.ne) ?_
    refine rw_aload f_X9_readButton_48 rfl ?_
    refine rw_const f_X9_readButton_49 ?_
    refine rw_callV f_X9_readButton_52 rfl hW.1 hW.2.1 rfl rfl rfl rfl (rn_kv (m_wantE hW er2 ?_))
    exact E55 h' _ e hW er2 (fun X ex px => hk X ex ((Ps.refl.up (by unfold psc; omega)).tr px))
  have E22 : ∀ h' W e, MW h' m → ER W e → (∀ X, ER X e → Ps W X → k (mh h' m X)) → Rn (d + 5) n_X9_readButton 22 [am_r m, am_i (nI n)] [] (mh h' m W) (kV k) := by
    intro h' W e hW er hk
    refine rw_aload f_X9_readButton_22 rfl ?_
    refine rm_getR f_X9_readButton_23 hW rfl ?_
    refine rw_iload f_X9_readButton_26 rfl ?_
    refine rw_aload f_X9_readButton_27 rfl ?_
    refine rw_const f_X9_readButton_28 ?_
    refine rw_aload f_X9_readButton_29 rfl ?_
    refine rm_getI f_X9_readButton_30 hW ?_
    refine rw_callV f_X9_readButton_33 rfl hW.1 hW.2.1 rfl rfl rfl rfl (rn_ki (m_oldNameE hW er ?_))
    exact E36 h' _ _ e hW er hk
  -- a name
  refine rw_aload f_X9_readButton_0 rfl ?_
  refine rw_const f_X9_readButton_1 ?_
  refine rw_aload f_X9_readButton_3 rfl ?_
  refine rm_getI f_X9_readButton_4 hW ?_
  skip
  rw [n3']
  refine rw_callV f_X9_readButton_7 rfl hW.1 hW.2.1 rfl rfl rfl rfl (rn_kv (m_newName (o := 12) hW ok kw l3 (by rw [List.length_map]; omega) (fun h3 W3 v e ln tk ok3 nw => ?_) (fun h3 W3 e e1 lw fk er => ?_)))
  rotate_left
  · rw [e1, bnd_r] at h2
    have hW := lw.mw hW
    have m2 : W3 0 51 = nI n := (fk _ _ (by unfold fks tks; omega)).trans n3
    refine rw_aload f_X9_readButton_10 rfl ?_
    refine rm_getI f_X9_readButton_11 hW ?_
    rw [m2]
    refine rw_istore f_X9_readButton_14 rfl rfl ?_
    refine rw_aload f_X9_readButton_15 rfl ?_
    refine rw_const f_X9_readButton_16 ?_
    refine rw_callV f_X9_readButton_19 rfl hW.1 hW.2.1 rfl rfl rfl rfl (rn_kv (m_wantE hW er ?_))
    exact E22 h3 W3 e hW er (fun X ex px => h2 h3 X e rfl lw.x (fk.ps.tr px) ex)
  rw [e, bnd_l] at h1 h2
  rw [List.length_map, hl] at ln
  have s3 : St h m V n v.1 (fun _ => False) h3 W3 := ⟨ln, tk.ps, fun a j z _ => tk.en a j z⟩
  have f0 : ∀ {A : Nat → Prop} {h' W}, St h m V n v.1 A h' W → (∀ j, (j = 49 ∨ j = 50 ∨ j = 51) → ¬ A 0 → W 0 j = V 0 j) := fun q j z z2 => q.2.2 _ _ (by unfold enp; omega) (fun y => z2 y.1)
  have fN : ∀ {A : Nat → Prop} {h' W}, St h m V n v.1 A h' W → NM h' m 0 (g.1.1.map (·.1)) ∧ NM h' m 6 (g.1.2.1.map (·.1)) ∧ NM h' m 12 (g.1.2.2.map (·.1)) := fun q => ⟨NM_oth l1 q.1 (Or.inr (by rw [List.length_map]; omega)), NM_oth l2 q.1 (Or.inr (by rw [List.length_map]; omega)), NM_oth l3 q.1 (Or.inr (by rw [List.length_map]; omega))⟩
  have hW0 := hW
  have hW := ln.1.mw hW
  have m2 : W3 0 51 = nI n := (f0 s3 _ (by omega) id).trans n3
  have mM : V 0 49 = nI (g.1.1.map (·.1)).length := by rw [List.length_map]; exact n1
  have mD : V 0 50 = nI (g.1.2.1.map (·.1)).length := by rw [List.length_map]; exact n2
  -- on
  refine rw_aload f_X9_readButton_10 rfl ?_
  refine rm_getI f_X9_readButton_11 hW ?_
  rw [m2]
  refine rw_istore f_X9_readButton_14 rfl rfl ?_
  refine rw_aload f_X9_readButton_15 rfl ?_
  refine rw_const f_X9_readButton_16 ?_
  skip
  refine rw_callV f_X9_readButton_19 rfl hW.1 hW.2.1 rfl rfl rfl rfl (rn_kv (m_want hW ok3 (i := wON) (by decide +kernel) (fun h4 W4 p4 e4 lw4 tk4 ok4 => ?_) (fun W4 e5 e4 fk4 er4 => ?_)))
  rotate_left
  · rw [e4, bnd_r] at h2
    exact E22 h3 W4 e5 hW er4 (fun X ex px => h2 h3 X e5 rfl ln.1 ((tk.ps.tr fk4.ps).tr px) ex)
  rw [e4, bnd_l] at h1 h2
  have s4 := s3.tk lw4 tk4
  have hW := s4.1.1.mw hW0
  refine rw_aload f_X9_readButton_22 rfl ?_
  refine rm_getR f_X9_readButton_23 hW rfl ?_
  refine rw_iload f_X9_readButton_26 rfl ?_
  refine rw_aload f_X9_readButton_27 rfl ?_
  refine rw_const f_X9_readButton_28 ?_
  refine rw_aload f_X9_readButton_29 rfl ?_
  refine rm_getI f_X9_readButton_30 hW ?_
  skip
  rw [(f0 s4 _ (by omega) id).trans mM]
  refine rw_callV f_X9_readButton_33 rfl hW.1 hW.2.1 rfl rfl rfl rfl (rn_ki (m_oldName (o := 0) hW ok4 (fN s4).1 (by rw [List.length_map]; omega) (fun iO e5 lO d5 => ?_) (fun W5 e6 e5 fk5 er5 => ?_)))
  rotate_left
  · rw [e5, bnd_r] at h2
    exact E36 h4 W5 _ e6 hW er5 (fun X ex px => h2 h4 X e6 rfl s4.1.1 ((s4.2.1.tr fk5.ps).tr px) ex)
  rw [e5, bnd_l] at h1 h2
  have ok5 : OK h4 m (am_up W4 20 n (nI iO)) T N p4 := ok4.up (by unfold fks tks; omega)
  have s5 := s4.up (b := 20) (v := nI iO) (by unfold psc; omega)
  have nb5 : ¬ tkD T N p4 = 4 := fun z => by rw [z] at d5; exact absurd d5 (by decide)
  have g5 : am_up W4 20 n (nI iO) 20 n = nI iO := up_same
  refine rm_iast f_X9_readButton_36 hW (by exact rfl) rfl (by omega) ?_
  skip
  generalize am_up W4 20 n (nI iO) = W5 at ok5 s5 g5 ⊢
  refine rw_aload f_X9_readButton_37 rfl ?_
  refine rm_getI f_X9_readButton_38 hW ?_
  rw [ok5.f]
  refine rw_ifF f_X9_readButton_41 (by decide) ?_
  refine rw_aload f_X9_readButton_44 rfl ?_
  refine rw_callV f_X9_readButton_45 rfl hW.1 hW.2.1 rfl rfl rfl rfl (rn_kv (m_next hW ok5 nb5 (fun h6 W6 lw6 tk6 ok6 => ?_)))
  skip
  have s6 := s5.tk lw6 tk6
  have g6 : W6 20 n = nI iO := (tk6.en _ _ (by unfold enp; omega)).trans g5
  have hW := s6.1.1.mw hW0
  -- by
  refine rw_aload f_X9_readButton_48 rfl ?_
  refine rw_const f_X9_readButton_49 ?_
  skip
  refine rw_callV f_X9_readButton_52 rfl hW.1 hW.2.1 rfl rfl rfl rfl (rn_kv (m_want hW ok6 (i := wBY) (by decide +kernel) (fun h7 W7 p7 e7 lw7 tk7 ok7 => ?_) (fun W7 e8 e7 fk7 er7 => ?_)))
  rotate_left
  · rw [e7, bnd_r] at h2
    exact E55 h6 W7 e8 hW er7 (fun X ex px => h2 h6 X e8 rfl s6.1.1 ((s6.2.1.tr fk7.ps).tr px) ex)
  rw [e7, bnd_l] at h1 h2
  have s7 := s6.tk lw7 tk7
  have g7 : W7 20 n = nI iO := (tk7.en _ _ (by unfold enp; omega)).trans g6
  have hW := s7.1.1.mw hW0
  refine rw_aload f_X9_readButton_55 rfl ?_
  refine rm_getR f_X9_readButton_56 hW rfl ?_
  refine rw_iload f_X9_readButton_59 rfl ?_
  refine rw_aload f_X9_readButton_60 rfl ?_
  refine rw_const f_X9_readButton_61 ?_
  refine rw_aload f_X9_readButton_62 rfl ?_
  refine rm_getI f_X9_readButton_63 hW ?_
  skip
  rw [(f0 s7 _ (by omega) (by simp)).trans mM]
  refine rw_callV f_X9_readButton_66 rfl hW.1 hW.2.1 rfl rfl rfl rfl (rn_ki (m_oldName (o := 0) hW ok7 (fN s7).1 (by rw [List.length_map]; omega) (fun iB e8 lB d8 => ?_) (fun W8 e9 e8 fk8 er8 => ?_)))
  rotate_left
  · rw [e8, bnd_r] at h2
    exact E69 h7 W8 _ e9 hW er8 (fun X ex px => h2 h7 X e9 rfl s7.1.1 ((s7.2.1.tr fk8.ps).tr px) ex)
  rw [e8, bnd_l] at h1 h2
  have ok8 : OK h7 m (am_up W7 21 n (nI iB)) T N p7 := ok7.up (by unfold fks tks; omega)
  have s8 := s7.up (b := 21) (v := nI iB) (by unfold psc; omega)
  have nb8 : ¬ tkD T N p7 = 4 := fun z => by rw [z] at d8; exact absurd d8 (by decide)
  have g8 : am_up W7 21 n (nI iB) 20 n = nI iO ∧ am_up W7 21 n (nI iB) 21 n = nI iB := ⟨by rw [up_ne (by omega)]; exact g7, up_same⟩
  rw [List.length_map] at lO lB
  refine rm_iast f_X9_readButton_69 hW (by exact rfl) rfl (by omega) ?_
  skip
  generalize am_up W7 21 n (nI iB) = W8 at ok8 s8 g8 ⊢
  by_cases cE : iB = iO
  · rw [if_pos cE] at h2
    refine rw_aload f_X9_readButton_70 rfl ?_
    refine rm_getI f_X9_readButton_71 hW ?_
    rw [ok8.f]
    refine rw_ifF f_X9_readButton_74 (by decide) ?_
    refine rw_aload f_X9_readButton_77 rfl ?_
    refine rm_getR f_X9_readButton_78 hW rfl ?_
    refine rw_iload f_X9_readButton_81 rfl ?_
    refine rm_xald f_X9_readButton_82 hW (by exact rfl) rfl (by omega) ?_
    refine rw_aload f_X9_readButton_83 rfl ?_
    refine rm_getR f_X9_readButton_84 hW rfl ?_
    refine rw_iload f_X9_readButton_87 rfl ?_
    refine rm_xald f_X9_readButton_88 hW (by exact rfl) rfl (by omega) ?_
    rw [g8.1, g8.2, cE]
    refine rw_icmpF f_X9_readButton_89 (by simp) ?_
    refine rw_aload f_X9_readButton_92 rfl ?_
    refine rw_const f_X9_readButton_93 ?_
    refine rw_callV f_X9_readButton_94 rfl hW.1 hW.2.1 rfl rfl rfl rfl (rn_kv (m_wrongN hW ok8 nb8 (by decide) (fun W9 fk9 er9 => ?_)))
    exact E97 h7 W9 _ hW er9 (fun X ex px => h2 h7 X _ rfl s8.1.1 ((s8.2.1.tr fk9.ps).tr px) ex)
  rw [if_neg cE] at h1 h2
  have cN : ¬ nI iB = nI iO := fun z => cE (nI_inj (by omega) (by omega) z)
  refine rw_aload f_X9_readButton_70 rfl ?_
  refine rm_getI f_X9_readButton_71 hW ?_
  rw [ok8.f]
  refine rw_ifF f_X9_readButton_74 (by decide) ?_
  refine rw_aload f_X9_readButton_77 rfl ?_
  refine rm_getR f_X9_readButton_78 hW rfl ?_
  refine rw_iload f_X9_readButton_81 rfl ?_
  refine rm_xald f_X9_readButton_82 hW (by exact rfl) rfl (by omega) ?_
  refine rw_aload f_X9_readButton_83 rfl ?_
  refine rm_getR f_X9_readButton_84 hW rfl ?_
  refine rw_iload f_X9_readButton_87 rfl ?_
  refine rm_xald f_X9_readButton_88 hW (by exact rfl) rfl (by omega) ?_
  rw [g8.1, g8.2]
  refine rw_icmpT f_X9_readButton_89 (decide_eq_true cN) ?_
  refine rw_aload f_X9_readButton_97 rfl ?_
  refine rm_getI f_X9_readButton_98 hW ?_
  rw [ok8.f]
  refine rw_ifF f_X9_readButton_101 (by decide) ?_
  refine rw_aload f_X9_readButton_104 rfl ?_
  refine rw_callV f_X9_readButton_105 rfl hW.1 hW.2.1 rfl rfl rfl rfl (rn_kv (m_next hW ok8 nb8 (fun h9 W9 lw9 tk9 ok9 => ?_)))
  skip
  have s9 := s8.tk lw9 tk9
  have g9 : W9 20 n = nI iO ∧ W9 21 n = nI iB := ⟨(tk9.en _ _ (by unfold enp; omega)).trans g8.1, (tk9.en _ _ (by unfold enp; omega)).trans g8.2⟩
  have hW := s9.1.1.mw hW0
  have wD : wc wDOES = 1685022067 := by decide +kernel
  have wN : wc wNEVER = 474148660594 := by decide +kernel
  generalize tkX T N p7 = q9 at ok9 h1 h2
  unfold pMust isV at h1 h2
  rw [wD, wN] at h1 h2
  cases cM : isW T N q9 1685022067 || isW T N q9 474148660594 with
  | false =>
    rw [cM, if_neg (by decide), bnd_r] at h2
    rw [Bool.or_eq_false_iff] at cM
    refine rw_aload f_X9_readButton_108 rfl ?_
    refine rm_getI f_X9_readButton_109 hW ?_
    rw [ok9.f]
    refine rw_ifF f_X9_readButton_112 (by decide) ?_
    refine rw_aload f_X9_readButton_115 rfl ?_
    refine rw_const f_X9_readButton_116 ?_
    refine rw_callV f_X9_readButton_119 rfl hW.1 hW.2.1 rfl rfl rfl rfl (rn_ki (m_isWord hW ok9 ?_))
    rw [cM.1]
    refine rw_ifF f_X9_readButton_122 (by decide) ?_
    refine rw_aload f_X9_readButton_125 rfl ?_
    refine rw_const f_X9_readButton_126 ?_
    refine rw_callV f_X9_readButton_129 rfl hW.1 hW.2.1 rfl rfl rfl rfl (rn_ki (m_isWord hW ok9 ?_))
    rw [cM.2]
    refine rw_ifF f_X9_readButton_132 (by decide) ?_
    refine rw_aload f_X9_readButton_135 rfl ?_
    refine rw_const f_X9_readButton_136 ?_
    refine rw_callV f_X9_readButton_137 rfl hW.1 hW.2.1 rfl rfl rfl rfl (rn_kv (m_wrong2 hW ok9 (fun WA fkA erA => ?_)))
    exact E140 h9 WA _ hW erA (fun X ex px => h2 h9 X _ rfl s9.1.1 ((s9.2.1.tr fkA.ps).tr px) ex)
  | true =>
  rw [cM, if_pos rfl, bnd_l] at h1 h2
  have nb9 : ¬ tkD T N q9 = 4 := fun z => by unfold isW at cM; rw [z] at cM; simp at cM
  have at140 : Rn (d + 5) n_X9_readButton 140 [am_r m, am_i (nI n)] [] (mh h9 m W9) (kV k) → Rn (d + 5) n_X9_readButton 108 [am_r m, am_i (nI n)] [] (mh h9 m W9) (kV k) := by
    intro go
    cases cD : isW T N q9 1685022067 with
    | true =>
      refine rw_aload f_X9_readButton_108 rfl ?_
      refine rm_getI f_X9_readButton_109 hW ?_
      rw [ok9.f]
      refine rw_ifF f_X9_readButton_112 (by decide) ?_
      refine rw_aload f_X9_readButton_115 rfl ?_
      refine rw_const f_X9_readButton_116 ?_
      refine rw_callV f_X9_readButton_119 rfl hW.1 hW.2.1 rfl rfl rfl rfl (rn_ki (m_isWord hW ok9 ?_))
      rw [cD]
      refine rw_ifT f_X9_readButton_122 (by decide) ?_
      exact go
    | false =>
      rw [cD, Bool.false_or] at cM
      refine rw_aload f_X9_readButton_108 rfl ?_
      refine rm_getI f_X9_readButton_109 hW ?_
      rw [ok9.f]
      refine rw_ifF f_X9_readButton_112 (by decide) ?_
      refine rw_aload f_X9_readButton_115 rfl ?_
      refine rw_const f_X9_readButton_116 ?_
      refine rw_callV f_X9_readButton_119 rfl hW.1 hW.2.1 rfl rfl rfl rfl (rn_ki (m_isWord hW ok9 ?_))
      rw [cD]
      refine rw_ifF f_X9_readButton_122 (by decide) ?_
      refine rw_aload f_X9_readButton_125 rfl ?_
      refine rw_const f_X9_readButton_126 ?_
      refine rw_callV f_X9_readButton_129 rfl hW.1 hW.2.1 rfl rfl rfl rfl (rn_ki (m_isWord hW ok9 ?_))
      rw [cM]
      refine rw_ifT f_X9_readButton_132 (by decide) ?_
      exact go
  refine at140 ?_
  clear at140
  have okA : ∀ b, OK h9 m (am_up W9 32 n (bI b)) T N q9 := fun b => ok9.up (by unfold fks tks; omega)
  have sA : ∀ b, St h m V n v.1 _ h9 (am_up W9 32 n (bI b)) := fun b => s9.up (b := 32) (v := bI b) (by unfold psc; omega)
  have gA : ∀ b, am_up W9 32 n (bI b) 20 n = nI iO ∧ am_up W9 32 n (bI b) 21 n = nI iB ∧ am_up W9 32 n (bI b) 32 n = bI b := fun b => ⟨by rw [up_ne (by omega)]; exact g9.1, by rw [up_ne (by omega)]; exact g9.2, up_same⟩
  refine rw_aload f_X9_readButton_140 rfl ?_
  refine rm_getR f_X9_readButton_141 hW rfl ?_
  refine rw_iload f_X9_readButton_144 rfl ?_
  refine rw_aload f_X9_readButton_145 rfl ?_
  refine rw_const f_X9_readButton_146 ?_
  refine rw_callV f_X9_readButton_149 rfl hW.1 hW.2.1 rfl rfl rfl rfl (rn_ki (m_isWord hW ok9 ?_))
  refine rm_zast f_X9_readButton_152 hW (by exact rfl) rfl (by omega) (by first | exact Or.inl rfl | exact Or.inr rfl | exact bI_01 _ | assumption) ?_
  skip
  generalize isW T N q9 1685022067 = bD at h1 h2 ⊢
  replace okA := okA bD
  replace sA := sA bD
  replace gA := gA bD
  generalize am_up W9 32 n (bI bD) = WA at okA sA gA ⊢
  refine rw_aload f_X9_readButton_153 rfl ?_
  refine rm_getI f_X9_readButton_154 hW ?_
  rw [okA.f]
  refine rw_ifF f_X9_readButton_157 (by decide) ?_
  refine rw_aload f_X9_readButton_160 rfl ?_
  refine rw_callV f_X9_readButton_161 rfl hW.1 hW.2.1 rfl rfl rfl rfl (rn_kv (m_next hW okA nb9 (fun hB WB lwB tkB okB => ?_)))
  skip
  have sB := sA.tk lwB tkB
  have tB : ∀ a j, enp a j → WB a j = WA a j := tkB.en
  have gB : WB 20 n = nI iO ∧ WB 21 n = nI iB ∧ WB 32 n = bI bD := ⟨(tB _ _ (by unfold enp; omega)).trans gA.1, (tB _ _ (by unfold enp; omega)).trans gA.2.1, (tB _ _ (by unfold enp; omega)).trans gA.2.2⟩
  have hW := sB.1.1.mw hW0
  generalize tkX T N q9 = qB at okB h1 h2
  -- the deed
  refine rw_aload f_X9_readButton_164 rfl ?_
  refine rm_getR f_X9_readButton_165 hW rfl ?_
  refine rw_iload f_X9_readButton_168 rfl ?_
  refine rw_aload f_X9_readButton_169 rfl ?_
  refine rw_const f_X9_readButton_170 ?_
  refine rw_aload f_X9_readButton_172 rfl ?_
  refine rm_getI f_X9_readButton_173 hW ?_
  skip
  rw [(f0 sB _ (by omega) (by simp)).trans mD]
  refine rw_callV f_X9_readButton_176 rfl hW.1 hW.2.1 rfl rfl rfl rfl (rn_ki (m_oldName (o := 6) hW okB (fN sB).2.1 (by rw [List.length_map]; omega) (fun iD eC lD dC => ?_) (fun WC e9 eC fkC erC => ?_)))
  rotate_left
  · rw [eC, bnd_r] at h2
    exact E179 hB WC _ e9 hW erC (fun X ex px => h2 hB X e9 rfl sB.1.1 ((sB.2.1.tr fkC.ps).tr px) ex)
  rw [eC, bnd_l] at h1 h2
  have okC : OK hB m (am_up WB 22 n (nI iD)) T N qB := okB.up (by unfold fks tks; omega)
  have sC := sB.up (b := 22) (v := nI iD) (by unfold psc; omega)
  have nbC : ¬ tkD T N qB = 4 := fun z => by rw [z] at dC; exact absurd dC (by decide)
  have gC : am_up WB 22 n (nI iD) 20 n = nI iO ∧ am_up WB 22 n (nI iD) 21 n = nI iB ∧ am_up WB 22 n (nI iD) 32 n = bI bD ∧ am_up WB 22 n (nI iD) 22 n = nI iD := ⟨by rw [up_ne (by omega)]; exact gB.1, by rw [up_ne (by omega)]; exact gB.2.1, by rw [up_ne (by omega)]; exact gB.2.2, up_same⟩
  refine rm_iast f_X9_readButton_179 hW (by exact rfl) rfl (by omega) ?_
  skip
  generalize am_up WB 22 n (nI iD) = WC at okC sC gC ⊢
  refine rw_aload f_X9_readButton_180 rfl ?_
  refine rm_getI f_X9_readButton_181 hW ?_
  rw [okC.f]
  refine rw_ifF f_X9_readButton_184 (by decide) ?_
  refine rw_aload f_X9_readButton_187 rfl ?_
  refine rw_callV f_X9_readButton_188 rfl hW.1 hW.2.1 rfl rfl rfl rfl (rn_kv (m_next hW okC nbC (fun hX WX lwX tkX' okX => ?_)))
  skip
  have sX := sC.tk lwX tkX'
  have tX : ∀ a j, enp a j → WX a j = WC a j := tkX'.en
  have gX : WX 20 n = nI iO ∧ WX 21 n = nI iB ∧ WX 32 n = bI bD ∧ WX 22 n = nI iD := ⟨(tX _ _ (by unfold enp; omega)).trans gC.1, (tX _ _ (by unfold enp; omega)).trans gC.2.1, (tX _ _ (by unfold enp; omega)).trans gC.2.2.1, (tX _ _ (by unfold enp; omega)).trans gC.2.2.2⟩
  have hW := sX.1.1.mw hW0
  -- until
  refine rw_aload f_X9_readButton_191 rfl ?_
  refine rm_getR f_X9_readButton_192 hW rfl ?_
  refine rw_iload f_X9_readButton_195 rfl ?_
  refine rw_aload f_X9_readButton_196 rfl ?_
  refine rw_const f_X9_readButton_197 ?_
  refine rw_const f_X9_readButton_200 ?_
  refine rw_const f_X9_readButton_201 ?_
  refine rw_const f_X9_readButton_203 ?_
  skip
  refine rw_callV f_X9_readButton_205 rfl hW.1 hW.2.1 rfl rfl rfl rfl (rn_ki (m_option hW okX (i := wUNTIL) (by decide +kernel) (fun hU WU un eU lwU tkU okU => ?_) (fun hU WU y e9 eU lwU fkU erU => ?_)))
  rotate_left
  · rw [eU, bnd_r] at h2
    exact E208 hU WU y e9 (lwU.mw hW) erU (fun X ex px => h2 hU X e9 rfl (sX.1.1.tr lwU.x) ((sX.2.1.tr fkU.ps).tr px) ex)
  rw [eU, bnd_l] at h1 h2
  have sU := (sX.tk lwU tkU).up (b := 23) (v := un.1) (by unfold psc; omega)
  have okU' : OK hU m (am_up WU 23 n un.1) T N un.2 := okU.up (by unfold fks tks; omega)
  have tU : ∀ a j, enp a j → WU a j = WX a j := tkU.en
  have gU : am_up WU 23 n un.1 20 n = nI iO ∧ am_up WU 23 n un.1 21 n = nI iB ∧ am_up WU 23 n un.1 32 n = bI bD ∧ am_up WU 23 n un.1 22 n = nI iD ∧ am_up WU 23 n un.1 23 n = un.1 := ⟨by rw [up_ne (by omega), tU _ _ (by unfold enp; omega)]; exact gX.1, by rw [up_ne (by omega), tU _ _ (by unfold enp; omega)]; exact gX.2.1, by rw [up_ne (by omega), tU _ _ (by unfold enp; omega)]; exact gX.2.2.1, by rw [up_ne (by omega), tU _ _ (by unfold enp; omega)]; exact gX.2.2.2, up_same⟩
  have hW := sU.1.1.mw hW0
  refine rm_iast f_X9_readButton_208 hW (by exact rfl) rfl (by omega) ?_
  skip
  generalize am_up WU 23 n un.1 = WY at okU' sU gU ⊢
  -- thread
  refine rw_aload f_X9_readButton_209 rfl ?_
  refine rm_getR f_X9_readButton_210 hW rfl ?_
  refine rw_iload f_X9_readButton_213 rfl ?_
  refine rw_aload f_X9_readButton_214 rfl ?_
  refine rw_const f_X9_readButton_215 ?_
  refine rw_const f_X9_readButton_218 ?_
  refine rw_const f_X9_readButton_219 ?_
  refine rw_const f_X9_readButton_221 ?_
  skip
  refine rw_callV f_X9_readButton_223 rfl hW.1 hW.2.1 rfl rfl rfl rfl (rn_ki (m_option hW okU' (i := wTHREAD) (by decide +kernel) (fun hT WT th eT lwT tkT okT => ?_) (fun hT WT y e9 eT lwT fkT erT => ?_)))
  rotate_left
  · rw [eT, bnd_r] at h2
    exact E226 hT WT y e9 (lwT.mw hW) erT (fun X ex px => h2 hT X e9 rfl (sU.1.1.tr lwT.x) ((sU.2.1.tr fkT.ps).tr px) ex)
  rw [eT, bnd_l] at h1 h2
  have sT := ((sU.tk lwT tkT).up (b := 24) (v := th.1) (by unfold psc; omega)).up (b := 25) (v := -1) (by unfold psc; omega)
  have okT' : OK hT m (am_up (am_up WT 24 n th.1) 25 n (-1)) T N th.2 := (okT.up (by unfold fks tks; omega)).up (by unfold fks tks; omega)
  have tT : ∀ a j, enp a j → WT a j = WY a j := tkT.en
  have gT : ∀ a, (a = 20 ∨ a = 21 ∨ a = 22 ∨ a = 23 ∨ a = 32) → am_up (am_up WT 24 n th.1) 25 n (-1) a n = WY a n := fun a ha => by rw [up_ne (by omega), up_ne (by omega)]; exact tT _ _ (by unfold enp; omega)
  have gT2 : am_up (am_up WT 24 n th.1) 25 n (-1) 24 n = th.1 ∧ am_up (am_up WT 24 n th.1) 25 n (-1) 25 n = -1 := ⟨by rw [up_ne (by omega)]; exact up_same, up_same⟩
  have hW := sT.1.1.mw hW0
  refine rm_iast f_X9_readButton_226 hW (by exact rfl) rfl (by omega) ?_
  refine rw_aload f_X9_readButton_227 rfl ?_
  refine rm_getR f_X9_readButton_228 hW rfl ?_
  refine rw_iload f_X9_readButton_231 rfl ?_
  refine rw_const f_X9_readButton_232 ?_
  refine rm_iast f_X9_readButton_233 hW (by exact rfl) rfl (by omega) ?_
  skip
  generalize am_up (am_up WT 24 n th.1) 25 n (-1) = WZ at okT' sT gT gT2 ⊢
  -- the end, if nothing is wrong
  have fin : ∀ hF WF q (af : Int32), Ln m (12 + n) v.1 h hF → Ps V WF → OK hF m WF T N q → (∀ a j, enp a j → ¬ (((20 ≤ a ∧ a ≤ 25) ∨ a = 32) ∧ j = n) → WF a j = V a j) → (∀ a, (a = 20 ∨ a = 21 ∨ a = 22 ∨ a = 23 ∨ a = 32) → WF a n = WY a n) → WF 24 n = th.1 → WF 25 n = af → (∀ W, Ps V W → OK hF m W T N q → EN hF m W ((g.1.1, g.1.2.1, g.1.2.2 ++ [(v.1, iO, iB, iD, bD, un.1, th.1, af)]), g.2) → k (mh hF m W)) → Rn (d + 5) n_X9_readButton 282 [am_r m, am_i (nI n)] [] (mh hF m WF) (kV k) := by
    intro hF WF q af lnF psF okF AF b1 b2 b3 hk
    have hW := lnF.1.mw hW0
    have nm : WF 0 51 = nI n := by rw [AF _ _ (by unfold enp; omega) (by omega)]; exact n3
    refine rw_aload f_X9_readButton_282 rfl ?_
    refine rm_getI f_X9_readButton_283 hW ?_
    rw [okF.f]
    refine rw_ifF f_X9_readButton_286 (by decide) ?_
    refine rw_aload f_X9_readButton_289 rfl ?_
    first | refine rw_dupr f_X9_readButton_290 ?_ | refine rw_dupi f_X9_readButton_290 ?_
    refine rm_getI f_X9_readButton_291 hW ?_
    rw [nm]
    refine rw_const f_X9_readButton_294 ?_
    refine rw_iadd f_X9_readButton_295 ?_
    rw [nI_1']
    refine rm_putI f_X9_readButton_296 hW ?_
    refine rw_vret f_X9_readButton_299 ?_
    refine hk _ (psF.up (by unfold psc; omega)) (okF.up (by unfold fks tks; omega)) (EN_button en0 (by omega) hm hd (by rw [hl]; exact lnF) nw (fun a j z z1 z2 => ?_) ?_ ?_)
    · rw [hl] at z1
      rw [up_ne z2]; exact AF a j z z1
    · rw [hl]; exact up_same
    · rw [hl]
      have u0 : ∀ a j, ¬ a = 0 → am_up WF 0 51 (nI (n + 1)) a j = WF a j := fun a j z => up_ne (fun y => z y.1)
      rw [u0 _ _ (by decide), u0 _ _ (by decide), u0 _ _ (by decide), u0 _ _ (by decide), u0 _ _ (by decide), u0 _ _ (by decide), u0 _ _ (by decide)]
      refine ⟨?_, ?_, ?_, ?_, ?_, b2, b3⟩
      · rw [b1 _ (by omega)]; exact gU.1
      · rw [b1 _ (by omega)]; exact gU.2.1
      · rw [b1 _ (by omega)]; exact gU.2.2.2.1
      · rw [b1 _ (by omega)]; exact gU.2.2.1
      · rw [b1 _ (by omega)]; exact gU.2.2.2.2
  have AZ : ∀ a j, enp a j → ¬ (((20 ≤ a ∧ a ≤ 25) ∨ a = 32) ∧ j = n) → WZ a j = V a j := fun a j z z2 => sT.2.2 a j z (fun y => z2 ⟨by have := y.1; simp only [or_false, false_or] at this; omega, y.2⟩)
  have wA : wc wAFTER = 418330731890 := by decide +kernel
  rw [wA] at h1 h2
  cases cA : isW T N th.2 418330731890 with
  | false =>
    rw [cA, if_neg (by decide)] at h1
    refine rw_aload f_X9_readButton_234 rfl ?_
    refine rm_getI f_X9_readButton_235 hW ?_
    rw [okT'.f]
    refine rw_ifF f_X9_readButton_238 (by decide) ?_
    refine rw_aload f_X9_readButton_241 rfl ?_
    refine rw_const f_X9_readButton_242 ?_
    refine rw_callV f_X9_readButton_245 rfl hW.1 hW.2.1 rfl rfl rfl rfl (rn_ki (m_isWord hW okT' ?_))
    rw [cA]
    refine rw_ifT f_X9_readButton_248 (by decide) ?_
    exact fin hT WZ _ (-1) sT.1 sT.2.1 okT' AZ gT gT2.1 gT2.2 (fun W pw okw enw => h1 hT W _ rfl sT.1.1 pw okw enw)
  | true =>
    rw [cA, if_pos rfl] at h1 h2
    have nbT : ¬ tkD T N th.2 = 4 := fun z => by unfold isW at cA; rw [z] at cA; simp at cA
    refine rw_aload f_X9_readButton_234 rfl ?_
    refine rm_getI f_X9_readButton_235 hW ?_
    rw [okT'.f]
    refine rw_ifF f_X9_readButton_238 (by decide) ?_
    refine rw_aload f_X9_readButton_241 rfl ?_
    refine rw_const f_X9_readButton_242 ?_
    refine rw_callV f_X9_readButton_245 rfl hW.1 hW.2.1 rfl rfl rfl rfl (rn_ki (m_isWord hW okT' ?_))
    rw [cA]
    refine rw_ifF f_X9_readButton_248 (by decide) ?_
    refine rw_aload f_X9_readButton_251 rfl ?_
    refine rw_callV f_X9_readButton_252 rfl hW.1 hW.2.1 rfl rfl rfl rfl (rn_kv (m_next hW okT' nbT (fun hG WG lwG tkG okG => ?_)))
    skip
    have sG := sT.tk lwG tkG
    have hW := sG.1.1.mw hW0
    refine rw_aload f_X9_readButton_255 rfl ?_
    refine rm_getR f_X9_readButton_256 hW rfl ?_
    refine rw_iload f_X9_readButton_259 rfl ?_
    refine rw_aload f_X9_readButton_260 rfl ?_
    refine rw_const f_X9_readButton_261 ?_
    refine rw_aload f_X9_readButton_263 rfl ?_
    refine rm_getI f_X9_readButton_264 hW ?_
    skip
    have mB : V 0 51 = nI (g.1.2.2.map (·.1)).length := n3'
    rw [(f0 sG _ (by omega) (by simp)).trans mB]
    refine rw_callV f_X9_readButton_267 rfl hW.1 hW.2.1 rfl rfl rfl rfl (rn_ki (m_oldName (o := 12) hW okG (fN sG).2.2 (by rw [List.length_map]; omega) (fun iA eG lA dG => ?_) (fun WH e9 eG fkG erG => ?_)))
    rotate_left
    · rw [eG, bnd_r] at h2
      exact E270 hG WH _ e9 hW erG (fun X ex px => h2 hG X e9 rfl sG.1.1 ((sG.2.1.tr fkG.ps).tr px) ex)
    rw [eG, bnd_l] at h1
    have okH : OK hG m (am_up WG 25 n (nI iA)) T N (tkX T N th.2) := okG.up (by unfold fks tks; omega)
    have nbH : ¬ tkD T N (tkX T N th.2) = 4 := fun z => by rw [z] at dG; exact absurd dG (by decide)
    refine rm_iast f_X9_readButton_270 hW (by exact rfl) rfl (by omega) ?_
    refine rw_aload f_X9_readButton_271 rfl ?_
    refine rm_getI f_X9_readButton_272 hW ?_
    rw [okH.f]
    refine rw_ifF f_X9_readButton_275 (by decide) ?_
    refine rw_aload f_X9_readButton_278 rfl ?_
    refine rw_callV f_X9_readButton_279 rfl hW.1 hW.2.1 rfl rfl rfl rfl (rn_kv (m_next hW okH nbH (fun hL WL lwL tkL okL => ?_)))
    skip
    have lnL : Ln m (12 + n) v.1 h hL := sG.1.tr lwL
    refine fin hL WL _ (nI iA) lnL ((sG.2.1.up (by unfold psc; omega)).tr tkL.ps) okL (fun a j z z2 => ?_) (fun a ha => ?_) ?_ ?_ (fun W pw okw enw => h1 hL W _ rfl lnL.1 pw okw enw)
    · rw [tkL.en a j z, up_ne (by omega), tkG.en a j z]; exact AZ a j z z2
    · rw [tkL.en a n (by unfold enp; omega), up_ne (by omega), tkG.en a n (by unfold enp; omega)]; exact gT a ha
    · rw [tkL.en _ _ (by unfold enp; omega), up_ne (by omega), tkG.en _ _ (by unfold enp; omega)]; exact gT2.1
    · rw [tkL.en _ _ (by unfold enp; omega)]; exact up_same
theorem EN_friend (q : EN h m V g) {a b : Nat} {v : Int32} (ha : a < g.1.1.length) (hb : b < g.1.1.length) (hm : g.1.1.length ≤ 6) (hA : ∀ a j, enp a j → ¬ a = 14 → ¬ (a = 0 ∧ j = 52) → W a j = V a j) (w1 : W 0 52 = nI (g.2.1.2 + 1)) (w2 : ∀ j, W 14 j = fup (fup (V 14) (6 * a + b) v) (6 * b + a) v j) (n : hp_L h' (m + 2) = hp_L h (m + 2)) : EN h' m W (g.1, (fup (fup g.2.1.1 (6 * a + b) v) (6 * b + a) v, g.2.1.2 + 1), g.2.2) := by
  obtain ⟨⟨n1, n2, n3, n4⟩, ⟨n5, n6, n7, n8⟩, ⟨n9, n10, n11, n12⟩, ⟨l1, l2, l3⟩, eM, eD, eO, ⟨eF, eG⟩, eW⟩ := q
  have e0 : ∀ j, (j = 3 ∨ j = 17 ∨ j = 20 ∨ (49 ≤ j ∧ j ≤ 51) ∨ (53 ≤ j ∧ j ≤ 55) ∨ (62 ≤ j ∧ j ≤ 65)) → W 0 j = V 0 j := fun j z => hA 0 j (by unfold enp; omega) (by omega) (by omega)
  have er : ∀ a j, (a = 3 ∨ a = 4 ∨ (10 ≤ a ∧ a ≤ 13) ∨ (20 ≤ a ∧ a ≤ 25) ∨ a = 32) → W a j = V a j := fun a j z => hA a j (by unfold enp; omega) (by omega) (by omega)
  refine ⟨⟨?_, ?_, ?_, ?_⟩, ⟨?_, ?_, ?_, ?_⟩, ⟨?_, ?_, ?_, ?_⟩, ⟨l1.fr fun i _ => by rw [n], l2.fr fun i _ => by rw [n], l3.fr fun i _ => by rw [n]⟩, fun i v hv => ?_, fun i v hv => ?_, fun i v hv => ?_, ⟨fun x y hx hy => ?_, fun x y hx hy z => ?_⟩, ?_⟩
  · rw [e0 _ (by omega)]; exact n1
  · rw [e0 _ (by omega)]; exact n2
  · rw [e0 _ (by omega)]; exact n3
  · exact w1
  · rw [e0 _ (by omega)]; exact n5
  · rw [e0 _ (by omega)]; exact n6
  · rw [e0 _ (by omega)]; exact n7
  · rw [e0 _ (by omega)]; exact n8
  · rw [e0 _ (by omega)]; exact n9
  · rw [e0 _ (by omega)]; exact n10
  · rw [e0 _ (by omega)]; exact n11
  · exact ⟨by rw [e0 _ (by omega)]; exact n12.1, by rw [e0 _ (by omega)]; exact n12.2⟩
  · rw [er _ _ (by omega), er _ _ (by omega), er _ _ (by omega)]; exact eM i v hv
  · rw [er _ _ (by omega)]; exact eD i v hv
  · rw [er _ _ (by omega), er _ _ (by omega), er _ _ (by omega), er _ _ (by omega), er _ _ (by omega), er _ _ (by omega), er _ _ (by omega)]; exact eO i v hv
  · rw [w2]
    show fup _ _ _ _ = fup _ _ _ _
    unfold fup
    by_cases c1 : 6 * x + y = 6 * b + a
    · rw [if_pos c1, if_pos c1]
    · rw [if_neg c1, if_neg c1]
      by_cases c2 : 6 * x + y = 6 * a + b
      · rw [if_pos c2, if_pos c2]
      · rw [if_neg c2, if_neg c2]; exact eF x y hx hy
  · show fup (fup _ _ _) _ _ _ = _
    have z' : g.1.1.length ≤ x ∨ g.1.1.length ≤ y := z
    rw [fup_n (by omega), fup_n (by omega)]; exact eG x y hx hy z'
  · show match g.2.2.1.1 with | none => True | some c => _
    revert eW
    cases g.2.2.1.1 with
    | none => exact id
    | some c =>
      intro eW
      refine ⟨by rw [e0 _ (by omega)]; exact eW.1, fun i s hs => ?_⟩
      rw [er _ _ (by omega), er _ _ (by omega)]; exact eW.2 i s hs
theorem bnd_ite {α β : Type} {c : Prop} [Decidable c] {a b : res α} {f : α → res β} : bnd (if c then a else b) f = if c then bnd a f else bnd b f := by split <;> rfl
theorem m_readFriend (hW : MW h m) (ok : OK h m V T N p) (kw : tkD T N p = 1) (en : EN h m V g) (hf : g.2.1.2 < 15) (hm : g.1.1.length ≤ 6) (h1 : ∀ h' W v, pFriend T N g (tkX T N p) = .inl v → Lx m h h' → Ps V W → OK h' m W T N v.2 → EN h' m W v.1 → k (mh h' m W)) (h2 : ∀ h' W e, pFriend T N g (tkX T N p) = .inr e → Lx m h h' → Ps V W → ER W e → k (mh h' m W)) : Rn (d + 5) n_X9_readFriend 0 [am_r m, am_u, am_u, am_u, am_u, am_u] [] (mh h m V) (kV k) := by
  have en0 := en
  obtain ⟨⟨n1, n2, n3, n4⟩, -, -, ⟨l1, l2, l3⟩, -, -, -, ⟨eF, -⟩, -⟩ := en
  have mM : V 0 49 = nI (g.1.1.map (·.1)).length := by rw [List.length_map]; exact n1
  unfold pFriend at h1 h2
  have nb : ¬ tkD T N p = 4 := fun z => by rw [z] at kw; exact absurd kw (by decide)
  have E68 : ∀ h' W (x y : am_V) e, MW h' m → ER W e → k (mh h' m W) → Rn (d + 5) n_X9_readFriend 68 [am_r m, x, y, am_u, am_u, am_u] [] (mh h' m W) (kV k) := by
    intro h' W x y e hW er hk
    refine rw_aload f_X9_readFriend_68 rfl ?_
    refine rm_getI f_X9_readFriend_69 hW ?_
    refine rw_ifT f_X9_readFriend_72 (decide_eq_true er.ne) ?_
    refine rw_aload f_X9_readFriend_79 rfl ?_
    refine rm_getI f_X9_readFriend_80 hW ?_
    refine rw_ifF f_X9_readFriend_83 (decide_eq_false er.nle) ?_
    refine rw_vret f_X9_readFriend_86 ?_
    exact hk
  have E34 : ∀ h' W (x : Int32) (y : Int32) e, MW h' m → ER W e → k (mh h' m W) → Rn (d + 5) n_X9_readFriend 34 [am_r m, am_i x, am_u, am_u, am_u, am_u] [am_i y] (mh h' m W) (kV k) := by
    intro h' W x y e hW er hk
    refine rw_istore f_X9_readFriend_34 rfl rfl ?_
    refine rw_aload f_X9_readFriend_35 rfl ?_
    refine rm_getI f_X9_readFriend_36 hW ?_
    refine rw_ifT f_X9_readFriend_39 (decide_eq_true er.ne) ?_
    exact E68 h' W _ _ e hW er hk
  have hW0 := hW
  refine rw_aload f_X9_readFriend_0 rfl ?_
  refine rw_callV f_X9_readFriend_1 rfl hW.1 hW.2.1 rfl rfl rfl rfl (rn_kv (m_next hW ok nb (fun h3 W3 lw3 tk3 ok3 => ?_)))
  skip
  generalize tkX T N p = q3 at ok3 h1 h2
  have hW := lw3.mw hW
  have nm3 : NM h3 m 0 (g.1.1.map (·.1)) := l1.fr (fun i _ => by rw [lw3.nm])
  refine rw_aload f_X9_readFriend_4 rfl ?_
  refine rw_const f_X9_readFriend_5 ?_
  refine rw_aload f_X9_readFriend_6 rfl ?_
  refine rm_getI f_X9_readFriend_7 hW ?_
  skip
  rw [(tk3 _ _ (by unfold tks; omega)).trans mM]
  refine rw_callV f_X9_readFriend_10 rfl hW.1 hW.2.1 rfl rfl rfl rfl (rn_ki (m_oldName (o := 0) hW ok3 nm3 (by rw [List.length_map]; omega) (fun ia e4 la d4 => ?_) (fun W4 e5 e4 fk4 er4 => ?_)))
  rotate_left
  · rw [e4, bnd_r] at h2
    refine rw_istore f_X9_readFriend_13 rfl rfl ?_
    refine rw_aload f_X9_readFriend_14 rfl ?_
    refine rm_getI f_X9_readFriend_15 hW ?_
    refine rw_ifT f_X9_readFriend_18 (decide_eq_true er4.ne) ?_
    refine rw_aload f_X9_readFriend_25 rfl ?_
    refine rw_const f_X9_readFriend_26 ?_
    refine rw_aload f_X9_readFriend_27 rfl ?_
    refine rm_getI f_X9_readFriend_28 hW ?_
    refine rw_callV f_X9_readFriend_31 rfl hW.1 hW.2.1 rfl rfl rfl rfl (rn_ki (m_oldNameE hW er4 ?_))
    exact E34 h3 W4 _ _ e5 hW er4 (h2 h3 W4 e5 rfl lw3.x (tk3.ps.tr fk4.ps) er4)
  rw [e4, bnd_l] at h1 h2
  have nb3 : ¬ tkD T N q3 = 4 := fun z => by rw [z] at d4; exact absurd d4 (by decide)
  refine rw_istore f_X9_readFriend_13 rfl rfl ?_
  refine rw_aload f_X9_readFriend_14 rfl ?_
  refine rm_getI f_X9_readFriend_15 hW ?_
  rw [ok3.f]
  refine rw_ifF f_X9_readFriend_18 (by decide) ?_
  refine rw_aload f_X9_readFriend_21 rfl ?_
  refine rw_callV f_X9_readFriend_22 rfl hW.1 hW.2.1 rfl rfl rfl rfl (rn_kv (m_next hW ok3 nb3 (fun h5 W5 lw5 tk5 ok5 => ?_)))
  skip
  dsimp only at h1 h2
  generalize tkX T N q3 = q5 at ok5 h1 h2
  have lw5' := lw3.tr lw5
  have tk5' := tk3.tr tk5
  have hW := lw5.mw hW
  have nm5 : NM h5 m 0 (g.1.1.map (·.1)) := l1.fr (fun i _ => by rw [lw5'.nm])
  refine rw_aload f_X9_readFriend_25 rfl ?_
  refine rw_const f_X9_readFriend_26 ?_
  refine rw_aload f_X9_readFriend_27 rfl ?_
  refine rm_getI f_X9_readFriend_28 hW ?_
  skip
  rw [(tk5' _ _ (by unfold tks; omega)).trans mM]
  refine rw_callV f_X9_readFriend_31 rfl hW.1 hW.2.1 rfl rfl rfl rfl (rn_ki (m_oldName (o := 0) hW ok5 nm5 (by rw [List.length_map]; omega) (fun ib e6 lb d6 => ?_) (fun W6 e7 e6 fk6 er6 => ?_)))
  rotate_left
  · rw [e6, bnd_r] at h2
    exact E34 h5 W6 _ _ e7 hW er6 (h2 h5 W6 e7 rfl lw5'.x (tk5'.ps.tr fk6.ps) er6)
  rw [e6, bnd_l] at h1 h2
  dsimp only at h1 h2
  rw [List.length_map] at la lb
  have nb5 : ¬ tkD T N q5 = 4 := fun z => by rw [z] at d6; exact absurd d6 (by decide)
  have bad : (∀ W, Fk W5 W → ER W (3, q5) → k (mh h5 m W)) → Rn (d + 5) n_X9_readFriend 63 [am_r m, am_i (nI ia), am_i (nI ib), am_u, am_u, am_u] [] (mh h5 m W5) (kV k) := by
    intro hk
    refine rw_aload f_X9_readFriend_63 rfl ?_
    refine rw_const f_X9_readFriend_64 ?_
    refine rw_callV f_X9_readFriend_65 rfl hW.1 hW.2.1 rfl rfl rfl rfl (rn_kv (m_wrongN hW ok5 nb5 (by decide) (fun W7 fk7 er7 => ?_)))
    exact E68 h5 W7 _ _ _ hW er7 (hk W7 fk7 er7)
  have en5 : ∀ j, W5 14 j = V 14 j := fun j => tk5' _ _ (by unfold tks; omega)
  have fab : W5 14 (6 * ia + ib) = g.2.1.1 (6 * ia + ib) := (en5 _).trans (eF ia ib la lb)
  by_cases cE : ia = ib
  · rw [if_pos cE] at h2
    refine rw_istore f_X9_readFriend_34 rfl rfl ?_
    refine rw_aload f_X9_readFriend_35 rfl ?_
    refine rm_getI f_X9_readFriend_36 hW ?_
    rw [ok5.f]
    refine rw_ifF f_X9_readFriend_39 (by decide) ?_
    refine rw_iload f_X9_readFriend_42 rfl ?_
    refine rw_iload f_X9_readFriend_43 rfl ?_
    refine rw_icmpT f_X9_readFriend_44 (decide_eq_true (by rw [cE])) ?_
    exact bad (fun W fk er => h2 h5 W _ rfl lw5'.x (tk5'.ps.tr fk.ps) er)
  rw [if_neg cE] at h1 h2
  have cN : ¬ nI ia = nI ib := fun z => cE (nI_inj (by omega) (by omega) z)
  by_cases cF : g.2.1.1 (6 * ia + ib) = -100
  rotate_left
  · rw [if_pos cF] at h2
    refine rw_istore f_X9_readFriend_34 rfl rfl ?_
    refine rw_aload f_X9_readFriend_35 rfl ?_
    refine rm_getI f_X9_readFriend_36 hW ?_
    rw [ok5.f]
    refine rw_ifF f_X9_readFriend_39 (by decide) ?_
    refine rw_iload f_X9_readFriend_42 rfl ?_
    refine rw_iload f_X9_readFriend_43 rfl ?_
    refine rw_icmpF f_X9_readFriend_44 (decide_eq_false cN) ?_
    refine rw_aload f_X9_readFriend_47 rfl ?_
    refine rm_getR f_X9_readFriend_48 hW rfl ?_
    refine rw_const f_X9_readFriend_51 ?_
    refine rw_iload f_X9_readFriend_53 rfl ?_
    refine rw_imul f_X9_readFriend_54 ?_
    refine rw_iload f_X9_readFriend_55 rfl ?_
    refine rw_iadd f_X9_readFriend_56 ?_
    refine rm_xald (j := 6 * ia + ib) f_X9_readFriend_57 hW (by exact rfl) (by first | rfl | exact nI_addl _ _ | (simp only [nI, Int32.ofNat_add, Int32.ofNat_mul]; rfl) | (simp only [nI_addl, nI_mull, nI_lit, nI_1']; done) | (simp only [nI_1, nI_0, nI_addl, nI_mull, ← nI_succ]; rfl)) (by omega) ?_
    rw [fab]
    refine rw_const f_X9_readFriend_58 ?_
    refine rw_icmpF f_X9_readFriend_60 (decide_eq_false cF) ?_
    exact bad (fun W fk er => h2 h5 W _ rfl lw5'.x (tk5'.ps.tr fk.ps) er)
  rw [if_neg (fun z => z cF)] at h1 h2
  refine rw_istore f_X9_readFriend_34 rfl rfl ?_
  refine rw_aload f_X9_readFriend_35 rfl ?_
  refine rm_getI f_X9_readFriend_36 hW ?_
  rw [ok5.f]
  refine rw_ifF f_X9_readFriend_39 (by decide) ?_
  refine rw_iload f_X9_readFriend_42 rfl ?_
  refine rw_iload f_X9_readFriend_43 rfl ?_
  refine rw_icmpF f_X9_readFriend_44 (decide_eq_false cN) ?_
  refine rw_aload f_X9_readFriend_47 rfl ?_
  refine rm_getR f_X9_readFriend_48 hW rfl ?_
  refine rw_const f_X9_readFriend_51 ?_
  refine rw_iload f_X9_readFriend_53 rfl ?_
  refine rw_imul f_X9_readFriend_54 ?_
  refine rw_iload f_X9_readFriend_55 rfl ?_
  refine rw_iadd f_X9_readFriend_56 ?_
  refine rm_xald (j := 6 * ia + ib) f_X9_readFriend_57 hW (by exact rfl) (by first | rfl | exact nI_addl _ _ | (simp only [nI, Int32.ofNat_add, Int32.ofNat_mul]; rfl) | (simp only [nI_addl, nI_mull, nI_lit, nI_1']; done) | (simp only [nI_1, nI_0, nI_addl, nI_mull, ← nI_succ]; rfl)) (by omega) ?_
  rw [fab]
  refine rw_const f_X9_readFriend_58 ?_
  refine rw_icmpT f_X9_readFriend_60 (decide_eq_true cF) ?_
  refine rw_aload f_X9_readFriend_68 rfl ?_
  refine rm_getI f_X9_readFriend_69 hW ?_
  rw [ok5.f]
  refine rw_ifF f_X9_readFriend_72 (by decide) ?_
  refine rw_aload f_X9_readFriend_75 rfl ?_
  refine rw_callV f_X9_readFriend_76 rfl hW.1 hW.2.1 rfl rfl rfl rfl (rn_kv (m_next hW ok5 nb5 (fun h7 W7 lw7 tk7 ok7 => ?_)))
  skip
  generalize tkX T N q5 = q7 at ok7 h1 h2
  have lw7' := lw5'.tr lw7
  have tk7' := tk5'.tr tk7
  have hW := lw7'.mw hW0
  have sg := srt_sg (T := T) (N := N) (p := q7) (c := 45) (by decide)
  -- the number is told
  have fin : ∀ h8 W8 v lv q (z : Int32), (lv = if z = 0 then v else -v) → Lw m h h8 → Tk V W8 → OK h8 m W8 T N q → (∀ W, Ps V W → OK h8 m W T N q → EN h8 m W (g.1, (fup (fup g.2.1.1 (6 * ia + ib) lv) (6 * ib + ia) lv, g.2.1.2 + 1), g.2.2) → k (mh h8 m W)) → Rn (d + 5) n_X9_readFriend 152 [am_r m, am_i (nI ia), am_i (nI ib), am_i (nI q7), am_i z, am_i v] [] (mh h8 m W8) (kV k) := by
    intro h8 W8 v lv q z hv lw8 tk8 ok8 hk
    have hW := lw8.mw hW0
    have f8 : W8 0 52 = nI g.2.1.2 := (tk8 _ _ (by unfold tks; omega)).trans n4
    have done : ∀ X, X = am_up (am_up (am_up W8 14 (6 * ia + ib) lv) 14 (6 * ib + ia) lv) 0 52 (nI (g.2.1.2 + 1)) → k (mh h8 m X) := by
      intro X hX
      rw [hX]
      refine hk _ (((tk8.ps.up (by unfold psc; omega)).up (by unfold psc; omega)).up (by unfold psc; omega)) (((ok8.up (by unfold fks tks; omega)).up (by unfold fks tks; omega)).up (by unfold fks tks; omega)) (EN_friend en0 la lb hm (fun a j y y2 y3 => ?_) up_same (fun j => ?_) lw8.nm)
      · rw [up_ne y3, up_ne (fun y => y2 y.1), up_ne (fun y => y2 y.1)]; exact tk8.en a j y
      · rw [up_ne (by omega), up_at, up_at]
        unfold fup
        rw [tk8 _ _ (by unfold tks; omega)]
    have f9 : am_up (am_up W8 14 (6 * ia + ib) lv) 14 (6 * ib + ia) lv 0 52 = nI g.2.1.2 := by rw [up_ne (by omega), up_ne (by omega)]; exact f8
    by_cases cz : z = 0
    · rw [if_pos cz] at hv
      subst hv
      refine rw_aload f_X9_readFriend_152 rfl ?_
      refine rm_getR f_X9_readFriend_153 hW rfl ?_
      refine rw_const f_X9_readFriend_156 ?_
      refine rw_iload f_X9_readFriend_158 rfl ?_
      refine rw_imul f_X9_readFriend_159 ?_
      refine rw_iload f_X9_readFriend_160 rfl ?_
      refine rw_iadd f_X9_readFriend_161 ?_
      refine rw_iload f_X9_readFriend_162 rfl ?_
      refine rw_ifT f_X9_readFriend_164 (decide_eq_true cz) ?_
      refine rw_iload f_X9_readFriend_173 rfl ?_
      refine rm_iast (j := 6 * ia + ib) f_X9_readFriend_175 hW (by exact rfl) (by first | rfl | exact nI_addl _ _ | (simp only [nI, Int32.ofNat_add, Int32.ofNat_mul]; rfl) | (simp only [nI_addl, nI_mull, nI_lit, nI_1']; done) | (simp only [nI_1, nI_0, nI_addl, nI_mull, ← nI_succ]; rfl)) (by omega) ?_
      refine rw_aload f_X9_readFriend_176 rfl ?_
      refine rm_getR f_X9_readFriend_177 hW rfl ?_
      refine rw_const f_X9_readFriend_180 ?_
      refine rw_iload f_X9_readFriend_182 rfl ?_
      refine rw_imul f_X9_readFriend_183 ?_
      refine rw_iload f_X9_readFriend_184 rfl ?_
      refine rw_iadd f_X9_readFriend_185 ?_
      refine rw_iload f_X9_readFriend_186 rfl ?_
      refine rw_ifT f_X9_readFriend_188 (decide_eq_true cz) ?_
      refine rw_iload f_X9_readFriend_197 rfl ?_
      refine rm_iast (j := 6 * ib + ia) f_X9_readFriend_199 hW (by exact rfl) (by first | rfl | exact nI_addl _ _ | (simp only [nI, Int32.ofNat_add, Int32.ofNat_mul]; rfl) | (simp only [nI_addl, nI_mull, nI_lit, nI_1']; done) | (simp only [nI_1, nI_0, nI_addl, nI_mull, ← nI_succ]; rfl)) (by omega) ?_
      refine rw_aload f_X9_readFriend_200 rfl ?_
      first | refine rw_dupr f_X9_readFriend_201 ?_ | refine rw_dupi f_X9_readFriend_201 ?_
      refine rm_getI f_X9_readFriend_202 hW ?_
      rw [f9]
      refine rw_const f_X9_readFriend_205 ?_
      refine rw_iadd f_X9_readFriend_206 ?_
      rw [nI_1']
      refine rm_putI f_X9_readFriend_207 hW ?_
      refine rw_vret f_X9_readFriend_210 ?_
      exact done _ rfl
    · rw [if_neg cz] at hv
      subst hv
      refine rw_aload f_X9_readFriend_152 rfl ?_
      refine rm_getR f_X9_readFriend_153 hW rfl ?_
      refine rw_const f_X9_readFriend_156 ?_
      refine rw_iload f_X9_readFriend_158 rfl ?_
      refine rw_imul f_X9_readFriend_159 ?_
      refine rw_iload f_X9_readFriend_160 rfl ?_
      refine rw_iadd f_X9_readFriend_161 ?_
      refine rw_iload f_X9_readFriend_162 rfl ?_
      refine rw_ifF f_X9_readFriend_164 (decide_eq_false cz) ?_
      refine rw_iload f_X9_readFriend_167 rfl ?_
      refine rw_un f_X9_readFriend_169 ?_
      refine rw_goto f_X9_readFriend_170 ?_
      refine rm_iast (j := 6 * ia + ib) f_X9_readFriend_175 hW (by exact rfl) (by first | rfl | exact nI_addl _ _ | (simp only [nI, Int32.ofNat_add, Int32.ofNat_mul]; rfl) | (simp only [nI_addl, nI_mull, nI_lit, nI_1']; done) | (simp only [nI_1, nI_0, nI_addl, nI_mull, ← nI_succ]; rfl)) (by omega) ?_
      refine rw_aload f_X9_readFriend_176 rfl ?_
      refine rm_getR f_X9_readFriend_177 hW rfl ?_
      refine rw_const f_X9_readFriend_180 ?_
      refine rw_iload f_X9_readFriend_182 rfl ?_
      refine rw_imul f_X9_readFriend_183 ?_
      refine rw_iload f_X9_readFriend_184 rfl ?_
      refine rw_iadd f_X9_readFriend_185 ?_
      refine rw_iload f_X9_readFriend_186 rfl ?_
      refine rw_ifF f_X9_readFriend_188 (decide_eq_false cz) ?_
      refine rw_iload f_X9_readFriend_191 rfl ?_
      refine rw_un f_X9_readFriend_193 ?_
      refine rw_goto f_X9_readFriend_194 ?_
      refine rm_iast (j := 6 * ib + ia) f_X9_readFriend_199 hW (by exact rfl) (by first | rfl | exact nI_addl _ _ | (simp only [nI, Int32.ofNat_add, Int32.ofNat_mul]; rfl) | (simp only [nI_addl, nI_mull, nI_lit, nI_1']; done) | (simp only [nI_1, nI_0, nI_addl, nI_mull, ← nI_succ]; rfl)) (by omega) ?_
      refine rw_aload f_X9_readFriend_200 rfl ?_
      first | refine rw_dupr f_X9_readFriend_201 ?_ | refine rw_dupi f_X9_readFriend_201 ?_
      refine rm_getI f_X9_readFriend_202 hW ?_
      rw [f9]
      refine rw_const f_X9_readFriend_205 ?_
      refine rw_iadd f_X9_readFriend_206 ?_
      rw [nI_1']
      refine rm_putI f_X9_readFriend_207 hW ?_
      refine rw_vret f_X9_readFriend_210 ?_
      exact done _ rfl
  unfold pSigned at h1 h2
  cases cs : isSH T N q7 45 with
  | true =>
    rw [cs, if_pos rfl] at h1 h2
    have nb7 : ¬ tkD T N q7 = 4 := fun z => by unfold isSH at cs; rw [z] at cs; simp at cs
    refine rw_aload f_X9_readFriend_79 rfl ?_
    refine rm_getI f_X9_readFriend_80 hW ?_
    rw [ok7.f]
    refine rw_ifT f_X9_readFriend_83 (by decide) ?_
    refine rw_aload f_X9_readFriend_87 rfl ?_
    refine rm_getI f_X9_readFriend_88 hW ?_
    rw [ok7.pl]
    refine rw_istore f_X9_readFriend_91 rfl rfl ?_
    refine rw_aload f_X9_readFriend_92 rfl ?_
    refine rm_getI f_X9_readFriend_93 hW ?_
    rw [ok7.s]
    refine rw_const f_X9_readFriend_96 ?_
    refine rw_icmpF f_X9_readFriend_98 (decide_eq_false (fun z => z (sg.mpr cs))) ?_
    refine rw_const f_X9_readFriend_101 ?_
    refine rw_goto f_X9_readFriend_102 ?_
    refine rw_istore f_X9_readFriend_106 rfl rfl ?_
    refine rw_iload f_X9_readFriend_108 rfl ?_
    refine rw_ifF f_X9_readFriend_110 (by decide) ?_
    refine rw_aload f_X9_readFriend_113 rfl ?_
    refine rw_callV f_X9_readFriend_114 rfl hW.1 hW.2.1 rfl rfl rfl rfl (rn_kv (m_next hW ok7 nb7 (fun h8 W8 lw8 tk8 ok8 => ?_)))
    skip
    generalize tkX T N q7 = q8 at ok8 h1 h2
    have lw8' := lw7'.tr lw8
    have tk8' := tk7'.tr tk8
    have hW := lw8'.mw hW0
    refine rw_aload f_X9_readFriend_117 rfl ?_
    refine rw_const f_X9_readFriend_118 ?_
    refine rw_const f_X9_readFriend_119 ?_
    skip
    refine rw_callV f_X9_readFriend_121 rfl hW.1 hW.2.1 rfl rfl rfl rfl (rn_ki (m_toldNumber hW ok8 (fun h9 W9 v e9 lw9 tk9 ok9 => ?_) (fun W9 y e10 e9 fk9 er9 => ?_)))
    · unfold pNum at e9
      by_cases c2 : tkD T N q8 = 2
      · rw [if_neg (fun z => z c2)] at e9 h1
        rw [if_neg (Int32.not_lt.mpr (tkN_nn c2))] at e9
        by_cases c3 : 9 < tkN T N q8
        · rw [if_pos c3] at e9; cases e9
        · rw [if_neg c3] at e9 h1
          cases e9
          rw [bnd_l] at h1
          have hW := (lw8'.tr lw9).mw hW0
          refine rw_istore f_X9_readFriend_124 rfl rfl ?_
          refine rw_aload f_X9_readFriend_126 rfl ?_
          refine rm_getI f_X9_readFriend_127 hW ?_
          rw [ok9.f]
          refine rw_const f_X9_readFriend_130 ?_
          refine rw_icmpT f_X9_readFriend_131 (by decide) ?_
          refine rw_aload f_X9_readFriend_144 rfl ?_
          refine rm_getI f_X9_readFriend_145 hW ?_
          rw [ok9.f]
          refine rw_ifT f_X9_readFriend_148 (by decide) ?_
          exact fin h9 W9 _ _ _ 1 (by rw [if_neg (by decide)]) (lw8'.tr lw9) (tk8'.tr tk9) ok9 (fun W pw okw enw => h1 h9 W _ rfl (lw8'.tr lw9).x pw okw enw)
      · rw [if_pos c2] at e9; cases e9
    · unfold pNum at e9
      have er4 : W9 0 2 = 4 → ER (am_up W9 0 3 (nI q7)) (4, q7) := fun z => ⟨by rw [up_ne (by decide)]; exact z, (by decide : (0 : Int32) < 4), up_same⟩
      have es : ∀ e', (W9 0 2 = 4 → e' = (4, q7)) → (¬ W9 0 2 = 4 → e' = e10) → (∀ W, Ps V W → ER W e' → k (mh h8 m W)) → Rn (d + 5) n_X9_readFriend 124 [am_r m, am_i (nI ia), am_i (nI ib), am_i (nI q7), am_i 1, am_u] [am_i y] (mh h8 m W9) (kV k) := by
        intro e' t1 t2 hk
        by_cases c4 : W9 0 2 = 4
        · have := t1 c4
          subst this
          have er5 := er4 c4
          refine rw_istore f_X9_readFriend_124 rfl rfl ?_
          refine rw_aload f_X9_readFriend_126 rfl ?_
          refine rm_getI f_X9_readFriend_127 hW ?_
          refine rw_const f_X9_readFriend_130 ?_
          refine rw_icmpF f_X9_readFriend_131 (decide_eq_false (fun z => z c4)) ?_
          refine rw_iload f_X9_readFriend_134 rfl ?_
          refine rw_ifF f_X9_readFriend_136 (by decide) ?_
          refine rw_aload f_X9_readFriend_139 rfl ?_
          refine rw_iload f_X9_readFriend_140 rfl ?_
          refine rm_putI f_X9_readFriend_141 hW ?_
          refine rw_aload f_X9_readFriend_144 rfl ?_
          refine rm_getI f_X9_readFriend_145 hW ?_
          refine rw_ifF f_X9_readFriend_148 (decide_eq_false er5.nle) ?_
          refine rw_vret f_X9_readFriend_151 ?_
          exact hk _ ((tk8'.ps.tr fk9.ps).up (by unfold psc; omega)) er5
        · have := t2 c4
          subst this
          refine rw_istore f_X9_readFriend_124 rfl rfl ?_
          refine rw_aload f_X9_readFriend_126 rfl ?_
          refine rm_getI f_X9_readFriend_127 hW ?_
          refine rw_const f_X9_readFriend_130 ?_
          refine rw_icmpT f_X9_readFriend_131 (decide_eq_true c4) ?_
          refine rw_aload f_X9_readFriend_144 rfl ?_
          refine rm_getI f_X9_readFriend_145 hW ?_
          refine rw_ifF f_X9_readFriend_148 (decide_eq_false er9.nle) ?_
          refine rw_vret f_X9_readFriend_151 ?_
          exact hk _ (tk8'.ps.tr fk9.ps) er9
      by_cases c2 : tkD T N q8 = 2
      · rw [if_neg (fun z => z c2)] at e9 h2
        rw [if_neg (Int32.not_lt.mpr (tkN_nn c2))] at e9
        by_cases c3 : 9 < tkN T N q8
        · rw [if_pos c3] at e9 h2
          cases e9
          rw [bnd_r] at h2
          exact es (4, q7) (fun _ => rfl) (fun z => absurd er9.1 z) (fun W pw er => h2 h8 W _ rfl lw8'.x pw er)
        · rw [if_neg c3] at e9; cases e9
      · rw [if_pos c2] at e9 h2
        cases e9
        rw [bnd_r] at h2
        have n4' : ¬ W9 0 2 = 4 := fun z => by
          have := er9.1
          rw [z] at this
          unfold err1 at this
          dsimp only at this
          split at this <;> exact absurd this (by decide)
        exact es (err1 T N q8) (fun z => absurd z n4') (fun _ => rfl) (fun W pw er => h2 h8 W _ rfl lw8'.x pw er)
  | false =>
    rw [cs, if_neg (by decide)] at h1 h2
    refine rw_aload f_X9_readFriend_79 rfl ?_
    refine rm_getI f_X9_readFriend_80 hW ?_
    rw [ok7.f]
    refine rw_ifT f_X9_readFriend_83 (by decide) ?_
    refine rw_aload f_X9_readFriend_87 rfl ?_
    refine rm_getI f_X9_readFriend_88 hW ?_
    rw [ok7.pl]
    refine rw_istore f_X9_readFriend_91 rfl rfl ?_
    refine rw_aload f_X9_readFriend_92 rfl ?_
    refine rm_getI f_X9_readFriend_93 hW ?_
    rw [ok7.s]
    refine rw_const f_X9_readFriend_96 ?_
    refine rw_icmpT f_X9_readFriend_98 (decide_eq_true (fun z => by rw [sg.mp z] at cs; cases cs)) ?_
    refine rw_const f_X9_readFriend_105 ?_
    refine rw_istore f_X9_readFriend_106 rfl rfl ?_
    refine rw_iload f_X9_readFriend_108 rfl ?_
    refine rw_ifT f_X9_readFriend_110 (by decide) ?_
    refine rw_aload f_X9_readFriend_117 rfl ?_
    refine rw_const f_X9_readFriend_118 ?_
    refine rw_const f_X9_readFriend_119 ?_
    skip
    refine rw_callV f_X9_readFriend_121 rfl hW.1 hW.2.1 rfl rfl rfl rfl (rn_ki (m_toldNumber hW ok7 (fun h9 W9 v e9 lw9 tk9 ok9 => ?_) (fun W9 y e10 e9 fk9 er9 => ?_)))
    · unfold pNum at e9
      by_cases c2 : tkD T N q7 = 2
      · rw [if_neg (fun z => z c2)] at e9 h1
        rw [if_neg (Int32.not_lt.mpr (tkN_nn c2))] at e9
        by_cases c3 : 9 < tkN T N q7
        · rw [if_pos c3] at e9; cases e9
        · rw [if_neg c3] at e9 h1
          cases e9
          rw [bnd_l] at h1
          have hW := (lw7'.tr lw9).mw hW0
          refine rw_istore f_X9_readFriend_124 rfl rfl ?_
          refine rw_aload f_X9_readFriend_126 rfl ?_
          refine rm_getI f_X9_readFriend_127 hW ?_
          rw [ok9.f]
          refine rw_const f_X9_readFriend_130 ?_
          refine rw_icmpT f_X9_readFriend_131 (by decide) ?_
          refine rw_aload f_X9_readFriend_144 rfl ?_
          refine rm_getI f_X9_readFriend_145 hW ?_
          rw [ok9.f]
          refine rw_ifT f_X9_readFriend_148 (by decide) ?_
          exact fin h9 W9 _ _ _ 0 (by rw [if_pos rfl]) (lw7'.tr lw9) (tk7'.tr tk9) ok9 (fun W pw okw enw => h1 h9 W _ rfl (lw7'.tr lw9).x pw okw enw)
      · rw [if_pos c2] at e9; cases e9
    · unfold pNum at e9
      have es : (∀ W, Ps V W → ER W e10 → k (mh h7 m W)) → Rn (d + 5) n_X9_readFriend 124 [am_r m, am_i (nI ia), am_i (nI ib), am_i (nI q7), am_i 0, am_u] [am_i y] (mh h7 m W9) (kV k) := by
        intro hk
        by_cases c4 : W9 0 2 = 4
        · refine rw_istore f_X9_readFriend_124 rfl rfl ?_
          refine rw_aload f_X9_readFriend_126 rfl ?_
          refine rm_getI f_X9_readFriend_127 hW ?_
          refine rw_const f_X9_readFriend_130 ?_
          refine rw_icmpF f_X9_readFriend_131 (decide_eq_false (fun z => z c4)) ?_
          refine rw_iload f_X9_readFriend_134 rfl ?_
          refine rw_ifT f_X9_readFriend_136 (by decide) ?_
          refine rw_aload f_X9_readFriend_144 rfl ?_
          refine rm_getI f_X9_readFriend_145 hW ?_
          refine rw_ifF f_X9_readFriend_148 (decide_eq_false er9.nle) ?_
          refine rw_vret f_X9_readFriend_151 ?_
          exact hk _ (tk7'.ps.tr fk9.ps) er9
        · refine rw_istore f_X9_readFriend_124 rfl rfl ?_
          refine rw_aload f_X9_readFriend_126 rfl ?_
          refine rm_getI f_X9_readFriend_127 hW ?_
          refine rw_const f_X9_readFriend_130 ?_
          refine rw_icmpT f_X9_readFriend_131 (decide_eq_true c4) ?_
          refine rw_aload f_X9_readFriend_144 rfl ?_
          refine rm_getI f_X9_readFriend_145 hW ?_
          refine rw_ifF f_X9_readFriend_148 (decide_eq_false er9.nle) ?_
          refine rw_vret f_X9_readFriend_151 ?_
          exact hk _ (tk7'.ps.tr fk9.ps) er9
      by_cases c2 : tkD T N q7 = 2
      · rw [if_neg (fun z => z c2)] at e9 h2
        rw [if_neg (Int32.not_lt.mpr (tkN_nn c2))] at e9
        by_cases c3 : 9 < tkN T N q7
        · rw [if_pos c3] at e9 h2
          cases e9
          rw [bnd_r] at h2
          exact es (fun W pw er => h2 h7 W _ rfl lw7'.x pw er)
        · rw [if_neg c3] at e9; cases e9
      · rw [if_pos c2] at e9 h2
        cases e9
        rw [bnd_r] at h2
        exact es (fun W pw er => h2 h7 W _ rfl lw7'.x pw er)
end MButton
