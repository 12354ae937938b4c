/-! THE CLASS: lines of friends, of buttons -/
section CFri
variable {d : Nat} {h h' : am_H} {R F tp N : Nat} {T : tx} {g : rgT}
/-- the ints of a regiment -/
def RgI (h : am_H) (R : Nat) (g : rgT) : Prop := hp_I h (R + 1) 5 = nI g.2.1.2 ∧ hp_I h (R + 1) 6 = nI g.2.2.1.2 ∧ hp_I h (R + 1) 7 = g.2.2.2.1.getD 8 ∧ hp_I h (R + 1) 8 = g.2.2.2.2.1.getD 0 ∧ hp_I h (R + 1) 9 = g.2.2.2.2.2.getD 0 ∧ hp_I h (R + 1) 10 = bI g.2.2.2.1.isSome ∧ hp_I h (R + 1) 11 = bI g.2.2.2.2.1.isSome ∧ hp_I h (R + 1) 12 = bI g.2.2.2.2.2.isSome
/-- ints of a regiment are written -/
theorem Rg_I {g' : rgT} (al : Al h) (q : Rg h R g) (fr : Fr (fun b => b = R + 1 ∨ b = R + 5) no 0 0 h h') (e1 : g'.1 = g.1) (e2 : g'.2.2.1.1 = g.2.2.1.1) (lk : ∀ j, j < 36 → hp_I h' (R + 5) j = g'.2.1.1 j) (is' : RgI h' R g') : Rg h' R g' := by
  obtain ⟨⟨k1, k2, k3, k4, k5, k6⟩, ⟨lM, lD, lO⟩, sp, ⟨b1, b2, b3⟩, is, w⟩ := q
  have l1 := Al_lt al k1 (by decide)
  have l5 := Al_lt al b1 (by decide)
  have l6 := Al_lt al b3 (by decide)
  have eR : hp_R h' (R + 1) = hp_R h (R + 1) := fr.R l1 (fun w => w)
  have hi2 : ∀ b, (b = R + 1 ∨ b = R + 5) → ¬ (112 ≤ (hp_K h b).1 ∧ (hp_K h b).1 ≤ 116) := fun b w => by
    rcases w with z | z
    · rw [z, k1]; decide
    · rw [z, b1]; decide
  have zM := LI_fr gMan al lM fr (by omega) (fun w => w) (fun z => z.1) (fun w => w) hi2
  have zD := LI_fr gDeed al lD fr (by omega) (fun w => w) (fun z => z.1) (fun w => w) hi2
  have zO := LI_fr gOath al lO fr (by omega) (fun w => w) (fun z => z.1) (fun w => w) hi2
  unfold Rg
  rw [eR, fr.K l1, fr.K l5, fr.K l6, e1, e2]
  refine ⟨⟨k1, k2, k3, k4, k5, k6⟩, ⟨zM.1, zD.1, zO.1⟩, ?_, ⟨b1, lk, b3⟩, is', ?_⟩
  · have ee : ∀ i, i < 3 → arr h' (R + 2 + i) = arr h (R + 2 + i) ∧ lcap h' (R + 2 + i) = lcap h (R + 2 + i) := by
      intro i hi
      rcases (by omega : i = 0 ∨ i = 1 ∨ i = 2) with e | e | e <;> rw [e]
      · exact zM.2
      · exact zD.2
      · exact zO.2
    intro i hi hc
    rw [(ee i hi).2] at hc
    obtain ⟨p1, p2⟩ := sp i hi hc
    refine ⟨by rw [(ee i hi).1]; exact p1, fun j hj e => p2 j hj ?_⟩
    rw [(ee i hi).1, (ee j hj).1] at e; exact e
  · revert w
    cases g.2.2.1.1 with
    | none => exact id
    | some c => exact fun w => ⟨w.1, Tree_fr al fr (fun b w q => by
        rcases w with z | z
        · rw [z, k1] at q; dsimp only at q; omega
        · rw [z, b1] at q; dsimp only at q; omega) (fun b w => absurd w id) _ _ _ w.2⟩
theorem RS_I {g' : rgT} (hS : RS h R F tp N T g) (fr : Fr (fun b => b = R + 1 ∨ b = R + 5) no 0 0 h h') (e1 : g'.1 = g.1) (e2 : g'.2.2.1.1 = g.2.2.1.1) (lk : ∀ j, j < 36 → hp_I h' (R + 5) j = g'.2.1.1 j) (is' : RgI h' R g') : RS h' R F tp N T g' := by
  have al := hS.1.2.2.2.2.2.2
  refine ⟨hS.1.fr fr (fun b w => ?_) (fun b w => absurd w id) ?_, Rg_I al hS.2.1 fr e1 e2 lk is', hS.2.2⟩
  · rcases w with z | z
    · rw [z, hS.2.1.1.1]; decide
    · rw [z, hS.2.1.2.2.2.1.1]; decide
  · rw [fr.I (Al_lt al hS.1.1.1 (by decide)) (by omega)]
theorem RSt.rs (st : RSt R F h h') (q : RS h R F tp N T g) : RS h' R F tp N T g := by
  have kk : ∀ b, rS R F b → (hp_K h b).1 = 110 ∨ (hp_K h b).1 = 103 := by
    intro b w
    rcases w with e | e
    · rw [e, q.1.1.1]; exact Or.inl rfl
    · rw [e, q.1.2.2.1]; exact Or.inr rfl
  exact ⟨st.pw q.1, q.2.1.fr q.1.2.2.2.2.2.2 st.1.fr kk (fun b w => w), q.2.2⟩
theorem RT.fr {WI WR : Nat → Prop} {c s p : Nat} (q : RT h R N T p) (lR : R < hp_n h) (fr : Fr WI WR c s h h') (hw : ¬ WI R) : RT h' R N T p := by
  unfold RT
  rw [fr.I lR hw, fr.L lR hw]
  exact q
theorem GF_st {h1 h2 : am_H} {c s : Nat} (p : GF R F c s h h1) (q : RSt R F h1 h2) : GF R F c s h h2 := Fr_tr p q.1.fr (fun _ _ w => w) (fun _ _ w => w) (fun b _ w => by
    rcases w with e | e
    · exact Or.inr (by omega)
    · exact Or.inl e) (fun _ _ w => absurd w id) (by omega) (by omega)
theorem Fr_fri {i j : Nat} {v w : Int32} : Fr (fun b => b = R + 1 ∨ b = R + 5) no 0 0 h (hp_sI (hp_sI (hp_sI h (R + 5) i v) (R + 5) j v) (R + 1) 5 w) := Fr_I (fun b hb z => funext fun m => by
  show hp_I (hp_sI (hp_sI (hp_sI h (R + 5) i v) (R + 5) j v) (R + 1) 5 w) b m = _
  rw [sI_ne (fun q => z (Or.inl q.1)), sI_ne (fun q => z (Or.inr q.1)), sI_ne (fun q => z (Or.inr q.1))])
theorem RgI_fri {i j : Nat} {v w : Int32} {f' : Nat → Int32} (q : RgI h R g) (e : w = nI (g.2.1.2 + 1)) : RgI (hp_sI (hp_sI (hp_sI h (R + 5) i v) (R + 5) j v) (R + 1) 5 w) R (g.1, (f', g.2.1.2 + 1), g.2.2) := by
  obtain ⟨i5, i6, i7, i8, i9, i10, i11, i12⟩ := q
  have n5 : ∀ m k : Nat, ¬ (R + 1 = R + 5 ∧ m = k) := fun m k z => absurd z.1 (by omega)
  exact ⟨by rw [sI_same, e], by rw [sI_ne (by simp), sI_ne (n5 _ _), sI_ne (n5 _ _)]; exact i6, by rw [sI_ne (by simp), sI_ne (n5 _ _), sI_ne (n5 _ _)]; exact i7, by rw [sI_ne (by simp), sI_ne (n5 _ _), sI_ne (n5 _ _)]; exact i8, by rw [sI_ne (by simp), sI_ne (n5 _ _), sI_ne (n5 _ _)]; exact i9, by rw [sI_ne (by simp), sI_ne (n5 _ _), sI_ne (n5 _ _)]; exact i10, by rw [sI_ne (by simp), sI_ne (n5 _ _), sI_ne (n5 _ _)]; exact i11, by rw [sI_ne (by simp), sI_ne (n5 _ _), sI_ne (n5 _ _)]; exact i12⟩
theorem C_likesRg {r L a b : Nat} {v : Int32} (rK : hp_K h r = (101, 0)) (r3 : hp_R h r 3 = L) (lK : hp_K h L = (1, 36)) (ha : a < 6) (hb : b < 6) (e : hp_I h L (6 * a + b) = v) {k : Int32 → am_H → Prop} (hk : k v h) : Rn d n_X1_likesOf 0 [am_r r, am_i (nI a), am_i (nI b)] [] h (kI k) := by
  refine rw_aload f_X1_likesOf_0 rfl ?_
  refine rw_getR f_X1_likesOf_1 (by assumption) (by first | assumption | rfl) ?_
  refine rw_const f_X1_likesOf_4 ?_
  refine rw_iload f_X1_likesOf_6 rfl ?_
  refine rw_imul f_X1_likesOf_7 ?_
  refine rw_iload f_X1_likesOf_8 rfl ?_
  refine rw_iadd f_X1_likesOf_9 ?_
  refine rw_xaldE (j := (6 * a + b)) f_X1_likesOf_10 (by assumption) (by first | rfl | exact nI_addl _ _ | (simp only [nI, Int32.ofNat_add, Int32.ofNat_mul]; rfl) | (simp only [nI_addl, nI_mull, nI_lit, nI_1']; done) | (simp only [nI_1, nI_0, nI_addl, nI_mull, ← nI_succ]; rfl)) (by omega) (by omega) ?_
  rw [e]
  refine rw_iret f_X1_likesOf_11 ?_
  exact hk
theorem C_friend (hS : RS h R F tp N T g) {p : Nat} (hT : RT h R N T p) (hn : g.1.1.length ≤ 6) {k : am_H → Prop} {xk : Nat → am_H → Prop} (hok : ∀ v h', pFriend T N g p = .inl v → RS h' R F tp N T v.1 → GF R F 2 110 h h' → RT h' R N T v.2 → k h') (herr : ∀ e h', pFriend T N g p = .inr e → GF R F 1 10 h h' → Flt h' F e → xk F h') : Rn (d + 8) n_X10_friend 0 [am_r R, am_u, am_u, am_u, am_u] [] h (kX (kV k) xk) := by
  have rK := hS.1.1.1
  have rz := hS.1.1.2.1
  have r3 := hS.1.2.2.2.2.1
  have gK := hS.2.1.1.1
  have g0 := hS.2.1.1.2.1
  have gz : ¬ R + 1 = 0 := by omega
  have fin : pFriend T N g p = bnd (pKnown T N (g.1.1.map (·.1)) p) _ := rfl
  refine rw_aload f_X10_friend_0 rfl ?_
  refine rw_aload f_X10_friend_1 rfl ?_
  refine rw_getR f_X10_friend_2 (by assumption) (by first | assumption | rfl) ?_
  refine rw_getR f_X10_friend_5 (by assumption) (by first | assumption | rfl) ?_
  refine rw_callV f_X10_friend_8 rfl (by assumption) (by first | assumption | omega) rfl rfl rfl rfl (rn_kx rfl rn_hi (C_known hS.1 hT (PMan_nl hS.2.1.2.1.1) (fun a h1 e1 la s1 t1 => ?_) (fun er h1 e1 s1 f1 => herr er h1 (by rw [fin, e1]; rfl) s1.gf f1)))
  have hS1 := s1.rs hS
  have rK1 := hS1.1.1.1
  have r31 := hS1.1.2.2.2.2.1
  have gK1 := hS1.2.1.1.1
  have g01 := hS1.2.1.1.2.1
  rw [fin, e1, bnd_l] at hok herr
  rw [List.length_map] at la
  refine rw_istore f_X10_friend_11 rfl rfl ?_
  refine rw_aload f_X10_friend_12 rfl ?_
  refine rw_getI f_X10_friend_13 (by assumption) ?_
  rw [t1.2.1]
  refine rw_istore f_X10_friend_16 rfl rfl ?_
  refine rw_aload f_X10_friend_17 rfl ?_
  refine rw_aload f_X10_friend_18 rfl ?_
  refine rw_getR f_X10_friend_19 (by assumption) (by first | assumption | rfl) ?_
  refine rw_getR f_X10_friend_22 (by assumption) (by first | assumption | rfl) ?_
  refine rw_callV f_X10_friend_25 rfl (by assumption) (by first | assumption | omega) rfl rfl rfl rfl (rn_kx rfl rn_hi (C_known hS1.1 t1 (PMan_nl hS1.2.1.2.1.1) (fun b h2 e2 lb s2 t2 => ?_) (fun er h2 e2 s2 f2 => herr er h2 (by rw [e2]; rfl) (s1.tr s2).gf f2)))
  have hS2 := s2.rs hS1
  have rK2 := hS2.1.1.1
  have r22 := hS2.1.2.1
  have fK2 := hS2.1.2.2.1
  have fz2 := hS2.1.2.2.2.1
  have r32 := hS2.1.2.2.2.2.1
  have gK2 := hS2.2.1.1.1
  have g32 := hS2.2.1.1.2.2.2.2.1
  have lK2 := hS2.2.1.2.2.2.1.1
  have st2 := s1.tr s2
  rw [e2, bnd_l] at hok herr
  rw [List.length_map] at lb
  have fl : ∀ (z : (a.1 = b.1 ∨ ¬ g.2.1.1 (6 * a.1 + b.1) = -100)), xk F (hp_sI (hp_sI h2 F 0 3) F 1 (nI a.2)) := fun z => herr (3, a.2) _ (by rcases Classical.em (a.1 = b.1) with c | c; (rw [if_pos c]); (rw [if_neg c, if_pos (z.resolve_left c)])) (GF_st st2.gf (st_by hS2.1)) (Flt_by F (3, a.2))
  have fK3 : hp_K (hp_sI (hp_sI h2 F 0 3) F 1 (nI a.2)) F = (103, 0) := fK2
  refine rw_istore f_X10_friend_28 rfl rfl ?_
  refine rw_iload f_X10_friend_29 rfl ?_
  refine rw_iload f_X10_friend_30 rfl ?_
  refine rw_eq f_X10_friend_31 (fun c1 => ?_) (fun c1 => ?_)
  · refine rw_aload f_X10_friend_48 rfl ?_
    refine rw_getR f_X10_friend_49 (by assumption) (by first | assumption | rfl) ?_
    refine rw_const f_X10_friend_52 ?_
    refine rw_iload f_X10_friend_53 rfl ?_
    refine rw_callV f_X10_friend_54 rfl (by assumption) (by first | assumption | omega) rfl rfl rfl rfl (rn_kr (C_by fK2 ?_))
    refine rx_throw f_X10_friend_57 rfl (by assumption) ?_
    first | exact fl (Or.inl ((nI_eq (by omega) (by omega)).mp c1)) | exact fl (Or.inr c2)
  · refine rw_aload f_X10_friend_34 rfl ?_
    refine rw_getR f_X10_friend_35 (by assumption) (by first | assumption | rfl) ?_
    refine rw_iload f_X10_friend_38 rfl ?_
    refine rw_iload f_X10_friend_39 rfl ?_
    refine rw_callV f_X10_friend_40 rfl (by assumption) (by first | assumption | omega) rfl rfl rfl rfl (rn_ki (C_likesRg gK2 g32 lK2 (by omega) (by omega) (hS2.2.1.2.2.2.1.2.1 _ (by omega)) ?_))
    refine rw_const f_X10_friend_43 ?_
    refine rw_eq f_X10_friend_45 (fun c2 => ?_) (fun c2 => ?_)
    · have c1' : ¬ a.1 = b.1 := fun z => c1 (by rw [z])
      rw [if_neg c1', if_neg (show ¬ ¬ g.2.1.1 (6 * a.1 + b.1) = -100 from fun z => z c2)] at hok herr
      refine rw_aload f_X10_friend_58 rfl ?_
      refine rw_const f_X10_friend_59 ?_
      refine rw_callV f_X10_friend_61 rfl (by assumption) (by first | assumption | omega) rfl rfl rfl rfl (rn_kx rfl rn_hi (C_signed hS2.1 t2 (fun v h3 e3 s3 t3 => ?_) (fun er h3 e3 s3 f3 => herr er h3 (by rw [e3]; rfl) (st2.tr s3).gf f3)))
      have hS3 := s3.rs hS2
      have rK3 := hS3.1.1.1
      have r33 := hS3.1.2.2.2.2.1
      have gK3 := hS3.2.1.1.1
      have g33 := hS3.2.1.1.2.2.2.2.1
      have lK3 := hS3.2.1.2.2.2.1.1
      rw [e3, bnd_l] at hok
      refine rw_istore f_X10_friend_64 rfl rfl ?_
      refine rw_aload f_X10_friend_66 rfl ?_
      refine rw_getR f_X10_friend_67 (by assumption) (by first | assumption | rfl) ?_
      refine rw_getR f_X10_friend_70 (by assumption) (by first | assumption | rfl) ?_
      refine rw_const f_X10_friend_73 ?_
      refine rw_iload f_X10_friend_75 rfl ?_
      refine rw_imul f_X10_friend_76 ?_
      refine rw_iload f_X10_friend_77 rfl ?_
      refine rw_iadd f_X10_friend_78 ?_
      refine rw_iload f_X10_friend_79 rfl ?_
      refine rw_iastE (j := (6 * a.1 + b.1)) f_X10_friend_81 (by assumption) (by first | rfl | exact nI_addl _ _ | (simp only [nI, Int32.ofNat_add, Int32.ofNat_mul]; rfl) | (simp only [nI_addl, nI_mull, nI_lit, nI_1']; done) | (simp only [nI_1, nI_0, nI_addl, nI_mull, ← nI_succ]; rfl)) (by omega) (by omega) ?_
      refine rw_aload f_X10_friend_82 rfl ?_
      refine rw_getR f_X10_friend_83 (by assumption) (by first | assumption | rfl) ?_
      refine rw_getR f_X10_friend_86 (by assumption) (by first | assumption | rfl) ?_
      refine rw_const f_X10_friend_89 ?_
      refine rw_iload f_X10_friend_91 rfl ?_
      refine rw_imul f_X10_friend_92 ?_
      refine rw_iload f_X10_friend_93 rfl ?_
      refine rw_iadd f_X10_friend_94 ?_
      refine rw_iload f_X10_friend_95 rfl ?_
      refine rw_iastE (j := (6 * b.1 + a.1)) f_X10_friend_97 (by assumption) (by first | rfl | exact nI_addl _ _ | (simp only [nI, Int32.ofNat_add, Int32.ofNat_mul]; rfl) | (simp only [nI_addl, nI_mull, nI_lit, nI_1']; done) | (simp only [nI_1, nI_0, nI_addl, nI_mull, ← nI_succ]; rfl)) (by omega) (by omega) ?_
      refine rw_aload f_X10_friend_98 rfl ?_
      refine rw_getR f_X10_friend_99 (by assumption) (by first | assumption | rfl) ?_
      first | refine rw_dupr f_X10_friend_102 ?_ | refine rw_dupi f_X10_friend_102 ?_
      refine rw_getI f_X10_friend_103 (by assumption) ?_
      refine rw_const f_X10_friend_106 ?_
      refine rw_iadd f_X10_friend_107 ?_
      refine rw_putI f_X10_friend_108 (by assumption) ?_
      refine rx_vret f_X10_friend_111 ?_
      have lk3 := hS3.2.1.2.2.2.1.2.1
      refine hok _ _ rfl (RS_I hS3 Fr_fri rfl rfl (fun j hj => ?_) (RgI_fri hS3.2.1.2.2.2.2.1 ?_)) (Fr_tr (st2.tr s3).gf Fr_fri (fun _ _ w => w) (fun _ _ w => w) (fun b _ w => Or.inr (by omega)) (fun _ _ w => absurd w id) (by omega) (by omega)) (t3.fr (Al_lt hS3.1.2.2.2.2.2.2 rK3 (by decide)) Fr_fri (by omega))
      · rw [sI_ne (by simp), sI_if, sI_if, lk3 j hj]
        simp only [fup, true_and]
      · rw [sI_ne (fun z => absurd z.1 (by omega)), sI_ne (fun z => absurd z.1 (by omega)), hS3.2.1.2.2.2.2.1.1, nI_1']
    · refine rw_aload f_X10_friend_48 rfl ?_
      refine rw_getR f_X10_friend_49 (by assumption) (by first | assumption | rfl) ?_
      refine rw_const f_X10_friend_52 ?_
      refine rw_iload f_X10_friend_53 rfl ?_
      refine rw_callV f_X10_friend_54 rfl (by assumption) (by first | assumption | omega) rfl rfl rfl rfl (rn_kr (C_by fK2 ?_))
      refine rx_throw f_X10_friend_57 rfl (by assumption) ?_
      first | exact fl (Or.inl ((nI_eq (by omega) (by omega)).mp c1)) | exact fl (Or.inr c2)
end CFri
