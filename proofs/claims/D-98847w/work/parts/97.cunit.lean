/-! THE CLASS: units -/
section CUnit
variable {h h' : am_H} {R F tp N : Nat} {T : tx} {g : rgT}
/-- a unit is counted -/
abbrev hCnt (h : am_H) (R u : Nat) : am_H := hp_sI (hp_sI h (R + 1) 6 (nI (u + 1))) R 10 (nI (u + 1))
theorem FF_cnt {u k : Nat} : FF R F k h (hCnt h R u) := Fr_w (Fr_tr (WI := fun b => b = R + 1 ∨ b = R) (WR := no) (c := 0) (s := 0) (Fr_sI (a := R + 1)) (Fr_sI (a := R)) (fun _ _ w => Or.inl w) (fun _ _ w => w) (fun _ _ w => Or.inr w) (fun _ _ w => w) (by omega) (by omega)) (fun b _ w => by
    rcases w with e | e
    · exact Or.inr (Or.inr e)
    · exact Or.inr (Or.inl e)) (fun _ _ w => w) (by omega) (by omega)
theorem FS.cnt {u dp : Nat} (q : FS h R F tp N T g u dp) : FS (hCnt h R u) R F tp N T g (u + 1) dp := by
  refine q.fr (FF_cnt (F := F) (k := 0)) ?_ ?_ ?_ ?_ (fun j hj => ?_)
  · rw [sI_ne (by omega), sI_ne (by omega)]
  · rw [sI_ne (by omega), sI_ne (by omega)]; exact q.2.2
  · rw [sI_same]
  · rw [sI_ne (by omega), sI_same]
  · rw [sI_ne (by omega), sI_ne (by omega)]
theorem RT.cnt {p u : Nat} (q : RT h R N T p) : RT (hCnt h R u) R N T p := by
  unfold RT
  rw [sI_ne (by omega), sI_ne (by omega), sI_ne (by omega), sI_ne (by omega), sI_ne (by omega), sI_ne (by omega), sI_ne (by omega), sI_ne (by omega)]
  exact q
theorem C_unit {D D' dp : Nat} {E : Option fF} (hd : dp ≤ 7) (hE : dp < 7 → D' + 6 ≤ D ∧ ∃ e w, E = some e ∧ fok T N w e ∧ FC D' 14 n_X10_either [am_u] R F tp N T g (dp + 1) e) (h7 : dp = 7 → E = none) : FC D 9 n_X10_unit [am_u, am_u, am_u] R F tp N T g dp (fUnit T N E) := by
  intro d h p u k xk hF hT hu hok herr
  have rK := hF.1.1.1.1
  have rz := hF.1.1.1.2.1
  have r3 := hF.1.1.2.2.2.2.1
  have gK := hF.1.2.1.1.1
  have sw := hF.1.1.2.2.2.2.2.1.2.2
  have e6 := hT.2.2.2.1
  have eu : hp_I h (R + 1) 6 = nI u := hF.1.2.1.2.2.2.2.1.2.1
  have em := hF.2.1
  have t52 : ∀ x1 x2 x3, fUnit T N E p u = .inr (err1 T N p) → Rn (d + D + 9) n_X10_unit 52 [am_r R, x1, x2, x3] [] h (kX (kR k) xk) := by
    intro x1 x2 x3 e
    refine rw_aload f_X10_unit_52 rfl ?_
    refine rw_callV f_X10_unit_53 rfl (by assumption) (by first | assumption | omega) rfl rfl rfl rfl (rn_kr (C_wrong hF.1.1 hT (fun h1 st1 fK1 fl1 => ?_)))
    refine rx_throw f_X10_unit_56 rfl (by assumption) ?_
    exact herr _ h1 e st1.ff fl1
  have t31 : ∀ x1 x2 x3, (¬ u = 30 → Rn (d + D + 9) n_X10_unit 57 [am_r R, x1, x2, x3] [] h (kX (kR k) xk)) → Rn (d + D + 9) n_X10_unit 31 [am_r R, x1, x2, x3] [] h (kX (kR k) xk) := by
    intro x1 x2 x3 q
    by_cases h30 : u = 30
    · refine rw_aload f_X10_unit_31 rfl ?_
      refine rw_getR f_X10_unit_32 (by assumption) (by first | assumption | rfl) ?_
      refine rw_getI f_X10_unit_35 (by assumption) ?_
      rw [eu]
      refine rw_const f_X10_unit_38 ?_
      refine rw_icmpF f_X10_unit_40 (decide_eq_false (fun z => absurd ((nI_eq (b := 60) (by omega) (by omega)).mp z) (by show ¬ u = 60; omega))) ?_
      refine rw_aload f_X10_unit_43 rfl ?_
      refine rw_getI f_X10_unit_44 (by assumption) ?_
      rw [em, h30]
      refine rw_const f_X10_unit_47 ?_
      refine rw_icmpF f_X10_unit_49 (by decide) ?_
      exact t52 x1 x2 x3 (if_pos (Or.inr h30))
    · refine rw_aload f_X10_unit_31 rfl ?_
      refine rw_getR f_X10_unit_32 (by assumption) (by first | assumption | rfl) ?_
      refine rw_getI f_X10_unit_35 (by assumption) ?_
      rw [eu]
      refine rw_const f_X10_unit_38 ?_
      refine rw_icmpF f_X10_unit_40 (decide_eq_false (fun z => absurd ((nI_eq (b := 60) (by omega) (by omega)).mp z) (by show ¬ u = 60; omega))) ?_
      refine rw_aload f_X10_unit_43 rfl ?_
      refine rw_getI f_X10_unit_44 (by assumption) ?_
      rw [em]
      refine rw_const f_X10_unit_47 ?_
      refine rw_icmpT f_X10_unit_49 (decide_eq_true (fun z => h30 ((nI_eq (b := 30) (by omega) (by omega)).mp z))) ?_
      exact q h30
  have fc := hF.cnt
  have tc : RT (hCnt h R u) R N T p := hT.cnt
  have rKc := fc.1.1.1.1
  have gKc : hp_K (hp_sI h (R + 1) 6 (nI (u + 1))) R = (110, 0) := rK
  have nw : oI (fst1 (fun j => isV T N p (st_nd.getD j 0)) 4) = oI (pNamed T N p) := rfl
  cases hB : isSH T N p 40 with
  | true =>
    have lx := tkX_bd (T := T) (isSH_lt hB)
    have t57 : ∀ (x2 : Int32) x3, ¬ u = 30 → Rn (d + D + 9) n_X10_unit 57 [am_r R, am_i (bI true), am_i x2, x3] [] h (kX (kR k) xk) := by
      intro x2 x3 h30
      unfold fUnit at hok herr
      rw [if_neg (show ¬ ((isSH T N p 40 = false ∧ pNamed T N p = none ∧ ¬ tkD T N p = 2) ∨ u = 30) from fun z => z.elim (fun z => by rw [hB] at z; cases z.1) h30), if_pos hB] at hok herr
      refine rw_aload f_X10_unit_57 rfl ?_
      refine rw_getR f_X10_unit_58 (by assumption) (by first | assumption | rfl) ?_
      first | refine rw_dupr f_X10_unit_61 ?_ | refine rw_dupi f_X10_unit_61 ?_
      refine rw_getI f_X10_unit_62 (by assumption) ?_
      rw [eu]
      refine rw_const f_X10_unit_65 ?_
      refine rw_iadd f_X10_unit_66 ?_
      rw [nI_1']
      refine rw_putI f_X10_unit_67 (by assumption) ?_
      refine rw_aload f_X10_unit_70 rfl ?_
      first | refine rw_dupr f_X10_unit_71 ?_ | refine rw_dupi f_X10_unit_71 ?_
      refine rw_getI f_X10_unit_72 (by assumption) ?_
      rw [sI_ne (by omega), em]
      refine rw_const f_X10_unit_75 ?_
      refine rw_iadd f_X10_unit_76 ?_
      rw [nI_1']
      refine rw_putI f_X10_unit_77 (by assumption) ?_
      refine rw_iload f_X10_unit_80 rfl ?_
      refine rw_ifF f_X10_unit_81 (by decide) ?_
      refine rw_aload f_X10_unit_84 rfl ?_
      refine rw_callV f_X10_unit_85 rfl (by assumption) (by first | assumption | omega) rfl rfl rfl rfl (rn_kx rfl rn_hv (C_open fc tc hd (fun hd7 h1 f1 t1 fr1 => ?_) (fun e7 h1 fr1 fl1 => herr _ h1 (by rw [h7 e7]) (FF_tr (k1 := 0) (k2 := 0) FF_cnt fr1 (by omega)) fl1)))
      obtain ⟨lD, e, w, ee, he, Ue⟩ := hE hd7
      rw [ee] at hok herr
      have rK1 := f1.1.1.1.1
      have fr01 : FF R F 0 h h1 := FF_tr (k1 := 0) (k2 := 0) FF_cnt fr1 (by omega)
      refine rw_aload f_X10_unit_88 rfl ?_
      refine rw_callV f_X10_unit_89 rfl (by assumption) (by first | assumption | omega) rfl rfl rfl rfl (rn_kx rfl rn_hr (Ue.up (by omega) h1 (tkX T N p) (u + 1) _ _ f1 t1 (by omega) (fun v b h2 e2 f2 t2 fr2 tr2 bz => ?_) (fun er h2 e2 fr2 fl2 => herr er h2 (by show bnd _ _ = _; rw [e2]; rfl) (FF_tr fr01 fr2 (by omega)) fl2)))
      have o2 := he _ _ _ lx.2 (by omega) e2
      have rK2 := f2.1.1.1.1
      refine rw_astore f_X10_unit_92 rfl rfl ?_
      refine rw_aload f_X10_unit_93 rfl ?_
      first | refine rw_dupr f_X10_unit_94 ?_ | refine rw_dupi f_X10_unit_94 ?_
      refine rw_getI f_X10_unit_95 (by assumption) ?_
      rw [show hp_I h2 R 9 = nI (dp + 1) from f2.2.2]
      refine rw_const f_X10_unit_98 ?_
      refine rw_isub f_X10_unit_99 ?_
      rw [show nI (dp + 1) - 1 = nI dp by rw [← nI_1']; grind]
      refine rw_putI f_X10_unit_100 (by assumption) ?_
      have f3 : FS (hp_sI h2 R 9 (nI dp)) R F tp N T g v.2.2 dp := f2.s9
      have t3 : RT (hp_sI h2 R 9 (nI dp)) R N T v.2.1 := t2.s9
      have rK3 := f3.1.1.1.1
      have fr03 : FF R F (v.2.1 - tkX T N p) h (hp_sI h2 R 9 (nI dp)) := FF_tr (k1 := v.2.1 - tkX T N p) (k2 := 0) (FF_tr fr01 fr2 (by omega)) FF_s9 (by omega)
      refine rw_aload f_X10_unit_103 rfl ?_
      refine rw_aload f_X10_unit_104 rfl ?_
      refine rw_const f_X10_unit_105 ?_
      refine rw_callV f_X10_unit_107 rfl (by assumption) (by first | assumption | omega) rfl rfl rfl rfl (rn_ki (C_isSH f3.1.1 t3 ?_))
      refine rw_callV f_X10_unit_110 rfl (by assumption) (by first | assumption | omega) rfl rfl rfl rfl (rn_kx rfl rn_hv (C_must f3.1.1 t3 (fun q h4 e4 s4 t4 => ?_) (fun er h4 e4 s4 f4 => herr er h4 (by show bnd _ _ = _; rw [e2, bnd_l, e4]; rfl) (FF_tr (k2 := 0) fr03 s4.ff (by omega)) f4)))
      have q4 := pMust_inl e4
      have lq := tkX_bd (T := T) (isSH_lt q4.1)
      have n01 := fr01.n
      refine rw_aload f_X10_unit_113 rfl ?_
      refine rx_aret f_X10_unit_114 ?_
      exact hok (v.1, q, v.2.2) b h4 (by show bnd _ _ = _; rw [e2, bnd_l, e4]; rfl) (f3.st s4) t4 (FF_tr (k2 := 0) (k := q - p) fr03 s4.ff (by omega)) (((tr2.s9 f2).fr f3.al (s4.ff (k := 0)) (fun b _ w z => by have := f3.kk b w; omega) (fun _ _ w => absurd w id)).le n01 (Nat.le_refl _)) bz
    refine rw_aload f_X10_unit_0 rfl ?_
    refine rw_const f_X10_unit_1 ?_
    refine rw_callV f_X10_unit_3 rfl (by assumption) (by first | assumption | omega) rfl rfl rfl rfl (rn_ki (C_isSH hF.1.1 hT ?_))
    rw [hB]
    refine rw_istore f_X10_unit_6 rfl rfl ?_
    refine rw_aload f_X10_unit_7 rfl ?_
    refine rw_glob f_X10_unit_8 ?_
    refine rw_callV f_X10_unit_11 rfl (by assumption) (by first | assumption | omega) rfl rfl rfl rfl (rn_ki (C_which hF.1.1 hT sw.1 (by omega) (fun j hj => ⟨st_nd_lt j hj, sw.2 j hj⟩) ?_))
    refine rw_istore f_X10_unit_14 rfl rfl ?_
    refine rw_iload f_X10_unit_15 rfl ?_
    refine rw_ifT f_X10_unit_16 (by decide) ?_
    exact t31 _ _ _ (t57 _ _)
  | false =>
    have lR : R + 1 < hp_n h := Al_lt hF.al gK (by decide)
    -- a leaf: its cell is made, the reader goes on
    have fin : ∀ (a t : Nat) (v : Int32) (x1 x2 : Int32) (h1 : am_H) (st : Int32 × Int32), ¬ u = 30 → h1 = hp_sI (hp_new (hCnt h R u) t 0 1) (hp_n h) 0 v → TreeL h1 (hp_n h) 1 (hp_n h) [st] → fUnit T N E p u = .inl ([st], tkX T N p, u + 1) → p < N → ¬ t = 0 → Rn (d + D + 9) n_X10_unit 142 [am_r R, am_i x1, am_i x2, am_r (hp_n h)] [] h1 (kX (kR k) xk) := by
      intro a t v x1 x2 h1 st h30 e1 tr eq lp tz
      have lx := tkX_bd (T := T) lp
      have fn : FS (hp_new (hCnt h R u) t 0 1) R F tp N T g (u + 1) dp := fc.new (by omega)
      have tn : RT (hp_new (hCnt h R u) t 0 1) R N T p := RT.new tc (by show R < hp_n h; omega)
      have ffn : FF R F 1 h (hp_new (hCnt h R u) t 0 1) := FF_tr (k1 := 0) (k2 := 1) FF_cnt (FF_new (by omega)) (by omega)
      have fr1 : FF R F 1 h h1 := by
        rw [e1]
        exact Fr_tr ffn (Fr_sI (a := hp_n h)) (fun _ _ w => w) (fun _ _ w => w) (fun b hb w => by have : b = hp_n h := w; omega) (fun _ _ w => w) (by omega) (by omega)
      have sb : ∀ b j, b < hp_n h → hp_I h1 b j = hp_I (hp_new (hCnt h R u) t 0 1) b j := fun b j hb => by rw [e1, sI_ne (by omega)]
      have f1 : FS h1 R F tp N T g (u + 1) dp := by
        refine hF.fr fr1 ?_ ?_ ?_ ?_ (fun j hj => ?_)
        · rw [sb _ _ (by omega), fn.1.1.1.2.2.2.2.1, hF.1.1.1.2.2.2.2.1]
        · rw [sb _ _ (by omega)]; exact fn.2.2
        · rw [sb _ _ (by omega)]; exact fn.2.1
        · rw [sb _ _ (by omega)]; exact fn.1.2.1.2.2.2.2.1.2.1
        · rw [sb _ _ (by omega), new_Ine (by show ¬ R + 1 = hp_n h; omega), sI_ne (by omega), sI_ne (by omega)]
      have t1 : RT h1 R N T p := by rw [e1]; exact tn.sI (by omega)
      have rK1 := f1.1.1.1.1
      have nz : ¬ hp_n h = 0 := by omega
      refine rw_aload f_X10_unit_142 rfl ?_
      refine rw_callV f_X10_unit_143 rfl (by assumption) (by first | assumption | omega) rfl rfl rfl rfl (rn_kv (C_next f1.1.1.1 (tkE_ge t1.1).2 t1.2.2.1 (fun h2 on2 rf2 t2 => ?_)))
      refine rw_aload f_X10_unit_146 rfl ?_
      refine rx_aret f_X10_unit_147 ?_
      have s2 : RSt R F h1 h2 := .R1 on2 rf2
      exact hok _ _ h2 eq (f1.st s2) t2 (FF_tr (k1 := 1) (k2 := 0) (k := tkX T N p - p) fr1 s2.ff (by omega)) (tr.fr f1.al (s2.ff (k := 0)) (fun b _ w z => by have := f1.kk b w; omega) (fun _ _ w => absurd w id)) nz
    have nz : ¬ hp_n h = 0 := by omega
    cases hn : pNamed T N p with
    | some w =>
      have l4 : w < 4 := (fst1_some hn).1
      have lp := isV_lt (fst1_some hn).2.1
      have ge : (0 : Int32) ≤ nI w := by have := nI_le (a := 0) (b := w) (by omega) (by omega); rw [nI_0] at this; exact this
      have t57 : ∀ x3, ¬ u = 30 → Rn (d + D + 9) n_X10_unit 57 [am_r R, am_i (bI false), am_i (nI w), x3] [] h (kX (kR k) xk) := by
        intro x3 h30
        have bK : hp_K (hp_new (hCnt h R u) 120 0 1) (hp_n h) = (120, 0) := new_K
        refine rw_aload f_X10_unit_57 rfl ?_
        refine rw_getR f_X10_unit_58 (by assumption) (by first | assumption | rfl) ?_
        first | refine rw_dupr f_X10_unit_61 ?_ | refine rw_dupi f_X10_unit_61 ?_
        refine rw_getI f_X10_unit_62 (by assumption) ?_
        rw [eu]
        refine rw_const f_X10_unit_65 ?_
        refine rw_iadd f_X10_unit_66 ?_
        rw [nI_1']
        refine rw_putI f_X10_unit_67 (by assumption) ?_
        refine rw_aload f_X10_unit_70 rfl ?_
        first | refine rw_dupr f_X10_unit_71 ?_ | refine rw_dupi f_X10_unit_71 ?_
        refine rw_getI f_X10_unit_72 (by assumption) ?_
        rw [sI_ne (by omega), em]
        refine rw_const f_X10_unit_75 ?_
        refine rw_iadd f_X10_unit_76 ?_
        rw [nI_1']
        refine rw_putI f_X10_unit_77 (by assumption) ?_
        refine rw_iload f_X10_unit_80 rfl ?_
        refine rw_ifT f_X10_unit_81 (by decide) ?_
        refine rw_iload f_X10_unit_115 rfl ?_
        refine rw_ifT f_X10_unit_116 (decide_eq_true ge) ?_
        refine rw_new f_X10_unit_133 ?_
        first | refine rw_dupr f_X10_unit_136 ?_ | refine rw_dupi f_X10_unit_136 ?_
        refine rw_iload f_X10_unit_137 rfl ?_
        refine rw_callI f_X10_unit_138 rfl (by first | assumption | omega) rfl rfl rfl (rn_kv (C_namInit bK nz ?_))
        refine rw_astore f_X10_unit_141 rfl rfl ?_
        refine fin 0 120 (nI w) _ _ _ (1, nI w) h30 rfl ⟨Nat.le_refl _, Or.inr (Or.inl ⟨bK, ⟨w, l4, sI_same⟩, by rw [sI_same]⟩)⟩ ?_ lp (by decide)
        unfold fUnit
        rw [if_neg (fun z => z.elim (fun z => by rw [hn] at z; cases z.2.1) h30), if_neg (by rw [hB]; decide), hn]
      refine rw_aload f_X10_unit_0 rfl ?_
      refine rw_const f_X10_unit_1 ?_
      refine rw_callV f_X10_unit_3 rfl (by assumption) (by first | assumption | omega) rfl rfl rfl rfl (rn_ki (C_isSH hF.1.1 hT ?_))
      rw [hB]
      refine rw_istore f_X10_unit_6 rfl rfl ?_
      refine rw_aload f_X10_unit_7 rfl ?_
      refine rw_glob f_X10_unit_8 ?_
      refine rw_callV f_X10_unit_11 rfl (by assumption) (by first | assumption | omega) rfl rfl rfl rfl (rn_ki (C_which hF.1.1 hT sw.1 (by omega) (fun j hj => ⟨st_nd_lt j hj, sw.2 j hj⟩) ?_))
      rw [nw, hn]
      refine rw_istore f_X10_unit_14 rfl rfl ?_
      refine rw_iload f_X10_unit_15 rfl ?_
      refine rw_ifF f_X10_unit_16 (by decide) ?_
      refine rw_iload f_X10_unit_19 rfl ?_
      refine rw_ifT f_X10_unit_20 (decide_eq_true ge) ?_
      exact t31 _ _ _ (t57 _)
    | none =>
      by_cases hD : tkD T N p = 2
      · have lp : p < N := tkD_lt (by rw [hD]; decide)
        have t57 : ∀ x3, ¬ u = 30 → Rn (d + D + 9) n_X10_unit 57 [am_r R, am_i (bI false), am_i (-1), x3] [] h (kX (kR k) xk) := by
          intro x3 h30
          have bK : hp_K (hp_new (hCnt h R u) 119 0 1) (hp_n h) = (119, 0) := new_K
          have fn : FS (hp_new (hCnt h R u) 119 0 1) R F tp N T g (u + 1) dp := fc.new (by omega)
          have tn : RT (hp_new (hCnt h R u) 119 0 1) R N T p := RT.new tc (by show R < hp_n h; omega)
          have rKn := fn.1.1.1.1
          have e7 := tn.2.2.2.2.1 hD
          refine rw_aload f_X10_unit_57 rfl ?_
          refine rw_getR f_X10_unit_58 (by assumption) (by first | assumption | rfl) ?_
          first | refine rw_dupr f_X10_unit_61 ?_ | refine rw_dupi f_X10_unit_61 ?_
          refine rw_getI f_X10_unit_62 (by assumption) ?_
          rw [eu]
          refine rw_const f_X10_unit_65 ?_
          refine rw_iadd f_X10_unit_66 ?_
          rw [nI_1']
          refine rw_putI f_X10_unit_67 (by assumption) ?_
          refine rw_aload f_X10_unit_70 rfl ?_
          first | refine rw_dupr f_X10_unit_71 ?_ | refine rw_dupi f_X10_unit_71 ?_
          refine rw_getI f_X10_unit_72 (by assumption) ?_
          rw [sI_ne (by omega), em]
          refine rw_const f_X10_unit_75 ?_
          refine rw_iadd f_X10_unit_76 ?_
          rw [nI_1']
          refine rw_putI f_X10_unit_77 (by assumption) ?_
          refine rw_iload f_X10_unit_80 rfl ?_
          refine rw_ifT f_X10_unit_81 (by decide) ?_
          refine rw_iload f_X10_unit_115 rfl ?_
          refine rw_ifF f_X10_unit_116 (by decide) ?_
          refine rw_new f_X10_unit_119 ?_
          first | refine rw_dupr f_X10_unit_122 ?_ | refine rw_dupi f_X10_unit_122 ?_
          refine rw_aload f_X10_unit_123 rfl ?_
          refine rw_getI f_X10_unit_124 (by assumption) ?_
          rw [e7]
          refine rw_callI f_X10_unit_127 rfl (by first | assumption | omega) rfl rfl rfl (rn_kv (C_numInit bK nz ?_))
          refine rw_goto f_X10_unit_130 ?_
          refine rw_astore f_X10_unit_141 rfl rfl ?_
          refine fin 0 119 (tkN T N p) _ _ _ (0, tkN T N p) h30 rfl ⟨Nat.le_refl _, Or.inl ⟨bK, by rw [sI_same]⟩⟩ ?_ lp (by decide)
          unfold fUnit
          rw [if_neg (fun z => z.elim (fun z => z.2.2 hD) h30), if_neg (by rw [hB]; decide), hn]
        refine rw_aload f_X10_unit_0 rfl ?_
        refine rw_const f_X10_unit_1 ?_
        refine rw_callV f_X10_unit_3 rfl (by assumption) (by first | assumption | omega) rfl rfl rfl rfl (rn_ki (C_isSH hF.1.1 hT ?_))
        rw [hB]
        refine rw_istore f_X10_unit_6 rfl rfl ?_
        refine rw_aload f_X10_unit_7 rfl ?_
        refine rw_glob f_X10_unit_8 ?_
        refine rw_callV f_X10_unit_11 rfl (by assumption) (by first | assumption | omega) rfl rfl rfl rfl (rn_ki (C_which hF.1.1 hT sw.1 (by omega) (fun j hj => ⟨st_nd_lt j hj, sw.2 j hj⟩) ?_))
        rw [nw, hn]
        refine rw_istore f_X10_unit_14 rfl rfl ?_
        refine rw_iload f_X10_unit_15 rfl ?_
        refine rw_ifF f_X10_unit_16 (by decide) ?_
        refine rw_iload f_X10_unit_19 rfl ?_
        refine rw_ifF f_X10_unit_20 (by decide) ?_
        refine rw_aload f_X10_unit_23 rfl ?_
        refine rw_getI f_X10_unit_24 (by assumption) ?_
        rw [e6, hD]
        refine rw_const f_X10_unit_27 ?_
        refine rw_icmpF f_X10_unit_28 (by decide) ?_
        exact t31 _ _ _ (t57 _)
      · refine rw_aload f_X10_unit_0 rfl ?_
        refine rw_const f_X10_unit_1 ?_
        refine rw_callV f_X10_unit_3 rfl (by assumption) (by first | assumption | omega) rfl rfl rfl rfl (rn_ki (C_isSH hF.1.1 hT ?_))
        rw [hB]
        refine rw_istore f_X10_unit_6 rfl rfl ?_
        refine rw_aload f_X10_unit_7 rfl ?_
        refine rw_glob f_X10_unit_8 ?_
        refine rw_callV f_X10_unit_11 rfl (by assumption) (by first | assumption | omega) rfl rfl rfl rfl (rn_ki (C_which hF.1.1 hT sw.1 (by omega) (fun j hj => ⟨st_nd_lt j hj, sw.2 j hj⟩) ?_))
        rw [nw, hn]
        refine rw_istore f_X10_unit_14 rfl rfl ?_
        refine rw_iload f_X10_unit_15 rfl ?_
        refine rw_ifF f_X10_unit_16 (by decide) ?_
        refine rw_iload f_X10_unit_19 rfl ?_
        refine rw_ifF f_X10_unit_20 (by decide) ?_
        refine rw_aload f_X10_unit_23 rfl ?_
        refine rw_getI f_X10_unit_24 (by assumption) ?_
        rw [e6]
        refine rw_const f_X10_unit_27 ?_
        refine rw_icmpT f_X10_unit_28 (decide_eq_true hD) ?_
        exact t52 _ _ _ (if_pos (Or.inl ⟨hB, hn, hD⟩))
end CUnit
