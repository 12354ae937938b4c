/-! LISTS: add, remove -/
section Lists3
variable {d : Nat} {h : am_H} {l n A cap : Nat}
theorem AL_lt (al : Al h) (hL : AL h l n A cap) : l < hp_n h ∧ A < hp_n h := by
  obtain ⟨k1, k2, k3, k4, k5, k6, k7⟩ := hL
  refine ⟨Al_lt al k1 (by decide), ?_⟩
  rcases k6 with e | e
  · exact Al_lt al e.1 (by decide)
  · exact Al_lt al e.2.2 (by decide)
/-- the array is full: a new one -/
theorem J_grow2 (al : Al h) (hL : AL h l cap A cap) (h0 : ¬ l = 0) (hc : cap < 61) {k : Nat → am_H → Prop} (hk : ∀ h' cap', cap < cap' → cap' ≤ 100 → hp_K h' (hp_n h) = (5, cap') → (∀ j, j < cap → hp_R h' (hp_n h) j = hp_R h A j) → hp_R h' l 1 = hp_n h → hp_I h' l 2 = hp_I h l 2 → Fr (at_ l) (at_ l) 1 100 h h' → k (hp_n h) h') : Rn (d + 2) n_J2_grow_2 0 [am_r l, am_i (nI cap + 1), am_u, am_u] [] h (kR k) := by
  obtain ⟨ll, lA⟩ := AL_lt al hL
  obtain ⟨k1, k2, k3, k4, k5, k6, k7⟩ := hL
  obtain ⟨e1, e2, e3, e4, e5, e6, e7, e8, e9⟩ := al_nl cap hc
  rcases k6 with ⟨kA, kp⟩ | ⟨kc, kg, kA⟩
  · refine rw_aload f_J2_grow_2_0 rfl ?_
    refine rw_getR f_J2_grow_2_1 (by assumption) (by first | assumption | rfl) ?_
    refine rw_alen f_J2_grow_2_4 (by assumption) ?_
    rw [show Int32.ofNat cap = nI cap from rfl]
    refine rw_istore f_J2_grow_2_5 rfl rfl ?_
    refine rw_iload f_J2_grow_2_6 rfl ?_
    refine rw_ifT f_J2_grow_2_7 (decide_eq_true (by have := nI_nle kp (by omega); exact Int32.not_le.mp this)) ?_
    refine rw_iload f_J2_grow_2_20 rfl ?_
    refine rw_iload f_J2_grow_2_21 rfl ?_
    refine rw_iload f_J2_grow_2_22 rfl ?_
    refine rw_isub f_J2_grow_2_23 ?_
    refine rw_iload f_J2_grow_2_24 rfl ?_
    refine rw_const f_J2_grow_2_25 ?_
    refine rw_ishr f_J2_grow_2_26 ?_
    rw [e2]
    refine rw_callS f_J2_grow_2_27 rfl rfl rfl (rn_ki (J10_nl hc ?_))
    refine rw_istore f_J2_grow_2_30 rfl rfl ?_
    refine rw_aload f_J2_grow_2_31 rfl ?_
    refine rw_aload f_J2_grow_2_32 rfl ?_
    refine rw_getR f_J2_grow_2_33 (by assumption) (by first | assumption | rfl) ?_
    refine rw_iload f_J2_grow_2_36 rfl ?_
    refine rw_callS f_J2_grow_2_37 rfl rfl rfl (rn_kr (J12_cp kA lA hc k7 (fun j hj => Al_lt' al (by have := k7 j hj; omega)) (fun h' q1 q2 q3 => ?_)))
    first | refine rw_dupx1i f_J2_grow_2_40 ?_ | refine rw_dupx1r f_J2_grow_2_40 ?_
    skip
    have q4 := q3.K ll
    have q5 := q3.I ll id
    refine rw_putR f_J2_grow_2_41 (q4.trans k1) ?_
    refine rw_aret f_J2_grow_2_44 ?_
    refine hk _ (al_cap cap) (by unfold al_cap; omega) (by omega) q1 ?_ sR_same ?_ (Fr_tr q3 Fr_sR (fun _ _ w => absurd w id) (fun _ _ w => absurd w id) (fun _ _ w => absurd w id) (fun _ _ w => w) (by omega) (by omega))
    · intro j hj
      rw [sR_ne (by omega)]; exact q2 j hj
    · show hp_I h' l 2 = _
      rw [q5]
  · subst kc
    refine rw_aload f_J2_grow_2_0 rfl ?_
    refine rw_getR f_J2_grow_2_1 (by assumption) (by first | assumption | rfl) ?_
    refine rw_alen f_J2_grow_2_4 (by assumption) ?_
    rw [show Int32.ofNat 0 = nI 0 from rfl]
    refine rw_istore f_J2_grow_2_5 rfl rfl ?_
    refine rw_iload f_J2_grow_2_6 rfl ?_
    refine rw_ifF f_J2_grow_2_7 (by decide) ?_
    refine rw_aload f_J2_grow_2_10 rfl ?_
    refine rw_getR f_J2_grow_2_11 (by assumption) (by first | assumption | rfl) ?_
    refine rw_glob f_J2_grow_2_14 ?_
    skip
    refine rw_acmpne f_J2_grow_2_17 (fun c => absurd kg.symm c) (fun _ => ?_)
    refine rw_aload f_J2_grow_2_45 rfl ?_
    refine rw_const f_J2_grow_2_46 ?_
    refine rw_iload f_J2_grow_2_48 rfl ?_
    refine rw_binR f_J2_grow_2_49 rfl ?_
    rw [e9, if_pos (by decide)]
    refine rw_newa (n := 10) f_J2_grow_2_52 (by decide) (by decide) ?_
    refine rw_dupx1r f_J2_grow_2_55 ?_
    refine rw_putR f_J2_grow_2_56 ((new_Kne (by omega)).trans k1) ?_
    refine rw_aret f_J2_grow_2_59 ?_
    refine hk _ 10 (by omega) (by omega) new_K (fun j hj => absurd hj (Nat.not_lt_zero j)) sR_same ?_ (Fr_tr Fr_new Fr_sR (fun _ _ w => absurd w id) (fun _ _ w => absurd w id) (fun _ _ w => absurd w id) (fun _ _ w => w) (by omega) (by omega))
    show hp_I (hp_new h 5 10 10) l 2 = _
    rw [new_Ine (by omega)]
theorem J_grow (al : Al h) (hL : AL h l cap A cap) (h0 : ¬ l = 0) (hc : cap < 61) {k : Nat → am_H → Prop} (hk : ∀ h' cap', cap < cap' → cap' ≤ 100 → hp_K h' (hp_n h) = (5, cap') → (∀ j, j < cap → hp_R h' (hp_n h) j = hp_R h A j) → hp_R h' l 1 = hp_n h → hp_I h' l 2 = hp_I h l 2 → Fr (at_ l) (at_ l) 1 100 h h' → k (hp_n h) h') : Rn (d + 3) n_J2_grow 0 [am_r l] [] h (kR k) := by
  have hL' := hL
  obtain ⟨k1, k2, k3, k4, k5, k6, k7⟩ := hL'
  refine rw_aload f_J2_grow_0 rfl ?_
  refine rw_aload f_J2_grow_1 rfl ?_
  refine rw_getI f_J2_grow_2 (by assumption) ?_
  rw [k3]
  refine rw_const f_J2_grow_5 ?_
  refine rw_iadd f_J2_grow_6 ?_
  refine rw_callV f_J2_grow_7 rfl (by assumption) (by first | assumption | omega) rfl rfl rfl rfl (rn_kr (J_grow2 al hL h0 hc (fun h' cap' q1 q2 q3 q4 q5 q6 q7 => ?_)))
  refine rw_aret f_J2_grow_10 ?_
  exact hk h' cap' q1 q2 q3 q4 q5 q6 q7
theorem J_add2 {y : Nat} (al : Al h) (hL : AL h l n A cap) (h0 : ¬ l = 0) (hn : n < 61) (hy : 100 ≤ (hp_K h y).1 ∧ (hp_K h y).1 < 200) {k : am_H → Prop} (hk : ∀ h' A' cap', AL h' l (n + 1) A' cap' → (A' = A ∧ 0 < cap ∨ A' = hp_n h) → (∀ j, j < n → hp_R h' A' j = hp_R h A j) → hp_R h' A' n = y → Fr (at_ l) (fun b => b = l ∨ (b = A ∧ 0 < cap)) 1 100 h h' → k h') : Rn (d + 4) n_J2_add_2 0 [am_r l, am_r y, am_r A, am_i (nI n)] [] h (kV k) := by
  obtain ⟨ll, lA⟩ := AL_lt al hL
  have hne := AL_ne hL
  have hL' := hL
  obtain ⟨k1, k2, k3, k4, k5, k6, k7⟩ := hL'
  have hlen : ∃ t, hp_K h A = (t, cap) ∧ ([1, 2, 3, 4, 5, 6, 11, 12, 15, 17] : List Nat).contains t = true := by
    rcases k6 with q | q
    · exact ⟨5, q.1, rfl⟩
    · exact ⟨15, by rw [q.2.2, q.1], rfl⟩
  obtain ⟨t, ht1, ht2⟩ := hlen
  refine rw_iload f_J2_add_2_0 rfl ?_
  refine rw_aload f_J2_add_2_1 rfl ?_
  refine rw_alen f_J2_add_2_2 ht1 ?_ ht2
  rw [show Int32.ofNat cap = nI cap from rfl]
  by_cases e : n = cap
  · subst e
    refine rw_icmpF f_J2_add_2_3 (decide_eq_false (fun c => c rfl)) ?_
    refine rw_aload f_J2_add_2_6 rfl ?_
    refine rw_callV f_J2_add_2_7 rfl (by assumption) (by first | assumption | omega) rfl rfl rfl rfl (rn_kr (J_grow al hL h0 hn (fun h' cap' q1 q2 q3 q4 q5 q6 q7 => ?_)))
    refine rw_astore f_J2_add_2_10 rfl rfl ?_
    refine rw_aload f_J2_add_2_11 rfl ?_
    refine rw_iload f_J2_add_2_12 rfl ?_
    refine rw_aload f_J2_add_2_13 rfl ?_
    skip
    have q8 : ∀ b, b < hp_n h → hp_K h' b = hp_K h b := q7.2.2.1
    refine rw_aastE (j := n) f_J2_add_2_14 q3 rfl q1 (by omega) (Or.inr (by rw [q8 y (Al_lt' al (by omega))]; exact hy)) ?_
    have kl : hp_K (hp_sR h' (hp_n h) n y) l = (130, 0) := (q8 l ll).trans k1
    refine rw_aload f_J2_add_2_15 rfl ?_
    refine rw_iload f_J2_add_2_16 rfl ?_
    refine rw_const f_J2_add_2_17 ?_
    refine rw_iadd f_J2_add_2_18 ?_
    refine rw_putI f_J2_add_2_19 (by assumption) ?_
    refine rw_vret f_J2_add_2_22 ?_
    skip
    rw [nI_1']
    refine hk _ (hp_n h) cap' ⟨kl, ?_, sI_same, by omega, q2, Or.inl ⟨q3, by omega⟩, ?_⟩ (Or.inr rfl) ?_ sR_same (Fr_tr (q7.tr Fr_sR (fun _ _ w => absurd w id) (fun b hb w => by have w' : b = hp_n h := w; omega)) Fr_sI (fun _ _ w => w) (fun _ _ w => Or.inl w) (fun _ _ w => w) (fun _ _ w => absurd w id) (by omega) (by omega))
    · show hp_R (hp_sR h' (hp_n h) n y) l 1 = _
      rw [sR_ne (by omega)]; exact q5
    · intro j hj
      show 100 ≤ (hp_K h' (hp_R (hp_sR h' (hp_n h) n y) (hp_n h) j)).1 ∧ (hp_K h' (hp_R (hp_sR h' (hp_n h) n y) (hp_n h) j)).1 < 200
      by_cases e : j = n
      · subst e; rw [sR_same, q8 y (Al_lt' al (by omega))]; exact hy
      · have kj := k7 j (by omega)
        rw [sR_ne (by omega), q4 j (by omega), q8 _ (Al_lt' al (by omega))]; exact kj
    · intro j hj
      show hp_R (hp_sR h' (hp_n h) n y) (hp_n h) j = _
      rw [sR_ne (by omega)]; exact q4 j hj
  · have hlt : n < cap := by omega
    have kA : hp_K h A = (5, cap) := by
      rcases k6 with q | q
      · exact q.1
      · omega
    refine rw_icmpT f_J2_add_2_3 (decide_eq_true (fun c => e (nI_inj (by omega) (by omega) c))) ?_
    refine rw_aload f_J2_add_2_11 rfl ?_
    refine rw_iload f_J2_add_2_12 rfl ?_
    refine rw_aload f_J2_add_2_13 rfl ?_
    refine rw_aastE (j := n) f_J2_add_2_14 (by assumption) (by first | rfl | exact nI_addl _ _ | (simp only [nI, Int32.ofNat_add, Int32.ofNat_mul]; rfl) | (simp only [nI_addl, nI_mull, nI_lit, nI_1']; done) | (simp only [nI_1, nI_0, nI_addl, nI_mull, ← nI_succ]; rfl)) (by omega) (by omega) (Or.inr hy) ?_
    refine rw_aload f_J2_add_2_15 rfl ?_
    refine rw_iload f_J2_add_2_16 rfl ?_
    refine rw_const f_J2_add_2_17 ?_
    refine rw_iadd f_J2_add_2_18 ?_
    refine rw_putI f_J2_add_2_19 (by assumption) ?_
    refine rw_vret f_J2_add_2_22 ?_
    skip
    rw [nI_1']
    refine hk _ A cap ⟨k1, ?_, sI_same, by omega, k5, Or.inl ⟨kA, by omega⟩, ?_⟩ (Or.inl ⟨rfl, by omega⟩) ?_ sR_same (Fr_tr Fr_sR Fr_sI (fun _ _ w => absurd w id) (fun _ _ w => Or.inr ⟨w, by omega⟩) (fun _ _ w => w) (fun _ _ w => absurd w id) (by omega) (by omega))
    · show hp_R (hp_sR h A n y) l 1 = _
      rw [sR_ne (by omega)]; exact k2
    · intro j hj
      show 100 ≤ (hp_K h (hp_R (hp_sR h A n y) A j)).1 ∧ (hp_K h (hp_R (hp_sR h A n y) A j)).1 < 200
      by_cases e : j = n
      · subst e; rw [sR_same]; exact hy
      · rw [sR_ne (by omega)]; exact k7 j (by omega)
    · intro j hj
      show hp_R (hp_sR h A n y) A j = _
      rw [sR_ne (by omega)]
theorem J_add {y : Nat} (al : Al h) (hL : AL h l n A cap) (h0 : ¬ l = 0) (hn : n < 61) (hy : 100 ≤ (hp_K h y).1 ∧ (hp_K h y).1 < 200) {k : Int32 → am_H → Prop} (hk : ∀ h' A' cap', AL h' l (n + 1) A' cap' → (A' = A ∧ 0 < cap ∨ A' = hp_n h) → (∀ j, j < n → hp_R h' A' j = hp_R h A j) → hp_R h' A' n = y → Fr (at_ l) (fun b => b = l ∨ (b = A ∧ 0 < cap)) 1 100 h h' → k 1 h') : Rn (d + 5) n_J2_add 0 [am_r l, am_r y] [] h (kI k) := by
  have hne := AL_ne hL
  have hL' := hL
  obtain ⟨k1, k2, k3, k4, k5, k6, k7⟩ := hL'
  have hL2 : AL (hp_sI h l 0 (hp_I h l 0 + 1)) l n A cap := ⟨k1, k2, (sI_ne (by simp)).trans k3, k4, k5, k6, k7⟩
  refine rw_aload f_J2_add_0 rfl ?_
  first | refine rw_dupr f_J2_add_1 ?_ | refine rw_dupi f_J2_add_1 ?_
  refine rw_getI f_J2_add_2 (by assumption) ?_
  refine rw_const f_J2_add_5 ?_
  refine rw_iadd f_J2_add_6 ?_
  refine rw_putI f_J2_add_7 (by assumption) ?_
  refine rw_aload f_J2_add_10 rfl ?_
  refine rw_aload f_J2_add_11 rfl ?_
  refine rw_aload f_J2_add_12 rfl ?_
  refine rw_getR f_J2_add_13 (by assumption) (by first | assumption | rfl) ?_
  refine rw_aload f_J2_add_16 rfl ?_
  refine rw_getI f_J2_add_17 (by assumption) ?_
  rw [show hp_I (hp_sI h l 0 (hp_I h l 0 + 1)) l 2 = nI n from (sI_ne (by simp)).trans k3]
  refine rw_callV f_J2_add_20 rfl (by assumption) (by first | assumption | omega) rfl rfl rfl rfl (rn_kv (J_add2 (h := hp_sI h l 0 (hp_I h l 0 + 1)) al hL2 h0 hn hy (fun h' A' cap' q1 q2 q3 q4 q5 => ?_)))
  refine rw_const f_J2_add_23 ?_
  refine rw_zret f_J2_add_24 (by first | exact Or.inl rfl | exact Or.inr rfl | exact bI_01 _ | assumption) ?_
  exact hk h' A' cap' q1 q2 q3 q4 (Fr_tr Fr_sI q5 (fun _ _ w => w) (fun _ _ w => absurd w id) (fun _ _ w => w) (fun _ _ w => w) (by omega) (by omega))
theorem J_fastRm {i : Nat} (hL : AL h l (n + 1) A cap) (hlA : A < hp_n h) (al : Al h) (hi : i ≤ n) {k : am_H → Prop} (hk : ∀ h', AL h' l n A cap → (∀ j, j < i → hp_R h' A j = hp_R h A j) → (∀ j, i ≤ j → j < n → hp_R h' A j = hp_R h A (j + 1)) → Fr (at_ l) (at_ A) 0 0 h h' → k h') : Rn d n_J2_fastRemove 0 [am_r l, am_r A, am_i (nI i), am_u] [] h (kV k) := by
  have hne := AL_ne hL
  obtain ⟨k1, k2, k3, k4, k5, k6, k7⟩ := hL
  have kA : hp_K h A = (5, cap) := by
    rcases k6 with q | q
    · exact q.1
    · omega
  refine rw_aload f_J2_fastRemove_0 rfl ?_
  first | refine rw_dupr f_J2_fastRemove_1 ?_ | refine rw_dupi f_J2_fastRemove_1 ?_
  refine rw_getI f_J2_fastRemove_2 (by assumption) ?_
  refine rw_const f_J2_fastRemove_5 ?_
  refine rw_iadd f_J2_fastRemove_6 ?_
  refine rw_putI f_J2_fastRemove_7 (by assumption) ?_
  refine rw_aload f_J2_fastRemove_10 rfl ?_
  refine rw_getI f_J2_fastRemove_11 (by assumption) ?_
  rw [show hp_I (hp_sI h l 0 (hp_I h l 0 + 1)) l 2 = nI (n + 1) from (sI_ne (by simp)).trans k3]
  refine rw_const f_J2_fastRemove_14 ?_
  refine rw_isub f_J2_fastRemove_15 ?_
  rw [nI_pred]
  first | refine rw_dupr f_J2_fastRemove_16 ?_ | refine rw_dupi f_J2_fastRemove_16 ?_
  refine rw_istore f_J2_fastRemove_17 rfl rfl ?_
  refine rw_iload f_J2_fastRemove_18 rfl ?_
  skip
  by_cases e : i = n
  · subst e
    refine rw_icmpT f_J2_fastRemove_19 (decide_eq_true (Int32.le_refl _)) ?_
    refine rw_aload f_J2_fastRemove_34 rfl ?_
    refine rw_aload f_J2_fastRemove_35 rfl ?_
    refine rw_iload f_J2_fastRemove_36 rfl ?_
    first | refine rw_dupx1i f_J2_fastRemove_37 ?_ | refine rw_dupx1r f_J2_fastRemove_37 ?_
    refine rw_putI f_J2_fastRemove_38 (by assumption) ?_
    refine rw_const f_J2_fastRemove_41 ?_
    refine rw_aastE (j := i) f_J2_fastRemove_42 (by assumption) (by first | rfl | exact nI_addl _ _ | (simp only [nI, Int32.ofNat_add, Int32.ofNat_mul]; rfl) | (simp only [nI_addl, nI_mull, nI_lit, nI_1']; done) | (simp only [nI_1, nI_0, nI_addl, nI_mull, ← nI_succ]; rfl)) (by omega) (by omega) (Or.inl rfl) ?_
    refine rw_vret f_J2_fastRemove_43 ?_
    skip
    refine hk _ ⟨k1, ?_, sI_same, by omega, k5, Or.inl ⟨kA, by omega⟩, ?_⟩ ?_ (fun j q1 q2 => by omega) (Fr_tr (Fr_sI.tr Fr_sI (fun _ _ w => w) (fun _ _ w => w)) Fr_sR (fun _ _ w => w) (fun _ _ w => absurd w id) (fun _ _ w => absurd w id) (fun _ _ w => w) (by omega) (by omega))
    · show hp_R (hp_sR _ A i 0) l 1 = _
      rw [sR_ne (by omega)]; exact k2
    · intro j hj
      have kj := k7 j (by omega)
      show 100 ≤ (hp_K h (hp_R (hp_sR _ A i 0) A j)).1 ∧ (hp_K h (hp_R (hp_sR _ A i 0) A j)).1 < 200
      rw [sR_ne (by omega)]; exact kj
    · intro j hj
      rw [sR_ne (by omega)]; rfl
  · have hlt : i < n := by omega
    refine rw_icmpF f_J2_fastRemove_19 (decide_eq_false (nI_ge hlt (by omega))) ?_
    refine rw_aload f_J2_fastRemove_22 rfl ?_
    refine rw_iload f_J2_fastRemove_23 rfl ?_
    refine rw_const f_J2_fastRemove_24 ?_
    refine rw_iadd f_J2_fastRemove_25 ?_
    refine rw_aload f_J2_fastRemove_26 rfl ?_
    refine rw_iload f_J2_fastRemove_27 rfl ?_
    refine rw_iload f_J2_fastRemove_28 rfl ?_
    refine rw_iload f_J2_fastRemove_29 rfl ?_
    refine rw_isub f_J2_fastRemove_30 ?_
    skip
    rw [show nI n - nI i = nI (n - i) from by have : nI (n - i) + nI i = nI n := by rw [nI_addl, Nat.sub_add_cancel hi]
                                              rw [← this, Int32.add_sub_cancel], nI_1']
    refine rw_acpyR f_J2_fastRemove_31 kA kA ?_ ?_ ?_
    · rw [nI_clamp (by omega), nI_clamp (by omega), nI_clamp (by omega)]
      have a1 := nI_pos (n := n - i) (by omega)
      have a2 := nI_pos (n := i) (by omega)
      have a3 := nI_pos (n := i + 1) (by omega)
      intro q
      rcases q with q | q | q | q | q
      · exact a1 q
      · exact a3 q
      · exact a2 q
      · omega
      · omega
    · intro j hj
      rw [nI_clamp (by omega)] at hj ⊢
      exact Or.inr (k7 (i + 1 + j) (by omega))
    rw [nI_clamp (by omega), nI_clamp (by omega), nI_clamp (by omega)]
    refine rw_aload f_J2_fastRemove_34 rfl ?_
    refine rw_aload f_J2_fastRemove_35 rfl ?_
    refine rw_iload f_J2_fastRemove_36 rfl ?_
    first | refine rw_dupx1i f_J2_fastRemove_37 ?_ | refine rw_dupx1r f_J2_fastRemove_37 ?_
    refine rw_putI f_J2_fastRemove_38 (by assumption) ?_
    refine rw_const f_J2_fastRemove_41 ?_
    refine rw_aastE (j := n) f_J2_fastRemove_42 (by assumption) (by first | rfl | exact nI_addl _ _ | (simp only [nI, Int32.ofNat_add, Int32.ofNat_mul]; rfl) | (simp only [nI_addl, nI_mull, nI_lit, nI_1']; done) | (simp only [nI_1, nI_0, nI_addl, nI_mull, ← nI_succ]; rfl)) (by omega) (by omega) (Or.inl rfl) ?_
    refine rw_vret f_J2_fastRemove_43 ?_
    skip
    have rd : ∀ b j, ¬ (b = A ∧ j = n) → am_up (am_cpy h.2.2.1 A (i + 1) A i (n - i)) A n 0 b j = (if b = A ∧ i ≤ j ∧ j < n then hp_R h A (j + 1) else hp_R h b j) := by
      intro b j hb
      rw [up_ne hb]
      unfold am_cpy
      by_cases q : b = A ∧ i ≤ j ∧ j < n
      · rw [if_pos q, if_pos ⟨q.1, q.2.1, by omega⟩, show i + 1 + (j - i) = j + 1 by omega]
      · rw [if_neg q, if_neg (by omega)]
    refine hk _ ⟨k1, ?_, sI_same, by omega, k5, Or.inl ⟨kA, by omega⟩, ?_⟩ ?_ ?_ ?_
    · refine (rd l 1 (by omega)).trans ?_
      rw [if_neg (by omega)]; exact k2
    · intro j hj
      have kj := k7 j (by omega)
      have kj1 := k7 (j + 1) (by omega)
      show 100 ≤ (hp_K h (am_up (am_cpy h.2.2.1 A (i + 1) A i (n - i)) A n 0 A j)).1 ∧ (hp_K h (am_up (am_cpy h.2.2.1 A (i + 1) A i (n - i)) A n 0 A j)).1 < 200
      rw [rd A j (by omega)]
      by_cases q : A = A ∧ i ≤ j ∧ j < n
      · rw [if_pos q]; exact kj1
      · rw [if_neg q]; exact kj
    · intro j hj
      refine (rd A j (by omega)).trans ?_
      rw [if_neg (by omega)]
    · intro j q1 q2
      refine (rd A j (by omega)).trans ?_
      rw [if_pos ⟨rfl, q1, q2⟩]
    · refine ⟨⟨Nat.le_refl _, Nat.le_refl _⟩, Nat.le_refl _, fun _ _ => rfl, id, fun b _ hw => ⟨?_, rfl⟩, fun b _ hw => ?_⟩
      · funext j
        refine (sI_ne (fun e => hw e.1)).trans ?_
        exact sI_ne (h := h) (fun e => hw e.1)
      · funext j
        refine (rd b j (fun e => hw e.1)).trans ?_
        rw [if_neg (fun e => hw e.1)]
theorem J_remove {i : Nat} (al : Al h) (hL : AL h l (n + 1) A cap) (h0 : ¬ l = 0) (hi : i ≤ n) {k : Nat → am_H → Prop} (hk : ∀ h', AL h' l n A cap → (∀ j, j < i → hp_R h' A j = hp_R h A j) → (∀ j, i ≤ j → j < n → hp_R h' A j = hp_R h A (j + 1)) → Fr (at_ l) (at_ A) 0 0 h h' → k (hp_R h A i) h') : Rn (d + 2) n_J2_remove 0 [am_r l, am_i (nI i), am_u, am_u] [] h (kR k) := by
  obtain ⟨ll, lA⟩ := AL_lt al hL
  have hL' := hL
  obtain ⟨k1, k2, k3, k4, k5, k6, k7⟩ := hL'
  have kA : hp_K h A = (5, cap) := by
    rcases k6 with q | q
    · exact q.1
    · omega
  refine rw_iload f_J2_remove_0 rfl ?_
  refine rw_aload f_J2_remove_1 rfl ?_
  refine rw_getI f_J2_remove_2 (by assumption) ?_
  rw [k3]
  refine rw_callS f_J2_remove_5 rfl rfl rfl (rn_ki (J5_ck (n := n + 1) (by omega) (by omega) ?_))
  first | refine rw_popi f_J2_remove_8 ?_ | refine rw_popr f_J2_remove_8 ?_
  refine rw_aload f_J2_remove_9 rfl ?_
  refine rw_getR f_J2_remove_10 (by assumption) (by first | assumption | rfl) ?_
  refine rw_astore f_J2_remove_13 rfl rfl ?_
  refine rw_aload f_J2_remove_14 rfl ?_
  refine rw_iload f_J2_remove_15 rfl ?_
  refine rw_aaldE f_J2_remove_16 (by assumption) rfl (by omega) (by omega) (by first | assumption | rfl) ?_
  refine rw_astore f_J2_remove_17 rfl rfl ?_
  refine rw_aload f_J2_remove_18 rfl ?_
  refine rw_aload f_J2_remove_19 rfl ?_
  refine rw_iload f_J2_remove_20 rfl ?_
  refine rw_callV f_J2_remove_21 rfl (by assumption) (by first | assumption | omega) rfl rfl rfl rfl (rn_kv (J_fastRm hL lA al hi (fun h' q1 q2 q3 q4 => ?_)))
  refine rw_aload f_J2_remove_24 rfl ?_
  refine rw_aret f_J2_remove_25 ?_
  exact hk h' q1 q2 q3 q4
end Lists3
