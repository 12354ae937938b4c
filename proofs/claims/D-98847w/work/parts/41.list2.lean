/-! LISTS that change -/
/-- the first n references of a cell are gone -/
def hp_zR (h : am_H) (a n : Nat) : am_H := (h.1, h.2.1, fun c j => if c = a ∧ j < n then 0 else h.2.2.1 c j, h.2.2.2)
theorem zR_0 {h : am_H} {a : Nat} : hp_zR h a 0 = h := by
  unfold hp_zR
  refine Prod.ext rfl (Prod.ext rfl (Prod.ext ?_ rfl))
  funext c j
  exact if_neg (fun e => Nat.not_lt_zero _ e.2)
theorem zR_s {h : am_H} {a n : Nat} : hp_sR (hp_zR h a n) a n 0 = hp_zR h a (n + 1) := by
  unfold hp_sR hp_zR am_up
  refine Prod.ext rfl (Prod.ext rfl (Prod.ext ?_ rfl))
  funext c j
  dsimp only
  by_cases e : c = a
  · subst e
    by_cases e2 : j = n
    · rw [if_pos ⟨rfl, e2⟩, if_pos ⟨rfl, by omega⟩]
    · by_cases e3 : j < n
      · rw [if_neg (fun q => e2 q.2), if_pos ⟨rfl, e3⟩, if_pos ⟨rfl, by omega⟩]
      · rw [if_neg (fun q => e2 q.2), if_neg (fun q => e3 q.2), if_neg (fun q => e3 (by omega))]
  · rw [if_neg (fun q => e q.1), if_neg (fun q => e q.1), if_neg (fun q => e q.1)]
theorem zR_R {h : am_H} {a n b : Nat} (hb : ¬ b = a) : hp_R (hp_zR h a n) b = hp_R h b := funext fun _ => if_neg (fun e => hb e.1)
theorem Fr_zR {h : am_H} {a n : Nat} : Fr no (at_ a) 0 0 h (hp_zR h a n) :=
  ⟨⟨Nat.le_refl _, Nat.le_refl _⟩, Nat.le_refl _, fun _ _ => rfl, id, fun b _ _ => ⟨rfl, rfl⟩, fun b _ hw => zR_R hw⟩
section Lists2
variable {d : Nat} {h : am_H} {l n A cap : Nat}
theorem AL_ne (hL : AL h l n A cap) : ¬ l = A := fun e => by
  obtain ⟨k1, k2, k3, k4, k5, k6, k7⟩ := hL
  subst e
  rcases k6 with q | q
  · rw [k1] at q; exact absurd q.1 (by simp)
  · rw [k1] at q; exact absurd q.2.2 (by simp)
theorem J_clear (hL : AL h l n A cap) {k : am_H → Prop} (hk : ∀ h', AL h' l 0 A cap → Fr (at_ l) (fun b => b = A ∧ 0 < cap) 0 0 h h' → k h') : Rn d n_J2_clear 0 [am_r l, am_u, am_u, am_u] [] h (kV k) := by
  have hne := AL_ne hL
  obtain ⟨k1, k2, k3, k4, k5, k6, k7⟩ := hL
  refine rw_aload f_J2_clear_0 rfl ?_
  first | refine rw_dupr f_J2_clear_1 ?_ | refine rw_dupi f_J2_clear_1 ?_
  refine rw_getI f_J2_clear_2 (by assumption) ?_
  refine rw_const f_J2_clear_5 ?_
  refine rw_iadd f_J2_clear_6 ?_
  refine rw_putI f_J2_clear_7 (by assumption) ?_
  refine rw_aload f_J2_clear_10 rfl ?_
  refine rw_getR f_J2_clear_11 (by assumption) (by first | assumption | rfl) ?_
  refine rw_astore f_J2_clear_14 rfl rfl ?_
  refine rw_aload f_J2_clear_15 rfl ?_
  refine rw_getI f_J2_clear_16 (by assumption) ?_
  rw [show hp_I (hp_sI h l 0 (hp_I h l 0 + 1)) l 2 = nI n from (sI_ne (by simp)).trans k3]
  refine rw_istore f_J2_clear_19 rfl rfl ?_
  refine rw_aload f_J2_clear_20 rfl ?_
  refine rw_const f_J2_clear_21 ?_
  first | refine rw_dupx1i f_J2_clear_22 ?_ | refine rw_dupx1r f_J2_clear_22 ?_
  refine rw_putI f_J2_clear_23 (by assumption) ?_
  refine rw_istore f_J2_clear_26 rfl rfl ?_
  skip
  generalize hg : hp_sI (hp_sI h l 0 (hp_I h l 0 + 1)) l 2 0 = g
  have f1 : Fr (at_ l) no 0 0 h g := by rw [← hg]; exact Fr_sI.tr Fr_sI (fun _ _ w => w) (fun _ _ w => w)
  have g1 : hp_K g = hp_K h := by rw [← hg]; rfl
  have g2 : hp_R g = hp_R h := by rw [← hg]; rfl
  have g3 : hp_I g l 2 = 0 := by rw [← hg]; exact sI_same
  refine Eq.mp (congrArg (fun H => Rn d n_J2_clear 27 [am_r l, am_r A, am_i (nI n), am_i 0] [] H (kV k)) (zR_0 (h := g) (a := A))) ?_
  refine rn_for (N := n) (fun b => [am_r l, am_r A, am_i (nI n), am_i (nI b)]) (fun b => hp_zR g A b) (fun b hb ih => ?_) ?_
  · have kA : hp_K (hp_zR g A b) A = (5, cap) := by
      rcases k6 with q | q
      · show hp_K g A = _; rw [g1]; exact q.1
      · omega
    refine rw_iload f_J2_clear_27 rfl ?_
    refine rw_iload f_J2_clear_28 rfl ?_
    refine rw_icmpF f_J2_clear_29 (decide_eq_false (nI_ge hb (by omega))) ?_
    refine rw_aload f_J2_clear_32 rfl ?_
    refine rw_iload f_J2_clear_33 rfl ?_
    refine rw_const f_J2_clear_34 ?_
    refine rw_aastE (j := b) f_J2_clear_35 (by assumption) (by first | rfl | exact nI_addl _ _ | (simp only [nI, Int32.ofNat_add, Int32.ofNat_mul]; rfl) | (simp only [nI_addl, nI_mull, nI_lit, nI_1']; done) | (simp only [nI_1, nI_0, nI_addl, nI_mull, ← nI_succ]; rfl)) (by omega) (by omega) (Or.inl rfl) ?_
    refine rw_iinc f_J2_clear_36 rfl rfl ?_
    refine rw_goto f_J2_clear_39 ?_
    rw [nI_1', zR_s]
    exact ih
  · refine rw_iload f_J2_clear_27 rfl ?_
    refine rw_iload f_J2_clear_28 rfl ?_
    refine rw_icmpT f_J2_clear_29 (decide_eq_true (Int32.le_refl _)) ?_
    refine rw_vret f_J2_clear_42 ?_
    skip
    refine hk _ ⟨by show hp_K g l = _; rw [g1]; exact k1, ?_, g3, Nat.zero_le _, k5, ?_, fun j hj => absurd hj (Nat.not_lt_zero j)⟩ ?_
    · rw [zR_R hne, g2]; exact k2
    · rcases k6 with q | q
      · exact Or.inl ⟨by show hp_K g A = _; rw [g1]; exact q.1, q.2⟩
      · refine Or.inr ⟨q.1, ?_, by show hp_K g A = _; rw [g1]; exact q.2.2⟩
        show (if 0 = A ∧ 1 < n then 0 else hp_R g 0 1) = A
        rw [if_neg (by omega), g2]; exact q.2.1
    · by_cases e : 0 < cap
      · exact Fr_tr f1 Fr_zR (fun _ _ w => w) (fun _ _ w => absurd w id) (fun _ _ w => absurd w id) (fun _ _ w => ⟨w, e⟩) (Nat.le_refl _) (Nat.le_refl _)
      · rw [show n = 0 by omega, zR_0]
        exact Fr_w f1 (fun _ _ w => w) (fun _ _ w => absurd w id) (Nat.le_refl _) (Nat.le_refl _)
/-- the next capacity -/
def al_cap (c : Nat) : Nat := c + max 1 (c / 2)
theorem al_nl : ∀ c, c < 61 → nI c + f_max 1 (nI c >>> (1 &&& 31)) = nI (al_cap c) ∧ nI c + 1 - nI c = 1 ∧ f_min (nI c) (nI (al_cap c)) = nI c ∧ ¬ (nI (al_cap c) ≤ 0) ∧ ¬ (2147483639 < nI (al_cap c)) ∧ (nI (al_cap c)).toNatClampNeg = al_cap c ∧ al_cap c ≤ 91 ∧ ¬ nI (al_cap c) < 0 ∧ f_max 10 (nI c + 1) = (if c < 10 then 10 else nI c + 1) := by decide +kernel
theorem J10_nl {c : Nat} (hc : c < 61) {k : Int32 → am_H → Prop} (hk : k (nI (al_cap c)) h) : Rn d n_J10_newLength 0 [am_i (nI c), am_i 1, am_i (nI c >>> (1 &&& 31)), am_u] [] h (kI k) := by
  obtain ⟨e1, e2, e3, e4, e5, e6, e7, e8, -⟩ := al_nl c hc
  refine rw_iload f_J10_newLength_0 rfl ?_
  refine rw_iload f_J10_newLength_1 rfl ?_
  refine rw_iload f_J10_newLength_2 rfl ?_
  refine rw_binR f_J10_newLength_3 rfl ?_
  refine rw_iadd f_J10_newLength_6 ?_
  rw [e1]
  refine rw_istore f_J10_newLength_7 rfl rfl ?_
  refine rw_const f_J10_newLength_8 ?_
  refine rw_iload f_J10_newLength_9 rfl ?_
  refine rw_icmpF f_J10_newLength_10 (decide_eq_false e4) ?_
  refine rw_iload f_J10_newLength_13 rfl ?_
  refine rw_const f_J10_newLength_14 ?_
  refine rw_icmpF f_J10_newLength_16 (decide_eq_false e5) ?_
  refine rw_iload f_J10_newLength_19 rfl ?_
  refine rw_iret f_J10_newLength_20 ?_
  exact hk
theorem J12_cp2 {c : Nat} (hA : hp_K h A = (5, c)) (hlt : A < hp_n h) (hc : c < 61) (ho : ∀ j, j < c → 100 ≤ (hp_K h (hp_R h A j)).1 ∧ (hp_K h (hp_R h A j)).1 < 200) (hlo : ∀ j, j < c → hp_R h A j < hp_n h) {k : Nat → am_H → Prop} (hk : ∀ h', hp_K h' (hp_n h) = (5, al_cap c) → (∀ j, j < c → hp_R h' (hp_n h) j = hp_R h A j) → Fr no no 1 100 h h' → k (hp_n h) h') : Rn d n_J12_copyOf_2 0 [am_r A, am_i (nI (al_cap c)), am_r (hp_R h 0 5), am_u] [] h (kR k) := by
  obtain ⟨e1, e2, e3, e4, e5, e6, e7, e8, -⟩ := al_nl c hc
  refine rw_aload f_J12_copyOf_2_0 rfl ?_
  refine rw_glob f_J12_copyOf_2_1 ?_
  refine rw_acmpne f_J12_copyOf_2_3 (fun c => absurd rfl c) (fun _ => ?_)
  refine rw_iload f_J12_copyOf_2_6 rfl ?_
  refine rw_newa f_J12_copyOf_2_7 e6 (fun q => q.elim e8 (by omega)) ?_
  refine rw_goto f_J12_copyOf_2_10 ?_
  refine rw_astore f_J12_copyOf_2_24 rfl rfl ?_
  refine rw_aload f_J12_copyOf_2_25 rfl ?_
  refine rw_const f_J12_copyOf_2_26 ?_
  refine rw_aload f_J12_copyOf_2_27 rfl ?_
  refine rw_const f_J12_copyOf_2_28 ?_
  refine rw_aload f_J12_copyOf_2_29 rfl ?_
  refine rw_alen f_J12_copyOf_2_30 ((new_Kne (by omega)).trans hA) ?_
  refine rw_iload f_J12_copyOf_2_31 rfl ?_
  refine rw_binR f_J12_copyOf_2_32 rfl ?_
  rw [show Int32.ofNat c = nI c from rfl, e3]
  refine rw_acpyR f_J12_copyOf_2_35 ((new_Kne (by omega)).trans hA) new_K (by rw [nI_clamp (by omega)]; have := nI_pos (n := c) (by omega); simp; refine ⟨Int32.not_lt.mp this, ?_⟩; unfold al_cap; omega) ?_ ?_
  · intro j hj
    rw [nI_clamp (by omega)] at hj
    right
    show 100 ≤ (hp_K (hp_new h 5 _ _) (hp_R (hp_new h 5 _ _) A (0 + j))).1 ∧ (hp_K (hp_new h 5 _ _) (hp_R (hp_new h 5 _ _) A (0 + j))).1 < 200
    rw [Nat.zero_add, show hp_R (hp_new h 5 (al_cap c) (al_cap c)) A j = hp_R h A j from if_neg (by omega), new_Kne (by have := hlo j hj; omega)]
    exact ho j hj
  refine rw_aload f_J12_copyOf_2_38 rfl ?_
  refine rw_aret f_J12_copyOf_2_39 ?_
  rw [nI_clamp (by omega)]
  refine hk _ new_K ?_ ?_
  · intro j hj
    show (if hp_n h = hp_n h ∧ 0 ≤ j ∧ j < 0 + c then hp_R (hp_new h 5 _ _) A (0 + (j - 0)) else _) = _
    rw [if_pos ⟨rfl, Nat.zero_le _, by omega⟩, show 0 + (j - 0) = j by omega]
    exact if_neg (by omega)
  · refine ⟨⟨Nat.le_succ _, Nat.le_refl _⟩, ?_, fun b hb => new_Kne (by omega), fun al => ?_, fun b hb _ => ⟨funext fun _ => if_neg (by omega), funext fun _ => if_neg (by omega)⟩, fun b hb _ => ?_⟩
    · show hp_u h + al_cap c ≤ _
      omega
    · exact (Fr_new (h := h) (t := 5) (n := al_cap c) (m := al_cap c)).2.2.2.1 al
    · funext j
      show (if b = hp_n h ∧ _ then _ else hp_R (hp_new h 5 _ _) b j) = _
      rw [if_neg (by omega)]
      exact if_neg (by omega)
theorem J12_cp {c : Nat} (hA : hp_K h A = (5, c)) (hlt : A < hp_n h) (hc : c < 61) (ho : ∀ j, j < c → 100 ≤ (hp_K h (hp_R h A j)).1 ∧ (hp_K h (hp_R h A j)).1 < 200) (hlo : ∀ j, j < c → hp_R h A j < hp_n h) {k : Nat → am_H → Prop} (hk : ∀ h', hp_K h' (hp_n h) = (5, al_cap c) → (∀ j, j < c → hp_R h' (hp_n h) j = hp_R h A j) → Fr no no 1 100 h h' → k (hp_n h) h') : Rn (d + 1) n_J12_copyOf 0 [am_r A, am_i (nI (al_cap c))] [] h (kR k) := by
  refine rw_aload f_J12_copyOf_0 rfl ?_
  refine rw_iload f_J12_copyOf_1 rfl ?_
  refine rw_aload f_J12_copyOf_2 rfl ?_
  refine rw_getCls f_J12_copyOf_3 (by assumption) rfl ?_
  refine rw_callS f_J12_copyOf_6 rfl rfl rfl (rn_kr (J12_cp2 hA hlt hc ho hlo (fun h' q1 q2 q3 => ?_)))
  refine rw_aret f_J12_copyOf_9 ?_
  exact hk h' q1 q2 q3
end Lists2
