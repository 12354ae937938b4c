/-! LISTS (java.util.ArrayList), frames -/
/-- cells that are not made yet have no kind -/
def Al (h : am_H) : Prop := 0 < hp_n h ∧ ∀ a, (hp_n h ≤ a ∨ a = 0) → (hp_K h a).1 = 0
/-- from h to h': ints and longs are written in cells of WI only, references in cells of WR only; at most c cells and s slots are made -/
def Fr (WI WR : Nat → Prop) (c s : Nat) (h h' : am_H) : Prop := (hp_n h ≤ hp_n h' ∧ hp_n h' ≤ hp_n h + c) ∧ (hp_u h' ≤ hp_u h + s) ∧ (∀ b, b < hp_n h → hp_K h' b = hp_K h b) ∧ (Al h → Al h') ∧ (∀ b, b < hp_n h → ¬ WI b → hp_I h' b = hp_I h b ∧ hp_L h' b = hp_L h b) ∧ (∀ b, b < hp_n h → ¬ WR b → hp_R h' b = hp_R h b)
abbrev no : Nat → Prop := fun _ => False
abbrev at_ (a : Nat) : Nat → Prop := fun b => b = a
section Frames
variable {WI WR WI1 WR1 WI2 WR2 : Nat → Prop} {c s c1 c2 s1 s2 : Nat} {h h1 h2 : am_H}
theorem Fr_refl : Fr WI WR c s h h := ⟨⟨Nat.le_refl _, Nat.le_add_right _ _⟩, Nat.le_add_right _ _, fun _ _ => rfl, id, fun _ _ _ => ⟨rfl, rfl⟩, fun _ _ _ => rfl⟩
theorem Fr.n (p : Fr WI WR c s h h1) : hp_n h ≤ hp_n h1 := p.1.1
theorem Fr.K (p : Fr WI WR c s h h1) {b : Nat} (hb : b < hp_n h) : hp_K h1 b = hp_K h b := p.2.2.1 b hb
theorem Fr.al (p : Fr WI WR c s h h1) (al : Al h) : Al h1 := p.2.2.2.1 al
theorem Fr.I (p : Fr WI WR c s h h1) {b : Nat} (hb : b < hp_n h) (hw : ¬ WI b) : hp_I h1 b = hp_I h b := (p.2.2.2.2.1 b hb hw).1
theorem Fr.L (p : Fr WI WR c s h h1) {b : Nat} (hb : b < hp_n h) (hw : ¬ WI b) : hp_L h1 b = hp_L h b := (p.2.2.2.2.1 b hb hw).2
theorem Fr.R (p : Fr WI WR c s h h1) {b : Nat} (hb : b < hp_n h) (hw : ¬ WR b) : hp_R h1 b = hp_R h b := p.2.2.2.2.2 b hb hw
theorem Fr_tr (p : Fr WI1 WR1 c1 s1 h h1) (q : Fr WI2 WR2 c2 s2 h1 h2) (i1 : ∀ b, b < hp_n h → WI1 b → WI b) (r1 : ∀ b, b < hp_n h → WR1 b → WR b) (i2 : ∀ b, b < hp_n h → WI2 b → WI b) (r2 : ∀ b, b < hp_n h → WR2 b → WR b) (hc : c1 + c2 ≤ c) (hs : s1 + s2 ≤ s) : Fr WI WR c s h h2 := by
  obtain ⟨⟨p1, p2⟩, p3, p4, p5, p6, p7⟩ := p
  obtain ⟨⟨q1, q2⟩, q3, q4, q5, q6, q7⟩ := q
  refine ⟨⟨by omega, by omega⟩, by omega, fun b hb => (q4 b (by omega)).trans (p4 b hb), fun a => q5 (p5 a), fun b hb hw => ?_, fun b hb hw => ?_⟩
  · have a := p6 b hb (fun w => hw (i1 b hb w))
    have a2 := q6 b (by omega) (fun w => hw (i2 b hb w))
    exact ⟨a2.1.trans a.1, a2.2.trans a.2⟩
  · exact (q7 b (by omega) (fun w => hw (r2 b hb w))).trans (p7 b hb (fun w => hw (r1 b hb w)))
theorem Fr_w (p : Fr WI1 WR1 c1 s1 h h1) (i1 : ∀ b, b < hp_n h → WI1 b → WI b) (r1 : ∀ b, b < hp_n h → WR1 b → WR b) (hc : c1 ≤ c) (hs : s1 ≤ s) : Fr WI WR c s h h1 := by
  obtain ⟨⟨p1, p2⟩, p3, p4, p5, p6, p7⟩ := p
  exact ⟨⟨p1, by omega⟩, by omega, p4, p5, fun b hb hw => p6 b hb (fun w => hw (i1 b hb w)), fun b hb hw => p7 b hb (fun w => hw (r1 b hb w))⟩
/-- one step more -/
theorem Fr.tr (p : Fr WI WR c s h h1) (q : Fr WI2 WR2 c2 s2 h1 h2) (i2 : ∀ b, b < hp_n h → WI2 b → WI b) (r2 : ∀ b, b < hp_n h → WR2 b → WR b) : Fr WI WR (c + c2) (s + s2) h h2 := Fr_tr p q (fun _ _ w => w) (fun _ _ w => w) i2 r2 (Nat.le_refl _) (Nat.le_refl _)
theorem Fr_sI {a k : Nat} {v : Int32} : Fr (at_ a) no 0 0 h (hp_sI h a k v) := by
  refine ⟨⟨Nat.le_refl _, Nat.le_refl _⟩, Nat.le_refl _, fun _ _ => rfl, id, fun b _ hw => ⟨?_, rfl⟩, fun _ _ _ => rfl⟩
  funext j
  exact sI_ne (fun e => hw e.1)
theorem Fr_sL {a k : Nat} {v : Int64} : Fr (at_ a) no 0 0 h (hp_sL h a k v) := by
  refine ⟨⟨Nat.le_refl _, Nat.le_refl _⟩, Nat.le_refl _, fun _ _ => rfl, id, fun b _ hw => ⟨rfl, ?_⟩, fun _ _ _ => rfl⟩
  funext j
  exact if_neg (fun e => hw e.1)
theorem Fr_sR {a k : Nat} {v : Nat} : Fr no (at_ a) 0 0 h (hp_sR h a k v) := by
  refine ⟨⟨Nat.le_refl _, Nat.le_refl _⟩, Nat.le_refl _, fun _ _ => rfl, id, fun b _ _ => ⟨rfl, rfl⟩, fun b _ hw => ?_⟩
  funext j
  exact if_neg (fun e => hw e.1)
theorem Fr_I {f : Nat → Nat → Int32} (hf : ∀ b, b < hp_n h → ¬ WI b → f b = hp_I h b) : Fr WI no 0 0 h (f, h.2) :=
  ⟨⟨Nat.le_refl _, Nat.le_refl _⟩, Nat.le_refl _, fun _ _ => rfl, id, fun b hb hw => ⟨hf b hb hw, rfl⟩, fun _ _ _ => rfl⟩
theorem new_K {t n m : Nat} : hp_K (hp_new h t n m) (hp_n h) = (t, n) := if_pos rfl
theorem new_Kne {t n m b : Nat} (hb : ¬ b = hp_n h) : hp_K (hp_new h t n m) b = hp_K h b := if_neg hb
theorem new_R {t n m j : Nat} : hp_R (hp_new h t n m) (hp_n h) j = 0 := if_pos rfl
theorem new_I {t n m j : Nat} : hp_I (hp_new h t n m) (hp_n h) j = 0 := if_pos rfl
theorem new_L {t n m j : Nat} : hp_L (hp_new h t n m) (hp_n h) j = 0 := if_pos rfl
theorem new_Ine {t n m b : Nat} (hb : ¬ b = hp_n h) : hp_I (hp_new h t n m) b = hp_I h b := funext fun _ => if_neg hb
theorem new_Lne {t n m b : Nat} (hb : ¬ b = hp_n h) : hp_L (hp_new h t n m) b = hp_L h b := funext fun _ => if_neg hb
theorem new_Rne {t n m b : Nat} (hb : ¬ b = hp_n h) : hp_R (hp_new h t n m) b = hp_R h b := funext fun _ => if_neg hb
theorem new_n {t n m : Nat} : hp_n (hp_new h t n m) = hp_n h + 1 := rfl
theorem Fr_new {t n m : Nat} : Fr no no 1 m h (hp_new h t n m) := by
  refine ⟨⟨Nat.le_succ _, Nat.le_refl _⟩, Nat.le_refl _, fun b hb => new_Kne (by omega), fun al => ⟨Nat.succ_pos _, fun a ha => ?_⟩, fun b hb _ => ⟨new_Ine (by omega), new_Lne (by omega)⟩, fun b hb _ => new_Rne (by omega)⟩
  have ha' : hp_n h + 1 ≤ a ∨ a = 0 := ha
  have := al.1
  rw [new_Kne (by omega)]
  exact al.2 a (by omega)
theorem Al_lt (al : Al h) {a t n : Nat} (hk : hp_K h a = (t, n)) (ht : ¬ t = 0) : a < hp_n h := by
  refine Decidable.byContradiction fun e => ht ?_
  have := al.2 a (by omega)
  rw [hk] at this
  exact this
theorem Al_ne (al : Al h) {a t n : Nat} (hk : hp_K h a = (t, n)) (ht : ¬ t = 0) : ¬ a = 0 := by
  intro e
  have := al.2 a (Or.inr e)
  rw [hk] at this
  exact ht this
theorem Al_lt' (al : Al h) {a : Nat} (hk : ¬ (hp_K h a).1 = 0) : a < hp_n h :=
  Decidable.byContradiction fun e => hk (al.2 a (by omega))
end Frames
/-- a list of n elements in an array of cap places -/
def AL (h : am_H) (l n A cap : Nat) : Prop := hp_K h l = (130, 0) ∧ hp_R h l 1 = A ∧ hp_I h l 2 = nI n ∧ n ≤ cap ∧ cap ≤ 100 ∧ ((hp_K h A = (5, cap) ∧ 0 < cap) ∨ (cap = 0 ∧ hp_R h 0 1 = A ∧ hp_K h A = (15, 0))) ∧ ∀ j, j < n → 100 ≤ (hp_K h (hp_R h A j)).1 ∧ (hp_K h (hp_R h A j)).1 < 200
theorem AL_fr {WI WR : Nat → Prop} {c s l n A cap : Nat} {h h' : am_H} (al : Al h) (hL : AL h l n A cap) (fr : Fr WI WR c s h h') (hl : ¬ WI l) (hl2 : ¬ WR l) (hA : ¬ (WR A ∧ 0 < cap)) (h0 : ¬ WR 0) : AL h' l n A cap := by
  obtain ⟨k1, k2, k3, k4, k5, k6, k7⟩ := hL
  have ll := Al_lt al k1 (by decide)
  have lA : A < hp_n h := by
    rcases k6 with e | e
    · exact Al_lt al e.1 (by decide)
    · exact Al_lt al e.2.2 (by decide)
  refine ⟨(fr.K ll).trans k1, by rw [fr.R ll hl2]; exact k2, by rw [fr.I ll hl]; exact k3, k4, k5, ?_, fun j hj => ?_⟩
  · rw [fr.K lA, fr.R (b := 0) (by omega) h0]; exact k6
  · have e := k7 j hj
    rw [fr.R lA (fun w => hA ⟨w, by omega⟩), fr.K (Al_lt' al (by omega))]; exact e
section RowsA
variable {d i pc : Nat} {ls st : List am_V} {h : am_H} {K : am_R → am_H → Prop}
theorem rw_aaldE {ts : List Nat} {nx a t u y j : Nat} {x : Int32} (f : am_fetch i pc = some (in_aald ts nx)) (hk : hp_K h a = (t, u)) (e : x = nI j) (hj : j < u) (hu : u < 2147483648) (hy : hp_R h a j = y) (k : Rn d i nx ls (am_r y :: st) h K) (ht : ts.contains t = true := by rfl) : Rn d i pc ls (am_i x :: am_r a :: st) h K := by
  subst e
  exact rw_aald f hk (vp_in_nI hj (by omega)) (by rw [nI_clamp (by omega)]; exact hy) k ht
theorem rw_aastE {nx a u y j : Nat} {x : Int32} (f : am_fetch i pc = some (in_aast nx)) (hk : hp_K h a = (5, u)) (e : x = nI j) (hj : j < u) (hu : u < 2147483648) (hy : y = 0 ∨ (100 ≤ (hp_K h y).1 ∧ (hp_K h y).1 < 200)) (k : Rn d i nx ls st (hp_sR h a j y) K) : Rn d i pc ls (am_r y :: am_i x :: am_r a :: st) h K := by
  subst e
  refine rw_aast f hk (vp_in_nI hj (by omega)) hy ?_
  rw [nI_clamp (by omega)]; exact k
theorem rw_bastE {nx a u j : Nat} {x v : Int32} (f : am_fetch i pc = some (in_bast nx)) (hk : hp_K h a = (2, u)) (e : x = nI j) (hj : j < u) (hu : u < 2147483648) (k : Rn d i nx ls st (hp_sI h a j (vp_nar .byte v)) K) : Rn d i pc ls (am_i v :: am_i x :: am_r a :: st) h K := by
  subst e
  refine rw_bast f hk (vp_in_nI hj (by omega)) ?_
  rw [nI_clamp (by omega)]; exact k
end RowsA
section Lists
variable {d : Nat} {h : am_H} {l n A cap : Nat}
theorem J6_ck {i n f : Nat} (hi : i < n) (hn : n < 2147483648) {k : Int32 → am_H → Prop} (hk : k (nI i) h) : Rn d n_J6_checkIndex 0 [am_i (nI i), am_i (nI n), am_r f] [] h (kI k) := by
  refine rw_iload f_J6_checkIndex_0 rfl ?_
  refine rw_ifF f_J6_checkIndex_1 (decide_eq_false (nI_pos (by omega))) ?_
  refine rw_iload f_J6_checkIndex_4 rfl ?_
  refine rw_iload f_J6_checkIndex_5 rfl ?_
  refine rw_icmpT f_J6_checkIndex_6 (decide_eq_true (nI_lt hi (by omega))) ?_
  refine rw_iload f_J6_checkIndex_16 rfl ?_
  refine rw_iret f_J6_checkIndex_17 ?_
  exact hk
theorem J5_ck {i n : Nat} (hi : i < n) (hn : n < 2147483648) {k : Int32 → am_H → Prop} (hk : k (nI i) h) : Rn (d + 1) n_J5_checkIndex 0 [am_i (nI i), am_i (nI n)] [] h (kI k) := by
  refine rw_iload f_J5_checkIndex_0 rfl ?_
  refine rw_iload f_J5_checkIndex_1 rfl ?_
  refine rw_const f_J5_checkIndex_2 ?_
  refine rw_callS f_J5_checkIndex_3 rfl rfl rfl (rn_ki (J6_ck hi hn ?_))
  refine rw_iret f_J5_checkIndex_6 ?_
  exact hk
theorem J_elem {i : Nat} (hL : AL h l n A cap) (hi : i < n) {k : Nat → am_H → Prop} (hk : k (hp_R h A i) h) : Rn d n_J2_elementData 0 [am_r l, am_i (nI i)] [] h (kR k) := by
  obtain ⟨k1, k2, k3, k4, k5, k6, k7⟩ := hL
  rcases k6 with ⟨k6, -⟩ | ⟨k6, -⟩
  · refine rw_aload f_J2_elementData_0 rfl ?_
    refine rw_getR f_J2_elementData_1 (by assumption) (by first | assumption | rfl) ?_
    refine rw_iload f_J2_elementData_4 rfl ?_
    refine rw_aaldE f_J2_elementData_5 (by assumption) rfl (by omega) (by omega) (by first | assumption | rfl) ?_
    refine rw_aret f_J2_elementData_6 ?_
    exact hk
  · omega
theorem J_size (hL : AL h l n A cap) {k : Int32 → am_H → Prop} (hk : k (nI n) h) : Rn d n_J2_size 0 [am_r l] [] h (kI k) := by
  obtain ⟨k1, k2, k3, k4, k5, k6, k7⟩ := hL
  refine rw_aload f_J2_size_0 rfl ?_
  refine rw_getI f_J2_size_1 (by assumption) ?_
  refine rw_iret f_J2_size_4 ?_
  rw [k3]
  exact hk
theorem J_isEmpty (hL : AL h l n A cap) {k : Int32 → am_H → Prop} (hk : k (bI (decide (n = 0))) h) : Rn d n_J2_isEmpty 0 [am_r l] [] h (kI k) := by
  obtain ⟨k1, k2, k3, k4, k5, k6, k7⟩ := hL
  have e : hp_I h l 2 = 0 ↔ n = 0 := by rw [k3, show (0 : Int32) = nI 0 from rfl, nI_eq (by omega) (by omega)]
  refine rw_aload f_J2_isEmpty_0 rfl ?_
  refine rw_getI f_J2_isEmpty_1 (by assumption) ?_
  first | refine rw_ne0B f_J2_isEmpty_4 (fun c1 => ?_) (fun c1 => ?_) | refine rw_ne0 f_J2_isEmpty_4 (fun c1 => ?_) (fun c1 => ?_)
  · refine rw_const f_J2_isEmpty_11 ?_
    refine rw_zret f_J2_isEmpty_12 (by first | exact Or.inl rfl | exact Or.inr rfl | exact bI_01 _ | assumption) ?_
    simpa [bI, ← e, c1] using hk
  · refine rw_const f_J2_isEmpty_7 ?_
    refine rw_goto f_J2_isEmpty_8 ?_
    refine rw_zret f_J2_isEmpty_12 (by first | exact Or.inl rfl | exact Or.inr rfl | exact bI_01 _ | assumption) ?_
    simpa [bI, ← e, c1] using hk
theorem J_get {i : Nat} (hL : AL h l n A cap) (h0 : ¬ l = 0) (hi : i < n) {k : Nat → am_H → Prop} (hk : k (hp_R h A i) h) : Rn (d + 2) n_J2_get 0 [am_r l, am_i (nI i)] [] h (kR k) := by
  have hL' := hL
  obtain ⟨k1, k2, k3, k4, k5, k6, k7⟩ := hL'
  refine rw_iload f_J2_get_0 rfl ?_
  refine rw_aload f_J2_get_1 rfl ?_
  refine rw_getI f_J2_get_2 (by assumption) ?_
  rw [k3]
  refine rw_callS f_J2_get_5 rfl rfl rfl (rn_ki (J5_ck hi (by omega) ?_))
  first | refine rw_popi f_J2_get_8 ?_ | refine rw_popr f_J2_get_8 ?_
  refine rw_aload f_J2_get_9 rfl ?_
  refine rw_iload f_J2_get_10 rfl ?_
  refine rw_callV f_J2_get_11 rfl (by assumption) (by first | assumption | omega) rfl rfl rfl rfl (rn_kr (J_elem hL hi ?_))
  refine rw_aret f_J2_get_14 ?_
  exact hk
end Lists
