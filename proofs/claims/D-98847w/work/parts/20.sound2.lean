/-! SOUND, part 2: classes, the two heaps -/
def TWr : u_T := fun k => match k with
  | 0 => (RX3, "kind", "I", false)
  | _ => (RX3, "place", "I", false)
def tyWr : Nat → FieldType := fun _ => .int
theorem nmWr : ∀ a, a < 2 → ∀ b, b < 2 → a ≠ b → (TWr a).2.1 ≠ (TWr b).2.1 := by decide +kernel
theorem tyWr_ok : ∀ k, k < 2 → parseFieldDescriptor (TWr k).2.2.1 = some (tyWr k) := by decide +kernel
theorem in_Wr : ∀ w ∈ u_ws RX3 TWr 2, w ∈ lw_all := lw_in _ [342, 344] (by decide +kernel) (by decide +kernel)
def sd_cl (ci : Nat) : Option vw_C := match ci with
  | 0 => some (RX0, TX0, 20)
  | 1 => some (RX1, TX1, 14)
  | 2 => some (RX2, TX2, 5)
  | 3 => some (RX3, TWr, 2)
  | 4 => some (RX4, TX4, 10)
  | 6 => some (RX6, TX6, 5)
  | 7 => some (RX7, TX7, 4)
  | 8 => some (RX8, TX8, 1)
  | 9 => some (RX9, TX9, 97)
  | 10 => some (RX10, TX10, 11)
  | 12 => some (RX12, TX12, 4)
  | 13 => some (RX13, TX13, 2)
  | 15 => some (RX15, TX15, 7)
  | 16 => some (RX16, TX16, 7)
  | 18 => some (RX18, TX18, 1)
  | 19 => some (RX19, TX19, 1)
  | 20 => some (RX20, TX20, 1)
  | 21 => some (RX21, TX21, 3)
  | 22 => some (RX22, TX22, 5)
  | 30 => some (RJ2, TJ2, 3)
  | _ => none
def sd_ty (ci : Nat) : Nat → FieldType := match ci with
  | 0 => tyX0
  | 1 => tyX1
  | 2 => tyX2
  | 3 => tyWr
  | 4 => tyX4
  | 6 => tyX6
  | 7 => tyX7
  | 8 => tyX8
  | 9 => tyX9
  | 10 => tyX10
  | 12 => tyX12
  | 13 => tyX13
  | 15 => tyX15
  | 16 => tyX16
  | 18 => tyX18
  | 19 => tyX19
  | 20 => tyX20
  | 21 => tyX21
  | 22 => tyX22
  | 30 => tyJ2
  | _ => fun _ => .int
theorem sd_cl_in {ci : Nat} {r : vw_C} (h : sd_cl ci = some r) : (∀ w ∈ u_ws r.1 r.2.1 r.2.2, w ∈ lw_all) ∧ ∀ k, k < r.2.2 → parseFieldDescriptor (r.2.1 k).2.2.1 = some (sd_ty ci k) := by
  unfold sd_cl at h
  split at h
  · cases h; exact ⟨in_X0, tyX0_ok⟩
  · cases h; exact ⟨in_X1, tyX1_ok⟩
  · cases h; exact ⟨in_X2, tyX2_ok⟩
  · cases h; exact ⟨in_Wr, tyWr_ok⟩
  · cases h; exact ⟨in_X4, tyX4_ok⟩
  · cases h; exact ⟨in_X6, tyX6_ok⟩
  · cases h; exact ⟨in_X7, tyX7_ok⟩
  · cases h; exact ⟨in_X8, tyX8_ok⟩
  · cases h; exact ⟨in_X9, tyX9_ok⟩
  · cases h; exact ⟨in_X10, tyX10_ok⟩
  · cases h; exact ⟨in_X12, tyX12_ok⟩
  · cases h; exact ⟨in_X13, tyX13_ok⟩
  · cases h; exact ⟨in_X15, tyX15_ok⟩
  · cases h; exact ⟨in_X16, tyX16_ok⟩
  · cases h; exact ⟨in_X18, tyX18_ok⟩
  · cases h; exact ⟨in_X19, tyX19_ok⟩
  · cases h; exact ⟨in_X20, tyX20_ok⟩
  · cases h; exact ⟨in_X21, tyX21_ok⟩
  · cases h; exact ⟨in_X22, tyX22_ok⟩
  · cases h; exact ⟨in_J2, tyJ2_ok⟩
  · cases h
theorem sd_cl_nm {ci : Nat} {r : vw_C} (h : sd_cl ci = some r) (h6 : ¬ (ci = 6 ∨ ci = 7)) : ∀ a, a < r.2.2 → ∀ b, b < r.2.2 → a ≠ b → (r.2.1 a).2.1 ≠ (r.2.1 b).2.1 := by
  unfold sd_cl at h
  split at h
  · cases h; exact nmX0
  · cases h; exact nmX1
  · cases h; exact nmX2
  · cases h; exact nmWr
  · cases h; exact nmX4
  · exact absurd (by simp) h6
  · exact absurd (by simp) h6
  · cases h; exact nmX8
  · cases h; exact nmX9
  · cases h; exact nmX10
  · cases h; exact nmX12
  · cases h; exact nmX13
  · cases h; exact nmX15
  · cases h; exact nmX16
  · cases h; exact nmX18
  · cases h; exact nmX19
  · cases h; exact nmX20
  · cases h; exact nmX21
  · cases h; exact nmX22
  · cases h; exact nmJ2
  · cases h
def sd_tc (ty : FieldType) : Nat := match ty with
  | .int => 0
  | .boolean => 0
  | .byte => 0
  | .char => 0
  | .short => 0
  | .long => 1
  | _ => 2
def sd_mu (ci k : Nat) : Nat := if (ci = 15 ∨ ci = 16) ∧ k = 6 then 0 else k
def sd_free (ci k : Nat) (h : am_H) (a : Nat) : Prop := (ci = 6 ∨ ci = 7) ∧ k = 1 ∧ hp_R h a 1 = 0
def sd_fv (ci k : Nat) (h : am_H) (a : Nat) : Value := sd_val (sd_tc (sd_ty ci k)) h a (sd_mu ci k)
/-- an object -/
def sd_ob (D : va_G) (ci : Nat) (h : am_H) (a : Nat) (H : Heap) : Prop := ∃ (r : vw_C) (cell : Cell), sd_cl ci = some r ∧ H[a - 1]? = some cell ∧ cell.cls = D.1 ci ∧ cell.vm = .none ∧ ∀ k, k < r.2.2 → D.2 ci k < cell.slots.size ∧ (sd_free ci k h a ∨ cell.slots[D.2 ci k]? = some (sd_fv ci k h a))
/-- an array that may be written -/
def sd_aw (P : sd_P) (h : am_H) (a t u : Nat) (H : Heap) : Prop := ∃ (tc : Nat) (ty : FieldType), sd_ar t = some (tc, ty) ∧ sd_lo P < a ∧ H[a - 1]? = some (arrV (P.2.1 t) u (fun j => sd_val tc h a j))
/-- an array that is only read -/
def sd_ao (P : sd_P) (s : State) (h : am_H) (a t u : Nat) : Prop := ∃ (tc : Nat) (ty : FieldType) (cell : Cell), sd_ro t = some (tc, ty) ∧ 0 < a ∧ a ≤ sd_lo P ∧ P.2.2.1[a - 1]? = some cell ∧ s.isArrayOf cell ty ∧ cell.vm ≠ .unknown ∧ u ≤ cell.slots.size ∧ cell.slots.size.toInt32 = Int32.ofNat u ∧ ∀ j : Nat, j < u → cell.slots[j]? = some (sd_val tc h a j)
def sd_str (P : sd_P) (s : State) (h : am_H) (a : Nat) : Prop := 0 < a ∧ hp_I h a 1 = 0 ∧ va_O "java/lang/String" (a - 1) (sd_A P) s P.2.2.1 ∧ va_OF "java/lang/String" "coder" "B" (.int 0) (a - 1) (sd_A P) s P.2.2.1 ∧ va_OF "java/lang/String" "value" "[B" (sd_rv (hp_R h a 0)) (a - 1) (sd_A P) s P.2.2.1
def sd_cell (P : sd_P) (s : State) (h : am_H) (a t u : Nat) (H : Heap) : Prop := sd_aw P h a t u H ∨ sd_ao P s h a t u ∨ (100 ≤ t ∧ t < 200 ∧ sd_lo P < a ∧ sd_ob P.1 (t - 100) h a H) ∨ (t = 231 ∧ sd_str P s h a)
def sd_Rel (P : sd_P) (s : State) (h : am_H) (H : Heap) : Prop := H.size + 1 = hp_n h ∧ (∀ k, hp_R h 0 k = P.2.2.2 k) ∧ (∀ q : Nat, q < sd_lo P → H[q]? = P.2.2.1[q]?) ∧ ∀ a t u, hp_K h a = (t, u) → t = 0 ∨ sd_cell P s h a t u H
/-- words that don't ride in the lists -/
def sd_isnw (w : Cond) : Bool := match w with
  | .fieldLinkNest _ _ _ _ _ _ => true
  | .methodLinkNest _ _ _ _ => true
  | .castable _ _ => true
  | .declares _ => true
  | .arrayOver (.object _) => true
  | _ => false
/-- statics that are read: their class, name, type, and which global -/
def sd_st : List (String × String × String × Nat) := [("java/util/ArrayList", "DEFAULTCAPACITY_EMPTY_ELEMENTDATA", "[Ljava/lang/Object;", 1), (RX10, "KEPT_WORDS", "[Ljava/lang/String;", 2), (RX10, "NAMED", "[Ljava/lang/String;", 3), ("jdk/internal/util/Preconditions", "SIOOBE_FORMATTE\x52", "Ljava/util/function/BiFunction;", 4)]
/-- string constants of the reader: their place in its pool, the text, which global -/
def sd_sk : List (Nat × String × Nat) := [(143, "colou\x72", 14), (151, "holes", 20), (155, "left", 22), (172, "hours", 21), (179, "on", 26), (184, "by", 13), (185, "does", 17), (187, "neve\x72", 24), (197, "until", 30), (203, "thread", 29), (207, "afte\x72", 10), (236, "o\x72", 27), (246, "and", 11), (248, "not", 25), (281, "man", 23), (283, "deed", 16), (285, "button", 12), (287, "friend", 19), (289, "wea\x72", 31), (294, "day", 15), (300, "storm", 28), (305, "draw", 18)]
/-- a private method of an abstract class, as its heirs select it -/
def sd_ex : List Cond := [Cond.selects RX6 yX5_go yX5_go, Cond.selects RX7 yX5_go yX5_go]
/-- a string that is a constant, with its array as a global -/
def sd_stg (P : sd_P) (s : State) (a : Nat) : Prop := 0 < a ∧ va_O "java/lang/String" (a - 1) (sd_A P) s P.2.2.1 ∧ va_OF "java/lang/String" "coder" "B" (.int 0) (a - 1) (sd_A P) s P.2.2.1 ∧ va_OF "java/lang/String" "value" "[B" (sd_rv (P.2.2.2 (1000 + a))) (a - 1) (sd_A P) s P.2.2.1
/-- what the tables say, at any time -/
def sd_G (P : sd_P) (s : State) : Prop := (∀ ci r, sd_cl ci = some r → u_Kn s r.1 r.2.1 r.2.2 (P.1.1 ci) (P.1.2 ci)) ∧ (∀ t tc ty, sd_ar t = some (tc, ty) → ArrOfT s (P.2.1 t) ty ∧ va_RA s (P.2.1 t) ty) ∧ (∀ w ∈ lw_tbl, sd_isnw w = true → va_Nw w s) ∧ (∀ q ∈ sd_st, va_Z q.1 q.2.1 q.2.2.1 (sd_rv (P.2.2.2 q.2.2.2)) (sd_A P) s P.2.2.1) ∧ va_Z "java/lang/String" "COMPACT_STRINGS" "Z" (.int 1) (sd_A P) s P.2.2.1 ∧ (∀ q ∈ sd_sk, 0 < P.2.2.2 q.2.2 ∧ vk_R RX10 q.1 q.2.1 (P.2.2.2 q.2.2 - 1) s) ∧ ((∀ w ∈ sd_ex, w.before #[] s = true) ∧ vx_Zq Bundle.tN "UNASSIGNED_STACK" Bundle.steD (sd_A P) s P.2.2.1 ∧ vx_Zq Bundle.tN "SUPPRESSED_SENTINEL" Bundle.listD (sd_A P) s P.2.2.1 ∧ ∀ a, P.2.2.2 (1000 + a) ≠ 0 → sd_stg P s a) ∧ 0 < P.2.2.2 5 ∧ va_Mi "[Ljava/lang/Object;" (P.2.2.2 5 - 1) s
theorem sd_nw_warm {w : Cond} {s U : State} (hw : sd_isnw w = true) (hW : s.WarmedH U.vm) (h : va_Nw w s) : va_Nw w U := by
  unfold sd_isnw at hw
  split at hw
  · exact va_Nw.warmF hW h
  · exact va_Nw.warmM hW h
  · exact va_Nw.warmC hW h
  · exact va_Nw.warmD hW h
  · exact va_AO.moved hW.alike h
  · cases hw
theorem sd_G.warm {P : sd_P} {s U : State} (hW : s.WarmedH U.vm) (h : sd_G P s) : sd_G P U := by
  obtain ⟨h1, h2, h3, h4, h5, h6, h7, h8, h9⟩ := h
  exact ⟨fun ci r hr => u_Kn_moved hW.alike (h1 ci r hr), fun t tc ty ht => ⟨arrOfT_moved hW.alike (h2 t tc ty ht).1, (h2 t tc ty ht).2.moved hW.alike⟩, fun w hw hi => sd_nw_warm hi hW (h3 w hw hi), fun q hq => (h4 q hq).moved hW.alike, h5.moved hW.alike, fun q hq => ⟨(h6 q hq).1, (h6 q hq).2.warm hW⟩, ⟨fun w hw => word_at hW (Or.inl (by simp only [sd_ex, List.mem_cons, List.not_mem_nil, or_false] at hw; rcases hw with e | e <;> (rw [e]; rfl))) (h7.1 w hw), h7.2.1.moved hW.alike, h7.2.2.1.moved hW.alike, fun a ha => ⟨(h7.2.2.2 a ha).1, (h7.2.2.2 a ha).2.1.moved hW.alike, (h7.2.2.2 a ha).2.2.1.moved hW.alike, (h7.2.2.2 a ha).2.2.2.moved hW.alike⟩⟩, h8, h9.moved hW.alike⟩
theorem sd_cell.alike {P : sd_P} {s U : State} {h : am_H} {a t u : Nat} {H : Heap} (hW : s.vm.Alike U.vm) (hc : sd_cell P s h a t u H) : sd_cell P U h a t u H := by
  rcases hc with hc | ⟨tc, ty, cell, r1, r2, r3, r4, r5, r6⟩ | hc | ⟨r1, r2, r3, r4, r5, r6⟩
  · exact Or.inl hc
  · exact Or.inr (Or.inl ⟨tc, ty, cell, r1, r2, r3, r4, State.isArrayOf_alike hW r5, r6⟩)
  · exact Or.inr (Or.inr (Or.inl hc))
  · exact Or.inr (Or.inr (Or.inr ⟨r1, r2, r3, r4.moved hW, r5.moved hW, r6.moved hW⟩))
theorem sd_Rel.alike {P : sd_P} {s U : State} {h : am_H} {H : Heap} (hW : s.vm.Alike U.vm) (hR : sd_Rel P s h H) : sd_Rel P U h H :=
  ⟨hR.1, hR.2.1, hR.2.2.1, fun a t u hk => (hR.2.2.2 a t u hk).imp id (fun z => z.alike hW)⟩
-- what a cell gives
theorem sd_Rel.aw {P : sd_P} {s : State} {h : am_H} {H : Heap} (hR : sd_Rel P s h H) {a t u : Nat} (hk : hp_K h a = (t, u)) {tc : Nat} {ty : FieldType} (ht : sd_ar t = some (tc, ty)) : sd_lo P < a ∧ H[a - 1]? = some (arrV (P.2.1 t) u (fun j => sd_val tc h a j)) := by
  rcases hR.2.2.2 a t u hk with h0 | ⟨tc', ty', r1, r2, r3⟩ | ⟨tc', ty', cell, r1, r2⟩ | ⟨r1, r2, r3⟩ | ⟨r1, r2⟩
  · subst h0; cases ht
  · rw [ht] at r1; cases r1; exact ⟨r2, r3⟩
  · exfalso; unfold sd_ar at ht; unfold sd_ro at r1; split at ht <;> simp_all
  · exfalso; unfold sd_ar at ht; split at ht <;> first | omega | cases ht
  · subst r1; cases ht
theorem sd_Rel.ob {P : sd_P} {s : State} {h : am_H} {H : Heap} (hR : sd_Rel P s h H) {a t u : Nat} (hk : hp_K h a = (t, u)) (h1 : 100 ≤ t) (h2 : t < 200) : sd_lo P < a ∧ sd_ob P.1 (t - 100) h a H := by
  rcases hR.2.2.2 a t u hk with h0 | ⟨tc', ty', r1, r2, r3⟩ | ⟨tc', ty', cell, r1, r2⟩ | ⟨-, -, r3⟩ | ⟨r1, r2⟩
  · omega
  · exfalso; unfold sd_ar at r1; split at r1 <;> first | omega | cases r1
  · exfalso; unfold sd_ro at r1; split at r1 <;> first | omega | cases r1
  · exact r3
  · omega
theorem sd_Rel.strg {P : sd_P} {s : State} {h : am_H} {H : Heap} (hR : sd_Rel P s h H) {a u : Nat} (hk : hp_K h a = (231, u)) : sd_str P s h a := by
  rcases hR.2.2.2 a 231 u hk with h0 | ⟨tc', ty', r1, r2, r3⟩ | ⟨tc', ty', cell, r1, r2⟩ | ⟨-, r3, -⟩ | ⟨-, r2⟩
  · cases h0
  · cases r1
  · cases r1
  · omega
  · exact r2
/-- any array, to read -/
theorem sd_Rel.ard {P : sd_P} {s : State} {h : am_H} {H : Heap} (hG : sd_G P s) (hR : sd_Rel P s h H) {a t u : Nat} (hk : hp_K h a = (t, u)) {tc : Nat} {ty : FieldType} (ht : sd_ar t = some (tc, ty) ∨ sd_ro t = some (tc, ty)) :
    ∃ cell : Cell, 0 < a ∧ H[a - 1]? = some cell ∧ s.isArrayOf cell ty ∧ cell.vm ≠ .unknown ∧ u ≤ cell.slots.size ∧ cell.slots.size.toInt32 = Int32.ofNat u ∧ ∀ j : Nat, j < u → cell.slots[j]? = some (sd_val tc h a j) := by
  rcases ht with ht | ht
  · obtain ⟨h1, h2⟩ := hR.aw hk ht
    exact ⟨_, by omega, h2, (hG.2.1 t tc ty ht).1 u _, (fun q => by cases q), Nat.le_of_eq (arrV_size _ _ _).symm, (by rw [arrV_size] <;> rfl), fun j hj => arrV_read _ _ hj⟩
  · rcases hR.2.2.2 a t u hk with h0 | ⟨tc', ty', r1, r2, r3⟩ | ⟨tc', ty', cell, r1, r2, r3, r4, r5⟩ | ⟨r1, r2, r3⟩ | ⟨r1, r2⟩
    · subst h0; cases ht
    · exfalso; unfold sd_ar at r1; unfold sd_ro at ht; split at ht <;> simp_all
    · rw [ht] at r1; cases r1
      exact ⟨cell, r2, by rw [hR.2.2.1 _ (show a - 1 < sd_lo P by omega)]; exact r4, r5⟩
    · exfalso; unfold sd_ro at ht; split at ht <;> first | omega | cases ht
    · subst r1; cases ht
-- stores
/-- what lies elsewhere stays -/
theorem sd_Rel.put {P : sd_P} {s : State} {h h' : am_H} {H H' : Heap} (hR : sd_Rel P s h H) {a : Nat} (hlo : sd_lo P < a) (hK : hp_K h' = hp_K h) (hn : hp_n h' = hp_n h) (hI : ∀ b k, b ≠ a → hp_I h' b k = hp_I h b k) (hL : ∀ b k, b ≠ a → hp_L h' b k = hp_L h b k) (hRr : ∀ b k, b ≠ a → hp_R h' b k = hp_R h b k)
    (hs : H'.size = H.size) (ho : ∀ q, q ≠ a - 1 → H'[q]? = H[q]?) (hc : ∀ t u, hp_K h a = (t, u) → t = 0 ∨ sd_cell P s h' a t u H') : sd_Rel P s h' H' := by
  have hv : ∀ tc b k, b ≠ a → sd_val tc h' b k = sd_val tc h b k := by
    intro tc b k hb
    unfold sd_val
    split
    · rw [hI b k hb]
    · rw [hL b k hb]
    · rw [hRr b k hb]
  refine ⟨by rw [hs, hn]; exact hR.1, fun k => by rw [hRr 0 k (by omega)]; exact hR.2.1 k, fun q hq => by rw [ho q (by omega)]; exact hR.2.2.1 q hq, fun b t u hk => ?_⟩
  rw [hK] at hk
  by_cases hb : b = a
  · subst hb; exact hc t u hk
  · refine (hR.2.2.2 b t u hk).imp id (fun z => ?_)
    rcases z with ⟨tc, ty, r1, r2, r3⟩ | ⟨tc, ty, cell, r1, r2, r3, r4, r5, r6, r7, r8, r9⟩ | ⟨r1, r2, r3, r, cell, r4, r5, r6, r7, r8⟩ | ⟨r1, r2, r3, r4, r5, r6⟩
    · refine Or.inl ⟨tc, ty, r1, r2, ?_⟩
      rw [ho _ (by omega), r3]
      congr 2
      funext j
      exact (hv tc b j hb).symm
    · exact Or.inr (Or.inl ⟨tc, ty, cell, r1, r2, r3, r4, r5, r6, r7, r8, fun j hj => by rw [hv tc b j hb]; exact r9 j hj⟩)
    · refine Or.inr (Or.inr (Or.inl ⟨r1, r2, r3, r, cell, r4, by rw [ho _ (by omega)]; exact r5, r6, r7, fun k hk => ⟨(r8 k hk).1, ?_⟩⟩))
      rcases (r8 k hk).2 with q | q
      · exact Or.inl ⟨q.1, q.2.1, by rw [hRr b 1 hb]; exact q.2.2⟩
      · exact Or.inr (by rw [q]; unfold sd_fv; rw [hv _ b _ hb])
    · exact Or.inr (Or.inr (Or.inr ⟨r1, r2, by rw [hI b 1 hb]; exact r3, r4, r5, by rw [hRr b 0 hb]; exact r6⟩))
/-- a new cell -/
theorem sd_Rel.push {P : sd_P} {s : State} {h : am_H} {H H' : Heap} (hR : sd_Rel P s h H) {t n w : Nat} (hlo : sd_lo P ≤ H.size) (hs : H'.size = H.size + 1) (ho : ∀ q, q < H.size → H'[q]? = H[q]?) (hc : sd_cell P s (hp_new h t n w) (hp_n h) t n H') : sd_Rel P s (hp_new h t n w) H' := by
  have hv : ∀ tc b k, b ≠ hp_n h → sd_val tc (hp_new h t n w) b k = sd_val tc h b k := by
    intro tc b k hb
    unfold sd_val
    split
    · show Value.int (am_zap h.1 (hp_n h) 0 b k) = _
      rw [am_zap, if_neg hb]
    · show Value.long (am_zap h.2.1 (hp_n h) 0 b k) = _
      rw [am_zap, if_neg hb]
    · show sd_rv (am_zap h.2.2.1 (hp_n h) 0 b k) = _
      rw [am_zap, if_neg hb]
  have hRr : ∀ b k, b ≠ hp_n h → hp_R (hp_new h t n w) b k = hp_R h b k := fun b k hb => by
    show am_zap h.2.2.1 (hp_n h) 0 b k = _
    rw [am_zap, if_neg hb]
  have hI : ∀ b k, b ≠ hp_n h → hp_I (hp_new h t n w) b k = hp_I h b k := fun b k hb => by
    show am_zap h.1 (hp_n h) 0 b k = _
    rw [am_zap, if_neg hb]
  have hz := hR.1
  refine ⟨by rw [hs]; show H.size + 1 + 1 = hp_n h + 1; omega, fun k => by rw [hRr 0 k (by omega)]; exact hR.2.1 k, fun q hq => by rw [ho q (by omega)]; exact hR.2.2.1 q hq, fun b t' u hk => ?_⟩
  by_cases hb : b = hp_n h
  · subst hb
    have e : hp_K (hp_new h t n w) (hp_n h) = (t, n) := by show am_kd h.2.2.2.1 (hp_n h) (t, n) (hp_n h) = _; rw [am_kd, if_pos rfl]
    rw [e] at hk
    cases hk
    exact Or.inr hc
  · have e : hp_K (hp_new h t n w) b = hp_K h b := by show am_kd h.2.2.2.1 (hp_n h) (t, n) b = _; rw [am_kd, if_neg hb]
    rw [e] at hk
    refine (hR.2.2.2 b t' u hk).imp id (fun z => ?_)
    rcases z with ⟨tc, ty, r1, r2, r3⟩ | ⟨tc, ty, cell, r1, r2, r3, r4, r5, r6, r7, r8, r9⟩ | ⟨r1, r2, r3, r, cell, r4, r5, r6, r7, r8⟩ | ⟨r1, r2, r3, r4, r5, r6⟩
    · refine Or.inl ⟨tc, ty, r1, r2, ?_⟩
      rw [ho _ (Array.getElem?_eq_some_iff.mp r3).1, r3]
      congr 2
      funext j
      exact (hv tc b j hb).symm
    · exact Or.inr (Or.inl ⟨tc, ty, cell, r1, r2, r3, r4, r5, r6, r7, r8, fun j hj => by rw [hv tc b j hb]; exact r9 j hj⟩)
    · refine Or.inr (Or.inr (Or.inl ⟨r1, r2, r3, r, cell, r4, by rw [ho _ (Array.getElem?_eq_some_iff.mp r5).1]; exact r5, r6, r7, fun k hk => ⟨(r8 k hk).1, ?_⟩⟩))
      rcases (r8 k hk).2 with q | q
      · exact Or.inl ⟨q.1, q.2.1, by rw [hRr b 1 hb]; exact q.2.2⟩
      · exact Or.inr (by rw [q]; unfold sd_fv; rw [hv _ b _ hb])
    · exact Or.inr (Or.inr (Or.inr ⟨r1, r2, by rw [hI b 1 hb]; exact r3, r4, r5, by rw [hRr b 0 hb]; exact r6⟩))
