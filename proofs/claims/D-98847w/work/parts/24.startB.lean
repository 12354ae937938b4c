/-! THE START, part 2: strings and statics; the start of the small machine -/
def st_pool : List Nat := [207, 246, 285, 184, 143, 294, 283, 185, 305, 287, 151, 172, 155, 281, 187, 248, 179, 236, 300, 203, 197, 289]
def st_len : List Nat := [5, 3, 6, 2, 6, 3, 4, 4, 4, 6, 5, 5, 4, 3, 5, 3, 2, 2, 5, 6, 5, 4]
def st_byt : List (List Int32) := [[97, 102, 116, 101, 114], [97, 110, 100], [98, 117, 116, 116, 111, 110], [98, 121], [99, 111, 108, 111, 117, 114], [100, 97, 121], [100, 101, 101, 100], [100, 111, 101, 115], [100, 114, 97, 119], [102, 114, 105, 101, 110, 100], [104, 111, 108, 101, 115], [104, 111, 117, 114, 115], [108, 101, 102, 116], [109, 97, 110], [110, 101, 118, 101, 114], [110, 111, 116], [111, 110], [111, 114], [115, 116, 111, 114, 109], [116, 104, 114, 101, 97, 100], [117, 110, 116, 105, 108], [119, 101, 97, 114]]
def st_kw : List Nat := [13, 4, 10, 12, 6, 11, 2, 16, 3, 7, 14, 20, 19, 0, 9, 21, 5, 18, 8, 17, 1, 15]
def st_nd : List Nat := [19, 10, 18, 5]
def st_tm (i : Nat) : Term := .string RX10 (st_pool.getD i 0)
abbrev st_T : Cond := Jvm.Cond.and given_1 narrow_1
theorem st_m1 : ∀ i, i < 22 → Cond.exactly (st_tm i) "java/lang/String" ∈ flatC st_T := by decide +kernel
theorem st_m2 : ∀ i, i < 22 → Cond.eq (.field (st_tm i) "java/lang/String" "coder" "B") (.int 0) ∈ flatC st_T := by decide +kernel
theorem st_m3 : ∀ i, i < 22 → Cond.arrayOf (.field (st_tm i) "java/lang/String" "value" "[B") .byte ∈ flatC st_T := by decide +kernel
theorem st_m4 : ∀ i, i < 22 → Cond.eq (.length (.field (st_tm i) "java/lang/String" "value" "[B")) (.int (Int32.ofNat (st_len.getD i 0))) ∈ flatC st_T := by decide +kernel
theorem st_m5 : ∀ i, i < 22 → ∀ j, j < st_len.getD i 0 → Cond.eq (.elem (.field (st_tm i) "java/lang/String" "value" "[B") (.int (Int32.ofNat j))) (.int ((st_byt.getD i []).getD j 0)) ∈ flatC st_T := by decide +kernel
def st_ne (c : Cond) : Option (Nat × Nat) := match c with
  | .not (.eq (.string o a) (.string o' b)) => if o = RX10 ∧ o' = RX10 then some (a, b) else none
  | _ => none
theorem st_ne_spec {c : Cond} {q : Nat × Nat} (h : st_ne c = some q) : c = Cond.not (Cond.eq (.string RX10 q.1) (.string RX10 q.2)) := by
  unfold st_ne at h
  split at h
  · split at h
    · rename_i e
      cases h
      rw [e.1, e.2]
    · cases h
  · cases h
def st_prs : List (Nat × Nat) := [(281, 283), (281, 285), (283, 285), (281, 287), (283, 287), (285, 287), (281, 289), (283, 289), (285, 289), (287, 289), (281, 294), (283, 294), (285, 294), (287, 294), (289, 294), (281, 300), (283, 300), (285, 300), (287, 300), (289, 300), (294, 300), (281, 305), (283, 305), (285, 305), (287, 305), (289, 305), (294, 305), (300, 305), (281, 143), (283, 143), (285, 143), (287, 143), (289, 143), (294, 143), (300, 143), (305, 143), (281, 151), (283, 151), (285, 151), (287, 151), (289, 151), (294, 151), (300, 151), (305, 151), (143, 151), (281, 155), (283, 155), (285, 155), (287, 155), (289, 155), (294, 155), (300, 155), (305, 155), (143, 155), (151, 155), (281, 172), (283, 172), (285, 172), (287, 172), (289, 172), (294, 172), (300, 172), (305, 172), (143, 172), (151, 172), (155, 172), (281, 179), (283, 179), (285, 179), (287, 179), (289, 179), (294, 179), (300, 179), (305, 179), (143, 179), (151, 179), (155, 179), (172, 179), (281, 184), (283, 184), (285, 184), (287, 184), (289, 184), (294, 184), (300, 184), (305, 184), (143, 184), (151, 184), (155, 184), (172, 184), (179, 184), (281, 185), (283, 185), (285, 185), (287, 185), (289, 185), (294, 185), (300, 185), (305, 185), (143, 185), (151, 185), (155, 185), (172, 185), (179, 185), (184, 185), (281, 187), (283, 187), (285, 187), (287, 187), (289, 187), (294, 187), (300, 187), (305, 187), (143, 187), (151, 187), (155, 187), (172, 187), (179, 187), (184, 187), (185, 187), (281, 197), (283, 197), (285, 197), (287, 197), (289, 197), (294, 197), (300, 197), (305, 197), (143, 197), (151, 197), (155, 197), (172, 197), (179, 197), (184, 197), (185, 197), (187, 197), (281, 203), (283, 203), (285, 203), (287, 203), (289, 203), (294, 203), (300, 203), (305, 203), (143, 203), (151, 203), (155, 203), (172, 203), (179, 203), (184, 203), (185, 203), (187, 203), (197, 203), (281, 207), (283, 207), (285, 207), (287, 207), (289, 207), (294, 207), (300, 207), (305, 207), (143, 207), (151, 207), (155, 207), (172, 207), (179, 207), (184, 207), (185, 207), (187, 207), (197, 207), (203, 207), (281, 248), (283, 248), (285, 248), (287, 248), (289, 248), (294, 248), (300, 248), (305, 248), (143, 248), (151, 248), (155, 248), (172, 248), (179, 248), (184, 248), (185, 248), (187, 248), (197, 248), (203, 248), (207, 248), (281, 246), (283, 246), (285, 246), (287, 246), (289, 246), (294, 246), (300, 246), (305, 246), (143, 246), (151, 246), (155, 246), (172, 246), (179, 246), (184, 246), (185, 246), (187, 246), (197, 246), (203, 246), (207, 246), (248, 246), (281, 236), (283, 236), (285, 236), (287, 236), (289, 236), (294, 236), (300, 236), (305, 236), (143, 236), (151, 236), (155, 236), (172, 236), (179, 236), (184, 236), (185, 236), (187, 236), (197, 236), (203, 236), (207, 236), (248, 236), (246, 236)]
theorem st_prs_eq : (flatC st_T).filterMap st_ne = st_prs := by decide +kernel
theorem st_prs_mem {q : Nat × Nat} (h : q ∈ st_prs) : Cond.not (Cond.eq (.string RX10 q.1) (.string RX10 q.2)) ∈ flatC st_T := by
  rw [← st_prs_eq] at h
  obtain ⟨c, h1, h2⟩ := List.mem_filterMap.mp h
  rw [← st_ne_spec h2]
  exact h1
theorem st_prs_all : ∀ i, i < 22 → ∀ j, j < 22 → (Nat.beq i j || st_prs.contains (st_pool.getD i 0, st_pool.getD j 0) || st_prs.contains (st_pool.getD j 0, st_pool.getD i 0)) = true := by decide +kernel
theorem st_m6 : ∀ i, i < 22 → ∀ j, j < 22 → i ≠ j → (Cond.not (Cond.eq (st_tm i) (st_tm j)) ∈ flatC st_T ∨ Cond.not (Cond.eq (st_tm j) (st_tm i)) ∈ flatC st_T) := by
  intro i hi j hj hij
  have h := st_prs_all i hi j hj
  rw [Bool.or_eq_true, Bool.or_eq_true] at h
  rcases h with (h | h) | h
  · exact absurd (Nat.eq_of_beq_eq_true h) hij
  · exact Or.inl (st_prs_mem (q := (st_pool.getD i 0, st_pool.getD j 0)) (List.contains_iff_mem.mp h))
  · exact Or.inr (st_prs_mem (q := (st_pool.getD j 0, st_pool.getD i 0)) (List.contains_iff_mem.mp h))
theorem st_len_lt : ∀ i, i < 22 → st_len.getD i 0 < 2 ^ 31 := by decide +kernel
theorem st_strings {args : Array Value} {s : State} {A : Nat → Prop} (hgv : st_T.before args s = true) (hA : ∀ a : Nat, a < s.heap.size → ¬ A a) : ∃ adK adV : Nat → Nat, vk_S 22 st_len st_byt adK adV A s s.heap ∧ ∀ i : Nat, i < 22 → (st_tm i).eval args s none [] s = some (.ref (adK i)) := by
  have hs := flat_of_before _ hgv
  exact vk_Sof st_len_lt (fun i hi => hs _ (st_m1 i hi)) (fun i hi => hs _ (st_m2 i hi)) (fun i hi => hs _ (st_m3 i hi)) (fun i hi => hs _ (st_m4 i hi)) (fun i hi j hj => hs _ (st_m5 i hi j hj)) (fun i j hi hj hij => (st_m6 i hi j hj hij).imp (hs _) (hs _)) hA
theorem st_eqr {args : Array Value} {s : State} {t u : Term} {a : Nat} (h : (Cond.eq t u).before args s = true) (hu : u.eval args s none [] s = some (.ref a)) : t.eval args s none [] s = some (.ref a) := by
  cases hv : t.eval args s none [] s with
  | none => simp [Cond.before, Cond.holds, Cond.value, hv] at h
  | some w =>
    simp only [Cond.before, Cond.holds, Cond.value, hv, hu] at h
    cases w <;> simp_all
abbrev st_kwT : Term := .static RX10 "KEPT_WORDS" "[Ljava/lang/String;"
abbrev st_ndT : Term := .static RX10 "NAMED" "[Ljava/lang/String;"
abbrev st_emT : Term := .static "java/util/ArrayList" "DEFAULTCAPACITY_EMPTY_ELEMENTDATA" "[Ljava/lang/Object;"
theorem st_k1 : Cond.arrayOf st_kwT (.object "java/lang/String") ∈ flatC st_T := by decide +kernel
theorem st_k2 : Cond.eq (.length st_kwT) (.int (Int32.ofNat 22)) ∈ flatC st_T := by decide +kernel
theorem st_k3 : ∀ j, j < 22 → Cond.eq (.elem st_kwT (.int (Int32.ofNat j))) (st_tm (st_kw.getD j 0)) ∈ flatC st_T ∧ st_kw.getD j 0 < 22 := by decide +kernel
theorem st_n1 : Cond.arrayOf st_ndT (.object "java/lang/String") ∈ flatC st_T := by decide +kernel
theorem st_n2 : Cond.eq (.length st_ndT) (.int (Int32.ofNat 4)) ∈ flatC st_T := by decide +kernel
theorem st_n3 : ∀ j, j < 4 → Cond.eq (.elem st_ndT (.int (Int32.ofNat j))) (st_tm (st_nd.getD j 0)) ∈ flatC st_T ∧ st_nd.getD j 0 < 22 := by decide +kernel
theorem st_e1 : Cond.arrayOf st_emT (.object "java/lang/Object") ∈ flatC st_T := by decide +kernel
theorem st_e2 : Cond.eq (.length st_emT) (.int (Int32.ofNat 0)) ∈ flatC st_T := by decide +kernel
theorem st_o1 : Cond.isRef (.static "jdk/internal/util/Preconditions" "SIOOBE_FORMATTE\x52" "Ljava/util/function/BiFunction;") ∈ flatC st_T := by decide +kernel
theorem st_o2 : Cond.eq (.static "java/lang/String" "COMPACT_STRINGS" "Z") (.int 1) ∈ flatC st_T := by decide +kernel
theorem st_o3 : Cond.isRef (.mirror "[Ljava/lang/Object;") ∈ flatC st_T := by decide +kernel
theorem st_o4 : Cond.isRef (.static Bundle.tN "UNASSIGNED_STACK" Bundle.steD) ∈ flatC st_T := by decide +kernel
theorem st_o5 : Cond.isRef (.static Bundle.tN "SUPPRESSED_SENTINEL" Bundle.listD) ∈ flatC st_T := by decide +kernel
/-- strings' places in the pool, as the reader's constants have them -/
theorem st_sk : ∀ q ∈ sd_sk, ∃ i, i < 22 ∧ q.1 = st_pool.getD i 0 ∧ q.2.2 = 10 + i ∧ Cond.stringRef RX10 q.1 q.2.1 ∈ lw_tbl := by
  intro q hq
  have h : ∀ q ∈ sd_sk, (q.2.2 - 10 < 22 ∧ q.1 = st_pool.getD (q.2.2 - 10) 0 ∧ q.2.2 = 10 + (q.2.2 - 10)) ∧ Cond.stringRef RX10 q.1 q.2.1 ∈ lw_tbl := by decide +kernel
  exact ⟨q.2.2 - 10, (h q hq).1.1, (h q hq).1.2.1, (h q hq).1.2.2, (h q hq).2⟩
