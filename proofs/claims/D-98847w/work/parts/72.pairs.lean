/-! TWOS of men: the class's way through them -/
abbrev pw : Type := (Nat → Int32) × Int32
/-- all twos from man m on, of n men -/
def prs (V : am_M) (nM : Nat) : Nat → Nat → (Nat → Int32) → Int32 → List pw
  | 0, _, w, wo => [(w, wo)]
  | n + 1, m, w, wo => if 0 ≤ w m then prs V nM n (m + 1) w wo else prs V nM n (m + 1) w wo ++ (List.range (nM - (m + 1))).flatMap (fun i => if 0 ≤ w (m + 1 + i) ∨ V 19 (6 * m + (m + 1 + i)) = -100 then [] else prs V nM n (m + 1) (fup (fup w m (nI (m + 1 + i))) (m + 1 + i) (nI m)) (wo + V 19 (6 * m + (m + 1 + i))))
/-- those with the first i others -/
def prk (V : am_M) (nM n m : Nat) (w : Nat → Int32) (wo : Int32) (i : Nat) : List pw := (List.range i).flatMap (fun i => if 0 ≤ w (m + 1 + i) ∨ V 19 (6 * m + (m + 1 + i)) = -100 then [] else prs V nM n (m + 1) (fup (fup w m (nI (m + 1 + i))) (m + 1 + i) (nI m)) (wo + V 19 (6 * m + (m + 1 + i))))
theorem prk_s {V : am_M} {nM n m i : Nat} {w : Nat → Int32} {wo : Int32} : prk V nM n m w wo (i + 1) = prk V nM n m w wo i ++ (if 0 ≤ w (m + 1 + i) ∨ V 19 (6 * m + (m + 1 + i)) = -100 then [] else prs V nM n (m + 1) (fup (fup w m (nI (m + 1 + i))) (m + 1 + i) (nI m)) (wo + V 19 (6 * m + (m + 1 + i)))) := by
  unfold prk
  rw [List.range_succ, List.flatMap_append, List.flatMap_singleton]
theorem prk_mono {V : am_M} {nM n m i i' : Nat} {w : Nat → Int32} {wo : Int32} (h : i ≤ i') : (prk V nM n m w wo i).length ≤ (prk V nM n m w wo i').length := by
  induction h with
  | refl => exact Nat.le_refl _
  | step _ ih => rw [prk_s, List.length_append]; omega
theorem prs_len {V : am_M} {nM : Nat} (hM : nM ≤ 6) : ∀ n m w wo, (prs V nM n m w wo).length ≤ 7 ^ n := by
  intro n
  induction n with
  | zero => intro m w wo; simp [prs]
  | succ n ih =>
    intro m w wo
    have hk : ∀ i, (prk V nM n m w wo i).length ≤ i * 7 ^ n := by
      intro i
      induction i with
      | zero => simp [prk]
      | succ i ihi =>
        have e1 : (i + 1) * 7 ^ n = i * 7 ^ n + 7 ^ n := Nat.succ_mul _ _
        rw [prk_s, List.length_append, e1]
        have : (if 0 ≤ w (m + 1 + i) ∨ V 19 (6 * m + (m + 1 + i)) = -100 then [] else prs V nM n (m + 1) (fup (fup w m (nI (m + 1 + i))) (m + 1 + i) (nI m)) (wo + V 19 (6 * m + (m + 1 + i)))).length ≤ 7 ^ n := by
          split
          · exact Nat.zero_le _
          · exact ih _ _ _
        omega
    have e7 : 7 ^ (n + 1) = 7 * 7 ^ n := by rw [Nat.pow_succ, Nat.mul_comm]
    have p : 0 < 7 ^ n := Nat.pow_pos (by decide)
    simp only [prs]
    split
    · have := ih (m + 1) w wo
      omega
    · rw [List.length_append]
      have h1 := ih (m + 1) w wo
      have h2 := hk (nM - (m + 1))
      have h3 : (nM - (m + 1)) * 7 ^ n ≤ 6 * 7 ^ n := Nat.mul_le_mul_right _ (by omega)
      have h4 : (prk V nM n m w wo (nM - (m + 1))).length = ((List.range (nM - (m + 1))).flatMap (fun i => if 0 ≤ w (m + 1 + i) ∨ V 19 (6 * m + (m + 1 + i)) = -100 then [] else prs V nM n (m + 1) (fup (fup w m (nI (m + 1 + i))) (m + 1 + i) (nI m)) (wo + V 19 (6 * m + (m + 1 + i))))).length := rfl
      omega
section CPairs
variable {d : Nat} {h : am_H} {V : am_M} {x r nM nD nB : Nat}
theorem C_likesB (hB : CB h V x r nM nD nB) {a b : Nat} (ha : a < nM) (hb : b < nM) {k : Int32 → am_H → Prop} (hk : k (V 19 (6 * a + b)) h) : Rn d n_X1_likesOf 0 [am_r r, am_i (nI a), am_i (nI b)] [] h (kI k) := by
  obtain ⟨hW, hr, hG, ⟨fM, fM6, fD, fD6, fB, fB10⟩, fO, ⟨fH, fSt⟩, fHr, fFr, fWr⟩ := hB
  obtain ⟨⟨rK, r0⟩, ⟨hLM, hM⟩, ⟨hLD, hD⟩, ⟨hLO, hO⟩, ⟨⟨hlk, hla⟩, hlike⟩, ⟨htk, hwear⟩, gf, gu, gh, gs⟩ := hG
  have kLM := hLM.1.1; have zLM := hLM.2
  have kLD := hLD.1.1; have zLD := hLD.2
  have kLO := hLO.1.1; have zLO := hLO.2
  rw [← hlike a b ha hb] at hk
  refine rw_aload f_X1_likesOf_0 rfl ?_
  refine rw_getR f_X1_likesOf_1 (by first | assumption | exact hW.k rfl | exact hW.k0) (by first | assumption | exact hW.r0 rfl | exact hW.r rfl | rfl) ?_
  refine rw_const f_X1_likesOf_4 ?_
  refine rw_iload f_X1_likesOf_6 rfl ?_
  refine rw_imul f_X1_likesOf_7 ?_
  refine rw_iload f_X1_likesOf_8 rfl ?_
  refine rw_iadd f_X1_likesOf_9 ?_
  refine rw_xaldE (j := 6 * a + b) f_X1_likesOf_10 (by first | assumption | exact hW.k rfl | exact hW.k0) (by first | rfl | exact nI_addl _ _ | (simp only [nI, Int32.ofNat_add, Int32.ofNat_mul]; rfl) | (simp only [nI_addl, nI_mull, nI_lit, nI_1']; done) | (simp only [nI_1, nI_0, nI_addl, nI_mull, ← nI_succ]; rfl)) (by omega) (by omega) ?_
  refine rw_iret f_X1_likesOf_11 ?_
  exact hk
abbrev pS (x : Nat) : Nat → Prop := fun b => b = x ∨ b = x + 17 ∨ (x + 24 ≤ b ∧ b ≤ x + 27)
theorem CB_pS {h' : am_H} (hB : CB h V x r nM nD nB) (on : On (pS x) h h') : CB h' V x r nM nD nB :=
  CB_fr hB on.fr (fun b w => by
    have hW := hB.1
    rcases w with e | e | e
    · exact nregI (t := 100) (u := 0) hB.2.2.1 (by rw [e]; exact hW.k0) (by decide)
    · exact nregI (t := 1) (u := 10) hB.2.2.1 (by rw [e]; exact hW.k rfl) (by decide)
    · rcases (by omega : b = x + 24 ∨ b = x + 25 ∨ b = x + 26 ∨ b = x + 27) with e | e | e | e
      · exact nregI (t := 106) (u := 0) hB.2.2.1 (by rw [e]; exact hW.k rfl) (by decide)
      · exact nregI (t := 1) (u := 6) hB.2.2.1 (by rw [e]; exact hW.k rfl) (by decide)
      · exact nregI (t := 107) (u := 0) hB.2.2.1 (by rw [e]; exact hW.k rfl) (by decide)
      · exact nregI (t := 1) (u := 6) hB.2.2.1 (by rw [e]; exact hW.k rfl) (by decide))
/-- which of the two: its tag, its method 'met' -/
def pT (x c t jm : Nat) : Prop := (c = x + 24 ∧ t = 106 ∧ jm = n_X6_met) ∨ (c = x + 26 ∧ t = 107 ∧ jm = n_X7_met)
theorem pT.k {c t jm : Nat} (q : pT x c t jm) (hW : CW h x) : hp_K h c = (t, 0) ∧ hp_R h c 0 = c + 1 ∧ hp_R h c 1 = x ∧ hp_K h (c + 1) = (1, 6) ∧ ¬ c = 0 := by
  rcases q with ⟨rfl, rfl, -⟩ | ⟨rfl, rfl, -⟩
  · exact ⟨hW.k rfl, hW.r (a := 24) (b := 25) rfl, hW.r (a := 24) (b := 0) rfl, hW.k (a := 25) rfl, by omega⟩
  · exact ⟨hW.k rfl, hW.r (a := 26) (b := 27) rfl, hW.r (a := 26) (b := 0) rfl, hW.k (a := 27) rfl, by omega⟩
theorem pT.t {c t jm : Nat} (q : pT x c t jm) : ([106, 107] : List Nat).contains t = true := by
  rcases q with ⟨-, rfl, -⟩ | ⟨-, rfl, -⟩ <;> rfl
theorem pT.dd {c t jm : Nat} (q : pT x c t jm) : am_disp [(106, n_X5_go), (107, n_X5_go)] t = some n_X5_go ∧ am_disp [(106, n_X6_met), (107, n_X7_met)] t = some jm := by
  rcases q with ⟨-, rfl, rfl⟩ | ⟨-, rfl, rfl⟩ <;> exact ⟨rfl, rfl⟩
/-- with whom each is -/
def wI_ (hh : am_H) (c : Nat) (w : Nat → Int32) : Prop := ∀ j, j < 6 → hp_I hh (c + 1) j = w j
theorem wI_up {hh : am_H} {c i : Nat} {w : Nat → Int32} {v : Int32} (q : wI_ hh c w) : wI_ (hp_sI hh (c + 1) i v) c (fup w i v) := by
  intro j hj
  by_cases e : j = i
  · rw [e, sI_same, fup_s]
  · rw [sI_ne (fun z => e z.2), fup_n e]; exact q j hj
/-- the twos are alone or have one -/
def wOK (nM : Nat) (w : Nat → Int32) : Prop := ∀ j, w j = -1 ∨ ∃ a, a < nM ∧ w j = nI a
theorem wOK.neg {w : Nat → Int32} (q : wOK nM w) (hM : nM ≤ 6) {j : Nat} (h : ¬ 0 ≤ w j) : w j = -1 := by
  rcases q j with e | ⟨a, ha, e⟩
  · exact e
  · rw [e] at h; exact absurd (nI_pos' (by omega)) h
theorem C_pgo (hB0 : CB h V x r nM nD nB) {c t jm : Nat} (hT : pT x c t jm) {Q : List pw → am_H → Prop} (hQ : ∀ L hh i v, Q L hh → Q L (hp_sI hh (c + 1) i v)) {B : Nat}
    (hmet : ∀ (d : Nat) L w wo hh {k : am_H → Prop}, L.length < B → wOK nM w → On (pS x) h hh → wI_ hh c w → Q L hh → (∀ h', On (pS x) h h' → wI_ h' c w → Q (L ++ [(w, wo)]) h' → k h') → Rn (d + 4) jm 0 (am_ent jm [am_r c, am_i wo]) [] hh (kV k)) (hble : Nat.ble (am_sum [am_r c, am_i 0]) (am_maxL jm) = true) :
    ∀ n m, m + n = nM → ∀ w, wOK nM w → ∀ wo L hh {k : am_H → Prop}, L.length + (prs V nM n m w wo).length ≤ B → On (pS x) h hh → wI_ hh c w → Q L hh → (∀ h', On (pS x) h h' → wI_ h' c w → Q (L ++ prs V nM n m w wo) h' → k h') → Rn (d + n + 5) n_X5_go 0 [am_r c, am_i (nI m), am_i wo, am_u] [] hh (kV k) := by
  have hM6 := hB0.2.2.2.1.2.1
  intro n
  induction n with
  | zero =>
    intro m hm w hw wo L hh k hlen on hi hq hk
    have hB := CB_pS hB0 on
    obtain ⟨c1, c2, c3, c4, c5⟩ := hT.k hB.1
    obtain ⟨hW, hr, hG, ⟨fM, fM6, fD, fD6, fB, fB10⟩, fO, ⟨fH, fSt⟩, fHr, fFr, fWr⟩ := hB
    obtain ⟨⟨rK, r0⟩, ⟨hLM, hM⟩, ⟨hLD, hD⟩, ⟨hLO, hO⟩, ⟨⟨hlk, hla⟩, hlike⟩, ⟨htk, hwear⟩, gf, gu, gh, gs⟩ := hG
    have kLM := hLM.1.1; have zLM := hLM.2
    have kLD := hLD.1.1; have zLD := hLD.2
    have kLO := hLO.1.1; have zLO := hLO.2
    refine rw_iload f_X5_go_0 rfl ?_
    refine rw_aload f_X5_go_1 rfl ?_
    refine rw_getO f_X5_go_2 c1 c3 hW.1 ?_ hT.t
    refine rw_getR f_X5_go_5 hW.k0 hr ?_
    refine rw_getR f_X5_go_8 rK rfl ?_
    refine rw_callV f_X5_go_11 rfl kLM zLM rfl rfl rfl rfl (rn_ki (J_sizeL hLM ?_))
    refine rw_icmpF f_X5_go_14 (decide_eq_false (fun z => z (by rw [show m = nM by omega]))) ?_
    refine rw_aload f_X5_go_17 rfl ?_
    refine rw_iload f_X5_go_18 rfl ?_
    refine rw_callV f_X5_go_19 rfl c1 c5 hT.dd.2 rfl rfl hble (rn_kv (hmet (d + 0) L w wo hh (by simp only [prs, List.length_singleton] at hlen; omega) hw on hi hq (fun h' q1 q2 q3 => ?_)))
    exact rw_vret f_X5_go_22 (hk h' q1 q2 q3)
  | succ n ih =>
    intro m hm w hw wo L hh k hlen on hi hq hk
    have hB := CB_pS hB0 on
    obtain ⟨c1, c2, c3, c4, c5⟩ := hT.k hB.1
    have em : hp_I hh (c + 1) m = w m := hi m (by omega)
    rw [show d + (n + 1) + 5 = d + n + 5 + 1 by omega]
    obtain ⟨hW, hr, hG, ⟨fM, fM6, fD, fD6, fB, fB10⟩, fO, ⟨fH, fSt⟩, fHr, fFr, fWr⟩ := hB
    obtain ⟨⟨rK, r0⟩, ⟨hLM, hM⟩, ⟨hLD, hD⟩, ⟨hLO, hO⟩, ⟨⟨hlk, hla⟩, hlike⟩, ⟨htk, hwear⟩, gf, gu, gh, gs⟩ := hG
    have kLM := hLM.1.1; have zLM := hLM.2
    have kLD := hLD.1.1; have zLD := hLD.2
    have kLO := hLO.1.1; have zLO := hLO.2
    refine rw_iload f_X5_go_0 rfl ?_
    refine rw_aload f_X5_go_1 rfl ?_
    refine rw_getO f_X5_go_2 c1 c3 hW.1 ?_ hT.t
    refine rw_getR f_X5_go_5 hW.k0 hr ?_
    refine rw_getR f_X5_go_8 rK rfl ?_
    refine rw_callV f_X5_go_11 rfl kLM zLM rfl rfl rfl rfl (rn_ki (J_sizeL hLM ?_))
    refine rw_icmpT f_X5_go_14 (decide_eq_true (fun z => by have := nI_inj (by omega) (by omega) z; omega)) ?_
    refine rw_aload f_X5_go_23 rfl ?_
    refine rw_getR f_X5_go_24 c1 c2 ?_ hT.t
    refine rw_iload f_X5_go_27 rfl ?_
    refine rw_xaldE (j := m) f_X5_go_28 c4 rfl (by omega) (by omega) ?_
    rw [em]
    by_cases e : 0 ≤ w m
    · have hk2 : ∀ h', On (pS x) h h' → wI_ h' c w → Q (L ++ prs V nM n (m + 1) w wo) h' → k h' := by
        intro h' q1 q2 q3
        refine hk h' q1 q2 ?_
        simp only [prs]
        rw [if_pos e]; exact q3
      refine rw_ifF f_X5_go_29 (decide_eq_false (Int32.not_lt.mpr e)) ?_
      refine rw_aload f_X5_go_32 rfl ?_
      refine rw_iload f_X5_go_33 rfl ?_
      refine rw_const f_X5_go_34 ?_
      refine rw_iadd f_X5_go_35 ?_
      rw [nI_1']
      refine rw_iload f_X5_go_36 rfl ?_
      refine rw_callV f_X5_go_37 rfl c1 c5 hT.dd.1 rfl rfl rfl (rn_kv (ih (m + 1) (by omega) w hw wo L hh (by simp only [prs] at hlen; rw [if_pos e] at hlen; exact hlen) on hi hq (fun h' q1 q2 q3 => ?_)))
      exact rw_vret f_X5_go_40 (hk2 h' q1 q2 q3)
    · have wm : w m = -1 := hw.neg hM6 e
      have hlen2 : L.length + ((prs V nM n (m + 1) w wo).length + (prk V nM n m w wo (nM - (m + 1))).length) ≤ B := by
        simp only [prs] at hlen
        rw [if_neg e, List.length_append] at hlen
        exact hlen
      refine rw_ifT f_X5_go_29 (decide_eq_true (Int32.not_le.mp e)) ?_
      refine rw_aload f_X5_go_41 rfl ?_
      refine rw_iload f_X5_go_42 rfl ?_
      refine rw_const f_X5_go_43 ?_
      refine rw_iadd f_X5_go_44 ?_
      rw [nI_1']
      refine rw_iload f_X5_go_45 rfl ?_
      refine rw_callV f_X5_go_46 rfl c1 c5 hT.dd.1 rfl rfl rfl (rn_kv (ih (m + 1) (by omega) w hw wo L hh (by omega) on hi hq (fun h1 on1 hi1 hq1 => ?_)))
      refine rw_iload f_X5_go_49 rfl ?_
      refine rw_const f_X5_go_50 ?_
      refine rw_iadd f_X5_go_51 ?_
      rw [nI_1']
      refine rw_istore f_X5_go_52 rfl rfl ?_
      have hk2 : ∀ h', On (pS x) h h' → wI_ h' c w → Q (L ++ (prs V nM n (m + 1) w wo ++ prk V nM n m w wo (nM - (m + 1)))) h' → k h' := by
        intro h' q1 q2 q3
        refine hk h' q1 q2 ?_
        simp only [prs]
        rw [if_neg e]; exact q3
      refine rn_inv (N := nM - (m + 1)) (fun i ls hh => ls = [am_r c, am_i (nI m), am_i wo, am_i (nI (m + 1 + i))] ∧ On (pS x) h hh ∧ wI_ hh c w ∧ Q (L ++ (prs V nM n (m + 1) w wo ++ prk V nM n m w wo i)) hh) (fun i hi' ls hh q ihl => ?_) (fun ls hh q => ?_) ⟨rfl, on1, hi1, by rw [show prk V nM n m w wo 0 = [] from rfl, List.append_nil]; exact hq1⟩
      · obtain ⟨rfl, on2, hi2, hq2⟩ := q
        have hB := CB_pS hB0 on2
        have hB2 := hB
        obtain ⟨c1, c2, c3, c4, c5⟩ := hT.k hB.1
        obtain ⟨hW, hr, hG, ⟨fM, fM6, fD, fD6, fB, fB10⟩, fO, ⟨fH, fSt⟩, fHr, fFr, fWr⟩ := hB
        obtain ⟨⟨rK, r0⟩, ⟨hLM, hM⟩, ⟨hLD, hD⟩, ⟨hLO, hO⟩, ⟨⟨hlk, hla⟩, hlike⟩, ⟨htk, hwear⟩, gf, gu, gh, gs⟩ := hG
        have kLM := hLM.1.1; have zLM := hLM.2
        have kLD := hLD.1.1; have zLD := hLD.2
        have kLO := hLO.1.1; have zLO := hLO.2
        have eo : hp_I hh (c + 1) (m + 1 + i) = w (m + 1 + i) := hi2 _ (by omega)
        rw [prk_s] at ihl
        refine rw_iload f_X5_go_53 rfl ?_
        refine rw_aload f_X5_go_54 rfl ?_
        refine rw_getO f_X5_go_55 c1 c3 hW.1 ?_ hT.t
        refine rw_getR f_X5_go_58 hW.k0 hr ?_
        refine rw_getR f_X5_go_61 rK rfl ?_
        refine rw_callV f_X5_go_64 rfl kLM zLM rfl rfl rfl rfl (rn_ki (J_sizeL hLM ?_))
        refine rw_icmpF f_X5_go_67 (decide_eq_false (nI_ge (by omega) (by omega))) ?_
        refine rw_aload f_X5_go_70 rfl ?_
        refine rw_getR f_X5_go_71 c1 c2 ?_ hT.t
        refine rw_iload f_X5_go_74 rfl ?_
        refine rw_xaldE (j := m + 1 + i) f_X5_go_75 c4 rfl (by omega) (by omega) ?_
        rw [eo]
        have skip_ : (0 ≤ w (m + 1 + i) ∨ V 19 (6 * m + (m + 1 + i)) = -100) → Rn (d + n + 5 + 1) n_X5_go 148 [am_r c, am_i (nI m), am_i wo, am_i (nI (m + 1 + i))] [] hh (kV k) := by
          intro z
          refine rw_iinc f_X5_go_148 rfl rfl ?_
          refine rw_goto f_X5_go_151 ?_
          rw [nI_1']
          refine ihl _ hh ⟨rfl, on2, hi2, ?_⟩
          rw [if_pos z, List.append_nil]; exact hq2
        by_cases e1 : 0 ≤ w (m + 1 + i)
        · refine rw_ifT f_X5_go_76 (decide_eq_true e1) ?_
          exact skip_ (Or.inl e1)
        · refine rw_ifF f_X5_go_76 (decide_eq_false e1) ?_
          have wo_ : w (m + 1 + i) = -1 := hw.neg hM6 e1
          refine rw_aload f_X5_go_79 rfl ?_
          refine rw_getO f_X5_go_80 c1 c3 hW.1 ?_ hT.t
          refine rw_getR f_X5_go_83 hW.k0 hr ?_
          refine rw_iload f_X5_go_86 rfl ?_
          refine rw_iload f_X5_go_87 rfl ?_
          refine rw_callV f_X5_go_88 rfl rK r0 rfl rfl rfl rfl (rn_ki (C_likesB hB2 (by omega) (by omega) ?_))
          refine rw_const f_X5_go_91 ?_
          by_cases e2 : V 19 (6 * m + (m + 1 + i)) = -100
          · refine rw_icmpF f_X5_go_93 (decide_eq_false (fun z => z e2)) ?_
            refine rw_goto f_X5_go_96 ?_
            exact skip_ (Or.inr e2)
          · refine rw_icmpT f_X5_go_93 (decide_eq_true e2) ?_
            rw [if_neg (fun z => z.elim e1 e2)] at ihl
            refine rw_aload f_X5_go_99 rfl ?_
            refine rw_getR f_X5_go_100 c1 c2 ?_ hT.t
            refine rw_iload f_X5_go_103 rfl ?_
            refine rw_iload f_X5_go_104 rfl ?_
            refine rw_iastE (j := m) f_X5_go_105 c4 rfl (by omega) (by omega) ?_
            refine rw_aload f_X5_go_106 rfl ?_
            refine rw_getR f_X5_go_107 c1 c2 ?_ hT.t
            refine rw_iload f_X5_go_110 rfl ?_
            refine rw_iload f_X5_go_111 rfl ?_
            refine rw_iastE (j := m + 1 + i) f_X5_go_112 c4 rfl (by omega) (by omega) ?_
            have cin : pS x (c + 1) := by
              rcases hT with ⟨rfl, -⟩ | ⟨rfl, -⟩
              · right; right; omega
              · right; right; omega
            have on3 : On (pS x) h (hp_sI (hp_sI hh (c + 1) m (nI (m + 1 + i))) (c + 1) (m + 1 + i) (nI m)) := (on2.tr (On_sI cin)).tr (On_sI cin)
            have hi3 : wI_ (hp_sI (hp_sI hh (c + 1) m (nI (m + 1 + i))) (c + 1) (m + 1 + i) (nI m)) c (fup (fup w m (nI (m + 1 + i))) (m + 1 + i) (nI m)) := wI_up (wI_up hi2)
            have hq3 := hQ _ _ (m + 1 + i) (nI m) (hQ _ _ m (nI (m + 1 + i)) hq2)
            generalize hp_sI (hp_sI hh (c + 1) m (nI (m + 1 + i))) (c + 1) (m + 1 + i) (nI m) = h3 at *
            have hB3 := CB_pS hB0 on3
            obtain ⟨k1, k2, k3, k4, k5⟩ := hT.k hB3.1
            refine rw_aload f_X5_go_113 rfl ?_
            refine rw_iload f_X5_go_114 rfl ?_
            refine rw_const f_X5_go_115 ?_
            refine rw_iadd f_X5_go_116 ?_
            rw [nI_1']
            refine rw_iload f_X5_go_117 rfl ?_
            refine rw_aload f_X5_go_118 rfl ?_
            refine rw_getO f_X5_go_119 k1 k3 hB3.1.1 ?_ hT.t
            refine rw_getR f_X5_go_122 hB3.1.k0 hB3.2.1 ?_
            refine rw_iload f_X5_go_125 rfl ?_
            refine rw_iload f_X5_go_126 rfl ?_
            refine rw_callV f_X5_go_127 rfl hB3.2.2.1.1.1 hB3.2.2.1.1.2 rfl rfl rfl rfl (rn_ki (C_likesB hB3 (by omega) (by omega) ?_))
            refine rw_iadd f_X5_go_130 ?_
            have hw3 : wOK nM (fup (fup w m (nI (m + 1 + i))) (m + 1 + i) (nI m)) := by
              intro j
              unfold fup
              by_cases z1 : j = m + 1 + i
              · rw [if_pos z1]; right; exact ⟨m, by omega, rfl⟩
              · rw [if_neg z1]
                by_cases z2 : j = m
                · rw [if_pos z2]; right; exact ⟨m + 1 + i, by omega, rfl⟩
                · rw [if_neg z2]; exact hw j
            have hlen3 : (L ++ (prs V nM n (m + 1) w wo ++ prk V nM n m w wo i)).length + (prs V nM n (m + 1) (fup (fup w m (nI (m + 1 + i))) (m + 1 + i) (nI m)) (wo + V 19 (6 * m + (m + 1 + i)))).length ≤ B := by
              have z := prk_mono (V := V) (nM := nM) (n := n) (m := m) (w := w) (wo := wo) (show i + 1 ≤ nM - (m + 1) by omega)
              rw [prk_s, if_neg (fun z => z.elim e1 e2), List.length_append] at z
              rw [List.length_append, List.length_append]
              omega
            refine rw_callV f_X5_go_131 rfl k1 k5 hT.dd.1 rfl rfl rfl (rn_kv (ih (m + 1) (by omega) _ hw3 _ _ h3 hlen3 on3 hi3 hq3 (fun h4 on4 hi4 hq4 => ?_)))
            have hW4 := (CB_pS hB0 on4).1
            obtain ⟨g1, g2, g3, g4, g5⟩ := hT.k hW4
            refine rw_aload f_X5_go_134 rfl ?_
            refine rw_getR f_X5_go_135 g1 g2 ?_ hT.t
            refine rw_iload f_X5_go_138 rfl ?_
            refine rw_const f_X5_go_139 ?_
            refine rw_iastE (j := m) f_X5_go_140 g4 rfl (by omega) (by omega) ?_
            refine rw_aload f_X5_go_141 rfl ?_
            refine rw_getR f_X5_go_142 g1 g2 ?_ hT.t
            refine rw_iload f_X5_go_145 rfl ?_
            refine rw_const f_X5_go_146 ?_
            refine rw_iastE (j := m + 1 + i) f_X5_go_147 g4 rfl (by omega) (by omega) ?_
            refine rw_iinc f_X5_go_148 rfl rfl ?_
            refine rw_goto f_X5_go_151 ?_
            rw [nI_1']
            refine ihl _ _ ⟨rfl, (on4.tr (On_sI cin)).tr (On_sI cin), ?_, hQ _ _ _ _ (hQ _ _ _ _ ?_)⟩
            · have z := wI_up (i := m + 1 + i) (v := -1) (wI_up (i := m) (v := -1) hi4)
              intro j hj
              rw [z j hj]
              unfold fup
              by_cases z1 : j = m + 1 + i
              · rw [if_pos z1, z1, wo_]
              · rw [if_neg z1]
                by_cases z2 : j = m
                · rw [if_pos z2, z2, wm]
                · rw [if_neg z2, if_neg z1, if_neg z2]
            · have : L ++ (prs V nM n (m + 1) w wo ++ (prk V nM n m w wo i ++ prs V nM n (m + 1) (fup (fup w m (nI (m + 1 + i))) (m + 1 + i) (nI m)) (wo + V 19 (6 * m + (m + 1 + i))))) = L ++ (prs V nM n (m + 1) w wo ++ prk V nM n m w wo i) ++ prs V nM n (m + 1) (fup (fup w m (nI (m + 1 + i))) (m + 1 + i) (nI m)) (wo + V 19 (6 * m + (m + 1 + i))) := by simp
              rw [this]; exact hq4
      · obtain ⟨rfl, on2, hi2, hq2⟩ := q
        have hB := CB_pS hB0 on2
        obtain ⟨c1, c2, c3, c4, c5⟩ := hT.k hB.1
        obtain ⟨hW, hr, hG, ⟨fM, fM6, fD, fD6, fB, fB10⟩, fO, ⟨fH, fSt⟩, fHr, fFr, fWr⟩ := hB
        obtain ⟨⟨rK, r0⟩, ⟨hLM, hM⟩, ⟨hLD, hD⟩, ⟨hLO, hO⟩, ⟨⟨hlk, hla⟩, hlike⟩, ⟨htk, hwear⟩, gf, gu, gh, gs⟩ := hG
        have kLM := hLM.1.1; have zLM := hLM.2
        have kLD := hLD.1.1; have zLD := hLD.2
        have kLO := hLO.1.1; have zLO := hLO.2
        refine rw_iload f_X5_go_53 rfl ?_
        refine rw_aload f_X5_go_54 rfl ?_
        refine rw_getO f_X5_go_55 c1 c3 hW.1 ?_ hT.t
        refine rw_getR f_X5_go_58 hW.k0 hr ?_
        refine rw_getR f_X5_go_61 rK rfl ?_
        refine rw_callV f_X5_go_64 rfl kLM zLM rfl rfl rfl rfl (rn_ki (J_sizeL hLM ?_))
        refine rw_icmpT f_X5_go_67 (decide_eq_true (by rw [show m + 1 + (nM - (m + 1)) = nM by omega]; exact Int32.le_refl _)) ?_
        exact rw_vret f_X5_go_154 (hk2 hh on2 hi2 hq2)
end CPairs
