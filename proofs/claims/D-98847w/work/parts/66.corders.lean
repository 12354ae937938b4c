/-! THE CLASS: orders of deeds -/
theorem cntB_nat {p : Nat → Bool} : ∀ n, ∃ c, c ≤ n ∧ cntB p n = nI c
  | 0 => ⟨0, Nat.le_refl _, rfl⟩
  | n + 1 => by
    obtain ⟨c, h1, h2⟩ := cntB_nat (p := p) n
    cases e : p n with
    | false => exact ⟨c, by omega, by simp only [cntB, e, h2, bI, Bool.false_eq_true, if_false]; exact Int32.add_zero _⟩
    | true => exact ⟨c + 1, by omega, by simp only [cntB, e, h2, bI, if_true]; exact nI_1' c⟩
theorem pc_nat (s : Int32) : ∃ c, c ≤ 10 ∧ pc s = nI c := cntB_nat 10
theorem pc_pos (s : Int32) : ¬ pc s < 0 := by
  obtain ⟨c, h1, h2⟩ := pc_nat s
  rw [h2]; exact nI_pos (by omega)
section COrders
variable {d : Nat} {h : am_H} {V : am_M} {x r nM nD nB nA nU nT nL : Nat}
abbrev oS (x : Nat) : Nat → Prop := fun b => x + 18 ≤ b ∧ b ≤ x + 21
theorem CR_oS {h' : am_H} (hC : CR h V x r nM nD nB nA nU nT nL) (on : On (oS x) h h') : CR h' V x r nM nD nB nA nU nT nL :=
  CR_fr hC on.fr (fun b w => by
    have w' : x + 18 ≤ b ∧ b ≤ x + 21 := w
    have hW := hC.1
    unfold Scr
    rcases (by omega : b = x + 18 ∨ b = x + 19 ∨ b = x + 20 ∨ b = x + 21) with e | e | e | e <;> subst e
    · rw [hW.k (a := 18) rfl]; simp
    · rw [hW.k (a := 19) rfl]; simp
    · rw [hW.k (a := 20) rfl]; simp
    · rw [hW.k (a := 21) rfl]; simp)
theorem C_keeps (hC : CR h V x r nM nD nB nA nU nT nL) {man dy : Int32} (hm : hp_I h (x + 18) 3 = man) {e : Nat} {k : Int32 → am_H → Prop} (hk : k (if oForb V nB man e dy = true then -1 else oKept V nB man e dy) h) : Rn (d + 3) n_X4_keeps 0 [am_r (x + 18), am_i (nI e), am_i dy, am_u, am_u, am_u] [] h (kI k) := by
  have hC' := hC
  obtain ⟨hW, hr, hG, hN, hA, hT, hX, hI, hS, hF⟩ := hC'
  obtain ⟨⟨rK, r0⟩, ⟨hLM, hM⟩, ⟨hLD, hD⟩, ⟨hLO, hO⟩, ⟨⟨hlk, hla⟩, hlike⟩, ⟨htk, hwear⟩, gf, gu, gh, gs⟩ := hG
  obtain ⟨⟨⟨fM, fM6, fD, fD6, fB, fB10⟩, fO, ⟨fH, fSt⟩, fHr, fFr, fWr⟩, ⟨fA, fU, fAU, fT, fT30, fL, fL10⟩, fTp, fNow, fWere, fBox, fTg⟩ := hF
  have kLM := hLM.1.1; have zLM := hLM.2
  have kLD := hLD.1.1; have zLD := hLD.2
  have kLO := hLO.1.1; have zLO := hLO.2
  have key : ∀ q b j, b + q = nB → (∀ b', b' < b → (oMt V man e dy b' && decide (V 33 b' = 0)) = false) → Rn (d + 3) n_X4_keeps 5 [am_r (x + 18), am_i (nI e), am_i dy, am_i (bs (fun b => oMt V man e dy b && !decide (V 33 b = 0)) b), am_i (nI b), j] [] h (kI k) := by
    intro q
    induction q with
    | zero =>
      intro b j hb hq
      have : oForb V nB man e dy = false := by
        cases z : oForb V nB man e dy with
        | false => rfl
        | true =>
          obtain ⟨b', h1, h2⟩ := anyB_iff.mp z
          rw [hq b' (by omega)] at h2; cases h2
      rw [if_neg (by rw [this]; decide)] at hk
      obtain rfl : b = nB := by omega
      refine rw_iload f_X4_keeps_5 rfl ?_
      refine rw_aload f_X4_keeps_7 rfl ?_
      refine rw_getR f_X4_keeps_8 (by first | assumption | exact hW.k rfl | exact hW.k0) (by first | assumption | exact hW.r0 rfl | exact hW.r rfl | rfl) ?_
      refine rw_getR f_X4_keeps_11 (by first | assumption | exact hW.k rfl | exact hW.k0) (by first | assumption | exact hW.r0 rfl | exact hW.r rfl | rfl) ?_
      refine rw_getR f_X4_keeps_14 (by first | assumption | exact hW.k rfl | exact hW.k0) (by first | assumption | exact hW.r0 rfl | exact hW.r rfl | rfl) ?_
      refine rw_callV f_X4_keeps_17 rfl (by first | assumption | exact hW.k rfl | exact hW.k0) (by first | assumption | exact hW.1 | omega | exact Nat.succ_ne_zero _) rfl rfl rfl rfl (rn_ki (J_sizeL (by assumption) ?_))
      refine rw_icmpT f_X4_keeps_20 (decide_eq_true (Int32.le_refl _)) ?_
      refine rw_iload f_X4_keeps_115 rfl ?_
      refine rw_iret f_X4_keeps_116 ?_
      exact hk
    | succ q ih =>
      intro b j hb hq
      obtain ⟨oc, op, oz, o0, o1, o2, o3, o4, o5⟩ := COath.parts hW.al (hO b (by omega))
      have eS := (hN.1 b (by omega)).1
      have eT := (hN.1 b (by omega)).2
      by_cases z : (oMt V man e dy b && decide (V 33 b = 0)) = true
      · have zz : oForb V nB man e dy = true := anyB_iff.mpr ⟨b, by omega, z⟩
        rw [if_pos zz] at hk
        unfold oMt at z
        simp only [Bool.and_eq_true, decide_eq_true_eq] at z
        obtain ⟨⟨⟨⟨z1, z2⟩, z3⟩, z4⟩, z5⟩ := z
        rw [z5] at op
        refine rw_iload f_X4_keeps_5 rfl ?_
        refine rw_aload f_X4_keeps_7 rfl ?_
        refine rw_getR f_X4_keeps_8 (by first | assumption | exact hW.k rfl | exact hW.k0) (by first | assumption | exact hW.r0 rfl | exact hW.r rfl | rfl) ?_
        refine rw_getR f_X4_keeps_11 (by first | assumption | exact hW.k rfl | exact hW.k0) (by first | assumption | exact hW.r0 rfl | exact hW.r rfl | rfl) ?_
        refine rw_getR f_X4_keeps_14 (by first | assumption | exact hW.k rfl | exact hW.k0) (by first | assumption | exact hW.r0 rfl | exact hW.r rfl | rfl) ?_
        refine rw_callV f_X4_keeps_17 rfl (by first | assumption | exact hW.k rfl | exact hW.k0) (by first | assumption | exact hW.1 | omega | exact Nat.succ_ne_zero _) rfl rfl rfl rfl (rn_ki (J_sizeL (by assumption) ?_))
        refine rw_icmpF f_X4_keeps_20 (decide_eq_false (nI_ge (by omega) (by omega))) ?_
        refine rw_aload f_X4_keeps_23 rfl ?_
        refine rw_getR f_X4_keeps_24 (by first | assumption | exact hW.k rfl | exact hW.k0) (by first | assumption | exact hW.r0 rfl | exact hW.r rfl | rfl) ?_
        refine rw_getR f_X4_keeps_27 (by first | assumption | exact hW.k rfl | exact hW.k0) (by first | assumption | exact hW.r0 rfl | exact hW.r rfl | rfl) ?_
        refine rw_getR f_X4_keeps_30 (by first | assumption | exact hW.k rfl | exact hW.k0) (by first | assumption | exact hW.r0 rfl | exact hW.r rfl | rfl) ?_
        refine rw_iload f_X4_keeps_33 rfl ?_
        refine rw_callV f_X4_keeps_35 rfl (by first | assumption | exact hW.k rfl | exact hW.k0) (by first | assumption | exact hW.1 | omega | exact Nat.succ_ne_zero _) rfl rfl rfl rfl (rn_kr (J_getL (by assumption) (by omega) ?_))
        refine rw_castC f_X4_keeps_38 (by assumption) ?_
        refine rw_astore f_X4_keeps_41 rfl rfl ?_
        refine rw_aload f_X4_keeps_43 rfl ?_
        refine rw_getR f_X4_keeps_44 (by first | assumption | exact hW.k rfl | exact hW.k0) (by first | assumption | exact hW.r0 rfl | exact hW.r rfl | rfl) ?_
        refine rw_getR f_X4_keeps_47 (by first | assumption | exact hW.k rfl | exact hW.k0) (by first | assumption | exact hW.r0 rfl | exact hW.r rfl | rfl) ?_
        refine rw_getR f_X4_keeps_50 (by first | assumption | exact hW.k rfl | exact hW.k0) (by first | assumption | exact hW.r0 rfl | exact hW.r rfl | rfl) ?_
        refine rw_iload f_X4_keeps_53 rfl ?_
        refine rw_xaldE f_X4_keeps_55 (by first | assumption | exact hW.k rfl | exact hW.k0) rfl (by omega) (by omega) ?_
        rw [eS]
        refine rw_ifF f_X4_keeps_56 (decide_eq_false (fun c => c z1)) ?_
        refine rw_aload f_X4_keeps_59 rfl ?_
        refine rw_getIC f_X4_keeps_61 (by assumption) ?_
        rw [o0]
        refine rw_aload f_X4_keeps_64 rfl ?_
        refine rw_getI f_X4_keeps_65 (by first | assumption | exact hW.k rfl | exact hW.k0) ?_
        rw [hm]
        refine rw_icmpF f_X4_keeps_68 (decide_eq_false (fun c => c z2)) ?_
        refine rw_aload f_X4_keeps_71 rfl ?_
        refine rw_getIC f_X4_keeps_73 (by assumption) ?_
        rw [o2]
        refine rw_iload f_X4_keeps_76 rfl ?_
        refine rw_icmpF f_X4_keeps_77 (decide_eq_false (fun c => c z3)) ?_
        refine rw_aload f_X4_keeps_80 rfl ?_
        refine rw_getIC f_X4_keeps_82 (by assumption) ?_
        rw [o3]
        refine rw_iload f_X4_keeps_85 rfl ?_
        refine rw_icmpT f_X4_keeps_86 (decide_eq_true z4) ?_
        refine rw_aload f_X4_keeps_92 rfl ?_
        refine rw_isP f_X4_keeps_94 (by assumption) (by assumption) rfl ?_
        refine rw_ifF f_X4_keeps_97 (by decide) ?_
        refine rw_const f_X4_keeps_100 ?_
        refine rw_iret f_X4_keeps_101 ?_
        exact hk
      · have z' : (oMt V man e dy b && decide (V 33 b = 0)) = false := by simpa using z
        have ih2 := fun j => ih (b + 1) j (by omega) (fun b' hb' => by by_cases e : b' = b; exact e ▸ z'; exact hq b' (by omega))
        refine rw_iload f_X4_keeps_5 rfl ?_
        refine rw_aload f_X4_keeps_7 rfl ?_
        refine rw_getR f_X4_keeps_8 (by first | assumption | exact hW.k rfl | exact hW.k0) (by first | assumption | exact hW.r0 rfl | exact hW.r rfl | rfl) ?_
        refine rw_getR f_X4_keeps_11 (by first | assumption | exact hW.k rfl | exact hW.k0) (by first | assumption | exact hW.r0 rfl | exact hW.r rfl | rfl) ?_
        refine rw_getR f_X4_keeps_14 (by first | assumption | exact hW.k rfl | exact hW.k0) (by first | assumption | exact hW.r0 rfl | exact hW.r rfl | rfl) ?_
        refine rw_callV f_X4_keeps_17 rfl (by first | assumption | exact hW.k rfl | exact hW.k0) (by first | assumption | exact hW.1 | omega | exact Nat.succ_ne_zero _) rfl rfl rfl rfl (rn_ki (J_sizeL (by assumption) ?_))
        refine rw_icmpF f_X4_keeps_20 (decide_eq_false (nI_ge (by omega) (by omega))) ?_
        refine rw_aload f_X4_keeps_23 rfl ?_
        refine rw_getR f_X4_keeps_24 (by first | assumption | exact hW.k rfl | exact hW.k0) (by first | assumption | exact hW.r0 rfl | exact hW.r rfl | rfl) ?_
        refine rw_getR f_X4_keeps_27 (by first | assumption | exact hW.k rfl | exact hW.k0) (by first | assumption | exact hW.r0 rfl | exact hW.r rfl | rfl) ?_
        refine rw_getR f_X4_keeps_30 (by first | assumption | exact hW.k rfl | exact hW.k0) (by first | assumption | exact hW.r0 rfl | exact hW.r rfl | rfl) ?_
        refine rw_iload f_X4_keeps_33 rfl ?_
        refine rw_callV f_X4_keeps_35 rfl (by first | assumption | exact hW.k rfl | exact hW.k0) (by first | assumption | exact hW.1 | omega | exact Nat.succ_ne_zero _) rfl rfl rfl rfl (rn_kr (J_getL (by assumption) (by omega) ?_))
        refine rw_castC f_X4_keeps_38 (by assumption) ?_
        refine rw_astore f_X4_keeps_41 rfl rfl ?_
        refine rw_aload f_X4_keeps_43 rfl ?_
        refine rw_getR f_X4_keeps_44 (by first | assumption | exact hW.k rfl | exact hW.k0) (by first | assumption | exact hW.r0 rfl | exact hW.r rfl | rfl) ?_
        refine rw_getR f_X4_keeps_47 (by first | assumption | exact hW.k rfl | exact hW.k0) (by first | assumption | exact hW.r0 rfl | exact hW.r rfl | rfl) ?_
        refine rw_getR f_X4_keeps_50 (by first | assumption | exact hW.k rfl | exact hW.k0) (by first | assumption | exact hW.r0 rfl | exact hW.r rfl | rfl) ?_
        refine rw_iload f_X4_keeps_53 rfl ?_
        refine rw_xaldE f_X4_keeps_55 (by first | assumption | exact hW.k rfl | exact hW.k0) rfl (by omega) (by omega) ?_
        rw [eS]
        first | refine rw_ne0B f_X4_keeps_56 (fun c1 => ?_) (fun c1 => ?_) | refine rw_ne0 f_X4_keeps_56 (fun c1 => ?_) (fun c1 => ?_)
        · refine rw_iinc f_X4_keeps_109 rfl rfl ?_
          refine rw_goto f_X4_keeps_112 ?_
          rw [nI_1']
          first | (rw [bs_no (by simp [oMt, c1])] at ih2; exact ih2 _) | (rw [bs_yes (by simp [oMt, c1])] at ih2; exact ih2 _)
        · refine rw_aload f_X4_keeps_59 rfl ?_
          refine rw_getIC f_X4_keeps_61 (by assumption) ?_
          rw [o0]
          refine rw_aload f_X4_keeps_64 rfl ?_
          refine rw_getI f_X4_keeps_65 (by first | assumption | exact hW.k rfl | exact hW.k0) ?_
          rw [hm]
          refine rw_ne f_X4_keeps_68 (fun c2 => ?_) (fun c2 => ?_)
          · refine rw_iinc f_X4_keeps_109 rfl rfl ?_
            refine rw_goto f_X4_keeps_112 ?_
            rw [nI_1']
            first | (rw [bs_no (by simp [oMt, c1, c2])] at ih2; exact ih2 _) | (rw [bs_yes (by simp [oMt, c1, c2])] at ih2; exact ih2 _)
          · refine rw_aload f_X4_keeps_71 rfl ?_
            refine rw_getIC f_X4_keeps_73 (by assumption) ?_
            rw [o2]
            refine rw_iload f_X4_keeps_76 rfl ?_
            refine rw_ne f_X4_keeps_77 (fun c3 => ?_) (fun c3 => ?_)
            · refine rw_iinc f_X4_keeps_109 rfl rfl ?_
              refine rw_goto f_X4_keeps_112 ?_
              rw [nI_1']
              first | (rw [bs_no (by simp [oMt, c1, c2, c3])] at ih2; exact ih2 _) | (rw [bs_yes (by simp [oMt, c1, c2, c3])] at ih2; exact ih2 _)
            · refine rw_aload f_X4_keeps_80 rfl ?_
              refine rw_getIC f_X4_keeps_82 (by assumption) ?_
              rw [o3]
              refine rw_iload f_X4_keeps_85 rfl ?_
              refine rw_ge f_X4_keeps_86 (fun c4 => ?_) (fun c4 => ?_)
              · refine rw_aload f_X4_keeps_92 rfl ?_
                refine rw_isP f_X4_keeps_94 (by assumption) (by assumption) rfl ?_
                first | refine rw_ne0B f_X4_keeps_97 (fun c5 => ?_) (fun c5 => ?_) | refine rw_ne0 f_X4_keeps_97 (fun c5 => ?_) (fun c5 => ?_)
                · refine rw_iload f_X4_keeps_102 rfl ?_
                  refine rw_const f_X4_keeps_103 ?_
                  refine rw_iload f_X4_keeps_104 rfl ?_
                  refine rw_ishl f_X4_keeps_106 ?_
                  refine rw_ior f_X4_keeps_107 ?_
                  refine rw_istore f_X4_keeps_108 rfl rfl ?_
                  refine rw_iinc f_X4_keeps_109 rfl rfl ?_
                  refine rw_goto f_X4_keeps_112 ?_
                  rw [nI_1']
                  first | (rw [bs_no (by simp [oMt, c1, c2, c3, c4, c5])] at ih2; exact ih2 _) | (rw [bs_yes (by simp [oMt, c1, c2, c3, c4, c5])] at ih2; exact ih2 _)
                · refine rw_const f_X4_keeps_100 ?_
                  refine rw_iret f_X4_keeps_101 ?_
                  exfalso
                  simp [oMt, c1, c2, c3, c4, c5] at z'
              · refine rw_goto f_X4_keeps_89 ?_
                refine rw_iinc f_X4_keeps_109 rfl rfl ?_
                refine rw_goto f_X4_keeps_112 ?_
                rw [nI_1']
                first | (rw [bs_no (by simp [oMt, c1, c2, c3, c4])] at ih2; exact ih2 _) | (rw [bs_yes (by simp [oMt, c1, c2, c3, c4])] at ih2; exact ih2 _)
  refine rw_const f_X4_keeps_0 ?_
  refine rw_istore f_X4_keeps_1 rfl rfl ?_
  refine rw_const f_X4_keeps_2 ?_
  refine rw_istore f_X4_keeps_3 rfl rfl ?_
  exact key nB 0 am_u (by omega) (fun b' hb' => absurd hb' (Nat.not_lt_zero b'))
/-- the best one, in the object's fields -/
def OBs (h : am_H) (x : Nat) (b : Option ord) : Prop := match b with
  | none => hp_I h (x + 18) 5 = -1
  | some o => hp_I h (x + 18) 5 = pc o.2.2 ∧ hp_I h (x + 18) 6 = nI o.1.length ∧ hp_I h (x + 18) 7 = o.2.1 ∧ hp_I h (x + 18) 8 = o.2.2 ∧ ∀ i e, o.1[i]? = some e → hp_I h (x + 21) i = nI e
def OK1 (h : am_H) (x : Nat) (L : List ord) : Prop := ∀ j, j < 1024 → hp_I h (x + 19) j = bI (L.any (fun o => decide (o.2.2 = nI j)))
def rowI (h : am_H) (x : Nat) (l : List Nat) : Prop := ∀ i e, l[i]? = some e → hp_I h (x + 20) i = nI e
/-- what is at hand while orders are gone through -/
def OSt (h hh : am_H) (x : Nat) (man late : Int32) (L : List ord) : Prop := On (oS x) h hh ∧ hp_I hh (x + 18) 3 = man ∧ hp_I hh (x + 18) 4 = late ∧ OBs hh x (L.foldl updB none) ∧ OK1 hh x L
theorem C_goHead (hC0 : CR h V x r nM nD nB nA nU nT nL) {man late : Int32} {o : ord} (hlen : o.1.length ≤ 6) (hs : s10 o.2.2) {hh : am_H} {L : List ord} {used : Int32} (hst : OSt h hh x man late L) (hrow : rowI hh x o.1) {K : am_R → am_H → Prop} (hk : ∀ h1 (jn : Int32), OSt h h1 x man late (L ++ [o]) → rowI h1 x o.1 → Rn (d + 1) n_X4_go 87 [am_r (x + 18), am_i used, am_i (nI o.1.length), am_i o.2.1, am_i o.2.2, am_i jn, am_i 0, am_u, am_u, am_u] [] h1 K) : Rn (d + 1) n_X4_go 0 [am_r (x + 18), am_i used, am_i (nI o.1.length), am_i o.2.1, am_i o.2.2, am_u, am_u, am_u, am_u, am_u] [] hh K := by
  obtain ⟨on, e3, e4, hb, hkp⟩ := hst
  have hW := (CR_oS hC0 on).1
  obtain ⟨row, e, s⟩ := o
  dsimp only at *
  obtain ⟨j, hj, rfl⟩ := s10_nat hs
  have onA : On (oS x) h (hp_sI hh (x + 19) j 1) := on.tr (On_sI (by omega))
  have k18 : ∀ i, hp_I (hp_sI hh (x + 19) j 1) (x + 18) i = hp_I hh (x + 18) i := fun i => sI_ne (by omega)
  have k21 : ∀ i, hp_I (hp_sI hh (x + 19) j 1) (x + 21) i = hp_I hh (x + 21) i := fun i => sI_ne (by omega)
  have hkA : OK1 (hp_sI hh (x + 19) j 1) x (L ++ [(row, e, nI j)]) := by
    intro i hi
    rw [List.any_append]
    by_cases q : i = j
    · subst q
      rw [sI_same]; simp [bI]
    · rw [sI_ne (by omega), hkp i hi]
      have : decide ((nI j : Int32) = nI i) = false := decide_eq_false (fun z => q (nI_inj (by omega) (by omega) z).symm)
      simp [this]
  have hrA : rowI (hp_sI hh (x + 19) j 1) x row := fun i e' q => by rw [sI_ne (by omega)]; exact hrow i e' q
  have fa : (L ++ [(row, e, nI j)]).foldl updB none = updB (L.foldl updB none) (row, e, nI j) := by rw [List.foldl_append]; rfl
  -- not better: goes on with the same best
  have stay : ∀ (jn : Int32), updB (L.foldl updB none) (row, e, nI j) = L.foldl updB none → Rn (d + 1) n_X4_go 87 [am_r (x + 18), am_i used, am_i (nI row.length), am_i e, am_i (nI j), am_i jn, am_i 0, am_u, am_u, am_u] [] (hp_sI hh (x + 19) j 1) K := by
    intro jn q
    refine hk _ jn ⟨onA, by rw [k18]; exact e3, by rw [k18]; exact e4, ?_, hkA⟩ hrA
    rw [fa, q]
    cases hB : L.foldl updB none with
    | none => rw [hB] at hb; show hp_I _ (x + 18) 5 = -1; rw [k18]; exact hb
    | some b =>
      rw [hB] at hb
      obtain ⟨b1, b2, b3, b4, b5⟩ := hb
      exact ⟨by rw [k18]; exact b1, by rw [k18]; exact b2, by rw [k18]; exact b3, by rw [k18]; exact b4, fun i e' q => by rw [k21]; exact b5 i e' q⟩
  -- better: it is taken
  have take : updB (L.foldl updB none) (row, e, nI j) = some (row, e, nI j) → Rn (d + 1) n_X4_go 48 [am_r (x + 18), am_i used, am_i (nI row.length), am_i e, am_i (nI j), am_i (pc (nI j)), am_u, am_u, am_u, am_u] [] (hp_sI hh (x + 19) j 1) K := by
    intro q
    have hW := (CR_oS hC0 onA).1
    refine rw_aload f_X4_go_48 rfl ?_
    refine rw_iload f_X4_go_49 rfl ?_
    refine rw_putI f_X4_go_51 (by first | assumption | exact hW.k rfl | exact hW.k0) ?_
    refine rw_aload f_X4_go_54 rfl ?_
    refine rw_iload f_X4_go_55 rfl ?_
    refine rw_putI f_X4_go_56 (by first | assumption | exact hW.k rfl | exact hW.k0) ?_
    refine rw_aload f_X4_go_59 rfl ?_
    refine rw_iload f_X4_go_60 rfl ?_
    refine rw_putI f_X4_go_61 (by first | assumption | exact hW.k rfl | exact hW.k0) ?_
    refine rw_aload f_X4_go_64 rfl ?_
    refine rw_iload f_X4_go_65 rfl ?_
    refine rw_putI f_X4_go_67 (by first | assumption | exact hW.k rfl | exact hW.k0) ?_
    refine rw_aload f_X4_go_70 rfl ?_
    refine rw_getR f_X4_go_71 (by first | assumption | exact hW.k rfl | exact hW.k0) (by first | assumption | exact hW.r0 rfl | exact hW.r rfl | rfl) ?_
    refine rw_const f_X4_go_74 ?_
    refine rw_aload f_X4_go_75 rfl ?_
    refine rw_getR f_X4_go_76 (by first | assumption | exact hW.k rfl | exact hW.k0) (by first | assumption | exact hW.r0 rfl | exact hW.r rfl | rfl) ?_
    refine rw_const f_X4_go_79 ?_
    refine rw_iload f_X4_go_80 rfl ?_
    skip
    refine rw_acpyI f_X4_go_81 (hW.k (a := 20) rfl) (hW.k (a := 21) rfl) ?_ ?_
    · rw [nI_clamp (by omega)]
      have := nI_pos (n := row.length) (by omega)
      intro z
      rcases z with z | z | z | z | z
      · exact this z
      · exact absurd z (by decide)
      · exact absurd z (by decide)
      · rw [show Int32.toNatClampNeg 0 = 0 from rfl] at z; omega
      · rw [show Int32.toNatClampNeg 0 = 0 from rfl] at z; omega
    rw [nI_clamp (by omega), show Int32.toNatClampNeg 0 = 0 from rfl]
    refine rw_const f_X4_go_84 ?_
    refine rw_istore f_X4_go_85 rfl rfl ?_
    skip
    generalize hg : hp_sI (hp_sI (hp_sI (hp_sI (hp_sI hh (x + 19) j 1) (x + 18) 5 (pc (nI j))) (x + 18) 6 (nI row.length)) (x + 18) 7 e) (x + 18) 8 (nI j) = g
    have onB : On (oS x) h g := by
      rw [← hg]; exact (((onA.tr (On_sI (by omega))).tr (On_sI (by omega))).tr (On_sI (by omega))).tr (On_sI (by omega))
    have onC : On (oS x) h (am_cpy g.1 (x + 20) 0 (x + 21) 0 row.length, g.2) := onB.tr ⟨rfl, fun b hb => by
      funext i
      show am_cpy g.1 (x + 20) 0 (x + 21) 0 row.length b i = _
      unfold am_cpy
      rw [if_neg (by intro z; exact hb (by omega))]⟩
    have rd : ∀ b i, ¬ b = x + 21 → hp_I (am_cpy g.1 (x + 20) 0 (x + 21) 0 row.length, g.2) b i = hp_I g b i := by
      intro b i hb
      show am_cpy g.1 (x + 20) 0 (x + 21) 0 row.length b i = _
      unfold am_cpy
      rw [if_neg (by omega)]
    have g20 : ∀ i, hp_I g (x + 20) i = hp_I hh (x + 20) i := fun i => by rw [← hg]; simp [sI_if]
    refine hk _ _ ⟨onC, by rw [rd _ _ (by omega), ← hg]; simp [sI_if]; exact e3, by rw [rd _ _ (by omega), ← hg]; simp [sI_if]; exact e4, ?_, fun i hi => ?_⟩ (fun i e' q => ?_)
    · rw [fa, q]
      refine ⟨by rw [rd _ _ (by omega), ← hg]; simp [sI_if], by rw [rd _ _ (by omega), ← hg]; simp [sI_if], by rw [rd _ _ (by omega), ← hg]; simp [sI_if], by rw [rd _ _ (by omega), ← hg]; simp [sI_if], fun i e' q => ?_⟩
      show am_cpy g.1 (x + 20) 0 (x + 21) 0 row.length (x + 21) i = _
      unfold am_cpy
      have hi := (List.getElem?_eq_some_iff.mp q).1
      dsimp only at hi
      rw [if_pos ⟨rfl, Nat.zero_le _, by omega⟩, show 0 + (i - 0) = i by omega]
      exact (g20 i).trans (hrow i e' q)
    · rw [rd _ _ (by omega), ← hg]
      have := hkA i hi
      simp only [sI_if] at this ⊢
      simpa using this
    · rw [rd _ _ (by omega)]; exact (g20 i).trans (hrow i e' q)
  have z5 : hp_I (hp_sI hh (x + 19) j 1) (x + 18) 5 = hp_I hh (x + 18) 5 := k18 5
  have z7 : hp_I (hp_sI hh (x + 19) j 1) (x + 18) 7 = hp_I hh (x + 18) 7 := k18 7
  cases hB : L.foldl updB none with
  | none =>
    rw [hB] at hb take
    have hb' : hp_I hh (x + 18) 5 = -1 := hb
    refine rw_aload f_X4_go_0 rfl ?_
    refine rw_getR f_X4_go_1 (by first | assumption | exact hW.k rfl | exact hW.k0) (by first | assumption | exact hW.r0 rfl | exact hW.r rfl | rfl) ?_
    refine rw_iload f_X4_go_4 rfl ?_
    refine rw_const f_X4_go_6 ?_
    refine rw_zastE (j := j) f_X4_go_7 (by first | assumption | exact hW.k rfl | exact hW.k0) (by first | rfl | exact nI_addl _ _ | (simp only [nI, Int32.ofNat_add, Int32.ofNat_mul]; rfl) | (simp only [nI_addl, nI_mull, nI_lit, nI_1']; done) | (simp only [nI_1, nI_0, nI_addl, nI_mull, ← nI_succ]; rfl)) (by omega) (by omega) (by first | exact Or.inl rfl | exact Or.inr rfl | exact bI_01 _ | assumption) ?_
    refine rw_iload f_X4_go_8 rfl ?_
    refine rw_callS f_X4_go_10 rfl rfl rfl (rn_ki (J_bitCount hs ?_))
    refine rw_istore f_X4_go_13 rfl rfl ?_
    refine rw_aload f_X4_go_15 rfl ?_
    refine rw_getI f_X4_go_16 (by first | assumption | exact hW.k rfl | exact hW.k0) ?_
    rw [z5, hb']
    refine rw_ifT f_X4_go_19 (by decide) ?_
    exact take rfl
  | some b =>
    rw [hB] at hb take stay
    obtain ⟨b1, b2, b3, b4, b5⟩ := hb
    have np := pc_pos b.2.2
    refine rw_aload f_X4_go_0 rfl ?_
    refine rw_getR f_X4_go_1 (by first | assumption | exact hW.k rfl | exact hW.k0) (by first | assumption | exact hW.r0 rfl | exact hW.r rfl | rfl) ?_
    refine rw_iload f_X4_go_4 rfl ?_
    refine rw_const f_X4_go_6 ?_
    refine rw_zastE (j := j) f_X4_go_7 (by first | assumption | exact hW.k rfl | exact hW.k0) (by first | rfl | exact nI_addl _ _ | (simp only [nI, Int32.ofNat_add, Int32.ofNat_mul]; rfl) | (simp only [nI_addl, nI_mull, nI_lit, nI_1']; done) | (simp only [nI_1, nI_0, nI_addl, nI_mull, ← nI_succ]; rfl)) (by omega) (by omega) (by first | exact Or.inl rfl | exact Or.inr rfl | exact bI_01 _ | assumption) ?_
    refine rw_iload f_X4_go_8 rfl ?_
    refine rw_callS f_X4_go_10 rfl rfl rfl (rn_ki (J_bitCount hs ?_))
    refine rw_istore f_X4_go_13 rfl rfl ?_
    refine rw_aload f_X4_go_15 rfl ?_
    refine rw_getI f_X4_go_16 (by first | assumption | exact hW.k rfl | exact hW.k0) ?_
    rw [z5, b1]
    refine rw_ifF f_X4_go_19 (decide_eq_false np) ?_
    refine rw_iload f_X4_go_22 rfl ?_
    refine rw_aload f_X4_go_24 rfl ?_
    refine rw_getI f_X4_go_25 (by first | assumption | exact hW.k rfl | exact hW.k0) ?_
    rw [z5, b1]
    refine rw_gt f_X4_go_28 (fun c1 => ?_) (fun c1 => ?_)
    · exact take (by unfold updB; simp [c1])
    · refine rw_iload f_X4_go_31 rfl ?_
      refine rw_aload f_X4_go_33 rfl ?_
      refine rw_getI f_X4_go_34 (by first | assumption | exact hW.k rfl | exact hW.k0) ?_
      rw [z5, b1]
      refine rw_ne f_X4_go_37 (fun c2 => ?_) (fun c2 => ?_)
      · refine rw_const f_X4_go_84 ?_
        refine rw_istore f_X4_go_85 rfl rfl ?_
        exact stay _ (by unfold updB; simp [c1, c2])
      · refine rw_iload f_X4_go_40 rfl ?_
        refine rw_aload f_X4_go_41 rfl ?_
        refine rw_getI f_X4_go_42 (by first | assumption | exact hW.k rfl | exact hW.k0) ?_
        rw [z7, b3]
        refine rw_ge f_X4_go_45 (fun c3 => ?_) (fun c3 => ?_)
        · refine rw_const f_X4_go_84 ?_
          refine rw_istore f_X4_go_85 rfl rfl ?_
          exact stay _ (by unfold updB; simp [c1, c2, c3])
        · exact take (by unfold updB; simp [c1, c2, c3])
theorem used_or {used : Int32} {l : List Nat} {e : Nat} (he : e < 32) (h : ∀ d, d < nD → hasB used (nI d) = l.contains d) (hD : nD ≤ 6) : ∀ d, d < nD → hasB (used ||| ((1 : Int32) <<< (nI e &&& 31))) (nI d) = (l ++ [e]).contains d := by
  intro d hd
  have := h d hd
  rw [has_tb (by omega)] at this ⊢
  rw [tb_or, tb_sh1 he, this]
  simp [Bool.decide_or]
theorem rowI_app {hh : am_H} {l : List Nat} {e : Nat} (hr : rowI hh x l) : rowI (hp_sI hh (x + 20) l.length (nI e)) x (l ++ [e]) := by
  intro i e' q
  by_cases z : i < l.length
  · rw [List.getElem?_append_left z] at q
    rw [sI_ne (by omega)]; exact hr i e' q
  · have hi := (List.getElem?_eq_some_iff.mp q).1
    rw [List.length_append, List.length_singleton] at hi
    obtain rfl : i = l.length := by omega
    rw [List.getElem?_append_right (Nat.le_refl _), Nat.sub_self] at q
    cases q
    exact sI_same
theorem rowI_pre {hh : am_H} {l : List Nat} {e : Nat} (hr : rowI hh x (l ++ [e])) : rowI hh x l := by
  intro i e' q
  exact hr i e' (by rw [List.getElem?_append_left (List.getElem?_eq_some_iff.mp q).1]; exact q)
theorem C_go (hC0 : CR h V x r nM nD nB nA nU nT nL) {man late bd : Int32} (hbd : V 34 20 + late = bd) : ∀ n (o : ord), fc nD o.1 ≤ n → o.1.length + fc nD o.1 = nD → s10 o.2.2 → ∀ (hh : am_H) (L : List ord) (used : Int32), OSt h hh x man late L → rowI hh x o.1 → (∀ e, e < nD → hasB used (nI e) = o.1.contains e) → ∀ {k : am_H → Prop}, (∀ h', OSt h h' x man late (L ++ dl V nB nD man bd n o) → rowI h' x o.1 → k h') → Rn (d + n + 4) n_X4_go 0 [am_r (x + 18), am_i used, am_i (nI o.1.length), am_i o.2.1, am_i o.2.2, am_u, am_u, am_u, am_u, am_u] [] hh (kV k) := by
  intro n
  induction n with
  | zero =>
    intro o hf hl hs hh L used hst hrow hu k hk
    have hD6 := hC0.wb.1.2.2.2.1
    have f0 : fc nD o.1 = 0 := by omega
    rw [show d + 0 + 4 = d + 3 + 1 by omega]
    refine C_goHead (d := d + 3) hC0 (by omega) hs hst hrow (fun h1 jn hst1 hrow1 => ?_)
    refine rn_for (N := nD) (fun e => [am_r (x + 18), am_i used, am_i (nI o.1.length), am_i o.2.1, am_i o.2.2, am_i jn, am_i (nI e), am_u, am_u, am_u]) (fun _ => h1) (fun e he ih => ?_) ?_
    · have hC := CR_oS hC0 hst1.1
      have hC' := hC
      obtain ⟨hW, hr, hG, hN, hA, hT, hX, hI, hS, hF⟩ := hC'
      obtain ⟨⟨rK, r0⟩, ⟨hLM, hM⟩, ⟨hLD, hD⟩, ⟨hLO, hO⟩, ⟨⟨hlk, hla⟩, hlike⟩, ⟨htk, hwear⟩, gf, gu, gh, gs⟩ := hG
      obtain ⟨⟨⟨fM, fM6, fD, fD6, fB, fB10⟩, fO, ⟨fH, fSt⟩, fHr, fFr, fWr⟩, ⟨fA, fU, fAU, fT, fT30, fL, fL10⟩, fTp, fNow, fWere, fBox, fTg⟩ := hF
      have kLM := hLM.1.1; have zLM := hLM.2
      have kLD := hLD.1.1; have zLD := hLD.2
      have kLO := hLO.1.1; have zLO := hLO.2
      have ct : o.1.contains e = true := by
        cases q : o.1.contains e with
        | true => rfl
        | false => have := fc_pos he q; omega
      refine rw_iload f_X4_go_87 rfl ?_
      refine rw_aload f_X4_go_89 rfl ?_
      refine rw_getR f_X4_go_90 (by first | assumption | exact hW.k rfl | exact hW.k0) (by first | assumption | exact hW.r0 rfl | exact hW.r rfl | rfl) ?_
      refine rw_getR f_X4_go_93 (by first | assumption | exact hW.k rfl | exact hW.k0) (by first | assumption | exact hW.r0 rfl | exact hW.r rfl | rfl) ?_
      refine rw_getR f_X4_go_96 (by first | assumption | exact hW.k rfl | exact hW.k0) (by first | assumption | exact hW.r0 rfl | exact hW.r rfl | rfl) ?_
      refine rw_callV f_X4_go_99 rfl (by first | assumption | exact hW.k rfl | exact hW.k0) (by first | assumption | exact hW.1 | omega | exact Nat.succ_ne_zero _) rfl rfl rfl rfl (rn_ki (J_sizeL (by assumption) ?_))
      refine rw_icmpF f_X4_go_102 (decide_eq_false (nI_ge he (by omega))) ?_
      refine rw_iload f_X4_go_105 rfl ?_
      refine rw_iload f_X4_go_106 rfl ?_
      refine rw_callS f_X4_go_108 rfl rfl rfl (rn_ki (C_has ?_))
      rw [hu e he, ct]
      refine rw_ifF f_X4_go_111 (by decide) ?_
      refine rw_goto f_X4_go_114 ?_
      refine rw_iinc f_X4_go_221 rfl rfl ?_
      refine rw_goto f_X4_go_224 ?_
      rw [nI_1']
      exact ih
    · have hC := CR_oS hC0 hst1.1
      have hC' := hC
      obtain ⟨hW, hr, hG, hN, hA, hT, hX, hI, hS, hF⟩ := hC'
      obtain ⟨⟨rK, r0⟩, ⟨hLM, hM⟩, ⟨hLD, hD⟩, ⟨hLO, hO⟩, ⟨⟨hlk, hla⟩, hlike⟩, ⟨htk, hwear⟩, gf, gu, gh, gs⟩ := hG
      obtain ⟨⟨⟨fM, fM6, fD, fD6, fB, fB10⟩, fO, ⟨fH, fSt⟩, fHr, fFr, fWr⟩, ⟨fA, fU, fAU, fT, fT30, fL, fL10⟩, fTp, fNow, fWere, fBox, fTg⟩ := hF
      have kLM := hLM.1.1; have zLM := hLM.2
      have kLD := hLD.1.1; have zLD := hLD.2
      have kLO := hLO.1.1; have zLO := hLO.2
      refine rw_iload f_X4_go_87 rfl ?_
      refine rw_aload f_X4_go_89 rfl ?_
      refine rw_getR f_X4_go_90 (by first | assumption | exact hW.k rfl | exact hW.k0) (by first | assumption | exact hW.r0 rfl | exact hW.r rfl | rfl) ?_
      refine rw_getR f_X4_go_93 (by first | assumption | exact hW.k rfl | exact hW.k0) (by first | assumption | exact hW.r0 rfl | exact hW.r rfl | rfl) ?_
      refine rw_getR f_X4_go_96 (by first | assumption | exact hW.k rfl | exact hW.k0) (by first | assumption | exact hW.r0 rfl | exact hW.r rfl | rfl) ?_
      refine rw_callV f_X4_go_99 rfl (by first | assumption | exact hW.k rfl | exact hW.k0) (by first | assumption | exact hW.1 | omega | exact Nat.succ_ne_zero _) rfl rfl rfl rfl (rn_ki (J_sizeL (by assumption) ?_))
      refine rw_icmpT f_X4_go_102 (decide_eq_true (Int32.le_refl _)) ?_
      refine rw_vret f_X4_go_227 ?_
      exact hk h1 hst1 hrow1
  | succ n ih =>
    intro o hf hl hs hh L used hst hrow hu k hk
    have hD6 := hC0.wb.1.2.2.2.1
    have hB10 := hC0.wb.1.2.2.2.2.2
    rw [show d + (n + 1) + 4 = d + n + 4 + 1 by omega]
    refine C_goHead (d := d + n + 4) hC0 (by omega) hs hst hrow (fun h1 jn hst1 hrow1 => ?_)
    refine rn_inv (N := nD) (fun e ls hh => (∃ j1 j2 j3, ls = [am_r (x + 18), am_i used, am_i (nI o.1.length), am_i o.2.1, am_i o.2.2, am_i jn, am_i (nI e), j1, j2, j3]) ∧ OSt h hh x man late (L ++ o :: kd V nB nD man bd n o e) ∧ rowI hh x o.1) (fun e he ls hh hi ihl => ?_) (fun ls hh hi => ?_) ⟨⟨_, _, _, rfl⟩, by rw [kd_0]; exact hst1, hrow1⟩
    · obtain ⟨⟨j1, j2, j3, rfl⟩, hst2, hrow2⟩ := hi
      have hC := CR_oS hC0 hst2.1
      have hC' := hC
      obtain ⟨hW, hr, hG, hN, hA, hT, hX, hI, hS, hF⟩ := hC'
      obtain ⟨⟨rK, r0⟩, ⟨hLM, hM⟩, ⟨hLD, hD⟩, ⟨hLO, hO⟩, ⟨⟨hlk, hla⟩, hlike⟩, ⟨htk, hwear⟩, gf, gu, gh, gs⟩ := hG
      obtain ⟨⟨⟨fM, fM6, fD, fD6, fB, fB10⟩, fO, ⟨fH, fSt⟩, fHr, fFr, fWr⟩, ⟨fA, fU, fAU, fT, fT30, fL, fL10⟩, fTp, fNow, fWere, fBox, fTg⟩ := hF
      have kLM := hLM.1.1; have zLM := hLM.2
      have kLD := hLD.1.1; have zLD := hLD.2
      have kLO := hLO.1.1; have zLO := hLO.2
      have hd := hD e he
      have kd_ := hd.1
      have zd := Al_ne hW.al kd_ (by decide)
      have e4 := hst2.2.2.1
      have nD20 := hN.2.1
      obtain ⟨hh_, hh1, hh2, hh3⟩ := fH
      cases q : o.1.contains e with
      | true =>
        have hc : child V nB man bd o e = none := by unfold child; rw [if_pos q]
        have ih2 := ihl [am_r (x + 18), am_i used, am_i (nI o.1.length), am_i o.2.1, am_i o.2.2, am_i jn, am_i (nI (e + 1)), j1, j2, j3] hh ⟨⟨j1, j2, j3, rfl⟩, by rw [kd_none hc]; exact hst2, hrow2⟩
        refine rw_iload f_X4_go_87 rfl ?_
        refine rw_aload f_X4_go_89 rfl ?_
        refine rw_getR f_X4_go_90 (by first | assumption | exact hW.k rfl | exact hW.k0) (by first | assumption | exact hW.r0 rfl | exact hW.r rfl | rfl) ?_
        refine rw_getR f_X4_go_93 (by first | assumption | exact hW.k rfl | exact hW.k0) (by first | assumption | exact hW.r0 rfl | exact hW.r rfl | rfl) ?_
        refine rw_getR f_X4_go_96 (by first | assumption | exact hW.k rfl | exact hW.k0) (by first | assumption | exact hW.r0 rfl | exact hW.r rfl | rfl) ?_
        refine rw_callV f_X4_go_99 rfl (by first | assumption | exact hW.k rfl | exact hW.k0) (by first | assumption | exact hW.1 | omega | exact Nat.succ_ne_zero _) rfl rfl rfl rfl (rn_ki (J_sizeL (by assumption) ?_))
        refine rw_icmpF f_X4_go_102 (decide_eq_false (nI_ge he (by omega))) ?_
        refine rw_iload f_X4_go_105 rfl ?_
        refine rw_iload f_X4_go_106 rfl ?_
        refine rw_callS f_X4_go_108 rfl rfl rfl (rn_ki (C_has ?_))
        rw [hu e he, q]
        refine rw_ifF f_X4_go_111 (by decide) ?_
        refine rw_goto f_X4_go_114 ?_
        refine rw_iinc f_X4_go_221 rfl rfl ?_
        refine rw_goto f_X4_go_224 ?_
        rw [nI_1']
        exact ih2
      | false =>
        have eday : V 34 20 + late + (o.2.1 + V 18 e - 1) / V 0 60 = oDay V bd (o.2.1 + V 18 e) := by rw [hbd]; rfl
        have nz : ¬ V 0 60 = 0 := by rw [hh3]; exact nI_ne0 hh1 (by omega)
        cases q2 : oForb V nB man e (oDay V bd (o.2.1 + V 18 e)) with
        | true =>
          have hc : child V nB man bd o e = none := by unfold child; rw [if_neg (by rw [q]; decide), if_pos q2]
          have ih2 := fun j1 j2 j3 => ihl [am_r (x + 18), am_i used, am_i (nI o.1.length), am_i o.2.1, am_i o.2.2, am_i jn, am_i (nI (e + 1)), j1, j2, j3] hh ⟨⟨j1, j2, j3, rfl⟩, by rw [kd_none hc]; exact hst2, hrow2⟩
          refine rw_iload f_X4_go_87 rfl ?_
          refine rw_aload f_X4_go_89 rfl ?_
          refine rw_getR f_X4_go_90 (by first | assumption | exact hW.k rfl | exact hW.k0) (by first | assumption | exact hW.r0 rfl | exact hW.r rfl | rfl) ?_
          refine rw_getR f_X4_go_93 (by first | assumption | exact hW.k rfl | exact hW.k0) (by first | assumption | exact hW.r0 rfl | exact hW.r rfl | rfl) ?_
          refine rw_getR f_X4_go_96 (by first | assumption | exact hW.k rfl | exact hW.k0) (by first | assumption | exact hW.r0 rfl | exact hW.r rfl | rfl) ?_
          refine rw_callV f_X4_go_99 rfl (by first | assumption | exact hW.k rfl | exact hW.k0) (by first | assumption | exact hW.1 | omega | exact Nat.succ_ne_zero _) rfl rfl rfl rfl (rn_ki (J_sizeL (by assumption) ?_))
          refine rw_icmpF f_X4_go_102 (decide_eq_false (nI_ge he (by omega))) ?_
          refine rw_iload f_X4_go_105 rfl ?_
          refine rw_iload f_X4_go_106 rfl ?_
          refine rw_callS f_X4_go_108 rfl rfl rfl (rn_ki (C_has ?_))
          rw [hu e he, q]
          refine rw_ifT f_X4_go_111 (by decide) ?_
          refine rw_iload f_X4_go_117 rfl ?_
          refine rw_aload f_X4_go_118 rfl ?_
          refine rw_getR f_X4_go_119 (by first | assumption | exact hW.k rfl | exact hW.k0) (by first | assumption | exact hW.r0 rfl | exact hW.r rfl | rfl) ?_
          refine rw_getR f_X4_go_122 (by first | assumption | exact hW.k rfl | exact hW.k0) (by first | assumption | exact hW.r0 rfl | exact hW.r rfl | rfl) ?_
          refine rw_getR f_X4_go_125 (by first | assumption | exact hW.k rfl | exact hW.k0) (by first | assumption | exact hW.r0 rfl | exact hW.r rfl | rfl) ?_
          refine rw_iload f_X4_go_128 rfl ?_
          refine rw_callV f_X4_go_130 rfl (by first | assumption | exact hW.k rfl | exact hW.k0) (by first | assumption | exact hW.1 | omega | exact Nat.succ_ne_zero _) rfl rfl rfl rfl (rn_kr (J_getL hLD he ?_))
          refine rw_cast f_X4_go_133 (by first | assumption | exact hW.k rfl | exact hW.k0) ?_
          refine rw_getI f_X4_go_136 (by first | assumption | exact hW.k rfl | exact hW.k0) ?_
          rw [hd.2]
          refine rw_iadd f_X4_go_139 ?_
          refine rw_istore f_X4_go_140 rfl rfl ?_
          refine rw_aload f_X4_go_142 rfl ?_
          refine rw_getR f_X4_go_143 (by first | assumption | exact hW.k rfl | exact hW.k0) (by first | assumption | exact hW.r0 rfl | exact hW.r rfl | rfl) ?_
          refine rw_getR f_X4_go_146 (by first | assumption | exact hW.k rfl | exact hW.k0) (by first | assumption | exact hW.r0 rfl | exact hW.r rfl | rfl) ?_
          refine rw_getI f_X4_go_149 (by first | assumption | exact hW.k rfl | exact hW.k0) ?_
          rw [nD20]
          refine rw_aload f_X4_go_152 rfl ?_
          refine rw_getI f_X4_go_153 (by first | assumption | exact hW.k rfl | exact hW.k0) ?_
          rw [e4]
          refine rw_iadd f_X4_go_156 ?_
          refine rw_iload f_X4_go_157 rfl ?_
          refine rw_const f_X4_go_159 ?_
          refine rw_isub f_X4_go_160 ?_
          refine rw_aload f_X4_go_161 rfl ?_
          refine rw_getR f_X4_go_162 (by first | assumption | exact hW.k rfl | exact hW.k0) (by first | assumption | exact hW.r0 rfl | exact hW.r rfl | rfl) ?_
          refine rw_getR f_X4_go_165 (by first | assumption | exact hW.k rfl | exact hW.k0) (by first | assumption | exact hW.r0 rfl | exact hW.r rfl | rfl) ?_
          refine rw_getI f_X4_go_168 (by first | assumption | exact hW.k rfl | exact hW.k0) ?_
          rw [gh]
          refine rw_idiv f_X4_go_171 nz ?_
          refine rw_iadd f_X4_go_172 ?_
          rw [eday]
          refine rw_istore f_X4_go_173 rfl rfl ?_
          refine rw_aload f_X4_go_175 rfl ?_
          refine rw_iload f_X4_go_176 rfl ?_
          refine rw_iload f_X4_go_178 rfl ?_
          refine rw_callV f_X4_go_180 rfl (by first | assumption | exact hW.k rfl | exact hW.k0) (by first | assumption | exact hW.1 | omega | exact Nat.succ_ne_zero _) rfl rfl rfl rfl (rn_ki (C_keeps hC hst2.2.1 ?_))
          rw [if_pos q2]
          refine rw_istore f_X4_go_183 rfl rfl ?_
          refine rw_iload f_X4_go_185 rfl ?_
          refine rw_ifF f_X4_go_187 (by decide) ?_
          refine rw_goto f_X4_go_190 ?_
          refine rw_iinc f_X4_go_221 rfl rfl ?_
          refine rw_goto f_X4_go_224 ?_
          rw [nI_1']
          exact ih2 _ _ _
        | false =>
          have hc : child V nB man bd o e = some (o.1 ++ [e], o.2.1 + V 18 e, o.2.2 ||| oKept V nB man e (oDay V bd (o.2.1 + V 18 e))) := by unfold child; rw [if_neg (by rw [q]; decide), if_neg (by rw [q2]; decide)]
          have sk : s10 (oKept V nB man e (oDay V bd (o.2.1 + V 18 e))) := s10_bs hB10
          have pos : 0 ≤ oKept V nB man e (oDay V bd (o.2.1 + V 18 e)) := by
            obtain ⟨j, h1, h2⟩ := s10_nat sk
            rw [h2]; exact nI_pos' (by omega)
          have fa := fc_add he q
          have lenp : (o.1 ++ [e]).length = o.1.length + 1 := by simp
          refine rw_iload f_X4_go_87 rfl ?_
          refine rw_aload f_X4_go_89 rfl ?_
          refine rw_getR f_X4_go_90 (by first | assumption | exact hW.k rfl | exact hW.k0) (by first | assumption | exact hW.r0 rfl | exact hW.r rfl | rfl) ?_
          refine rw_getR f_X4_go_93 (by first | assumption | exact hW.k rfl | exact hW.k0) (by first | assumption | exact hW.r0 rfl | exact hW.r rfl | rfl) ?_
          refine rw_getR f_X4_go_96 (by first | assumption | exact hW.k rfl | exact hW.k0) (by first | assumption | exact hW.r0 rfl | exact hW.r rfl | rfl) ?_
          refine rw_callV f_X4_go_99 rfl (by first | assumption | exact hW.k rfl | exact hW.k0) (by first | assumption | exact hW.1 | omega | exact Nat.succ_ne_zero _) rfl rfl rfl rfl (rn_ki (J_sizeL (by assumption) ?_))
          refine rw_icmpF f_X4_go_102 (decide_eq_false (nI_ge he (by omega))) ?_
          refine rw_iload f_X4_go_105 rfl ?_
          refine rw_iload f_X4_go_106 rfl ?_
          refine rw_callS f_X4_go_108 rfl rfl rfl (rn_ki (C_has ?_))
          rw [hu e he, q]
          refine rw_ifT f_X4_go_111 (by decide) ?_
          refine rw_iload f_X4_go_117 rfl ?_
          refine rw_aload f_X4_go_118 rfl ?_
          refine rw_getR f_X4_go_119 (by first | assumption | exact hW.k rfl | exact hW.k0) (by first | assumption | exact hW.r0 rfl | exact hW.r rfl | rfl) ?_
          refine rw_getR f_X4_go_122 (by first | assumption | exact hW.k rfl | exact hW.k0) (by first | assumption | exact hW.r0 rfl | exact hW.r rfl | rfl) ?_
          refine rw_getR f_X4_go_125 (by first | assumption | exact hW.k rfl | exact hW.k0) (by first | assumption | exact hW.r0 rfl | exact hW.r rfl | rfl) ?_
          refine rw_iload f_X4_go_128 rfl ?_
          refine rw_callV f_X4_go_130 rfl (by first | assumption | exact hW.k rfl | exact hW.k0) (by first | assumption | exact hW.1 | omega | exact Nat.succ_ne_zero _) rfl rfl rfl rfl (rn_kr (J_getL hLD he ?_))
          refine rw_cast f_X4_go_133 (by first | assumption | exact hW.k rfl | exact hW.k0) ?_
          refine rw_getI f_X4_go_136 (by first | assumption | exact hW.k rfl | exact hW.k0) ?_
          rw [hd.2]
          refine rw_iadd f_X4_go_139 ?_
          refine rw_istore f_X4_go_140 rfl rfl ?_
          refine rw_aload f_X4_go_142 rfl ?_
          refine rw_getR f_X4_go_143 (by first | assumption | exact hW.k rfl | exact hW.k0) (by first | assumption | exact hW.r0 rfl | exact hW.r rfl | rfl) ?_
          refine rw_getR f_X4_go_146 (by first | assumption | exact hW.k rfl | exact hW.k0) (by first | assumption | exact hW.r0 rfl | exact hW.r rfl | rfl) ?_
          refine rw_getI f_X4_go_149 (by first | assumption | exact hW.k rfl | exact hW.k0) ?_
          rw [nD20]
          refine rw_aload f_X4_go_152 rfl ?_
          refine rw_getI f_X4_go_153 (by first | assumption | exact hW.k rfl | exact hW.k0) ?_
          rw [e4]
          refine rw_iadd f_X4_go_156 ?_
          refine rw_iload f_X4_go_157 rfl ?_
          refine rw_const f_X4_go_159 ?_
          refine rw_isub f_X4_go_160 ?_
          refine rw_aload f_X4_go_161 rfl ?_
          refine rw_getR f_X4_go_162 (by first | assumption | exact hW.k rfl | exact hW.k0) (by first | assumption | exact hW.r0 rfl | exact hW.r rfl | rfl) ?_
          refine rw_getR f_X4_go_165 (by first | assumption | exact hW.k rfl | exact hW.k0) (by first | assumption | exact hW.r0 rfl | exact hW.r rfl | rfl) ?_
          refine rw_getI f_X4_go_168 (by first | assumption | exact hW.k rfl | exact hW.k0) ?_
          rw [gh]
          refine rw_idiv f_X4_go_171 nz ?_
          refine rw_iadd f_X4_go_172 ?_
          rw [eday]
          refine rw_istore f_X4_go_173 rfl rfl ?_
          refine rw_aload f_X4_go_175 rfl ?_
          refine rw_iload f_X4_go_176 rfl ?_
          refine rw_iload f_X4_go_178 rfl ?_
          refine rw_callV f_X4_go_180 rfl (by first | assumption | exact hW.k rfl | exact hW.k0) (by first | assumption | exact hW.1 | omega | exact Nat.succ_ne_zero _) rfl rfl rfl rfl (rn_ki (C_keeps hC hst2.2.1 ?_))
          rw [if_neg (by rw [q2]; decide)]
          refine rw_istore f_X4_go_183 rfl rfl ?_
          refine rw_iload f_X4_go_185 rfl ?_
          refine rw_ifT f_X4_go_187 (decide_eq_true pos) ?_
          refine rw_aload f_X4_go_193 rfl ?_
          refine rw_getR f_X4_go_194 (by first | assumption | exact hW.k rfl | exact hW.k0) (by first | assumption | exact hW.r0 rfl | exact hW.r rfl | rfl) ?_
          refine rw_iload f_X4_go_197 rfl ?_
          refine rw_iload f_X4_go_198 rfl ?_
          refine rw_iastE (j := o.1.length) f_X4_go_200 (by first | assumption | exact hW.k rfl | exact hW.k0) (by first | rfl | exact nI_addl _ _ | (simp only [nI, Int32.ofNat_add, Int32.ofNat_mul]; rfl) | (simp only [nI_addl, nI_mull, nI_lit, nI_1']; done) | (simp only [nI_1, nI_0, nI_addl, nI_mull, ← nI_succ]; rfl)) (by omega) (by omega) ?_
          refine rw_aload f_X4_go_201 rfl ?_
          refine rw_iload f_X4_go_202 rfl ?_
          refine rw_const f_X4_go_203 ?_
          refine rw_iload f_X4_go_204 rfl ?_
          refine rw_ishl f_X4_go_206 ?_
          refine rw_ior f_X4_go_207 ?_
          refine rw_iload f_X4_go_208 rfl ?_
          refine rw_const f_X4_go_209 ?_
          refine rw_iadd f_X4_go_210 ?_
          rw [nI_1']
          refine rw_iload f_X4_go_211 rfl ?_
          refine rw_iload f_X4_go_213 rfl ?_
          refine rw_iload f_X4_go_215 rfl ?_
          refine rw_ior f_X4_go_217 ?_
          skip
          have hst3 : OSt h (hp_sI hh (x + 20) o.1.length (nI e)) x man late (L ++ o :: kd V nB nD man bd n o e) := by
            obtain ⟨z1, z2, z3, z4, z5⟩ := hst2
            refine ⟨z1.tr (On_sI (by omega)), by rw [sI_ne (by omega)]; exact z2, by rw [sI_ne (by omega)]; exact z3, ?_, fun i hi => by rw [sI_ne (by omega)]; exact z5 i hi⟩
            cases hB : (L ++ o :: kd V nB nD man bd n o e).foldl updB none with
            | none => rw [hB] at z4; show hp_I _ (x + 18) 5 = -1; rw [sI_ne (by omega)]; exact z4
            | some b =>
              rw [hB] at z4
              obtain ⟨b1, b2, b3, b4, b5⟩ := z4
              exact ⟨by rw [sI_ne (by omega)]; exact b1, by rw [sI_ne (by omega)]; exact b2, by rw [sI_ne (by omega)]; exact b3, by rw [sI_ne (by omega)]; exact b4, fun i e' q => by rw [sI_ne (by omega)]; exact b5 i e' q⟩
          have kx18 : hp_K (hp_sI hh (x + 20) o.1.length (nI e)) (x + 18) = (104, 0) := hW.k rfl
          have ihg := ih (o.1 ++ [e], o.2.1 + V 18 e, o.2.2 ||| oKept V nB man e (oDay V bd (o.2.1 + V 18 e))) (by dsimp only; omega) (by dsimp only; rw [lenp]; omega) (s10_or hs sk) _ _ (used ||| ((1 : Int32) <<< (nI e &&& 31))) hst3 (rowI_app hrow2) (used_or (by omega) hu hD6) (k := fun h' => Rn (d + n + 4 + 1) n_X4_go 221 [am_r (x + 18), am_i used, am_i (nI o.1.length), am_i o.2.1, am_i o.2.2, am_i jn, am_i (nI e), am_i (o.2.1 + V 18 e), am_i (oDay V bd (o.2.1 + V 18 e)), am_i (oKept V nB man e (oDay V bd (o.2.1 + V 18 e)))] [] h' (kV k)) (fun h4 hst4 hrow4 => ?_)
          · dsimp only at ihg
            rw [lenp] at ihg
            exact rw_callV f_X4_go_218 rfl kx18 (Nat.succ_ne_zero _) rfl rfl rfl rfl (rn_kv ihg)
          · refine rw_iinc f_X4_go_221 rfl rfl ?_
            refine rw_goto f_X4_go_224 ?_
            rw [nI_1']
            refine ihl _ h4 ⟨⟨_, _, _, rfl⟩, ?_, rowI_pre hrow4⟩
            rw [kd_some hc]
            have : L ++ o :: (kd V nB nD man bd n o e ++ dl V nB nD man bd n (o.1 ++ [e], o.2.1 + V 18 e, o.2.2 ||| oKept V nB man e (oDay V bd (o.2.1 + V 18 e)))) = L ++ o :: kd V nB nD man bd n o e ++ dl V nB nD man bd n (o.1 ++ [e], o.2.1 + V 18 e, o.2.2 ||| oKept V nB man e (oDay V bd (o.2.1 + V 18 e))) := by simp
            rw [this]; exact hst4
    · obtain ⟨⟨j1, j2, j3, rfl⟩, hst2, hrow2⟩ := hi
      have hC := CR_oS hC0 hst2.1
      have hC' := hC
      obtain ⟨hW, hr, hG, hN, hA, hT, hX, hI, hS, hF⟩ := hC'
      obtain ⟨⟨rK, r0⟩, ⟨hLM, hM⟩, ⟨hLD, hD⟩, ⟨hLO, hO⟩, ⟨⟨hlk, hla⟩, hlike⟩, ⟨htk, hwear⟩, gf, gu, gh, gs⟩ := hG
      obtain ⟨⟨⟨fM, fM6, fD, fD6, fB, fB10⟩, fO, ⟨fH, fSt⟩, fHr, fFr, fWr⟩, ⟨fA, fU, fAU, fT, fT30, fL, fL10⟩, fTp, fNow, fWere, fBox, fTg⟩ := hF
      have kLM := hLM.1.1; have zLM := hLM.2
      have kLD := hLD.1.1; have zLD := hLD.2
      have kLO := hLO.1.1; have zLO := hLO.2
      refine rw_iload f_X4_go_87 rfl ?_
      refine rw_aload f_X4_go_89 rfl ?_
      refine rw_getR f_X4_go_90 (by first | assumption | exact hW.k rfl | exact hW.k0) (by first | assumption | exact hW.r0 rfl | exact hW.r rfl | rfl) ?_
      refine rw_getR f_X4_go_93 (by first | assumption | exact hW.k rfl | exact hW.k0) (by first | assumption | exact hW.r0 rfl | exact hW.r rfl | rfl) ?_
      refine rw_getR f_X4_go_96 (by first | assumption | exact hW.k rfl | exact hW.k0) (by first | assumption | exact hW.r0 rfl | exact hW.r rfl | rfl) ?_
      refine rw_callV f_X4_go_99 rfl (by first | assumption | exact hW.k rfl | exact hW.k0) (by first | assumption | exact hW.1 | omega | exact Nat.succ_ne_zero _) rfl rfl rfl rfl (rn_ki (J_sizeL (by assumption) ?_))
      refine rw_icmpT f_X4_go_102 (decide_eq_true (Int32.le_refl _)) ?_
      refine rw_vret f_X4_go_227 ?_
      exact hk hh hst2 hrow2
end COrders
