/-! THE MODEL: queries with loops, second -/
section MQ3
variable {d : Nat} {h : am_H} {m : Nat} {k : Int32 → am_H → Prop}
theorem bs_step {p : Nat → Bool} {n : Nat} {x : Int32} (h : x = bI (p n)) : bs p n ||| (x <<< (nI n &&& 31)) = bs p (n + 1) := by rw [h]; rfl
/-- buttons that are so, on (by) a man -/
def pr_coat (now on by_ : Nat → Int32) (man what s : Int32) (b : Nat) : Bool := decide (now b = s) && decide ((if what = 1 then by_ b else on b) = man)
def sp_coatS (what : Int32) : Int32 := if 2 ≤ what then (if what = 2 then 3 else 4) else 0
def sp_coat (nB : Nat) (now on by_ : Nat → Int32) (men man what : Int32) : Int32 := if isIn man 0 (men - 1) = false then -1 else if isIn what 0 3 = false then -1 else bs (pr_coat now on by_ man what (sp_coatS what)) nB
theorem M_coat_loop (hW : MW h m) {nB : Nat} (hB : hp_I h m 58 = nI nB) (hB10 : nB ≤ 10) {man what s : Int32} (hk : k (bs (pr_coat (hp_I h (m + 34)) (hp_I h (m + 26)) (hp_I h (m + 27)) man what s) nB) h) : Rn (d + 1) n_X9_coat 45 [am_r m, am_i man, am_i what, am_i s, am_i 0, am_i 0] [] h (kI k) := by
  refine rn_for (N := nB) (fun b => [am_r m, am_i man, am_i what, am_i s, am_i (bs (pr_coat (hp_I h (m + 34)) (hp_I h (m + 26)) (hp_I h (m + 27)) man what s) b), am_i (nI b)]) (fun _ => h) (fun b hb ih => ?_) ?_
  · refine rw_iload f_X9_coat_45 rfl ?_
    refine rw_aload f_X9_coat_47 rfl ?_
    refine rw_getI f_X9_coat_48 hW.1 ?_
    refine rw_icmpF f_X9_coat_51 (decide_eq_false (by rw [hB]; exact nI_ge hb (by omega))) ?_
    refine rw_iload f_X9_coat_54 rfl ?_
    refine rw_aload f_X9_coat_56 rfl ?_
    refine rw_getR f_X9_coat_57 hW.1 (hW.2.2 67 _ _ _ rfl).1 ?_
    refine rw_iload f_X9_coat_60 rfl ?_
    refine rw_xaldE f_X9_coat_62 (hW.2.2 67 _ _ _ rfl).2 rfl (by omega) (by omega) ?_
    refine rw_iload f_X9_coat_63 rfl ?_
    refine rw_ne f_X9_coat_64 (fun c1 => ?_) (fun c1 => ?_)
    · refine rw_const f_X9_coat_97 ?_
      refine rw_callS f_X9_coat_98 rfl rfl rfl (rn_ki (M_truthX (by first | exact Or.inl rfl | exact Or.inr rfl | exact bI_01 _) ?_))
      refine rw_iload f_X9_coat_101 rfl ?_
      refine rw_ishl f_X9_coat_103 ?_
      refine rw_ior f_X9_coat_104 ?_
      refine rw_istore f_X9_coat_105 rfl rfl ?_
      refine rw_iinc f_X9_coat_107 rfl rfl ?_
      refine rw_goto f_X9_coat_110 ?_
      rw [nI_1']
      rw [bs_step (by simp [pr_coat, c1, bI])]
      exact ih
    · refine rw_iload f_X9_coat_67 rfl ?_
      refine rw_const f_X9_coat_68 ?_
      refine rw_ne f_X9_coat_69 (fun c2 => ?_) (fun c2 => ?_)
      · refine rw_aload f_X9_coat_82 rfl ?_
        refine rw_getR f_X9_coat_83 hW.1 (hW.2.2 41 _ _ _ rfl).1 ?_
        refine rw_iload f_X9_coat_86 rfl ?_
        refine rw_xaldE f_X9_coat_88 (hW.2.2 41 _ _ _ rfl).2 rfl (by omega) (by omega) ?_
        refine rw_iload f_X9_coat_89 rfl ?_
        refine rw_ne f_X9_coat_90 (fun c3 => ?_) (fun c3 => ?_)
        · refine rw_const f_X9_coat_97 ?_
          refine rw_callS f_X9_coat_98 rfl rfl rfl (rn_ki (M_truthX (by first | exact Or.inl rfl | exact Or.inr rfl | exact bI_01 _) ?_))
          refine rw_iload f_X9_coat_101 rfl ?_
          refine rw_ishl f_X9_coat_103 ?_
          refine rw_ior f_X9_coat_104 ?_
          refine rw_istore f_X9_coat_105 rfl rfl ?_
          refine rw_iinc f_X9_coat_107 rfl rfl ?_
          refine rw_goto f_X9_coat_110 ?_
          rw [nI_1']
          rw [bs_step (by simp [pr_coat, c1, c2, c3, bI])]
          exact ih
        · refine rw_const f_X9_coat_93 ?_
          refine rw_goto f_X9_coat_94 ?_
          refine rw_callS f_X9_coat_98 rfl rfl rfl (rn_ki (M_truthX (by first | exact Or.inl rfl | exact Or.inr rfl | exact bI_01 _) ?_))
          refine rw_iload f_X9_coat_101 rfl ?_
          refine rw_ishl f_X9_coat_103 ?_
          refine rw_ior f_X9_coat_104 ?_
          refine rw_istore f_X9_coat_105 rfl rfl ?_
          refine rw_iinc f_X9_coat_107 rfl rfl ?_
          refine rw_goto f_X9_coat_110 ?_
          rw [nI_1']
          rw [bs_step (by simp [pr_coat, c1, c2, c3, bI])]
          exact ih
      · refine rw_aload f_X9_coat_72 rfl ?_
        refine rw_getR f_X9_coat_73 hW.1 (hW.2.2 42 _ _ _ rfl).1 ?_
        refine rw_iload f_X9_coat_76 rfl ?_
        refine rw_xaldE f_X9_coat_78 (hW.2.2 42 _ _ _ rfl).2 rfl (by omega) (by omega) ?_
        refine rw_goto f_X9_coat_79 ?_
        refine rw_iload f_X9_coat_89 rfl ?_
        refine rw_ne f_X9_coat_90 (fun c4 => ?_) (fun c4 => ?_)
        · refine rw_const f_X9_coat_97 ?_
          refine rw_callS f_X9_coat_98 rfl rfl rfl (rn_ki (M_truthX (by first | exact Or.inl rfl | exact Or.inr rfl | exact bI_01 _) ?_))
          refine rw_iload f_X9_coat_101 rfl ?_
          refine rw_ishl f_X9_coat_103 ?_
          refine rw_ior f_X9_coat_104 ?_
          refine rw_istore f_X9_coat_105 rfl rfl ?_
          refine rw_iinc f_X9_coat_107 rfl rfl ?_
          refine rw_goto f_X9_coat_110 ?_
          rw [nI_1']
          rw [bs_step (by simp [pr_coat, c1, c2, c4, bI])]
          exact ih
        · refine rw_const f_X9_coat_93 ?_
          refine rw_goto f_X9_coat_94 ?_
          refine rw_callS f_X9_coat_98 rfl rfl rfl (rn_ki (M_truthX (by first | exact Or.inl rfl | exact Or.inr rfl | exact bI_01 _) ?_))
          refine rw_iload f_X9_coat_101 rfl ?_
          refine rw_ishl f_X9_coat_103 ?_
          refine rw_ior f_X9_coat_104 ?_
          refine rw_istore f_X9_coat_105 rfl rfl ?_
          refine rw_iinc f_X9_coat_107 rfl rfl ?_
          refine rw_goto f_X9_coat_110 ?_
          rw [nI_1']
          rw [bs_step (by simp [pr_coat, c1, c2, c4, bI])]
          exact ih
  · refine rw_iload f_X9_coat_45 rfl ?_
    refine rw_aload f_X9_coat_47 rfl ?_
    refine rw_getI f_X9_coat_48 hW.1 ?_
    refine rw_icmpT f_X9_coat_51 (decide_eq_true (by rw [hB]; exact Int32.le_refl _)) ?_
    refine rw_iload f_X9_coat_113 rfl ?_
    refine rw_iret f_X9_coat_115 ?_
    exact hk
theorem M_coat (hW : MW h m) {nB : Nat} (hB : hp_I h m 58 = nI nB) (hB10 : nB ≤ 10) {man what : Int32} (hk : k (sp_coat nB (hp_I h (m + 34)) (hp_I h (m + 26)) (hp_I h (m + 27)) (hp_I h m 56) man what) h) : Rn (d + 2) n_X9_coat 0 [am_r m, am_i man, am_i what, am_u, am_u, am_u] [] h (kI k) := by
  unfold sp_coat at hk
  refine rw_aload f_X9_coat_0 rfl ?_
  refine rw_iload f_X9_coat_1 rfl ?_
  refine rw_callV f_X9_coat_2 rfl hW.1 hW.2.1 rfl rfl rfl rfl (rn_ki (M_isMan hW ?_))
  first | refine rw_eq0B f_X9_coat_5 (fun c1 => ?_) (fun c1 => ?_) | refine rw_eq0 f_X9_coat_5 (fun c1 => ?_) (fun c1 => ?_)
  · refine rw_const f_X9_coat_17 ?_
    refine rw_iret f_X9_coat_18 ?_
    simpa [bI_eq0, bI_ne0, c1] using hk
  · refine rw_iload f_X9_coat_8 rfl ?_
    refine rw_const f_X9_coat_9 ?_
    refine rw_const f_X9_coat_10 ?_
    refine rw_callS f_X9_coat_11 rfl rfl rfl (rn_ki (M_isIn ?_))
    first | refine rw_ne0B f_X9_coat_14 (fun c2 => ?_) (fun c2 => ?_) | refine rw_ne0 f_X9_coat_14 (fun c2 => ?_) (fun c2 => ?_)
    · refine rw_iload f_X9_coat_19 rfl ?_
      refine rw_const f_X9_coat_20 ?_
      refine rw_ge f_X9_coat_21 (fun c3 => ?_) (fun c3 => ?_)
      · refine rw_iload f_X9_coat_28 rfl ?_
        refine rw_const f_X9_coat_29 ?_
        refine rw_ne f_X9_coat_30 (fun c4 => ?_) (fun c4 => ?_)
        · refine rw_const f_X9_coat_37 ?_
          refine rw_istore f_X9_coat_38 rfl rfl ?_
          refine rw_const f_X9_coat_39 ?_
          refine rw_istore f_X9_coat_40 rfl rfl ?_
          refine rw_const f_X9_coat_42 ?_
          refine rw_istore f_X9_coat_43 rfl rfl ?_
          exact M_coat_loop hW hB hB10 (by rw [if_neg (by rw [c1]; decide), if_neg (by rw [c2]; decide)] at hk; simpa [sp_coatS, c1, c2, c3, c4] using hk)
        · refine rw_const f_X9_coat_33 ?_
          refine rw_goto f_X9_coat_34 ?_
          refine rw_istore f_X9_coat_38 rfl rfl ?_
          refine rw_const f_X9_coat_39 ?_
          refine rw_istore f_X9_coat_40 rfl rfl ?_
          refine rw_const f_X9_coat_42 ?_
          refine rw_istore f_X9_coat_43 rfl rfl ?_
          exact M_coat_loop hW hB hB10 (by rw [if_neg (by rw [c1]; decide), if_neg (by rw [c2]; decide)] at hk; simpa [sp_coatS, c1, c2, c3, c4] using hk)
      · refine rw_const f_X9_coat_24 ?_
        refine rw_goto f_X9_coat_25 ?_
        refine rw_istore f_X9_coat_38 rfl rfl ?_
        refine rw_const f_X9_coat_39 ?_
        refine rw_istore f_X9_coat_40 rfl rfl ?_
        refine rw_const f_X9_coat_42 ?_
        refine rw_istore f_X9_coat_43 rfl rfl ?_
        exact M_coat_loop hW hB hB10 (by rw [if_neg (by rw [c1]; decide), if_neg (by rw [c2]; decide)] at hk; simpa [sp_coatS, c1, c2, c3] using hk)
    · refine rw_const f_X9_coat_17 ?_
      refine rw_iret f_X9_coat_18 ?_
      simpa [bI_eq0, bI_ne0, c1, c2] using hk
def sp_free (nM nB : Nat) (now on by_ : Nat → Int32) : Int32 := bs (fun a => decide (sp_coat nB now on by_ (nI nM) (nI a) 0 = 0)) nM
theorem M_free (hW : MW h m) {nM nB : Nat} (hM : hp_I h m 56 = nI nM) (hM6 : nM ≤ 6) (hB : hp_I h m 58 = nI nB) (hB10 : nB ≤ 10) (hk : k (sp_free nM nB (hp_I h (m + 34)) (hp_I h (m + 26)) (hp_I h (m + 27))) h) : Rn (d + 3) n_X9_free 0 [am_r m, am_u, am_u] [] h (kI k) := by
  refine rw_const f_X9_free_0 ?_
  refine rw_istore f_X9_free_1 rfl rfl ?_
  refine rw_const f_X9_free_2 ?_
  refine rw_istore f_X9_free_3 rfl rfl ?_
  refine rn_for (N := nM) (fun a => [am_r m, am_i (bs (fun a => decide (sp_coat nB (hp_I h (m + 34)) (hp_I h (m + 26)) (hp_I h (m + 27)) (nI nM) (nI a) 0 = 0)) a), am_i (nI a)]) (fun _ => h) (fun a ha ih => ?_) ?_
  · refine rw_iload f_X9_free_4 rfl ?_
    refine rw_aload f_X9_free_5 rfl ?_
    refine rw_getI f_X9_free_6 hW.1 ?_
    refine rw_icmpF f_X9_free_9 (decide_eq_false (by rw [hM]; exact nI_ge ha (by omega))) ?_
    refine rw_iload f_X9_free_12 rfl ?_
    refine rw_aload f_X9_free_13 rfl ?_
    refine rw_iload f_X9_free_14 rfl ?_
    refine rw_const f_X9_free_15 ?_
    refine rw_callV f_X9_free_16 rfl hW.1 hW.2.1 rfl rfl rfl rfl (rn_ki (M_coat hW hB hB10 ?_))
    first | refine rw_ne0B f_X9_free_19 (fun c1 => ?_) (fun c1 => ?_) | refine rw_ne0 f_X9_free_19 (fun c1 => ?_) (fun c1 => ?_)
    · refine rw_const f_X9_free_26 ?_
      refine rw_callS f_X9_free_27 rfl rfl rfl (rn_ki (M_truthX (by first | exact Or.inl rfl | exact Or.inr rfl | exact bI_01 _) ?_))
      refine rw_iload f_X9_free_30 rfl ?_
      refine rw_ishl f_X9_free_31 ?_
      refine rw_ior f_X9_free_32 ?_
      refine rw_istore f_X9_free_33 rfl rfl ?_
      refine rw_iinc f_X9_free_34 rfl rfl ?_
      refine rw_goto f_X9_free_37 ?_
      rw [nI_1']
      rw [hM] at c1
      rw [bs_step (by simp [c1, bI])]
      exact ih
    · refine rw_const f_X9_free_22 ?_
      refine rw_goto f_X9_free_23 ?_
      refine rw_callS f_X9_free_27 rfl rfl rfl (rn_ki (M_truthX (by first | exact Or.inl rfl | exact Or.inr rfl | exact bI_01 _) ?_))
      refine rw_iload f_X9_free_30 rfl ?_
      refine rw_ishl f_X9_free_31 ?_
      refine rw_ior f_X9_free_32 ?_
      refine rw_istore f_X9_free_33 rfl rfl ?_
      refine rw_iinc f_X9_free_34 rfl rfl ?_
      refine rw_goto f_X9_free_37 ?_
      rw [nI_1']
      rw [hM] at c1
      rw [bs_step (by simp [c1, bI])]
      exact ih
  · refine rw_iload f_X9_free_4 rfl ?_
    refine rw_aload f_X9_free_5 rfl ?_
    refine rw_getI f_X9_free_6 hW.1 ?_
    refine rw_icmpT f_X9_free_9 (decide_eq_true (by rw [hM]; exact Int32.le_refl _)) ?_
    refine rw_iload f_X9_free_40 rfl ?_
    refine rw_iret f_X9_free_41 ?_
    exact hk
/-- a set of what f says, of those that are so -/
def orS (p : Nat → Bool) (f : Nat → Int32) : Nat → Int32
  | 0 => 0
  | n + 1 => if p n = true then orS p f n ||| ((1 : Int32) <<< (f n &&& 31)) else orS p f n
theorem orS_congr {p q : Nat → Bool} {f g : Nat → Int32} {n : Nat} (h : ∀ b, b < n → p b = q b ∧ (p b = true → f b = g b)) : orS p f n = orS q g n := by
  induction n with
  | zero => rfl
  | succ n ih =>
    simp only [orS]
    rw [ih (fun b hb => h b (by omega)), (h n (by omega)).1]
    split
    · rename_i e
      rw [(h n (by omega)).2 ((h n (by omega)).1.trans e)]
    · rfl
def pr_sworn (now dd pp : Nat → Int32) (deed what : Int32) (b : Nat) : Bool := decide (now b = 0) && decide (dd b = deed) && decide (pp b = bI (decide (what = 0)))
def sp_sworn (nB : Nat) (now on dd pp : Nat → Int32) (deeds deed what : Int32) : Int32 := if isIn deed 0 (deeds - 1) = false then -1 else if isIn what 0 1 = false then -1 else orS (pr_sworn now dd pp deed what) on nB
theorem M_sworn_loop (hW : MW h m) {nB : Nat} (hB : hp_I h m 58 = nI nB) (hB10 : nB ≤ 10) {deed what : Int32} (hk : k (orS (pr_sworn (hp_I h (m + 34)) (hp_I h (m + 28)) (hp_I h (m + 33)) deed what) (hp_I h (m + 26)) nB) h) : Rn (d + 1) n_X9_sworn 24 [am_r m, am_i deed, am_i what, am_i 0, am_i 0] [] h (kI k) := by
  refine rn_for (N := nB) (fun b => [am_r m, am_i deed, am_i what, am_i (orS (pr_sworn (hp_I h (m + 34)) (hp_I h (m + 28)) (hp_I h (m + 33)) deed what) (hp_I h (m + 26)) b), am_i (nI b)]) (fun _ => h) (fun b hb ih => ?_) ?_
  · refine rw_iload f_X9_sworn_24 rfl ?_
    refine rw_aload f_X9_sworn_26 rfl ?_
    refine rw_getI f_X9_sworn_27 hW.1 ?_
    refine rw_icmpF f_X9_sworn_30 (decide_eq_false (by rw [hB]; exact nI_ge hb (by omega))) ?_
    refine rw_aload f_X9_sworn_33 rfl ?_
    refine rw_iload f_X9_sworn_34 rfl ?_
    refine rw_callV f_X9_sworn_36 rfl hW.1 hW.2.1 rfl rfl rfl rfl (rn_ki (M_isOn hW (by omega) ?_))
    first | refine rw_eq0B f_X9_sworn_39 (fun c1 => ?_) (fun c1 => ?_) | refine rw_eq0 f_X9_sworn_39 (fun c1 => ?_) (fun c1 => ?_)
    · refine rw_iinc f_X9_sworn_84 rfl rfl ?_
      refine rw_goto f_X9_sworn_87 ?_
      rw [nI_1']
      simp only [decide_eq_true_eq, decide_eq_false_iff_not] at c1
      simpa [orS, pr_sworn, bI, c1, am_put, am_kill] using ih
    · refine rw_aload f_X9_sworn_42 rfl ?_
      refine rw_getR f_X9_sworn_43 hW.1 (hW.2.2 43 _ _ _ rfl).1 ?_
      refine rw_iload f_X9_sworn_46 rfl ?_
      refine rw_xaldE f_X9_sworn_48 (hW.2.2 43 _ _ _ rfl).2 rfl (by omega) (by omega) ?_
      refine rw_iload f_X9_sworn_49 rfl ?_
      refine rw_ne f_X9_sworn_50 (fun c2 => ?_) (fun c2 => ?_)
      · refine rw_iinc f_X9_sworn_84 rfl rfl ?_
        refine rw_goto f_X9_sworn_87 ?_
        rw [nI_1']
        simp only [decide_eq_true_eq, decide_eq_false_iff_not] at c1
        simpa [orS, pr_sworn, bI, c1, c2, am_put, am_kill] using ih
      · refine rw_aload f_X9_sworn_53 rfl ?_
        refine rw_getR f_X9_sworn_54 hW.1 (hW.2.2 48 _ _ _ rfl).1 ?_
        refine rw_iload f_X9_sworn_57 rfl ?_
        refine rw_xaldE f_X9_sworn_59 (hW.2.2 48 _ _ _ rfl).2 rfl (by omega) (by omega) ?_
        refine rw_iload f_X9_sworn_60 rfl ?_
        first | refine rw_ne0B f_X9_sworn_61 (fun c3 => ?_) (fun c3 => ?_) | refine rw_ne0 f_X9_sworn_61 (fun c3 => ?_) (fun c3 => ?_)
        · refine rw_const f_X9_sworn_68 ?_
          refine rw_ne f_X9_sworn_69 (fun c4 => ?_) (fun c4 => ?_)
          · refine rw_iinc f_X9_sworn_84 rfl rfl ?_
            refine rw_goto f_X9_sworn_87 ?_
            rw [nI_1']
            simp only [decide_eq_true_eq, decide_eq_false_iff_not] at c1
            simpa [orS, pr_sworn, bI, c1, c2, c3, c4, am_put, am_kill] using ih
          · refine rw_iload f_X9_sworn_72 rfl ?_
            refine rw_const f_X9_sworn_73 ?_
            refine rw_aload f_X9_sworn_74 rfl ?_
            refine rw_getR f_X9_sworn_75 hW.1 (hW.2.2 41 _ _ _ rfl).1 ?_
            refine rw_iload f_X9_sworn_78 rfl ?_
            refine rw_xaldE f_X9_sworn_80 (hW.2.2 41 _ _ _ rfl).2 rfl (by omega) (by omega) ?_
            refine rw_ishl f_X9_sworn_81 ?_
            refine rw_ior f_X9_sworn_82 ?_
            refine rw_istore f_X9_sworn_83 rfl rfl ?_
            refine rw_iinc f_X9_sworn_84 rfl rfl ?_
            refine rw_goto f_X9_sworn_87 ?_
            rw [nI_1']
            simp only [decide_eq_true_eq, decide_eq_false_iff_not] at c1
            simpa [orS, pr_sworn, bI, c1, c2, c3, c4, am_put, am_kill] using ih
        · refine rw_const f_X9_sworn_64 ?_
          refine rw_goto f_X9_sworn_65 ?_
          refine rw_ne f_X9_sworn_69 (fun c5 => ?_) (fun c5 => ?_)
          · refine rw_iinc f_X9_sworn_84 rfl rfl ?_
            refine rw_goto f_X9_sworn_87 ?_
            rw [nI_1']
            simp only [decide_eq_true_eq, decide_eq_false_iff_not] at c1
            simpa [orS, pr_sworn, bI, c1, c2, c3, c5, am_put, am_kill] using ih
          · refine rw_iload f_X9_sworn_72 rfl ?_
            refine rw_const f_X9_sworn_73 ?_
            refine rw_aload f_X9_sworn_74 rfl ?_
            refine rw_getR f_X9_sworn_75 hW.1 (hW.2.2 41 _ _ _ rfl).1 ?_
            refine rw_iload f_X9_sworn_78 rfl ?_
            refine rw_xaldE f_X9_sworn_80 (hW.2.2 41 _ _ _ rfl).2 rfl (by omega) (by omega) ?_
            refine rw_ishl f_X9_sworn_81 ?_
            refine rw_ior f_X9_sworn_82 ?_
            refine rw_istore f_X9_sworn_83 rfl rfl ?_
            refine rw_iinc f_X9_sworn_84 rfl rfl ?_
            refine rw_goto f_X9_sworn_87 ?_
            rw [nI_1']
            simp only [decide_eq_true_eq, decide_eq_false_iff_not] at c1
            simpa [orS, pr_sworn, bI, c1, c2, c3, c5, am_put, am_kill] using ih
  · refine rw_iload f_X9_sworn_24 rfl ?_
    refine rw_aload f_X9_sworn_26 rfl ?_
    refine rw_getI f_X9_sworn_27 hW.1 ?_
    refine rw_icmpT f_X9_sworn_30 (decide_eq_true (by rw [hB]; exact Int32.le_refl _)) ?_
    refine rw_iload f_X9_sworn_90 rfl ?_
    refine rw_iret f_X9_sworn_91 ?_
    exact hk
theorem M_sworn (hW : MW h m) {nB : Nat} (hB : hp_I h m 58 = nI nB) (hB10 : nB ≤ 10) {deed what : Int32} (hk : k (sp_sworn nB (hp_I h (m + 34)) (hp_I h (m + 26)) (hp_I h (m + 28)) (hp_I h (m + 33)) (hp_I h m 57) deed what) h) : Rn (d + 2) n_X9_sworn 0 [am_r m, am_i deed, am_i what, am_u, am_u] [] h (kI k) := by
  unfold sp_sworn at hk
  refine rw_aload f_X9_sworn_0 rfl ?_
  refine rw_iload f_X9_sworn_1 rfl ?_
  refine rw_callV f_X9_sworn_2 rfl hW.1 hW.2.1 rfl rfl rfl rfl (rn_ki (M_isDeed hW ?_))
  first | refine rw_eq0B f_X9_sworn_5 (fun c1 => ?_) (fun c1 => ?_) | refine rw_eq0 f_X9_sworn_5 (fun c1 => ?_) (fun c1 => ?_)
  · refine rw_const f_X9_sworn_17 ?_
    refine rw_iret f_X9_sworn_18 ?_
    simpa [c1] using hk
  · refine rw_iload f_X9_sworn_8 rfl ?_
    refine rw_const f_X9_sworn_9 ?_
    refine rw_const f_X9_sworn_10 ?_
    refine rw_callS f_X9_sworn_11 rfl rfl rfl (rn_ki (M_isIn ?_))
    first | refine rw_ne0B f_X9_sworn_14 (fun c2 => ?_) (fun c2 => ?_) | refine rw_ne0 f_X9_sworn_14 (fun c2 => ?_) (fun c2 => ?_)
    · refine rw_const f_X9_sworn_19 ?_
      refine rw_istore f_X9_sworn_20 rfl rfl ?_
      refine rw_const f_X9_sworn_21 ?_
      refine rw_istore f_X9_sworn_22 rfl rfl ?_
      exact M_sworn_loop hW hB hB10 (by simpa [c1, c2] using hk)
    · refine rw_const f_X9_sworn_17 ?_
      refine rw_iret f_X9_sworn_18 ?_
      simpa [c1, c2] using hk
end MQ3
