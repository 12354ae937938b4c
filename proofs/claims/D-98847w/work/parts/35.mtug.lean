/-! THE MODEL: tugs -/
section MTUG
variable {d : Nat} {h : am_H} {m : Nat} {k : Int32 → am_H → Prop}
def allB (p : Nat → Bool) : Nat → Bool
  | 0 => true
  | n + 1 => allB p n && p n
theorem allB_false {p : Nat → Bool} {b n : Nat} (h : p b = false) (hb : b < n) : allB p n = false := by
  induction n with
  | zero => omega
  | succ n ih =>
    simp only [allB]
    by_cases e : b = n
    · subst e; rw [h, Bool.and_false]
    · rw [ih (by omega), Bool.false_and]
theorem allB_congr {p q : Nat → Bool} {n : Nat} (h : ∀ b, b < n → p b = q b) : allB p n = allB q n := by
  induction n with
  | zero => rfl
  | succ n ih => simp only [allB]; rw [ih (fun b hb => h b (by omega)), h n (by omega)]
/-- a tug is so of a man's marks at a time -/
def pr_tug (wh nu ti to un : Nat → Int32) (mark : Int32 → Int32) (t : Int32) (j : Nat) : Bool := if t < to j then true else if ¬ un j < 0 ∧ un j ≤ t then true else decide (bI (decide (mark (wh j) = nu j)) = ti j)
theorem M_swears_exit (hW : MW h m) {a t y : Int32} (hk : k 0 h) : Rn d n_X9_swears 5 [am_r m, am_i a, am_i t, am_i 0, am_i y] [] h (kI k) := by
  refine rw_iload f_X9_swears_5 rfl ?_
  refine rw_aload f_X9_swears_7 rfl ?_
  refine rw_getI f_X9_swears_8 hW.1 ?_
  refine rw_ge f_X9_swears_11 (fun c1 => ?_) (fun c1 => ?_)
  · refine rw_iload f_X9_swears_99 rfl ?_
    refine rw_zret f_X9_swears_100 (by first | exact Or.inl rfl | exact Or.inr rfl | exact bI_01 _ | assumption) ?_
    exact hk
  · refine rw_iload f_X9_swears_14 rfl ?_
    refine rw_ifT f_X9_swears_15 (by decide) ?_
    refine rw_iload f_X9_swears_99 rfl ?_
    refine rw_zret f_X9_swears_100 (by first | exact Or.inl rfl | exact Or.inr rfl | exact bI_01 _ | assumption) ?_
    exact hk
/-- a man's marks -/
abbrev mk_of (h : am_H) (m a : Nat) : Int32 → Int32 := sp_mark (hp_I h (m + 15)) (hp_I h (m + 16)) (hp_I h (m + 17)) a
abbrev tg_of (h : am_H) (m a : Nat) (t : Int32) : Nat → Bool := pr_tug (hp_I h (m + 45)) (hp_I h (m + 46)) (hp_I h (m + 49)) (hp_I h (m + 47)) (hp_I h (m + 48)) (mk_of h m a) t
theorem M_swears (hW : MW h m) {nT a : Nat} (hT : hp_I h m 93 = nI nT) (hT30 : nT ≤ 30) (ha : a < 6) {t : Int32} (hk : k (bI (allB (tg_of h m a t) nT)) h) : Rn (d + 1) n_X9_swears 0 [am_r m, am_i (nI a), am_i t, am_u, am_u] [] h (kI k) := by
  refine rw_const f_X9_swears_0 ?_
  refine rw_istore f_X9_swears_1 rfl rfl ?_
  refine rw_const f_X9_swears_2 ?_
  refine rw_istore f_X9_swears_3 rfl rfl ?_
  have hx : ∀ n, n ≤ nT → (∀ b, b < n → tg_of h m a t b = true) → allB (tg_of h m a t) n = true := by
    intro n
    induction n with
    | zero => intro _ _; rfl
    | succ n ih => intro hn hq; simp only [allB]; rw [ih (by omega) (fun b hb => hq b (by omega)), hq n (by omega)]; rfl
  have key : ∀ r j, j + r = nT → (∀ b, b < j → tg_of h m a t b = true) → Rn (d + 1) n_X9_swears 5 [am_r m, am_i (nI a), am_i t, am_i 1, am_i (nI j)] [] h (kI k) := by
    intro r
    induction r with
    | zero =>
      intro j hj hq
      refine rw_iload f_X9_swears_5 rfl ?_
      refine rw_aload f_X9_swears_7 rfl ?_
      refine rw_getI f_X9_swears_8 hW.1 ?_
      refine rw_icmpT f_X9_swears_11 (decide_eq_true (by rw [hT, show j = nT by omega]; exact Int32.le_refl _)) ?_
      refine rw_iload f_X9_swears_99 rfl ?_
      refine rw_zret f_X9_swears_100 (by first | exact Or.inl rfl | exact Or.inr rfl | exact bI_01 _ | assumption) ?_
      rw [hx nT (Nat.le_refl _) (fun b hb => hq b (by omega))] at hk
      exact hk
    | succ r ih =>
      intro j hj hq
      by_cases hp : tg_of h m a t j = true
      · have ih' := ih (j + 1) (by omega) (fun b hb => by by_cases e : b = j; exact e ▸ hp; exact hq b (by omega))
        refine rw_iload f_X9_swears_5 rfl ?_
        refine rw_aload f_X9_swears_7 rfl ?_
        refine rw_getI f_X9_swears_8 hW.1 ?_
        refine rw_icmpF f_X9_swears_11 (decide_eq_false (by rw [hT]; exact nI_ge (by omega) (by omega))) ?_
        refine rw_iload f_X9_swears_14 rfl ?_
        refine rw_ifF f_X9_swears_15 (by decide) ?_
        refine rw_aload f_X9_swears_18 rfl ?_
        refine rw_getR f_X9_swears_19 hW.1 (hW.2.2 90 _ _ _ rfl).1 ?_
        refine rw_iload f_X9_swears_22 rfl ?_
        refine rw_xaldE f_X9_swears_24 (hW.2.2 90 _ _ _ rfl).2 rfl (by omega) (by omega) ?_
        refine rw_iload f_X9_swears_25 rfl ?_
        refine rw_gt f_X9_swears_26 (fun c1 => ?_) (fun c1 => ?_)
        · refine rw_iinc f_X9_swears_93 rfl rfl ?_
          refine rw_goto f_X9_swears_96 ?_
          rw [nI_1']
          first | exact ih' | (exfalso; simp [pr_tug, c1, bI] at hp)
        · refine rw_aload f_X9_swears_29 rfl ?_
          refine rw_getR f_X9_swears_30 hW.1 (hW.2.2 91 _ _ _ rfl).1 ?_
          refine rw_iload f_X9_swears_33 rfl ?_
          refine rw_xaldE f_X9_swears_35 (hW.2.2 91 _ _ _ rfl).2 rfl (by omega) (by omega) ?_
          refine rw_lt0 f_X9_swears_36 (fun c2 => ?_) (fun c2 => ?_)
          · refine rw_aload f_X9_swears_50 rfl ?_
            refine rw_iload f_X9_swears_51 rfl ?_
            refine rw_aload f_X9_swears_52 rfl ?_
            refine rw_getR f_X9_swears_53 hW.1 (hW.2.2 88 _ _ _ rfl).1 ?_
            refine rw_iload f_X9_swears_56 rfl ?_
            refine rw_xaldE f_X9_swears_58 (hW.2.2 88 _ _ _ rfl).2 rfl (by omega) (by omega) ?_
            refine rw_callV f_X9_swears_59 rfl hW.1 hW.2.1 rfl rfl rfl rfl (rn_ki (M_markOf hW (by omega) ?_))
            refine rw_aload f_X9_swears_62 rfl ?_
            refine rw_getR f_X9_swears_63 hW.1 (hW.2.2 89 _ _ _ rfl).1 ?_
            refine rw_iload f_X9_swears_66 rfl ?_
            refine rw_xaldE f_X9_swears_68 (hW.2.2 89 _ _ _ rfl).2 rfl (by omega) (by omega) ?_
            refine rw_ne f_X9_swears_69 (fun c3 => ?_) (fun c3 => ?_)
            · refine rw_const f_X9_swears_76 ?_
              refine rw_aload f_X9_swears_77 rfl ?_
              refine rw_getR f_X9_swears_78 hW.1 (hW.2.2 92 _ _ _ rfl).1 ?_
              refine rw_iload f_X9_swears_81 rfl ?_
              refine rw_xaldE f_X9_swears_83 (hW.2.2 92 _ _ _ rfl).2 rfl (by omega) (by omega) ?_
              refine rw_ne f_X9_swears_84 (fun c4 => ?_) (fun c4 => ?_)
              · refine rw_const f_X9_swears_91 ?_
                refine rw_istore f_X9_swears_92 rfl rfl ?_
                refine rw_iinc f_X9_swears_93 rfl rfl ?_
                refine rw_goto f_X9_swears_96 ?_
                rw [nI_1']
                first | exact ih' | (exfalso; simp [pr_tug, c1, c2, c3, c4, bI] at hp)
              · refine rw_const f_X9_swears_87 ?_
                refine rw_goto f_X9_swears_88 ?_
                refine rw_istore f_X9_swears_92 rfl rfl ?_
                refine rw_iinc f_X9_swears_93 rfl rfl ?_
                refine rw_goto f_X9_swears_96 ?_
                rw [nI_1']
                first | exact ih' | (exfalso; simp [pr_tug, c1, c2, c3, c4, bI] at hp)
            · refine rw_const f_X9_swears_72 ?_
              refine rw_goto f_X9_swears_73 ?_
              refine rw_aload f_X9_swears_77 rfl ?_
              refine rw_getR f_X9_swears_78 hW.1 (hW.2.2 92 _ _ _ rfl).1 ?_
              refine rw_iload f_X9_swears_81 rfl ?_
              refine rw_xaldE f_X9_swears_83 (hW.2.2 92 _ _ _ rfl).2 rfl (by omega) (by omega) ?_
              refine rw_ne f_X9_swears_84 (fun c5 => ?_) (fun c5 => ?_)
              · refine rw_const f_X9_swears_91 ?_
                refine rw_istore f_X9_swears_92 rfl rfl ?_
                refine rw_iinc f_X9_swears_93 rfl rfl ?_
                refine rw_goto f_X9_swears_96 ?_
                rw [nI_1']
                first | exact ih' | (exfalso; simp [pr_tug, c1, c2, c3, c5, bI] at hp)
              · refine rw_const f_X9_swears_87 ?_
                refine rw_goto f_X9_swears_88 ?_
                refine rw_istore f_X9_swears_92 rfl rfl ?_
                refine rw_iinc f_X9_swears_93 rfl rfl ?_
                refine rw_goto f_X9_swears_96 ?_
                rw [nI_1']
                first | exact ih' | (exfalso; simp [pr_tug, c1, c2, c3, c5, bI] at hp)
          · refine rw_aload f_X9_swears_39 rfl ?_
            refine rw_getR f_X9_swears_40 hW.1 (hW.2.2 91 _ _ _ rfl).1 ?_
            refine rw_iload f_X9_swears_43 rfl ?_
            refine rw_xaldE f_X9_swears_45 (hW.2.2 91 _ _ _ rfl).2 rfl (by omega) (by omega) ?_
            refine rw_iload f_X9_swears_46 rfl ?_
            refine rw_le f_X9_swears_47 (fun c6 => ?_) (fun c6 => ?_)
            · refine rw_iinc f_X9_swears_93 rfl rfl ?_
              refine rw_goto f_X9_swears_96 ?_
              rw [nI_1']
              first | exact ih' | (exfalso; simp [pr_tug, c1, c2, c6, bI] at hp)
            · refine rw_aload f_X9_swears_50 rfl ?_
              refine rw_iload f_X9_swears_51 rfl ?_
              refine rw_aload f_X9_swears_52 rfl ?_
              refine rw_getR f_X9_swears_53 hW.1 (hW.2.2 88 _ _ _ rfl).1 ?_
              refine rw_iload f_X9_swears_56 rfl ?_
              refine rw_xaldE f_X9_swears_58 (hW.2.2 88 _ _ _ rfl).2 rfl (by omega) (by omega) ?_
              refine rw_callV f_X9_swears_59 rfl hW.1 hW.2.1 rfl rfl rfl rfl (rn_ki (M_markOf hW (by omega) ?_))
              refine rw_aload f_X9_swears_62 rfl ?_
              refine rw_getR f_X9_swears_63 hW.1 (hW.2.2 89 _ _ _ rfl).1 ?_
              refine rw_iload f_X9_swears_66 rfl ?_
              refine rw_xaldE f_X9_swears_68 (hW.2.2 89 _ _ _ rfl).2 rfl (by omega) (by omega) ?_
              refine rw_ne f_X9_swears_69 (fun c7 => ?_) (fun c7 => ?_)
              · refine rw_const f_X9_swears_76 ?_
                refine rw_aload f_X9_swears_77 rfl ?_
                refine rw_getR f_X9_swears_78 hW.1 (hW.2.2 92 _ _ _ rfl).1 ?_
                refine rw_iload f_X9_swears_81 rfl ?_
                refine rw_xaldE f_X9_swears_83 (hW.2.2 92 _ _ _ rfl).2 rfl (by omega) (by omega) ?_
                refine rw_ne f_X9_swears_84 (fun c8 => ?_) (fun c8 => ?_)
                · refine rw_const f_X9_swears_91 ?_
                  refine rw_istore f_X9_swears_92 rfl rfl ?_
                  refine rw_iinc f_X9_swears_93 rfl rfl ?_
                  refine rw_goto f_X9_swears_96 ?_
                  rw [nI_1']
                  first | exact ih' | (exfalso; simp [pr_tug, c1, c2, c6, c7, c8, bI] at hp)
                · refine rw_const f_X9_swears_87 ?_
                  refine rw_goto f_X9_swears_88 ?_
                  refine rw_istore f_X9_swears_92 rfl rfl ?_
                  refine rw_iinc f_X9_swears_93 rfl rfl ?_
                  refine rw_goto f_X9_swears_96 ?_
                  rw [nI_1']
                  first | exact ih' | (exfalso; simp [pr_tug, c1, c2, c6, c7, c8, bI] at hp)
              · refine rw_const f_X9_swears_72 ?_
                refine rw_goto f_X9_swears_73 ?_
                refine rw_aload f_X9_swears_77 rfl ?_
                refine rw_getR f_X9_swears_78 hW.1 (hW.2.2 92 _ _ _ rfl).1 ?_
                refine rw_iload f_X9_swears_81 rfl ?_
                refine rw_xaldE f_X9_swears_83 (hW.2.2 92 _ _ _ rfl).2 rfl (by omega) (by omega) ?_
                refine rw_ne f_X9_swears_84 (fun c9 => ?_) (fun c9 => ?_)
                · refine rw_const f_X9_swears_91 ?_
                  refine rw_istore f_X9_swears_92 rfl rfl ?_
                  refine rw_iinc f_X9_swears_93 rfl rfl ?_
                  refine rw_goto f_X9_swears_96 ?_
                  rw [nI_1']
                  first | exact ih' | (exfalso; simp [pr_tug, c1, c2, c6, c7, c9, bI] at hp)
                · refine rw_const f_X9_swears_87 ?_
                  refine rw_goto f_X9_swears_88 ?_
                  refine rw_istore f_X9_swears_92 rfl rfl ?_
                  refine rw_iinc f_X9_swears_93 rfl rfl ?_
                  refine rw_goto f_X9_swears_96 ?_
                  rw [nI_1']
                  first | exact ih' | (exfalso; simp [pr_tug, c1, c2, c6, c7, c9, bI] at hp)
      · rw [allB_false (by simpa using hp) (by omega)] at hk
        refine rw_iload f_X9_swears_5 rfl ?_
        refine rw_aload f_X9_swears_7 rfl ?_
        refine rw_getI f_X9_swears_8 hW.1 ?_
        refine rw_icmpF f_X9_swears_11 (decide_eq_false (by rw [hT]; exact nI_ge (by omega) (by omega))) ?_
        refine rw_iload f_X9_swears_14 rfl ?_
        refine rw_ifF f_X9_swears_15 (by decide) ?_
        refine rw_aload f_X9_swears_18 rfl ?_
        refine rw_getR f_X9_swears_19 hW.1 (hW.2.2 90 _ _ _ rfl).1 ?_
        refine rw_iload f_X9_swears_22 rfl ?_
        refine rw_xaldE f_X9_swears_24 (hW.2.2 90 _ _ _ rfl).2 rfl (by omega) (by omega) ?_
        refine rw_iload f_X9_swears_25 rfl ?_
        refine rw_gt f_X9_swears_26 (fun c1 => ?_) (fun c1 => ?_)
        · refine rw_iinc f_X9_swears_93 rfl rfl ?_
          refine rw_goto f_X9_swears_96 ?_
          first | exact M_swears_exit hW hk | (exfalso; simp [pr_tug, c1, bI] at hp)
        · refine rw_aload f_X9_swears_29 rfl ?_
          refine rw_getR f_X9_swears_30 hW.1 (hW.2.2 91 _ _ _ rfl).1 ?_
          refine rw_iload f_X9_swears_33 rfl ?_
          refine rw_xaldE f_X9_swears_35 (hW.2.2 91 _ _ _ rfl).2 rfl (by omega) (by omega) ?_
          refine rw_lt0 f_X9_swears_36 (fun c2 => ?_) (fun c2 => ?_)
          · refine rw_aload f_X9_swears_50 rfl ?_
            refine rw_iload f_X9_swears_51 rfl ?_
            refine rw_aload f_X9_swears_52 rfl ?_
            refine rw_getR f_X9_swears_53 hW.1 (hW.2.2 88 _ _ _ rfl).1 ?_
            refine rw_iload f_X9_swears_56 rfl ?_
            refine rw_xaldE f_X9_swears_58 (hW.2.2 88 _ _ _ rfl).2 rfl (by omega) (by omega) ?_
            refine rw_callV f_X9_swears_59 rfl hW.1 hW.2.1 rfl rfl rfl rfl (rn_ki (M_markOf hW (by omega) ?_))
            refine rw_aload f_X9_swears_62 rfl ?_
            refine rw_getR f_X9_swears_63 hW.1 (hW.2.2 89 _ _ _ rfl).1 ?_
            refine rw_iload f_X9_swears_66 rfl ?_
            refine rw_xaldE f_X9_swears_68 (hW.2.2 89 _ _ _ rfl).2 rfl (by omega) (by omega) ?_
            refine rw_ne f_X9_swears_69 (fun c3 => ?_) (fun c3 => ?_)
            · refine rw_const f_X9_swears_76 ?_
              refine rw_aload f_X9_swears_77 rfl ?_
              refine rw_getR f_X9_swears_78 hW.1 (hW.2.2 92 _ _ _ rfl).1 ?_
              refine rw_iload f_X9_swears_81 rfl ?_
              refine rw_xaldE f_X9_swears_83 (hW.2.2 92 _ _ _ rfl).2 rfl (by omega) (by omega) ?_
              refine rw_ne f_X9_swears_84 (fun c4 => ?_) (fun c4 => ?_)
              · refine rw_const f_X9_swears_91 ?_
                refine rw_istore f_X9_swears_92 rfl rfl ?_
                refine rw_iinc f_X9_swears_93 rfl rfl ?_
                refine rw_goto f_X9_swears_96 ?_
                first | exact M_swears_exit hW hk | (exfalso; simp [pr_tug, c1, c2, c3, c4, bI] at hp)
              · refine rw_const f_X9_swears_87 ?_
                refine rw_goto f_X9_swears_88 ?_
                refine rw_istore f_X9_swears_92 rfl rfl ?_
                refine rw_iinc f_X9_swears_93 rfl rfl ?_
                refine rw_goto f_X9_swears_96 ?_
                first | exact M_swears_exit hW hk | (exfalso; simp [pr_tug, c1, c2, c3, c4, bI] at hp)
            · refine rw_const f_X9_swears_72 ?_
              refine rw_goto f_X9_swears_73 ?_
              refine rw_aload f_X9_swears_77 rfl ?_
              refine rw_getR f_X9_swears_78 hW.1 (hW.2.2 92 _ _ _ rfl).1 ?_
              refine rw_iload f_X9_swears_81 rfl ?_
              refine rw_xaldE f_X9_swears_83 (hW.2.2 92 _ _ _ rfl).2 rfl (by omega) (by omega) ?_
              refine rw_ne f_X9_swears_84 (fun c5 => ?_) (fun c5 => ?_)
              · refine rw_const f_X9_swears_91 ?_
                refine rw_istore f_X9_swears_92 rfl rfl ?_
                refine rw_iinc f_X9_swears_93 rfl rfl ?_
                refine rw_goto f_X9_swears_96 ?_
                first | exact M_swears_exit hW hk | (exfalso; simp [pr_tug, c1, c2, c3, c5, bI] at hp)
              · refine rw_const f_X9_swears_87 ?_
                refine rw_goto f_X9_swears_88 ?_
                refine rw_istore f_X9_swears_92 rfl rfl ?_
                refine rw_iinc f_X9_swears_93 rfl rfl ?_
                refine rw_goto f_X9_swears_96 ?_
                first | exact M_swears_exit hW hk | (exfalso; simp [pr_tug, c1, c2, c3, c5, bI] at hp)
          · refine rw_aload f_X9_swears_39 rfl ?_
            refine rw_getR f_X9_swears_40 hW.1 (hW.2.2 91 _ _ _ rfl).1 ?_
            refine rw_iload f_X9_swears_43 rfl ?_
            refine rw_xaldE f_X9_swears_45 (hW.2.2 91 _ _ _ rfl).2 rfl (by omega) (by omega) ?_
            refine rw_iload f_X9_swears_46 rfl ?_
            refine rw_le f_X9_swears_47 (fun c6 => ?_) (fun c6 => ?_)
            · refine rw_iinc f_X9_swears_93 rfl rfl ?_
              refine rw_goto f_X9_swears_96 ?_
              first | exact M_swears_exit hW hk | (exfalso; simp [pr_tug, c1, c2, c6, bI] at hp)
            · refine rw_aload f_X9_swears_50 rfl ?_
              refine rw_iload f_X9_swears_51 rfl ?_
              refine rw_aload f_X9_swears_52 rfl ?_
              refine rw_getR f_X9_swears_53 hW.1 (hW.2.2 88 _ _ _ rfl).1 ?_
              refine rw_iload f_X9_swears_56 rfl ?_
              refine rw_xaldE f_X9_swears_58 (hW.2.2 88 _ _ _ rfl).2 rfl (by omega) (by omega) ?_
              refine rw_callV f_X9_swears_59 rfl hW.1 hW.2.1 rfl rfl rfl rfl (rn_ki (M_markOf hW (by omega) ?_))
              refine rw_aload f_X9_swears_62 rfl ?_
              refine rw_getR f_X9_swears_63 hW.1 (hW.2.2 89 _ _ _ rfl).1 ?_
              refine rw_iload f_X9_swears_66 rfl ?_
              refine rw_xaldE f_X9_swears_68 (hW.2.2 89 _ _ _ rfl).2 rfl (by omega) (by omega) ?_
              refine rw_ne f_X9_swears_69 (fun c7 => ?_) (fun c7 => ?_)
              · refine rw_const f_X9_swears_76 ?_
                refine rw_aload f_X9_swears_77 rfl ?_
                refine rw_getR f_X9_swears_78 hW.1 (hW.2.2 92 _ _ _ rfl).1 ?_
                refine rw_iload f_X9_swears_81 rfl ?_
                refine rw_xaldE f_X9_swears_83 (hW.2.2 92 _ _ _ rfl).2 rfl (by omega) (by omega) ?_
                refine rw_ne f_X9_swears_84 (fun c8 => ?_) (fun c8 => ?_)
                · refine rw_const f_X9_swears_91 ?_
                  refine rw_istore f_X9_swears_92 rfl rfl ?_
                  refine rw_iinc f_X9_swears_93 rfl rfl ?_
                  refine rw_goto f_X9_swears_96 ?_
                  first | exact M_swears_exit hW hk | (exfalso; simp [pr_tug, c1, c2, c6, c7, c8, bI] at hp)
                · refine rw_const f_X9_swears_87 ?_
                  refine rw_goto f_X9_swears_88 ?_
                  refine rw_istore f_X9_swears_92 rfl rfl ?_
                  refine rw_iinc f_X9_swears_93 rfl rfl ?_
                  refine rw_goto f_X9_swears_96 ?_
                  first | exact M_swears_exit hW hk | (exfalso; simp [pr_tug, c1, c2, c6, c7, c8, bI] at hp)
              · refine rw_const f_X9_swears_72 ?_
                refine rw_goto f_X9_swears_73 ?_
                refine rw_aload f_X9_swears_77 rfl ?_
                refine rw_getR f_X9_swears_78 hW.1 (hW.2.2 92 _ _ _ rfl).1 ?_
                refine rw_iload f_X9_swears_81 rfl ?_
                refine rw_xaldE f_X9_swears_83 (hW.2.2 92 _ _ _ rfl).2 rfl (by omega) (by omega) ?_
                refine rw_ne f_X9_swears_84 (fun c9 => ?_) (fun c9 => ?_)
                · refine rw_const f_X9_swears_91 ?_
                  refine rw_istore f_X9_swears_92 rfl rfl ?_
                  refine rw_iinc f_X9_swears_93 rfl rfl ?_
                  refine rw_goto f_X9_swears_96 ?_
                  first | exact M_swears_exit hW hk | (exfalso; simp [pr_tug, c1, c2, c6, c7, c9, bI] at hp)
                · refine rw_const f_X9_swears_87 ?_
                  refine rw_goto f_X9_swears_88 ?_
                  refine rw_istore f_X9_swears_92 rfl rfl ?_
                  refine rw_iinc f_X9_swears_93 rfl rfl ?_
                  refine rw_goto f_X9_swears_96 ?_
                  first | exact M_swears_exit hW hk | (exfalso; simp [pr_tug, c1, c2, c6, c7, c9, bI] at hp)
  exact key nT 0 (by omega) (fun b hb => absurd hb (Nat.not_lt_zero b))
def sp_swore (nM nT : Nat) (tg : Nat → Nat → Bool) : Int32 := bs (fun a => allB (tg a) nT) nM
theorem M_swore (hW : MW h m) {nM nT : Nat} (hM : hp_I h m 56 = nI nM) (hM6 : nM ≤ 6) (hT : hp_I h m 93 = nI nT) (hT30 : nT ≤ 30) {t : Int32} (hk : k (sp_swore nM nT (fun a => tg_of h m a t)) h) : Rn (d + 2) n_X9_swore 0 [am_r m, am_i t, am_u, am_u] [] h (kI k) := by
  refine rw_const f_X9_swore_0 ?_
  refine rw_istore f_X9_swore_1 rfl rfl ?_
  refine rw_const f_X9_swore_2 ?_
  refine rw_istore f_X9_swore_3 rfl rfl ?_
  refine rn_for (N := nM) (fun a => [am_r m, am_i t, am_i (bs (fun a => allB (tg_of h m a t) nT) a), am_i (nI a)]) (fun _ => h) (fun a ha ih => ?_) ?_
  · refine rw_iload f_X9_swore_4 rfl ?_
    refine rw_aload f_X9_swore_5 rfl ?_
    refine rw_getI f_X9_swore_6 hW.1 ?_
    refine rw_icmpF f_X9_swore_9 (decide_eq_false (by rw [hM]; exact nI_ge ha (by omega))) ?_
    refine rw_iload f_X9_swore_12 rfl ?_
    refine rw_aload f_X9_swore_13 rfl ?_
    refine rw_iload f_X9_swore_14 rfl ?_
    refine rw_iload f_X9_swore_15 rfl ?_
    refine rw_callV f_X9_swore_16 rfl hW.1 hW.2.1 rfl rfl rfl rfl (rn_ki (M_swears hW hT hT30 (by omega) ?_))
    refine rw_callS f_X9_swore_19 rfl rfl rfl (rn_ki (M_truthX (by first | exact Or.inl rfl | exact Or.inr rfl | exact bI_01 _) ?_))
    refine rw_iload f_X9_swore_22 rfl ?_
    refine rw_ishl f_X9_swore_23 ?_
    refine rw_ior f_X9_swore_24 ?_
    refine rw_istore f_X9_swore_25 rfl rfl ?_
    refine rw_iinc f_X9_swore_26 rfl rfl ?_
    refine rw_goto f_X9_swore_29 ?_
    rw [nI_1']
    rw [bs_step rfl]
    exact ih
  · refine rw_iload f_X9_swore_4 rfl ?_
    refine rw_aload f_X9_swore_5 rfl ?_
    refine rw_getI f_X9_swore_6 hW.1 ?_
    refine rw_icmpT f_X9_swore_9 (decide_eq_true (by rw [hM]; exact Int32.le_refl _)) ?_
    refine rw_iload f_X9_swore_32 rfl ?_
    refine rw_iret f_X9_swore_33 ?_
    exact hk
def pr_most (set w : Int32) (mk : Nat → Int32 → Int32) (v : Nat) (a : Nat) : Bool := decide ((set >>> (nI a &&& 31)) &&& 1 = 1) && decide (mk a w = nI v)
def mostU (f : Nat → Int32) : Nat → Int32
  | 0 => 0
  | v + 1 => if f v ≤ mostU f v then mostU f v else f v
def sp_most (nM : Nat) (mk : Nat → Int32 → Int32) (set w : Int32) : Int32 := mostU (fun v => cntB (pr_most set w mk v) nM) 10
theorem M_most_in (hW : MW h m) {nM v : Nat} (hM : hp_I h m 56 = nI nM) (hM6 : nM ≤ 6) {set w most : Int32} {K : am_R → am_H → Prop} (hk : Rn (d + 1) n_X9_mostLeft 68 [am_r m, am_i set, am_i w, am_i most, am_i (nI v), am_i (cntB (pr_most set w (fun a => mk_of h m a) v) nM), am_i (nI nM)] [] h K) : Rn (d + 1) n_X9_mostLeft 18 [am_r m, am_i set, am_i w, am_i most, am_i (nI v), am_i 0, am_i 0] [] h K := by
  refine rn_for (N := nM) (fun a => [am_r m, am_i set, am_i w, am_i most, am_i (nI v), am_i (cntB (pr_most set w (fun a => mk_of h m a) v) a), am_i (nI a)]) (fun _ => h) (fun a ha ih => ?_) ?_
  · refine rw_iload f_X9_mostLeft_18 rfl ?_
    refine rw_aload f_X9_mostLeft_20 rfl ?_
    refine rw_getI f_X9_mostLeft_21 hW.1 ?_
    refine rw_icmpF f_X9_mostLeft_24 (decide_eq_false (by rw [hM]; exact nI_ge ha (by omega))) ?_
    refine rw_iload f_X9_mostLeft_27 rfl ?_
    refine rw_iload f_X9_mostLeft_29 rfl ?_
    refine rw_iload f_X9_mostLeft_30 rfl ?_
    refine rw_ishr f_X9_mostLeft_32 ?_
    refine rw_const f_X9_mostLeft_33 ?_
    refine rw_iand f_X9_mostLeft_34 ?_
    refine rw_const f_X9_mostLeft_35 ?_
    refine rw_ne f_X9_mostLeft_36 (fun c1 => ?_) (fun c1 => ?_)
    · refine rw_const f_X9_mostLeft_55 ?_
      refine rw_callS f_X9_mostLeft_56 rfl rfl rfl (rn_ki (M_truthX (by first | exact Or.inl rfl | exact Or.inr rfl | exact bI_01 _) ?_))
      refine rw_iadd f_X9_mostLeft_59 ?_
      refine rw_istore f_X9_mostLeft_60 rfl rfl ?_
      refine rw_iinc f_X9_mostLeft_62 rfl rfl ?_
      refine rw_goto f_X9_mostLeft_65 ?_
      rw [nI_1']
      simpa [cntB, pr_most, c1, bI, am_put, am_kill] using ih
    · refine rw_aload f_X9_mostLeft_39 rfl ?_
      refine rw_iload f_X9_mostLeft_40 rfl ?_
      refine rw_iload f_X9_mostLeft_42 rfl ?_
      refine rw_callV f_X9_mostLeft_43 rfl hW.1 hW.2.1 rfl rfl rfl rfl (rn_ki (M_markOf hW (by omega) ?_))
      refine rw_iload f_X9_mostLeft_46 rfl ?_
      refine rw_ne f_X9_mostLeft_48 (fun c2 => ?_) (fun c2 => ?_)
      · refine rw_const f_X9_mostLeft_55 ?_
        refine rw_callS f_X9_mostLeft_56 rfl rfl rfl (rn_ki (M_truthX (by first | exact Or.inl rfl | exact Or.inr rfl | exact bI_01 _) ?_))
        refine rw_iadd f_X9_mostLeft_59 ?_
        refine rw_istore f_X9_mostLeft_60 rfl rfl ?_
        refine rw_iinc f_X9_mostLeft_62 rfl rfl ?_
        refine rw_goto f_X9_mostLeft_65 ?_
        rw [nI_1']
        simpa [cntB, pr_most, c1, c2, bI, am_put, am_kill] using ih
      · refine rw_const f_X9_mostLeft_51 ?_
        refine rw_goto f_X9_mostLeft_52 ?_
        refine rw_callS f_X9_mostLeft_56 rfl rfl rfl (rn_ki (M_truthX (by first | exact Or.inl rfl | exact Or.inr rfl | exact bI_01 _) ?_))
        refine rw_iadd f_X9_mostLeft_59 ?_
        refine rw_istore f_X9_mostLeft_60 rfl rfl ?_
        refine rw_iinc f_X9_mostLeft_62 rfl rfl ?_
        refine rw_goto f_X9_mostLeft_65 ?_
        rw [nI_1']
        simpa [cntB, pr_most, c1, c2, bI, am_put, am_kill] using ih
  · refine rw_iload f_X9_mostLeft_18 rfl ?_
    refine rw_aload f_X9_mostLeft_20 rfl ?_
    refine rw_getI f_X9_mostLeft_21 hW.1 ?_
    refine rw_icmpT f_X9_mostLeft_24 (decide_eq_true (by rw [hM]; exact Int32.le_refl _)) ?_
    exact hk
theorem M_mostLeft (hW : MW h m) {nM : Nat} (hM : hp_I h m 56 = nI nM) (hM6 : nM ≤ 6) {set w : Int32} (hk : k (sp_most nM (fun a => mk_of h m a) set w) h) : Rn (d + 1) n_X9_mostLeft 0 [am_r m, am_i set, am_i w, am_u, am_u, am_u, am_u] [] h (kI k) := by
  refine rw_const f_X9_mostLeft_0 ?_
  refine rw_istore f_X9_mostLeft_1 rfl rfl ?_
  refine rw_const f_X9_mostLeft_2 ?_
  refine rw_istore f_X9_mostLeft_3 rfl rfl ?_
  have key : ∀ r v x y, v + r = 10 → Rn (d + 1) n_X9_mostLeft 5 [am_r m, am_i set, am_i w, am_i (mostU (fun v => cntB (pr_most set w (fun a => mk_of h m a) v) nM) v), am_i (nI v), x, y] [] h (kI k) := by
    intro r
    induction r with
    | zero =>
      intro v x y hv
      obtain rfl : v = 10 := by omega
      refine rw_iload f_X9_mostLeft_5 rfl ?_
      refine rw_const f_X9_mostLeft_7 ?_
      refine rw_icmpT f_X9_mostLeft_9 (by decide) ?_
      refine rw_iload f_X9_mostLeft_87 rfl ?_
      refine rw_iret f_X9_mostLeft_88 ?_
      exact hk
    | succ r ih =>
      intro v x y hv
      refine rw_iload f_X9_mostLeft_5 rfl ?_
      refine rw_const f_X9_mostLeft_7 ?_
      refine rw_icmpF f_X9_mostLeft_9 (decide_eq_false (by rw [show (9 : Int32) = nI 9 from rfl]; exact Int32.not_lt.mpr (nI_le (by omega) (by omega)))) ?_
      refine rw_const f_X9_mostLeft_12 ?_
      refine rw_istore f_X9_mostLeft_13 rfl rfl ?_
      refine rw_const f_X9_mostLeft_15 ?_
      refine rw_istore f_X9_mostLeft_16 rfl rfl ?_
      refine M_most_in hW hM hM6 ?_
      refine rw_iload f_X9_mostLeft_68 rfl ?_
      refine rw_iload f_X9_mostLeft_70 rfl ?_
      refine rw_le f_X9_mostLeft_71 (fun c1 => ?_) (fun c1 => ?_)
      · refine rw_iload f_X9_mostLeft_79 rfl ?_
        refine rw_istore f_X9_mostLeft_80 rfl rfl ?_
        refine rw_iinc f_X9_mostLeft_81 rfl rfl ?_
        refine rw_goto f_X9_mostLeft_84 ?_
        rw [nI_1']
        have := ih (v + 1) (am_i (cntB (pr_most set w (fun a => mk_of h m a) v) nM)) (am_i (nI nM)) (by omega)
        simpa [mostU, c1, am_put, am_kill] using this
      · refine rw_iload f_X9_mostLeft_74 rfl ?_
        refine rw_goto f_X9_mostLeft_76 ?_
        refine rw_istore f_X9_mostLeft_80 rfl rfl ?_
        refine rw_iinc f_X9_mostLeft_81 rfl rfl ?_
        refine rw_goto f_X9_mostLeft_84 ?_
        rw [nI_1']
        have := ih (v + 1) (am_i (cntB (pr_most set w (fun a => mk_of h m a) v) nM)) (am_i (nI nM)) (by omega)
        simpa [mostU, c1, am_put, am_kill] using this
  exact key 10 0 am_u am_u (by omega)
def sp_askB (f : Int32 → Int32) (b w : Int32) : Int32 := if f b ≤ f w then b else w
def sp_ask (f : Int32 → Int32) (set what : Int32) : Int32 := if isIn what 0 1 = false then -1 else if set = 0 then -1 else if what = 0 then sp_askB f (sp_askB f 0 1) 2 else f (sp_askB f (sp_askB f 0 1) 2)
theorem M_ask_end (hW : MW h m) {nM : Nat} (hM : hp_I h m 56 = nI nM) (hM6 : nM ≤ 6) {what t set b : Int32} (hk : k (if what = 0 then b else sp_most nM (fun a => mk_of h m a) set b) h) : Rn (d + 3) n_X9_ask 27 [am_r m, am_i what, am_i t, am_i set, am_i b, am_i 3] [] h (kI k) := by
  refine rw_iload f_X9_ask_27 rfl ?_
  refine rw_const f_X9_ask_29 ?_
  refine rw_icmpT f_X9_ask_30 (by decide) ?_
  refine rw_iload f_X9_ask_65 rfl ?_
  first | refine rw_ne0B f_X9_ask_66 (fun c1 => ?_) (fun c1 => ?_) | refine rw_ne0 f_X9_ask_66 (fun c1 => ?_) (fun c1 => ?_)
  · refine rw_aload f_X9_ask_74 rfl ?_
    refine rw_iload f_X9_ask_75 rfl ?_
    refine rw_iload f_X9_ask_76 rfl ?_
    refine rw_callV f_X9_ask_78 rfl hW.1 hW.2.1 rfl rfl rfl rfl (rn_ki (M_mostLeft hW hM hM6 ?_))
    refine rw_iret f_X9_ask_81 ?_
    simpa [c1] using hk
  · refine rw_iload f_X9_ask_69 rfl ?_
    refine rw_goto f_X9_ask_71 ?_
    refine rw_iret f_X9_ask_81 ?_
    simpa [c1] using hk
theorem M_ask (hW : MW h m) {nM nT : Nat} (hM : hp_I h m 56 = nI nM) (hM6 : nM ≤ 6) (hT : hp_I h m 93 = nI nT) (hT30 : nT ≤ 30) {what t : Int32} (hk : k (sp_ask (sp_most nM (fun a => mk_of h m a) (sp_swore nM nT (fun a => tg_of h m a t))) (sp_swore nM nT (fun a => tg_of h m a t)) what) h) : Rn (d + 3) n_X9_ask 0 [am_r m, am_i what, am_i t, am_u, am_u, am_u] [] h (kI k) := by
  have one : ∀ {set b w : Int32} {K : am_R → am_H → Prop}, ¬ 3 ≤ w → Rn (d + 3) n_X9_ask 27 [am_r m, am_i what, am_i t, am_i set, am_i (sp_askB (sp_most nM (fun a => mk_of h m a) set) b w), am_i (w + 1)] [] h K → Rn (d + 3) n_X9_ask 27 [am_r m, am_i what, am_i t, am_i set, am_i b, am_i w] [] h K := by
    intro set b w K hw kk
    refine rw_iload f_X9_ask_27 rfl ?_
    refine rw_const f_X9_ask_29 ?_
    refine rw_icmpF f_X9_ask_30 (decide_eq_false hw) ?_
    refine rw_aload f_X9_ask_33 rfl ?_
    refine rw_iload f_X9_ask_34 rfl ?_
    refine rw_iload f_X9_ask_35 rfl ?_
    refine rw_callV f_X9_ask_37 rfl hW.1 hW.2.1 rfl rfl rfl rfl (rn_ki (M_mostLeft hW hM hM6 ?_))
    refine rw_aload f_X9_ask_40 rfl ?_
    refine rw_iload f_X9_ask_41 rfl ?_
    refine rw_iload f_X9_ask_42 rfl ?_
    refine rw_callV f_X9_ask_44 rfl hW.1 hW.2.1 rfl rfl rfl rfl (rn_ki (M_mostLeft hW hM hM6 ?_))
    refine rw_ge f_X9_ask_47 (fun c1 => ?_) (fun c1 => ?_)
    · refine rw_iload f_X9_ask_55 rfl ?_
      refine rw_istore f_X9_ask_57 rfl rfl ?_
      refine rw_iinc f_X9_ask_59 rfl rfl ?_
      refine rw_goto f_X9_ask_62 ?_
      simpa [sp_askB, c1, am_put, am_kill] using kk
    · refine rw_iload f_X9_ask_50 rfl ?_
      refine rw_goto f_X9_ask_52 ?_
      refine rw_istore f_X9_ask_57 rfl rfl ?_
      refine rw_iinc f_X9_ask_59 rfl rfl ?_
      refine rw_goto f_X9_ask_62 ?_
      simpa [sp_askB, c1, am_put, am_kill] using kk
  unfold sp_ask at hk
  refine rw_aload f_X9_ask_0 rfl ?_
  refine rw_iload f_X9_ask_1 rfl ?_
  refine rw_callV f_X9_ask_2 rfl hW.1 hW.2.1 rfl rfl rfl rfl (rn_ki (M_swore hW hM hM6 hT hT30 ?_))
  refine rw_istore f_X9_ask_5 rfl rfl ?_
  refine rw_iload f_X9_ask_6 rfl ?_
  refine rw_const f_X9_ask_7 ?_
  refine rw_const f_X9_ask_8 ?_
  refine rw_callS f_X9_ask_9 rfl rfl rfl (rn_ki (M_isIn ?_))
  first | refine rw_eq0B f_X9_ask_12 (fun c1 => ?_) (fun c1 => ?_) | refine rw_eq0 f_X9_ask_12 (fun c1 => ?_) (fun c1 => ?_)
  · refine rw_const f_X9_ask_19 ?_
    refine rw_iret f_X9_ask_20 ?_
    simpa [c1] using hk
  · refine rw_iload f_X9_ask_15 rfl ?_
    first | refine rw_ne0B f_X9_ask_16 (fun c2 => ?_) (fun c2 => ?_) | refine rw_ne0 f_X9_ask_16 (fun c2 => ?_) (fun c2 => ?_)
    · refine rw_const f_X9_ask_21 ?_
      refine rw_istore f_X9_ask_22 rfl rfl ?_
      refine rw_const f_X9_ask_24 ?_
      refine rw_istore f_X9_ask_25 rfl rfl ?_
      refine one (by decide) (one (by decide) ?_)
      rw [if_neg (by rw [c1]; decide), if_neg c2] at hk
      exact M_ask_end hW hM hM6 hk
    · refine rw_const f_X9_ask_19 ?_
      refine rw_iret f_X9_ask_20 ?_
      simpa [c1, c2] using hk
end MTUG
