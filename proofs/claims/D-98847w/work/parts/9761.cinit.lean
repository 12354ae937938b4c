/-! THE CLASS: its constructor (written by tools/gen_init.py) -/
def cnK (a : Nat) : Nat × Nat := match a with
  | 0 => (100, 0)
  | 1 => (101, 0)
  | 2 => (130, 0)
  | 3 => (130, 0)
  | 4 => (130, 0)
  | 5 => (1, 36)
  | 6 => (1, 4)
  | 7 => (102, 0)
  | 8 => (1, 10)
  | 9 => (1, 10)
  | 10 => (102, 0)
  | 11 => (1, 10)
  | 12 => (1, 10)
  | 13 => (2, 1600)
  | 14 => (103, 0)
  | 15 => (130, 0)
  | 16 => (130, 0)
  | 17 => (1, 10)
  | 18 => (104, 0)
  | 19 => (3, 1024)
  | 20 => (1, 6)
  | 21 => (1, 6)
  | 22 => (4, 100)
  | 23 => (4, 100)
  | 24 => (106, 0)
  | 25 => (1, 6)
  | 26 => (107, 0)
  | 27 => (1, 6)
  | 28 => (130, 0)
  | 29 => (6, 3)
  | 30 => (108, 0)
  | 31 => (108, 0)
  | 32 => (108, 0)
  | _ => (0, 0)
/-- the first friends: none -/
def fill (I : am_M) (b q : Nat) : am_M := fun a j => if a = b ∧ j < q then -100 else I a j
section CInit
variable {d : Nat} {h : am_H} {x n u : Nat} {K : Nat → Nat × Nat} {I : am_M} {R : Nat → Nat → Nat}
theorem fill_loop {this b t : Nat} {Q : am_R → am_H → Prop} (ht : this < n) (hK : K this = (101, t)) (hR : R this 3 = b + 2) (hb : b < n) (hKb : K b = (1, 36)) (k : Rn d n_X1_init 80 [am_r (x + this), am_i (nI 36)] [] (nh h x n u K (fill I b 36) R) Q) : Rn d n_X1_init 60 [am_r (x + this), am_i (nI 0)] [] (nh h x n u K I R) Q := by
  have e0 : fill I b 0 = I := by funext a j; unfold fill; rw [if_neg (by omega)]
  have go : Rn d n_X1_init 60 [am_r (x + this), am_i (nI 0)] [] (nh h x n u K (fill I b 0) R) Q := by
    refine rn_for (N := 36) (fun q => [am_r (x + this), am_i (nI q)]) (fun q => nh h x n u K (fill I b q) R) (fun q hq ih => ?_) ?_
    · have e1 : am_up (fill I b q) b q (-100) = fill I b (q + 1) := by
        funext a j
        unfold am_up fill
        by_cases c : a = b ∧ j = q
        · rw [if_pos c, if_pos (by omega)]
        · rw [if_neg c]
          by_cases c2 : a = b ∧ j < q
          · rw [if_pos c2, if_pos (by omega)]
          · rw [if_neg c2, if_neg (by omega)]
      refine rw_iload f_X1_init_60 rfl ?_
      refine rw_const f_X1_init_61 ?_
      refine rw_icmpF f_X1_init_63 (decide_eq_false (nI_ge (b := 36) hq (by decide))) ?_
      refine rw_aload f_X1_init_66 rfl ?_
      refine no_getR (a := this) f_X1_init_67 ht hK hR ?_
      refine rw_iload f_X1_init_70 rfl ?_
      refine rw_const f_X1_init_71 ?_
      refine no_iast (j := q) f_X1_init_73 hb hKb hq (by decide) ?_
      rw [e1]
      refine rw_iinc f_X1_init_74 rfl rfl ?_
      refine rw_goto f_X1_init_77 ?_
      rw [nI_1']
      exact ih
    · refine rw_iload f_X1_init_60 rfl ?_
      refine rw_const f_X1_init_61 ?_
      refine rw_icmpT f_X1_init_63 (by decide) ?_
      exact k
  rw [e0] at go
  exact go
end CInit
def cnR : Nat → Nat → Nat := am_up (am_up (am_up (am_up (am_up (am_up (am_up (am_up (am_up (am_up (am_up (am_up (am_up (am_up (am_up (am_up (am_up (am_up (am_up (am_up (am_up (am_up (am_up (am_up (am_up (am_up (am_up (am_up (am_up (am_up (am_up (am_up (am_up (am_up (am_up (am_up (am_up (am_up (am_up (am_up (am_up (am_up (am_up (am_up (am_up (am_up ((fun _ _ => 0)) 2 1 1) 1 0 4) 3 1 1) 1 1 5) 4 1 1) 1 2 6) 1 3 7) 1 13 8) 0 0 3) 7 0 10) 7 1 11) 0 1 9) 10 0 13) 10 1 14) 0 2 12) 0 3 15) 0 4 16) 15 1 1) 0 9 17) 16 1 1) 0 10 18) 0 11 19) 18 9 2) 18 0 21) 18 1 22) 18 2 23) 0 13 20) 0 14 24) 0 15 25) 24 4 2) 24 1 2) 24 0 27) 0 16 26) 26 3 2) 26 1 2) 26 0 29) 0 17 28) 28 1 1) 0 18 30) 30 0 0) 29 0 32) 31 0 0) 29 1 33) 32 0 0) 29 2 34) 0 19 31
def cnI : am_M := am_up (am_up (am_up (am_up (fill (am_up (am_up (am_up (am_up ((fun _ _ => 0)) 2 0 (0)) 3 0 (0)) 4 0 (0)) 1 7 (8)) 5 36) 0 8 (-1)) 15 0 (0)) 16 0 (0)) 28 0 (0)
theorem C_init1 {d : Nat} {h : am_H} {x : Nat} (hx : x = hp_n h) (hz : ¬ x = 0) {Q : am_R → am_H → Prop} (k : Rn (d + 5) n_X0_init 197 [am_r (x + 0)] [am_r (x + 0)] (nh h x 33 3033 cnK cnI cnR) Q) : Rn (d + 5) n_X0_init 0 [am_r (x + 0)] [] (nh h x 1 20 cnK (fun _ _ => 0) (fun _ _ => 0)) Q := by
  refine rw_aload f_X0_init_0 rfl ?_
  refine rw_obj f_X0_init_1 (by omega) rfl ?_
  refine rw_aload f_X0_init_4 rfl ?_
  refine no_new (n := 1) (n' := 2) (u' := 34) f_X0_init_5 rfl (fun _ => rfl) (fun _ => rfl) rfl rfl ?_
  refine rw_dupr f_X0_init_8 ?_
  refine rw_callI (a := x + 1) f_X0_init_9 rfl (by omega) rfl rfl rfl (rn_kv ?_)
  refine rw_aload f_X1_init_0 rfl ?_
  refine rw_obj f_X1_init_1 (by omega) rfl ?_
  refine rw_aload f_X1_init_4 rfl ?_
  refine no_new (n := 2) (n' := 3) (u' := 37) f_X1_init_5 rfl (fun _ => rfl) (fun _ => rfl) rfl rfl ?_
  refine rw_dupr f_X1_init_8 ?_
  refine rw_callI (a := x + 2) f_X1_init_9 rfl (by omega) rfl rfl rfl (rn_kv ?_)
  refine rw_aload f_J2_init_0 rfl ?_
  refine rw_callI (a := x + 2) f_J2_init_1 rfl (by omega) rfl rfl rfl (rn_kv ?_)
  refine rw_aload f_J1_init_0 rfl ?_
  refine rw_callI (a := x + 2) f_J1_init_1 rfl (by omega) rfl rfl rfl (rn_kv ?_)
  refine rw_aload f_J0_init_0 rfl ?_
  refine rw_obj f_J0_init_1 (by omega) rfl ?_
  refine rw_vret f_J0_init_4 ?_
  refine rw_aload f_J1_init_4 rfl ?_
  refine rw_const f_J1_init_5 ?_
  refine no_putI (a := 2) f_J1_init_6 (by decide) rfl ?_
  refine rw_vret f_J1_init_9 ?_
  refine rw_aload f_J2_init_4 rfl ?_
  refine no_glob hz f_J2_init_5 ?_
  refine no_putR (a := 2) (c := 1) f_J2_init_8 (by decide) rfl rfl ?_
  refine rw_vret f_J2_init_11 ?_
  refine no_putR (a := 1) (c := 4) f_X1_init_12 (by decide) rfl rfl ?_
  refine rw_aload f_X1_init_15 rfl ?_
  refine no_new (n := 3) (n' := 4) (u' := 40) f_X1_init_16 rfl (fun _ => rfl) (fun _ => rfl) rfl rfl ?_
  refine rw_dupr f_X1_init_19 ?_
  refine rw_callI (a := x + 3) f_X1_init_20 rfl (by omega) rfl rfl rfl (rn_kv ?_)
  refine rw_aload f_J2_init_0 rfl ?_
  refine rw_callI (a := x + 3) f_J2_init_1 rfl (by omega) rfl rfl rfl (rn_kv ?_)
  refine rw_aload f_J1_init_0 rfl ?_
  refine rw_callI (a := x + 3) f_J1_init_1 rfl (by omega) rfl rfl rfl (rn_kv ?_)
  refine rw_aload f_J0_init_0 rfl ?_
  refine rw_obj f_J0_init_1 (by omega) rfl ?_
  refine rw_vret f_J0_init_4 ?_
  refine rw_aload f_J1_init_4 rfl ?_
  refine rw_const f_J1_init_5 ?_
  refine no_putI (a := 3) f_J1_init_6 (by decide) rfl ?_
  refine rw_vret f_J1_init_9 ?_
  refine rw_aload f_J2_init_4 rfl ?_
  refine no_glob hz f_J2_init_5 ?_
  refine no_putR (a := 3) (c := 1) f_J2_init_8 (by decide) rfl rfl ?_
  refine rw_vret f_J2_init_11 ?_
  refine no_putR (a := 1) (c := 5) f_X1_init_23 (by decide) rfl rfl ?_
  refine rw_aload f_X1_init_26 rfl ?_
  refine no_new (n := 4) (n' := 5) (u' := 43) f_X1_init_27 rfl (fun _ => rfl) (fun _ => rfl) rfl rfl ?_
  refine rw_dupr f_X1_init_30 ?_
  refine rw_callI (a := x + 4) f_X1_init_31 rfl (by omega) rfl rfl rfl (rn_kv ?_)
  refine rw_aload f_J2_init_0 rfl ?_
  refine rw_callI (a := x + 4) f_J2_init_1 rfl (by omega) rfl rfl rfl (rn_kv ?_)
  refine rw_aload f_J1_init_0 rfl ?_
  refine rw_callI (a := x + 4) f_J1_init_1 rfl (by omega) rfl rfl rfl (rn_kv ?_)
  refine rw_aload f_J0_init_0 rfl ?_
  refine rw_obj f_J0_init_1 (by omega) rfl ?_
  refine rw_vret f_J0_init_4 ?_
  refine rw_aload f_J1_init_4 rfl ?_
  refine rw_const f_J1_init_5 ?_
  refine no_putI (a := 4) f_J1_init_6 (by decide) rfl ?_
  refine rw_vret f_J1_init_9 ?_
  refine rw_aload f_J2_init_4 rfl ?_
  refine no_glob hz f_J2_init_5 ?_
  refine no_putR (a := 4) (c := 1) f_J2_init_8 (by decide) rfl rfl ?_
  refine rw_vret f_J2_init_11 ?_
  refine no_putR (a := 1) (c := 6) f_X1_init_34 (by decide) rfl rfl ?_
  refine rw_aload f_X1_init_37 rfl ?_
  refine rw_const f_X1_init_38 ?_
  refine no_newa (n := 5) (n' := 6) (u' := 79) (l := 36) f_X1_init_40 rfl (by decide) rfl (fun _ => rfl) (fun _ => rfl) rfl rfl ?_
  refine no_putR (a := 1) (c := 7) f_X1_init_42 (by decide) rfl rfl ?_
  refine rw_aload f_X1_init_45 rfl ?_
  refine rw_const f_X1_init_46 ?_
  refine no_putI (a := 1) f_X1_init_48 (by decide) rfl ?_
  refine rw_aload f_X1_init_51 rfl ?_
  refine rw_const f_X1_init_52 ?_
  refine no_newa (n := 6) (n' := 7) (u' := 83) (l := 4) f_X1_init_53 rfl (by decide) rfl (fun _ => rfl) (fun _ => rfl) rfl rfl ?_
  refine no_putR (a := 1) (c := 8) f_X1_init_55 (by decide) rfl rfl ?_
  refine rw_const f_X1_init_58 ?_
  refine rw_istore f_X1_init_59 rfl rfl ?_
  refine fill_loop (this := 1) (b := 5) (by decide) rfl rfl (by decide) rfl ?_
  refine rw_vret f_X1_init_80 ?_
  refine no_putR (a := 0) (c := 3) f_X0_init_12 (by decide) rfl rfl ?_
  refine rw_aload f_X0_init_15 rfl ?_
  refine no_new (n := 7) (n' := 8) (u' := 88) f_X0_init_16 rfl (fun _ => rfl) (fun _ => rfl) rfl rfl ?_
  refine rw_dupr f_X0_init_19 ?_
  refine rw_callI (a := x + 7) f_X0_init_20 rfl (by omega) rfl rfl rfl (rn_kv ?_)
  refine rw_aload f_X2_init_0 rfl ?_
  refine rw_obj f_X2_init_1 (by omega) rfl ?_
  refine rw_aload f_X2_init_4 rfl ?_
  refine rw_const f_X2_init_5 ?_
  refine no_newa (n := 8) (n' := 9) (u' := 98) (l := 10) f_X2_init_7 rfl (by decide) rfl (fun _ => rfl) (fun _ => rfl) rfl rfl ?_
  refine no_putR (a := 7) (c := 10) f_X2_init_9 (by decide) rfl rfl ?_
  refine rw_aload f_X2_init_12 rfl ?_
  refine rw_const f_X2_init_13 ?_
  refine no_newa (n := 9) (n' := 10) (u' := 108) (l := 10) f_X2_init_15 rfl (by decide) rfl (fun _ => rfl) (fun _ => rfl) rfl rfl ?_
  refine no_putR (a := 7) (c := 11) f_X2_init_17 (by decide) rfl rfl ?_
  refine rw_vret f_X2_init_20 ?_
  refine no_putR (a := 0) (c := 9) f_X0_init_23 (by decide) rfl rfl ?_
  refine rw_aload f_X0_init_26 rfl ?_
  refine no_new (n := 10) (n' := 11) (u' := 113) f_X0_init_27 rfl (fun _ => rfl) (fun _ => rfl) rfl rfl ?_
  refine rw_dupr f_X0_init_30 ?_
  refine rw_callI (a := x + 10) f_X0_init_31 rfl (by omega) rfl rfl rfl (rn_kv ?_)
  refine rw_aload f_X2_init_0 rfl ?_
  refine rw_obj f_X2_init_1 (by omega) rfl ?_
  refine rw_aload f_X2_init_4 rfl ?_
  refine rw_const f_X2_init_5 ?_
  refine no_newa (n := 11) (n' := 12) (u' := 123) (l := 10) f_X2_init_7 rfl (by decide) rfl (fun _ => rfl) (fun _ => rfl) rfl rfl ?_
  refine no_putR (a := 10) (c := 13) f_X2_init_9 (by decide) rfl rfl ?_
  refine rw_aload f_X2_init_12 rfl ?_
  refine rw_const f_X2_init_13 ?_
  refine no_newa (n := 12) (n' := 13) (u' := 133) (l := 10) f_X2_init_15 rfl (by decide) rfl (fun _ => rfl) (fun _ => rfl) rfl rfl ?_
  refine no_putR (a := 10) (c := 14) f_X2_init_17 (by decide) rfl rfl ?_
  refine rw_vret f_X2_init_20 ?_
  refine no_putR (a := 0) (c := 12) f_X0_init_34 (by decide) rfl rfl ?_
  refine rw_aload f_X0_init_37 rfl ?_
  refine rw_const f_X0_init_38 ?_
  refine no_newa (n := 13) (n' := 14) (u' := 1733) (l := 1600) f_X0_init_41 rfl (by decide) rfl (fun _ => rfl) (fun _ => rfl) rfl rfl ?_
  refine no_putR (a := 0) (c := 15) f_X0_init_43 (by decide) rfl rfl ?_
  refine rw_aload f_X0_init_46 rfl ?_
  refine no_newex (n := 14) (n' := 15) (u' := 1741) f_X0_init_47 rfl (fun _ => rfl) (fun _ => rfl) rfl rfl ?_
  refine no_putR (a := 0) (c := 16) f_X0_init_54 (by decide) rfl rfl ?_
  refine rw_aload f_X0_init_57 rfl ?_
  refine rw_const f_X0_init_58 ?_
  refine no_putI (a := 0) f_X0_init_59 (by decide) rfl ?_
  refine rw_aload f_X0_init_62 rfl ?_
  refine no_new (n := 15) (n' := 16) (u' := 1744) f_X0_init_63 rfl (fun _ => rfl) (fun _ => rfl) rfl rfl ?_
  refine rw_dupr f_X0_init_66 ?_
  refine rw_callI (a := x + 15) f_X0_init_67 rfl (by omega) rfl rfl rfl (rn_kv ?_)
  refine rw_aload f_J2_init_0 rfl ?_
  refine rw_callI (a := x + 15) f_J2_init_1 rfl (by omega) rfl rfl rfl (rn_kv ?_)
  refine rw_aload f_J1_init_0 rfl ?_
  refine rw_callI (a := x + 15) f_J1_init_1 rfl (by omega) rfl rfl rfl (rn_kv ?_)
  refine rw_aload f_J0_init_0 rfl ?_
  refine rw_obj f_J0_init_1 (by omega) rfl ?_
  refine rw_vret f_J0_init_4 ?_
  refine rw_aload f_J1_init_4 rfl ?_
  refine rw_const f_J1_init_5 ?_
  refine no_putI (a := 15) f_J1_init_6 (by decide) rfl ?_
  refine rw_vret f_J1_init_9 ?_
  refine rw_aload f_J2_init_4 rfl ?_
  refine no_glob hz f_J2_init_5 ?_
  refine no_putR (a := 15) (c := 1) f_J2_init_8 (by decide) rfl rfl ?_
  refine rw_vret f_J2_init_11 ?_
  refine no_putR (a := 0) (c := 17) f_X0_init_70 (by decide) rfl rfl ?_
  refine rw_aload f_X0_init_73 rfl ?_
  refine no_new (n := 16) (n' := 17) (u' := 1747) f_X0_init_74 rfl (fun _ => rfl) (fun _ => rfl) rfl rfl ?_
  refine rw_dupr f_X0_init_77 ?_
  refine rw_callI (a := x + 16) f_X0_init_78 rfl (by omega) rfl rfl rfl (rn_kv ?_)
  refine rw_aload f_J2_init_0 rfl ?_
  refine rw_callI (a := x + 16) f_J2_init_1 rfl (by omega) rfl rfl rfl (rn_kv ?_)
  refine rw_aload f_J1_init_0 rfl ?_
  refine rw_callI (a := x + 16) f_J1_init_1 rfl (by omega) rfl rfl rfl (rn_kv ?_)
  refine rw_aload f_J0_init_0 rfl ?_
  refine rw_obj f_J0_init_1 (by omega) rfl ?_
  refine rw_vret f_J0_init_4 ?_
  refine rw_aload f_J1_init_4 rfl ?_
  refine rw_const f_J1_init_5 ?_
  refine no_putI (a := 16) f_J1_init_6 (by decide) rfl ?_
  refine rw_vret f_J1_init_9 ?_
  refine rw_aload f_J2_init_4 rfl ?_
  refine no_glob hz f_J2_init_5 ?_
  refine no_putR (a := 16) (c := 1) f_J2_init_8 (by decide) rfl rfl ?_
  refine rw_vret f_J2_init_11 ?_
  refine no_putR (a := 0) (c := 18) f_X0_init_81 (by decide) rfl rfl ?_
  refine rw_aload f_X0_init_84 rfl ?_
  refine rw_const f_X0_init_85 ?_
  refine no_newa (n := 17) (n' := 18) (u' := 1757) (l := 10) f_X0_init_87 rfl (by decide) rfl (fun _ => rfl) (fun _ => rfl) rfl rfl ?_
  refine no_putR (a := 0) (c := 19) f_X0_init_89 (by decide) rfl rfl ?_
  refine rw_aload f_X0_init_92 rfl ?_
  refine no_new (n := 18) (n' := 19) (u' := 1767) f_X0_init_93 rfl (fun _ => rfl) (fun _ => rfl) rfl rfl ?_
  refine rw_dupr f_X0_init_96 ?_
  refine rw_aload f_X0_init_97 rfl ?_
  refine rw_callI (a := x + 18) f_X0_init_98 rfl (by omega) rfl rfl rfl (rn_kv ?_)
  refine rw_aload f_X4_init_0 rfl ?_
  refine rw_aload f_X4_init_1 rfl ?_
  refine no_putR (a := 18) (c := 2) f_X4_init_2 (by decide) rfl rfl ?_
  refine rw_aload f_X4_init_5 rfl ?_
  refine rw_obj f_X4_init_6 (by omega) rfl ?_
  refine rw_aload f_X4_init_9 rfl ?_
  refine rw_const f_X4_init_10 ?_
  refine no_newa (n := 19) (n' := 20) (u' := 2791) (l := 1024) f_X4_init_13 rfl (by decide) rfl (fun _ => rfl) (fun _ => rfl) rfl rfl ?_
  refine no_putR (a := 18) (c := 21) f_X4_init_15 (by decide) rfl rfl ?_
  refine rw_aload f_X4_init_18 rfl ?_
  refine rw_const f_X4_init_19 ?_
  refine no_newa (n := 20) (n' := 21) (u' := 2797) (l := 6) f_X4_init_21 rfl (by decide) rfl (fun _ => rfl) (fun _ => rfl) rfl rfl ?_
  refine no_putR (a := 18) (c := 22) f_X4_init_23 (by decide) rfl rfl ?_
  refine rw_aload f_X4_init_26 rfl ?_
  refine rw_const f_X4_init_27 ?_
  refine no_newa (n := 21) (n' := 22) (u' := 2803) (l := 6) f_X4_init_29 rfl (by decide) rfl (fun _ => rfl) (fun _ => rfl) rfl rfl ?_
  refine no_putR (a := 18) (c := 23) f_X4_init_31 (by decide) rfl rfl ?_
  refine rw_vret f_X4_init_34 ?_
  refine no_putR (a := 0) (c := 20) f_X0_init_101 (by decide) rfl rfl ?_
  refine rw_aload f_X0_init_104 rfl ?_
  refine rw_const f_X0_init_105 ?_
  refine no_newa (n := 22) (n' := 23) (u' := 2903) (l := 100) f_X0_init_107 rfl (by decide) rfl (fun _ => rfl) (fun _ => rfl) rfl rfl ?_
  refine no_putR (a := 0) (c := 24) f_X0_init_109 (by decide) rfl rfl ?_
  refine rw_aload f_X0_init_112 rfl ?_
  refine rw_const f_X0_init_113 ?_
  refine no_newa (n := 23) (n' := 24) (u' := 3003) (l := 100) f_X0_init_115 rfl (by decide) rfl (fun _ => rfl) (fun _ => rfl) rfl rfl ?_
  refine no_putR (a := 0) (c := 25) f_X0_init_117 (by decide) rfl rfl ?_
  refine rw_aload f_X0_init_120 rfl ?_
  refine no_new (n := 24) (n' := 25) (u' := 3008) f_X0_init_121 rfl (fun _ => rfl) (fun _ => rfl) rfl rfl ?_
  refine rw_dupr f_X0_init_124 ?_
  refine rw_aload f_X0_init_125 rfl ?_
  refine rw_callI (a := x + 24) f_X0_init_126 rfl (by omega) rfl rfl rfl (rn_kv ?_)
  refine rw_aload f_X6_init_0 rfl ?_
  refine rw_aload f_X6_init_1 rfl ?_
  refine no_putOO (a := 24) (c := 2) f_X6_init_2 (by decide) rfl rfl rfl ?_
  refine rw_aload f_X6_init_5 rfl ?_
  refine rw_aload f_X6_init_6 rfl ?_
  refine rw_callI (a := x + 24) f_X6_init_7 rfl (by omega) rfl rfl rfl (rn_kv ?_)
  refine rw_aload f_X5_init_0 rfl ?_
  refine rw_aload f_X5_init_1 rfl ?_
  refine no_putO (a := 24) (c := 2) f_X5_init_2 (by decide) rfl rfl rfl ?_
  refine rw_aload f_X5_init_5 rfl ?_
  refine rw_obj f_X5_init_6 (by omega) rfl ?_
  refine rw_aload f_X5_init_9 rfl ?_
  refine rw_const f_X5_init_10 ?_
  refine no_newa (n := 25) (n' := 26) (u' := 3014) (l := 6) f_X5_init_12 rfl (by decide) rfl (fun _ => rfl) (fun _ => rfl) rfl rfl ?_
  refine no_putR (a := 24) (c := 27) f_X5_init_14 (by decide) rfl rfl ?_
  refine rw_vret f_X5_init_17 ?_
  refine rw_vret f_X6_init_10 ?_
  refine no_putR (a := 0) (c := 26) f_X0_init_129 (by decide) rfl rfl ?_
  refine rw_aload f_X0_init_132 rfl ?_
  refine no_new (n := 26) (n' := 27) (u' := 3018) f_X0_init_133 rfl (fun _ => rfl) (fun _ => rfl) rfl rfl ?_
  refine rw_dupr f_X0_init_136 ?_
  refine rw_aload f_X0_init_137 rfl ?_
  refine rw_callI (a := x + 26) f_X0_init_138 rfl (by omega) rfl rfl rfl (rn_kv ?_)
  refine rw_aload f_X7_init_0 rfl ?_
  refine rw_aload f_X7_init_1 rfl ?_
  refine no_putOO (a := 26) (c := 2) f_X7_init_2 (by decide) rfl rfl rfl ?_
  refine rw_aload f_X7_init_5 rfl ?_
  refine rw_aload f_X7_init_6 rfl ?_
  refine rw_callI (a := x + 26) f_X7_init_7 rfl (by omega) rfl rfl rfl (rn_kv ?_)
  refine rw_aload f_X5_init_0 rfl ?_
  refine rw_aload f_X5_init_1 rfl ?_
  refine no_putO (a := 26) (c := 2) f_X5_init_2 (by decide) rfl rfl rfl ?_
  refine rw_aload f_X5_init_5 rfl ?_
  refine rw_obj f_X5_init_6 (by omega) rfl ?_
  refine rw_aload f_X5_init_9 rfl ?_
  refine rw_const f_X5_init_10 ?_
  refine no_newa (n := 27) (n' := 28) (u' := 3024) (l := 6) f_X5_init_12 rfl (by decide) rfl (fun _ => rfl) (fun _ => rfl) rfl rfl ?_
  refine no_putR (a := 26) (c := 29) f_X5_init_14 (by decide) rfl rfl ?_
  refine rw_vret f_X5_init_17 ?_
  refine rw_vret f_X7_init_10 ?_
  refine no_putR (a := 0) (c := 28) f_X0_init_141 (by decide) rfl rfl ?_
  refine rw_aload f_X0_init_144 rfl ?_
  refine no_new (n := 28) (n' := 29) (u' := 3027) f_X0_init_145 rfl (fun _ => rfl) (fun _ => rfl) rfl rfl ?_
  refine rw_dupr f_X0_init_148 ?_
  refine rw_callI (a := x + 28) f_X0_init_149 rfl (by omega) rfl rfl rfl (rn_kv ?_)
  refine rw_aload f_J2_init_0 rfl ?_
  refine rw_callI (a := x + 28) f_J2_init_1 rfl (by omega) rfl rfl rfl (rn_kv ?_)
  refine rw_aload f_J1_init_0 rfl ?_
  refine rw_callI (a := x + 28) f_J1_init_1 rfl (by omega) rfl rfl rfl (rn_kv ?_)
  refine rw_aload f_J0_init_0 rfl ?_
  refine rw_obj f_J0_init_1 (by omega) rfl ?_
  refine rw_vret f_J0_init_4 ?_
  refine rw_aload f_J1_init_4 rfl ?_
  refine rw_const f_J1_init_5 ?_
  refine no_putI (a := 28) f_J1_init_6 (by decide) rfl ?_
  refine rw_vret f_J1_init_9 ?_
  refine rw_aload f_J2_init_4 rfl ?_
  refine no_glob hz f_J2_init_5 ?_
  refine no_putR (a := 28) (c := 1) f_J2_init_8 (by decide) rfl rfl ?_
  refine rw_vret f_J2_init_11 ?_
  refine no_putR (a := 0) (c := 30) f_X0_init_152 (by decide) rfl rfl ?_
  refine rw_aload f_X0_init_155 rfl ?_
  refine rw_const f_X0_init_156 ?_
  refine no_newa (n := 29) (n' := 30) (u' := 3030) (l := 3) f_X0_init_157 rfl (by decide) rfl (fun _ => rfl) (fun _ => rfl) rfl rfl ?_
  refine rw_dupr f_X0_init_160 ?_
  refine rw_const f_X0_init_161 ?_
  refine no_new (n := 30) (n' := 31) (u' := 3031) f_X0_init_162 rfl (fun _ => rfl) (fun _ => rfl) rfl rfl ?_
  refine rw_dupr f_X0_init_165 ?_
  refine rw_const f_X0_init_166 ?_
  refine rw_callI (a := x + 30) f_X0_init_167 rfl (by omega) rfl rfl rfl (rn_kv ?_)
  refine rw_aload f_X8_init_0 rfl ?_
  refine rw_obj f_X8_init_1 (by omega) rfl ?_
  refine rw_aload f_X8_init_4 rfl ?_
  refine rw_aload f_X8_init_5 rfl ?_
  refine no_putR (a := 30) (c := 0) f_X8_init_6 (by decide) rfl rfl ?_
  refine rw_vret f_X8_init_9 ?_
  refine no_kast (a := 29) (b := 30) (j := 0) f_X0_init_170 (by decide) rfl rfl (show vp_in (nI 0) 3 from vp_in_nI (by decide) (by decide)) (by decide) rfl ?_
  refine rw_dupr f_X0_init_171 ?_
  refine rw_const f_X0_init_172 ?_
  refine no_new (n := 31) (n' := 32) (u' := 3032) f_X0_init_173 rfl (fun _ => rfl) (fun _ => rfl) rfl rfl ?_
  refine rw_dupr f_X0_init_176 ?_
  refine rw_const f_X0_init_177 ?_
  refine rw_callI (a := x + 31) f_X0_init_178 rfl (by omega) rfl rfl rfl (rn_kv ?_)
  refine rw_aload f_X8_init_0 rfl ?_
  refine rw_obj f_X8_init_1 (by omega) rfl ?_
  refine rw_aload f_X8_init_4 rfl ?_
  refine rw_aload f_X8_init_5 rfl ?_
  refine no_putR (a := 31) (c := 0) f_X8_init_6 (by decide) rfl rfl ?_
  refine rw_vret f_X8_init_9 ?_
  refine no_kast (a := 29) (b := 31) (j := 1) f_X0_init_181 (by decide) rfl rfl (show vp_in (nI 1) 3 from vp_in_nI (by decide) (by decide)) (by decide) rfl ?_
  refine rw_dupr f_X0_init_182 ?_
  refine rw_const f_X0_init_183 ?_
  refine no_new (n := 32) (n' := 33) (u' := 3033) f_X0_init_184 rfl (fun _ => rfl) (fun _ => rfl) rfl rfl ?_
  refine rw_dupr f_X0_init_187 ?_
  refine rw_const f_X0_init_188 ?_
  refine rw_callI (a := x + 32) f_X0_init_189 rfl (by omega) rfl rfl rfl (rn_kv ?_)
  refine rw_aload f_X8_init_0 rfl ?_
  refine rw_obj f_X8_init_1 (by omega) rfl ?_
  refine rw_aload f_X8_init_4 rfl ?_
  refine rw_aload f_X8_init_5 rfl ?_
  refine no_putR (a := 32) (c := 0) f_X8_init_6 (by decide) rfl rfl ?_
  refine rw_vret f_X8_init_9 ?_
  refine no_kast (a := 29) (b := 32) (j := 2) f_X0_init_192 (by decide) rfl rfl (show vp_in (nI 2) 3 from vp_in_nI (by decide) (by decide)) (by decide) rfl ?_
  refine no_putR (a := 0) (c := 31) f_X0_init_193 (by decide) rfl rfl ?_
  refine rw_aload f_X0_init_196 rfl ?_
  exact k
