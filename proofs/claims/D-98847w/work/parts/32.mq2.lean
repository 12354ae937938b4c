/-! THE MODEL: queries with loops -/
section MQ2
variable {d : Nat} {h : am_H} {m : Nat} {k : Int32 → am_H → Prop}
def sp_many (nB : Nat) (now : Nat → Int32) (s : Int32) : Int32 := if isIn s 0 4 = true then cntB (fun b => decide (now b = s)) nB else -1
theorem M_many_loop (hW : MW h m) {nB : Nat} (hB : hp_I h m 58 = nI nB) (hB10 : nB ≤ 10) {s : Int32} (hk : k (cntB (fun b => decide (hp_I h (m + 34) b = s)) nB) h) : Rn (d + 1) n_X9_many 15 [am_r m, am_i s, am_i 0, am_i 0] [] h (kI k) := by
  refine rn_for (N := nB) (fun b => [am_r m, am_i s, am_i (cntB (fun b => decide (hp_I h (m + 34) b = s)) b), am_i (nI b)]) (fun _ => h) (fun b hb ih => ?_) ?_
  · refine rw_iload f_X9_many_15 rfl ?_
    refine rw_aload f_X9_many_16 rfl ?_
    refine rw_getI f_X9_many_17 hW.1 ?_
    refine rw_icmpF f_X9_many_20 (decide_eq_false (by rw [hB]; exact nI_ge hb (by omega))) ?_
    refine rw_iload f_X9_many_23 rfl ?_
    refine rw_aload f_X9_many_24 rfl ?_
    refine rw_getR f_X9_many_25 hW.1 (hW.2.2 67 _ _ _ rfl).1 ?_
    refine rw_iload f_X9_many_28 rfl ?_
    refine rw_xaldE f_X9_many_29 (hW.2.2 67 _ _ _ rfl).2 rfl (by omega) (by omega) ?_
    refine rw_iload f_X9_many_30 rfl ?_
    refine rw_ne f_X9_many_31 (fun c1 => ?_) (fun c1 => ?_)
    · refine rw_const f_X9_many_38 ?_
      refine rw_callS f_X9_many_39 rfl rfl rfl (rn_ki (M_truthX (by first | exact Or.inl rfl | exact Or.inr rfl | exact bI_01 _) ?_))
      refine rw_iadd f_X9_many_42 ?_
      refine rw_istore f_X9_many_43 rfl rfl ?_
      refine rw_iinc f_X9_many_44 rfl rfl ?_
      refine rw_goto f_X9_many_47 ?_
      rw [nI_1']
      simpa [cntB, c1, bI, am_put, am_kill] using ih
    · refine rw_const f_X9_many_34 ?_
      refine rw_goto f_X9_many_35 ?_
      refine rw_callS f_X9_many_39 rfl rfl rfl (rn_ki (M_truthX (by first | exact Or.inl rfl | exact Or.inr rfl | exact bI_01 _) ?_))
      refine rw_iadd f_X9_many_42 ?_
      refine rw_istore f_X9_many_43 rfl rfl ?_
      refine rw_iinc f_X9_many_44 rfl rfl ?_
      refine rw_goto f_X9_many_47 ?_
      rw [nI_1']
      simpa [cntB, c1, bI, am_put, am_kill] using ih
  · refine rw_iload f_X9_many_15 rfl ?_
    refine rw_aload f_X9_many_16 rfl ?_
    refine rw_getI f_X9_many_17 hW.1 ?_
    refine rw_icmpT f_X9_many_20 (decide_eq_true (by rw [hB]; exact Int32.le_refl _)) ?_
    refine rw_iload f_X9_many_50 rfl ?_
    refine rw_iret f_X9_many_51 ?_
    exact hk
theorem M_many (hW : MW h m) {nB : Nat} (hB : hp_I h m 58 = nI nB) (hB10 : nB ≤ 10) {s : Int32} (hk : k (sp_many nB (hp_I h (m + 34)) s) h) : Rn (d + 1) n_X9_many 0 [am_r m, am_i s, am_u, am_u] [] h (kI k) := by
  unfold sp_many at hk
  refine rw_iload f_X9_many_0 rfl ?_
  refine rw_const f_X9_many_1 ?_
  refine rw_const f_X9_many_2 ?_
  refine rw_callS f_X9_many_3 rfl rfl rfl (rn_ki (M_isIn ?_))
  first | refine rw_ne0B f_X9_many_6 (fun c1 => ?_) (fun c1 => ?_) | refine rw_ne0 f_X9_many_6 (fun c1 => ?_) (fun c1 => ?_)
  · refine rw_const f_X9_many_11 ?_
    refine rw_istore f_X9_many_12 rfl rfl ?_
    refine rw_const f_X9_many_13 ?_
    refine rw_istore f_X9_many_14 rfl rfl ?_
    exact M_many_loop hW hB hB10 (by simpa [c1] using hk)
  · refine rw_const f_X9_many_9 ?_
    refine rw_iret f_X9_many_10 ?_
    simpa [c1] using hk
end MQ2
