/-! THE MODEL: acts -/
/-- copying on by one place: the value lies outside what was written -/
theorem cpy_0 {α : Type} (f : Nat → Nat → α) (a p b q : Nat) : am_cpy f a p b q 0 = f := by
  funext c j
  unfold am_cpy
  rw [if_neg (by omega)]
theorem cpy_rd {α : Type} {f : Nat → Nat → α} {a p b q n : Nat} (hap : a ≠ b ∨ q ≤ p) : am_cpy f a p b q n a (p + n) = f a (p + n) := by
  unfold am_cpy
  rw [if_neg (by omega)]
theorem cpy_step {h : am_H} {a p b q n : Nat} (hap : a ≠ b ∨ q ≤ p) : hp_sI (am_cpy h.1 a p b q n, h.2) b (q + n) (am_cpy h.1 a p b q n a (p + n)) = (am_cpy h.1 a p b q (n + 1), h.2) := by
  rw [cpy_rd hap]
  unfold hp_sI am_up am_cpy
  refine Prod.ext ?_ rfl
  funext c j
  dsimp only
  by_cases e : c = b ∧ j = q + n
  · rw [if_pos e, if_pos ⟨e.1, by omega, by omega⟩, show p + (j - q) = p + n by omega]
  · rw [if_neg e]
    by_cases e2 : c = b ∧ q ≤ j ∧ j < q + n
    · rw [if_pos e2, if_pos ⟨e2.1, e2.2.1, by omega⟩]
    · rw [if_neg e2, if_neg (by intro z; apply e2; refine ⟨z.1, z.2.1, ?_⟩; have := z.2.2; by_cases e3 : j = q + n; exact absurd ⟨z.1, e3⟩ e; omega)]
section MACT
variable {d : Nat} {h : am_H} {m : Nat}
theorem MW.eq2 {h h' : am_H} (hW : MW h m) (e : h'.2 = h.2) : MW h' m := by
  unfold MW hp_K hp_R at hW ⊢
  rw [e]; exact hW
def act0 (h : am_H) (m nA : Nat) : am_H := if nA = 40 then hp_sI (am_cpy h.1 (m + 35) 24 (m + 35) 0 936, h.2) m 69 (nI 39) else h
def act1 (h : am_H) (m n : Nat) : am_H := hp_sI (hp_sI (am_cpy h.1 (m + 34) 0 (m + 35) (24 * n) 23, h.2) m 69 (nI (n + 1))) m 70 0
def ef_act (h : am_H) (m nA : Nat) : am_H := act1 (act0 h m nA) m (if nA = 40 then 39 else nA)
theorem M_act1 (hW : MW h m) {n : Nat} (hA : hp_I h m 69 = nI n) (hn : n < 40) {x : am_V} {k : am_H → Prop} (hk : k (act1 h m n)) : Rn d n_X9_act 49 [am_r m, x] [] h (kV k) := by
  refine rw_const f_X9_act_49 ?_
  refine rw_istore f_X9_act_50 rfl rfl ?_
  have e0 : h = (am_cpy h.1 (m + 34) 0 (m + 35) (24 * n) 0, h.2) := by rw [cpy_0]
  refine Eq.mp (congrArg (fun H => Rn d n_X9_act 51 [am_r m, am_i 0] [] H (kV k)) e0.symm) ?_
  refine rn_for (N := 23) (fun b => [am_r m, am_i (nI b)]) (fun b => (am_cpy h.1 (m + 34) 0 (m + 35) (24 * n) b, h.2)) (fun b hb ih => ?_) ?_
  · have hW' : MW (am_cpy h.1 (m + 34) 0 (m + 35) (24 * n) b, h.2) m := hW.eq2 rfl
    have hA' : hp_I (am_cpy h.1 (m + 34) 0 (m + 35) (24 * n) b, h.2) m 69 = nI n := by
      show am_cpy h.1 (m + 34) 0 (m + 35) (24 * n) b m 69 = _
      unfold am_cpy; rw [if_neg (by omega)]; exact hA
    refine rw_iload f_X9_act_51 rfl ?_
    refine rw_const f_X9_act_52 ?_
    refine rw_icmpF f_X9_act_54 (decide_eq_false (by rw [show (23 : Int32) = nI 23 from rfl]; exact nI_ge hb (by omega))) ?_
    refine rw_aload f_X9_act_57 rfl ?_
    refine rw_getR f_X9_act_58 hW'.1 (hW'.2.2 68 _ _ _ rfl).1 ?_
    refine rw_const f_X9_act_61 ?_
    refine rw_aload f_X9_act_63 rfl ?_
    refine rw_getI f_X9_act_64 hW'.1 ?_
    rw [hA']
    refine rw_imul f_X9_act_67 ?_
    refine rw_iload f_X9_act_68 rfl ?_
    refine rw_iadd f_X9_act_69 ?_
    refine rw_aload f_X9_act_70 rfl ?_
    refine rw_getR f_X9_act_71 hW'.1 (hW'.2.2 67 _ _ _ rfl).1 ?_
    refine rw_iload f_X9_act_74 rfl ?_
    refine rw_xaldE (j := b) f_X9_act_75 (hW'.2.2 67 _ _ _ rfl).2 rfl (by omega) (by omega) ?_
    refine rw_iastE (j := 24 * n + b) f_X9_act_76 (hW'.2.2 68 _ _ _ rfl).2 (by simp only [nI, Int32.ofNat_add, Int32.ofNat_mul]; rfl) (by omega) (by omega) ?_
    refine rw_iinc f_X9_act_77 rfl rfl ?_
    refine rw_goto f_X9_act_80 ?_
    have e := cpy_step (h := h) (a := (m + 34)) (p := 0) (b := (m + 35)) (q := 24 * n) (n := b) (Or.inl (by omega))
    rw [Nat.zero_add] at e
    rw [nI_1']
    exact Eq.mp (congrArg (fun H => Rn d n_X9_act 51 [am_r m, am_i (nI (b + 1))] [] H (kV k)) e.symm) ih
  · have hW' : MW (am_cpy h.1 (m + 34) 0 (m + 35) (24 * n) 23, h.2) m := hW.eq2 rfl
    have hA' : hp_I (am_cpy h.1 (m + 34) 0 (m + 35) (24 * n) 23, h.2) m 69 = nI n := by
      show am_cpy h.1 (m + 34) 0 (m + 35) (24 * n) 23 m 69 = _
      unfold am_cpy; rw [if_neg (by omega)]; exact hA
    refine rw_iload f_X9_act_51 rfl ?_
    refine rw_const f_X9_act_52 ?_
    refine rw_icmpT f_X9_act_54 (by decide) ?_
    refine rw_aload f_X9_act_83 rfl ?_
    refine rw_dupr f_X9_act_84 ?_
    refine rw_getI f_X9_act_85 hW'.1 ?_
    rw [hA']
    refine rw_const f_X9_act_88 ?_
    refine rw_iadd f_X9_act_89 ?_
    refine rw_putI f_X9_act_90 hW'.1 ?_
    refine rw_aload f_X9_act_93 rfl ?_
    refine rw_const f_X9_act_94 ?_
    refine rw_putI f_X9_act_95 hW'.1 ?_
    refine rw_vret f_X9_act_98 ?_
    rw [nI_1']
    exact hk
end MACT
