/-! THE MODEL: the formula, by a stack of signs that wait -/
section MWear
variable {d : Nat} {h h' : am_H} {m : Nat} {V W : am_M} {T : tx} {N p u : Nat} {k : Int32 → am_H → Prop} {st : List Int32} {c : am_S}
theorem nI_s1 (n : Nat) : nI (n + 1) - 1 = nI n := by rw [← nI_1', Int32.add_sub_cancel]
theorem m_tight {h : am_H} {s : Int32} (hk : k (nI (tgt s)) h) : Rn d n_X9_tight 0 [am_i s] [] h (kI k) := by
  have key : ∀ v, v = nI (tgt s) → k v h := fun v e => by rw [e]; exact hk
  unfold tgt at key
  refine rw_iload f_X9_tight_0 rfl ?_
  refine rw_switch f_X9_tight_1 ?_
  refine rw_sw1 (fun c1 => ?_) (fun c1 => ?_)
  · refine rw_const f_X9_tight_80 ?_
    refine rw_iret f_X9_tight_81 ?_
    exact key _ (by simp [c1] <;> rfl)
  · refine rw_sw1 (fun c2 => ?_) (fun c2 => ?_)
    · refine rw_const f_X9_tight_78 ?_
      refine rw_iret f_X9_tight_79 ?_
      exact key _ (by simp [c1, c2] <;> rfl)
    · refine rw_sw1 (fun c3 => ?_) (fun c3 => ?_)
      · refine rw_const f_X9_tight_84 ?_
        refine rw_iret f_X9_tight_85 ?_
        exact key _ (by simp [c1, c2, c3] <;> rfl)
      · refine rw_sw1 (fun c4 => ?_) (fun c4 => ?_)
        · refine rw_const f_X9_tight_84 ?_
          refine rw_iret f_X9_tight_85 ?_
          exact key _ (by simp [c1, c2, c3, c4] <;> rfl)
        · refine rw_sw1 (fun c5 => ?_) (fun c5 => ?_)
          · refine rw_const f_X9_tight_82 ?_
            refine rw_iret f_X9_tight_83 ?_
            exact key _ (by simp [c1, c2, c3, c4, c5] <;> rfl)
          · refine rw_sw1 (fun c6 => ?_) (fun c6 => ?_)
            · refine rw_const f_X9_tight_82 ?_
              refine rw_iret f_X9_tight_83 ?_
              exact key _ (by simp [c1, c2, c3, c4, c5, c6] <;> rfl)
            · refine rw_sw1 (fun c7 => ?_) (fun c7 => ?_)
              · refine rw_const f_X9_tight_82 ?_
                refine rw_iret f_X9_tight_83 ?_
                exact key _ (by simp [c1, c2, c3, c4, c5, c6, c7] <;> rfl)
              · refine rw_sw1 (fun c8 => ?_) (fun c8 => ?_)
                · refine rw_const f_X9_tight_76 ?_
                  refine rw_iret f_X9_tight_77 ?_
                  exact key _ (by simp [c1, c2, c3, c4, c5, c6, c7, c8] <;> rfl)
                · refine rw_sw0 ?_
                  refine rw_const f_X9_tight_86 ?_
                  refine rw_iret f_X9_tight_88 ?_
                  exact key _ (by simp [c1, c2, c3, c4, c5, c6, c7, c8] <;> rfl)
theorem tgt_6 {s : Int32} : tgt s ≤ 6 := by
  unfold tgt
  repeat' split
  all_goals omega
/-- the signs that wait, in the model's row -/
def KS (W : am_M) : List Int32 → Prop
  | [] => True
  | s :: k => W 7 k.length = s ∧ KS W k
def CS (W : am_M) (c : am_S) : Prop := ∀ (i : Nat) (s : Int32 × Int32), c[i]? = some s → W 3 i = s.1 ∧ W 4 i = s.2
def CP (W : am_M) (k : List Int32) (c : am_S) : Prop := W 0 17 = nI c.length ∧ W 0 19 = nI k.length ∧ W 0 23 = nI (dpt k) ∧ KS W k ∧ CS W c
theorem KS_fr : ∀ {k : List Int32}, (∀ j, j < k.length → W 7 j = V 7 j) → KS V k → KS W k
  | [], _, _ => trivial
  | _ :: _, e, q => ⟨(e _ (Nat.lt_succ_self _)).trans q.1, KS_fr (fun j hj => e j (Nat.lt_succ_of_lt hj)) q.2⟩
theorem CP.fr (q : CP V st c) (e : ∀ a j, (a = 3 ∨ a = 4 ∨ a = 7 ∨ (a = 0 ∧ (j = 17 ∨ j = 19 ∨ j = 23))) → W a j = V a j) : CP W st c := by
  obtain ⟨q1, q2, q3, q4, q5⟩ := q
  exact ⟨by rw [e _ _ (by omega)]; exact q1, by rw [e _ _ (by omega)]; exact q2, by rw [e _ _ (by omega)]; exact q3, KS_fr (fun j _ => e _ _ (by omega)) q4, fun i s hs => by rw [e _ _ (by omega), e _ _ (by omega)]; exact q5 i s hs⟩
theorem CS_add {s : Int32 × Int32} (q : CS V c) (e : ∀ a j, (a = 3 ∨ a = 4) → ¬ j = c.length → W a j = V a j) (e1 : W 3 c.length = s.1) (e2 : W 4 c.length = s.2) : CS W (c ++ [s]) := by
  intro i x hx
  rcases get_snoc hx with z | ⟨z1, z2⟩
  · have := (List.getElem?_eq_some_iff.mp z).1
    rw [e _ _ (by omega) (by omega), e _ _ (by omega) (by omega)]; exact q i x z
  · rw [z1, z2]; exact ⟨e1, e2⟩
theorem m_add (hW : MW h m) {n : Nat} (hn : W 0 17 = nI n) (h320 : n < 320) {s v : Int32} {k : am_H → Prop} (hk : k (mh h m (am_up (am_up (am_up W 3 n s) 4 n v) 0 17 (nI (n + 1))))) : Rn d n_X9_add 0 [am_r m, am_i s, am_i v] [] (mh h m W) (kV k) := by
  have a1 : am_up W 3 n s 0 17 = nI n := by rw [up_ne (by omega)]; exact hn
  have a2 : am_up (am_up W 3 n s) 4 n v 0 17 = nI n := by rw [up_ne (by omega)]; exact a1
  refine rw_aload f_X9_add_0 rfl ?_
  refine rm_getR f_X9_add_1 hW rfl ?_
  refine rw_aload f_X9_add_4 rfl ?_
  refine rm_getI f_X9_add_5 hW ?_
  rw [hn]
  refine rw_iload f_X9_add_8 rfl ?_
  refine rm_iast f_X9_add_9 hW (by exact rfl) rfl (by omega) ?_
  refine rw_aload f_X9_add_10 rfl ?_
  refine rm_getR f_X9_add_11 hW rfl ?_
  refine rw_aload f_X9_add_14 rfl ?_
  refine rm_getI f_X9_add_15 hW ?_
  rw [a1]
  refine rw_iload f_X9_add_18 rfl ?_
  refine rm_iast f_X9_add_19 hW (by exact rfl) rfl (by omega) ?_
  refine rw_aload f_X9_add_20 rfl ?_
  first | refine rw_dupr f_X9_add_21 ?_ | refine rw_dupi f_X9_add_21 ?_
  refine rm_getI f_X9_add_22 hW ?_
  rw [a2]
  refine rw_const f_X9_add_25 ?_
  refine rw_iadd f_X9_add_26 ?_
  rw [nI_1']
  refine rm_putI f_X9_add_27 hW ?_
  refine rw_vret f_X9_add_30 ?_
  exact hk
/-- what closing changes -/
def Cf (V W : am_M) : Prop := ∀ a j, ¬ (a = 3 ∨ a = 4 ∨ (a = 0 ∧ (j = 17 ∨ j = 19 ∨ j = 23))) → W a j = V a j
theorem Cf.tr {V1 V2 : am_M} (p : Cf V V1) (q : Cf V1 V2) : Cf V V2 := fun a j e => (q a j e).trans (p a j e)
theorem Cf.up {a k : Nat} {v : Int32} (p : Cf V W) (e : a = 3 ∨ a = 4 ∨ (a = 0 ∧ (k = 17 ∨ k = 19 ∨ k = 23))) : Cf V (am_up W a k v) := fun b j r => by
  rw [up_ne (fun z => r (by rw [z.1, z.2]; exact e))]
  exact p b j r
theorem dpt_c {s : Int32} {k : List Int32} : dpt (s :: k) = (if s = 20 ∨ s = 21 then 1 else 0) + dpt k := rfl
theorem popT_c {r : Nat} {s : Int32} {k : List Int32} : popT r (s :: k) c = if s = 20 then (s :: k, c) else if r ≤ tgt s then popT r k (c ++ [stp s]) else (s :: k, c) := rfl
theorem m_close (hW : MW h m) {r : Nat} (hr : r ≤ 6) {kk : am_H → Prop} : ∀ (st : List Int32) (c : am_S) (W : am_M), CP W st c → c.length + st.length < 320 → st.length < 160 → (∀ X, CP X (popT r st c).1 (popT r st c).2 → Cf W X → kk (mh h m X)) → Rn (d + 1) n_X9_close 0 [am_r m, am_i (nI r)] [] (mh h m W) (kV kk) := by
  intro st
  induction st with
  | nil =>
    intro c W cp h3 h1 hk
    have o := cp.2.1
    refine rw_aload f_X9_close_0 rfl ?_
    refine rm_getI f_X9_close_1 hW ?_
    rw [o]
    refine rw_ifT f_X9_close_4 (by decide) ?_
    refine rw_vret f_X9_close_101 ?_
    exact hk W cp (fun _ _ _ => rfl)
  | cons s st ih =>
    intro c W cp h3 h1 hk
    rw [popT_c] at hk
    rw [List.length_cons] at h3 h1
    have cp0 := cp
    obtain ⟨q1, q2, q3, ⟨q4, q4'⟩, q5⟩ := cp
    rw [List.length_cons] at q2
    have pos : ¬ nI (st.length + 1) ≤ 0 := Int32.not_le.mpr (nI_lt (a := 0) (by omega) (by omega))
    have t6 := tgt_6 (s := s)
    have lt : nI (tgt s) < nI r ↔ tgt s < r := nI_ltI (by omega) (by omega)
    by_cases c20 : s = 20
    · rw [if_pos c20] at hk
      refine rw_aload f_X9_close_0 rfl ?_
      refine rm_getI f_X9_close_1 hW ?_
      rw [q2]
      refine rw_ifF f_X9_close_4 (decide_eq_false pos) ?_
      refine rw_aload f_X9_close_7 rfl ?_
      refine rm_getR f_X9_close_8 hW rfl ?_
      refine rw_aload f_X9_close_11 rfl ?_
      refine rm_getI f_X9_close_12 hW ?_
      rw [q2]
      refine rw_const f_X9_close_15 ?_
      refine rw_isub f_X9_close_16 ?_
      rw [nI_s1]
      refine rm_xald (j := st.length) f_X9_close_17 hW (by exact rfl) (by first | rfl | exact nI_addl _ _ | (simp only [nI, Int32.ofNat_add, Int32.ofNat_mul]; rfl) | (simp only [nI_addl, nI_mull, nI_lit, nI_1']; done) | (simp only [nI_1, nI_0, nI_addl, nI_mull, ← nI_succ]; rfl)) (by omega) ?_
      rw [q4]
      refine rw_const f_X9_close_18 ?_
      refine rw_icmpT f_X9_close_20 (decide_eq_true c20) ?_
      refine rw_vret f_X9_close_101 ?_
      exact hk W cp0 (fun _ _ _ => rfl)
    rw [if_neg c20] at hk
    by_cases cr : r ≤ tgt s
    · rw [if_pos cr] at hk
      have d0 : ∀ a j, ¬ (a = 0 ∧ j = 19) → am_up W 0 19 (nI st.length) a j = W a j := fun a j z => up_ne z
      have cf0 : Cf W (am_up W 0 19 (nI st.length)) := Cf.up (fun _ _ _ => rfl) (by omega)
      have o1 : am_up W 0 19 (nI st.length) 0 19 = nI st.length := up_same
      generalize hW1 : am_up W 0 19 (nI st.length) = W1 at d0 cf0 o1
      have s1 : W1 7 st.length = s := (d0 _ _ (by omega)).trans q4
      have n1 : W1 0 17 = nI c.length := (d0 _ _ (by omega)).trans q1
      have dp1 : W1 0 23 = nI (dpt (s :: st)) := (d0 _ _ (by omega)).trans q3
      have ks1 : KS W1 st := KS_fr (fun j _ => d0 _ _ (by omega)) q4'
      have cs1 : CS W1 c := fun i x hx => by rw [d0 _ _ (by omega), d0 _ _ (by omega)]; exact q5 i x hx
      have add : ∀ a b, CS (am_up (am_up (am_up W1 3 c.length a) 4 c.length b) 0 17 (nI (c.length + 1))) (c ++ [(a, b)]) := fun a b => by
        refine CS_add cs1 (fun x j hx hj => ?_) ?_ ?_
        · rw [up_ne (by omega), up_ne (by omega), up_ne (by omega)]
        · rw [up_ne (by omega), up_ne (by omega)]; exact up_same
        · rw [up_ne (by omega)]; exact up_same
      have len : ∀ a : Int32 × Int32, (c ++ [a]).length = c.length + 1 := fun a => by rw [List.length_append, List.length_singleton]
      by_cases c21 : s = 21
      · have es : stp s = (2, 0) := by unfold stp; rw [if_pos c21]
        rw [es] at hk
        rw [dpt_c, if_pos (Or.inr c21), Nat.add_comm] at dp1
        refine rw_aload f_X9_close_0 rfl ?_
        refine rm_getI f_X9_close_1 hW ?_
        rw [q2]
        refine rw_ifF f_X9_close_4 (decide_eq_false pos) ?_
        refine rw_aload f_X9_close_7 rfl ?_
        refine rm_getR f_X9_close_8 hW rfl ?_
        refine rw_aload f_X9_close_11 rfl ?_
        refine rm_getI f_X9_close_12 hW ?_
        rw [q2]
        refine rw_const f_X9_close_15 ?_
        refine rw_isub f_X9_close_16 ?_
        rw [nI_s1]
        refine rm_xald (j := st.length) f_X9_close_17 hW (by exact rfl) (by first | rfl | exact nI_addl _ _ | (simp only [nI, Int32.ofNat_add, Int32.ofNat_mul]; rfl) | (simp only [nI_addl, nI_mull, nI_lit, nI_1']; done) | (simp only [nI_1, nI_0, nI_addl, nI_mull, ← nI_succ]; rfl)) (by omega) ?_
        rw [q4]
        refine rw_const f_X9_close_18 ?_
        refine rw_icmpF f_X9_close_20 (decide_eq_false c20) ?_
        refine rw_aload f_X9_close_23 rfl ?_
        refine rm_getR f_X9_close_24 hW rfl ?_
        refine rw_aload f_X9_close_27 rfl ?_
        refine rm_getI f_X9_close_28 hW ?_
        rw [q2]
        refine rw_const f_X9_close_31 ?_
        refine rw_isub f_X9_close_32 ?_
        rw [nI_s1]
        refine rm_xald (j := st.length) f_X9_close_33 hW (by exact rfl) (by first | rfl | exact nI_addl _ _ | (simp only [nI, Int32.ofNat_add, Int32.ofNat_mul]; rfl) | (simp only [nI_addl, nI_mull, nI_lit, nI_1']; done) | (simp only [nI_1, nI_0, nI_addl, nI_mull, ← nI_succ]; rfl)) (by omega) ?_
        rw [q4]
        refine rw_callS f_X9_close_34 rfl rfl rfl (rn_ki (m_tight ?_))
        refine rw_iload f_X9_close_37 rfl ?_
        refine rw_icmpF f_X9_close_38 (decide_eq_false (fun z => by have := lt.mp z; omega)) ?_
        refine rw_aload f_X9_close_41 rfl ?_
        first | refine rw_dupr f_X9_close_42 ?_ | refine rw_dupi f_X9_close_42 ?_
        refine rm_getI f_X9_close_43 hW ?_
        rw [q2]
        refine rw_const f_X9_close_46 ?_
        refine rw_isub f_X9_close_47 ?_
        rw [nI_s1]
        refine rm_putI f_X9_close_48 hW ?_
        rw [hW1]
        refine rw_aload f_X9_close_51 rfl ?_
        refine rm_getR f_X9_close_52 hW rfl ?_
        refine rw_aload f_X9_close_55 rfl ?_
        refine rm_getI f_X9_close_56 hW ?_
        rw [o1]
        refine rm_xald (j := st.length) f_X9_close_59 hW (by exact rfl) (by first | rfl | exact nI_addl _ _ | (simp only [nI, Int32.ofNat_add, Int32.ofNat_mul]; rfl) | (simp only [nI_addl, nI_mull, nI_lit, nI_1']; done) | (simp only [nI_1, nI_0, nI_addl, nI_mull, ← nI_succ]; rfl)) (by omega) ?_
        rw [s1]
        refine rw_const f_X9_close_60 ?_
        refine rw_icmpF f_X9_close_62 (decide_eq_false (fun z => z c21)) ?_
        refine rw_aload f_X9_close_65 rfl ?_
        refine rw_const f_X9_close_66 ?_
        refine rw_const f_X9_close_67 ?_
        refine rw_callV f_X9_close_68 rfl hW.1 hW.2.1 rfl rfl rfl rfl (rn_kv (m_add hW n1 (by omega) ?_))
        refine rw_aload f_X9_close_71 rfl ?_
        first | refine rw_dupr f_X9_close_72 ?_ | refine rw_dupi f_X9_close_72 ?_
        refine rm_getI f_X9_close_73 hW ?_
        rw [show am_up (am_up (am_up W1 3 c.length 2) 4 c.length 0) 0 17 (nI (c.length + 1)) 0 23 = nI (dpt st + 1) from by rw [up_ne (by omega), up_ne (by omega), up_ne (by omega)]; exact dp1]
        refine rw_const f_X9_close_76 ?_
        refine rw_isub f_X9_close_77 ?_
        rw [nI_s1]
        refine rm_putI f_X9_close_78 hW ?_
        refine rw_goto f_X9_close_81 ?_
        refine ih (c ++ [(2, 0)]) _ ⟨?_, ?_, up_same, ?_, ?_⟩ (by rw [len]; omega) (by omega) (fun X cx cf => hk X cx ((((((cf0.up (by omega)).up (by omega)).up (by omega)).up (by omega))).tr cf))
        · rw [len, up_ne (by omega)]; exact up_same
        · rw [up_ne (by omega), up_ne (by omega), up_ne (by omega), up_ne (by omega)]; exact o1
        · exact KS_fr (fun j _ => by rw [up_ne (by omega), up_ne (by omega), up_ne (by omega), up_ne (by omega)]) ks1
        · exact fun i x hx => by rw [up_ne (by omega), up_ne (by omega)]; exact add 2 0 i x hx
      · have es : stp s = (3, s) := by unfold stp; rw [if_neg c21]
        rw [es] at hk
        rw [dpt_c, if_neg (fun z => z.elim c20 c21), Nat.zero_add] at dp1
        refine rw_aload f_X9_close_0 rfl ?_
        refine rm_getI f_X9_close_1 hW ?_
        rw [q2]
        refine rw_ifF f_X9_close_4 (decide_eq_false pos) ?_
        refine rw_aload f_X9_close_7 rfl ?_
        refine rm_getR f_X9_close_8 hW rfl ?_
        refine rw_aload f_X9_close_11 rfl ?_
        refine rm_getI f_X9_close_12 hW ?_
        rw [q2]
        refine rw_const f_X9_close_15 ?_
        refine rw_isub f_X9_close_16 ?_
        rw [nI_s1]
        refine rm_xald (j := st.length) f_X9_close_17 hW (by exact rfl) (by first | rfl | exact nI_addl _ _ | (simp only [nI, Int32.ofNat_add, Int32.ofNat_mul]; rfl) | (simp only [nI_addl, nI_mull, nI_lit, nI_1']; done) | (simp only [nI_1, nI_0, nI_addl, nI_mull, ← nI_succ]; rfl)) (by omega) ?_
        rw [q4]
        refine rw_const f_X9_close_18 ?_
        refine rw_icmpF f_X9_close_20 (decide_eq_false c20) ?_
        refine rw_aload f_X9_close_23 rfl ?_
        refine rm_getR f_X9_close_24 hW rfl ?_
        refine rw_aload f_X9_close_27 rfl ?_
        refine rm_getI f_X9_close_28 hW ?_
        rw [q2]
        refine rw_const f_X9_close_31 ?_
        refine rw_isub f_X9_close_32 ?_
        rw [nI_s1]
        refine rm_xald (j := st.length) f_X9_close_33 hW (by exact rfl) (by first | rfl | exact nI_addl _ _ | (simp only [nI, Int32.ofNat_add, Int32.ofNat_mul]; rfl) | (simp only [nI_addl, nI_mull, nI_lit, nI_1']; done) | (simp only [nI_1, nI_0, nI_addl, nI_mull, ← nI_succ]; rfl)) (by omega) ?_
        rw [q4]
        refine rw_callS f_X9_close_34 rfl rfl rfl (rn_ki (m_tight ?_))
        refine rw_iload f_X9_close_37 rfl ?_
        refine rw_icmpF f_X9_close_38 (decide_eq_false (fun z => by have := lt.mp z; omega)) ?_
        refine rw_aload f_X9_close_41 rfl ?_
        first | refine rw_dupr f_X9_close_42 ?_ | refine rw_dupi f_X9_close_42 ?_
        refine rm_getI f_X9_close_43 hW ?_
        rw [q2]
        refine rw_const f_X9_close_46 ?_
        refine rw_isub f_X9_close_47 ?_
        rw [nI_s1]
        refine rm_putI f_X9_close_48 hW ?_
        rw [hW1]
        refine rw_aload f_X9_close_51 rfl ?_
        refine rm_getR f_X9_close_52 hW rfl ?_
        refine rw_aload f_X9_close_55 rfl ?_
        refine rm_getI f_X9_close_56 hW ?_
        rw [o1]
        refine rm_xald (j := st.length) f_X9_close_59 hW (by exact rfl) (by first | rfl | exact nI_addl _ _ | (simp only [nI, Int32.ofNat_add, Int32.ofNat_mul]; rfl) | (simp only [nI_addl, nI_mull, nI_lit, nI_1']; done) | (simp only [nI_1, nI_0, nI_addl, nI_mull, ← nI_succ]; rfl)) (by omega) ?_
        rw [s1]
        refine rw_const f_X9_close_60 ?_
        refine rw_icmpT f_X9_close_62 (decide_eq_true c21) ?_
        refine rw_aload f_X9_close_84 rfl ?_
        refine rw_const f_X9_close_85 ?_
        refine rw_aload f_X9_close_86 rfl ?_
        refine rm_getR f_X9_close_87 hW rfl ?_
        refine rw_aload f_X9_close_90 rfl ?_
        refine rm_getI f_X9_close_91 hW ?_
        rw [o1]
        refine rm_xald (j := st.length) f_X9_close_94 hW (by exact rfl) (by first | rfl | exact nI_addl _ _ | (simp only [nI, Int32.ofNat_add, Int32.ofNat_mul]; rfl) | (simp only [nI_addl, nI_mull, nI_lit, nI_1']; done) | (simp only [nI_1, nI_0, nI_addl, nI_mull, ← nI_succ]; rfl)) (by omega) ?_
        rw [s1]
        refine rw_callV f_X9_close_95 rfl hW.1 hW.2.1 rfl rfl rfl rfl (rn_kv (m_add hW n1 (by omega) ?_))
        refine rw_goto f_X9_close_98 ?_
        refine ih (c ++ [(3, s)]) _ ⟨?_, ?_, ?_, ?_, add 3 s⟩ (by rw [len]; omega) (by omega) (fun X cx cf => hk X cx (((((cf0.up (by omega)).up (by omega)).up (by omega))).tr cf))
        · rw [len]; exact up_same
        · rw [up_ne (by omega), up_ne (by omega), up_ne (by omega)]; exact o1
        · rw [up_ne (by omega), up_ne (by omega), up_ne (by omega)]; exact dp1
        · exact KS_fr (fun j _ => by rw [up_ne (by omega), up_ne (by omega), up_ne (by omega)]) ks1
    · rw [if_neg cr] at hk
      refine rw_aload f_X9_close_0 rfl ?_
      refine rm_getI f_X9_close_1 hW ?_
      rw [q2]
      refine rw_ifF f_X9_close_4 (decide_eq_false pos) ?_
      refine rw_aload f_X9_close_7 rfl ?_
      refine rm_getR f_X9_close_8 hW rfl ?_
      refine rw_aload f_X9_close_11 rfl ?_
      refine rm_getI f_X9_close_12 hW ?_
      rw [q2]
      refine rw_const f_X9_close_15 ?_
      refine rw_isub f_X9_close_16 ?_
      rw [nI_s1]
      refine rm_xald (j := st.length) f_X9_close_17 hW (by exact rfl) (by first | rfl | exact nI_addl _ _ | (simp only [nI, Int32.ofNat_add, Int32.ofNat_mul]; rfl) | (simp only [nI_addl, nI_mull, nI_lit, nI_1']; done) | (simp only [nI_1, nI_0, nI_addl, nI_mull, ← nI_succ]; rfl)) (by omega) ?_
      rw [q4]
      refine rw_const f_X9_close_18 ?_
      refine rw_icmpF f_X9_close_20 (decide_eq_false c20) ?_
      refine rw_aload f_X9_close_23 rfl ?_
      refine rm_getR f_X9_close_24 hW rfl ?_
      refine rw_aload f_X9_close_27 rfl ?_
      refine rm_getI f_X9_close_28 hW ?_
      rw [q2]
      refine rw_const f_X9_close_31 ?_
      refine rw_isub f_X9_close_32 ?_
      rw [nI_s1]
      refine rm_xald (j := st.length) f_X9_close_33 hW (by exact rfl) (by first | rfl | exact nI_addl _ _ | (simp only [nI, Int32.ofNat_add, Int32.ofNat_mul]; rfl) | (simp only [nI_addl, nI_mull, nI_lit, nI_1']; done) | (simp only [nI_1, nI_0, nI_addl, nI_mull, ← nI_succ]; rfl)) (by omega) ?_
      rw [q4]
      refine rw_callS f_X9_close_34 rfl rfl rfl (rn_ki (m_tight ?_))
      refine rw_iload f_X9_close_37 rfl ?_
      refine rw_icmpT f_X9_close_38 (decide_eq_true (lt.mpr (by omega))) ?_
      refine rw_vret f_X9_close_101 ?_
      exact hk W cp0 (fun _ _ _ => rfl)
theorem m_hasRelation (hW : MW h m) (cp : CP W st c) (hl : st.length < 160) (hk : k (bI (hasRel st)) (mh h m W)) : Rn (d + 1) n_X9_hasRelation 0 [am_r m, am_u] [] (mh h m W) (kI k) := by
  obtain ⟨-, q2, -, ks, -⟩ := cp
  have loop : ∀ st, KS W st → st.length < 160 → k (bI (hasRel st)) (mh h m W) → Rn (d + 1) n_X9_hasRelation 7 [am_r m, am_i (nI st.length - 1)] [] (mh h m W) (kI k) := by
    intro st
    induction st with
    | nil =>
      intro _ _ hk
      refine rw_iload f_X9_hasRelation_7 rfl ?_
      refine rw_ifT f_X9_hasRelation_8 (by decide) ?_
      refine rw_iload f_X9_hasRelation_41 rfl ?_
      refine rw_ifT f_X9_hasRelation_42 (by decide) ?_
      refine rw_const f_X9_hasRelation_73 ?_
      refine rw_zret f_X9_hasRelation_74 (by first | exact Or.inl rfl | exact Or.inr rfl | exact bI_01 _ | assumption) ?_
      exact hk
    | cons s st ih =>
      intro ks hl hk
      rw [List.length_cons] at hl
      obtain ⟨q4, q4'⟩ := ks
      have t6 := tgt_6 (s := s)
      rw [List.length_cons, nI_s1]
      have nn : ¬ nI st.length < 0 := Int32.not_lt.mpr (nI_nn (by omega))
      have le : nI (tgt s) ≤ 4 ↔ tgt s ≤ 4 := nI_leI (b := 4) (by omega) (by omega)
      have eq : nI (tgt s) = 4 ↔ tgt s = 4 := ⟨fun z => nI_inj (b := 4) (by omega) (by omega) z, fun z => by rw [z]; rfl⟩
      unfold hasRel at hk
      by_cases c20 : s = 20
      · rw [if_pos c20] at hk
        refine rw_iload f_X9_hasRelation_7 rfl ?_
        refine rw_ifF f_X9_hasRelation_8 (decide_eq_false nn) ?_
        refine rw_aload f_X9_hasRelation_11 rfl ?_
        refine rm_getR f_X9_hasRelation_12 hW rfl ?_
        refine rw_iload f_X9_hasRelation_15 rfl ?_
        refine rm_xald (j := st.length) f_X9_hasRelation_16 hW (by exact rfl) (by first | rfl | exact nI_addl _ _ | (simp only [nI, Int32.ofNat_add, Int32.ofNat_mul]; rfl) | (simp only [nI_addl, nI_mull, nI_lit, nI_1']; done) | (simp only [nI_1, nI_0, nI_addl, nI_mull, ← nI_succ]; rfl)) (by omega) ?_
        rw [q4]
        refine rw_const f_X9_hasRelation_17 ?_
        refine rw_icmpT f_X9_hasRelation_19 (decide_eq_true c20) ?_
        refine rw_iload f_X9_hasRelation_41 rfl ?_
        refine rw_ifF f_X9_hasRelation_42 (decide_eq_false nn) ?_
        refine rw_aload f_X9_hasRelation_45 rfl ?_
        refine rm_getR f_X9_hasRelation_46 hW rfl ?_
        refine rw_iload f_X9_hasRelation_49 rfl ?_
        refine rm_xald (j := st.length) f_X9_hasRelation_50 hW (by exact rfl) (by first | rfl | exact nI_addl _ _ | (simp only [nI, Int32.ofNat_add, Int32.ofNat_mul]; rfl) | (simp only [nI_addl, nI_mull, nI_lit, nI_1']; done) | (simp only [nI_1, nI_0, nI_addl, nI_mull, ← nI_succ]; rfl)) (by omega) ?_
        rw [q4]
        refine rw_const f_X9_hasRelation_51 ?_
        refine rw_icmpT f_X9_hasRelation_53 (decide_eq_true c20) ?_
        refine rw_const f_X9_hasRelation_73 ?_
        refine rw_zret f_X9_hasRelation_74 (by first | exact Or.inl rfl | exact Or.inr rfl | exact bI_01 _ | assumption) ?_
        exact hk
      rw [if_neg c20] at hk
      by_cases c4 : 4 < tgt s
      · rw [if_pos c4] at hk
        refine rw_iload f_X9_hasRelation_7 rfl ?_
        refine rw_ifF f_X9_hasRelation_8 (decide_eq_false nn) ?_
        refine rw_aload f_X9_hasRelation_11 rfl ?_
        refine rm_getR f_X9_hasRelation_12 hW rfl ?_
        refine rw_iload f_X9_hasRelation_15 rfl ?_
        refine rm_xald (j := st.length) f_X9_hasRelation_16 hW (by exact rfl) (by first | rfl | exact nI_addl _ _ | (simp only [nI, Int32.ofNat_add, Int32.ofNat_mul]; rfl) | (simp only [nI_addl, nI_mull, nI_lit, nI_1']; done) | (simp only [nI_1, nI_0, nI_addl, nI_mull, ← nI_succ]; rfl)) (by omega) ?_
        rw [q4]
        refine rw_const f_X9_hasRelation_17 ?_
        refine rw_icmpF f_X9_hasRelation_19 (decide_eq_false c20) ?_
        refine rw_aload f_X9_hasRelation_22 rfl ?_
        refine rm_getR f_X9_hasRelation_23 hW rfl ?_
        refine rw_iload f_X9_hasRelation_26 rfl ?_
        refine rm_xald (j := st.length) f_X9_hasRelation_27 hW (by exact rfl) (by first | rfl | exact nI_addl _ _ | (simp only [nI, Int32.ofNat_add, Int32.ofNat_mul]; rfl) | (simp only [nI_addl, nI_mull, nI_lit, nI_1']; done) | (simp only [nI_1, nI_0, nI_addl, nI_mull, ← nI_succ]; rfl)) (by omega) ?_
        rw [q4]
        refine rw_callS f_X9_hasRelation_28 rfl rfl rfl (rn_ki (m_tight ?_))
        refine rw_const f_X9_hasRelation_31 ?_
        refine rw_icmpF f_X9_hasRelation_32 (decide_eq_false (fun z => by have := le.mp z; omega)) ?_
        refine rw_iinc f_X9_hasRelation_35 rfl rfl ?_
        refine rw_goto f_X9_hasRelation_38 ?_
        rw [show nI st.length + (-1) = nI st.length - 1 from (Int32.sub_eq_add_neg _ _).symm]
        exact ih q4' (by omega) hk
      · rw [if_neg c4] at hk
        refine rw_iload f_X9_hasRelation_7 rfl ?_
        refine rw_ifF f_X9_hasRelation_8 (decide_eq_false nn) ?_
        refine rw_aload f_X9_hasRelation_11 rfl ?_
        refine rm_getR f_X9_hasRelation_12 hW rfl ?_
        refine rw_iload f_X9_hasRelation_15 rfl ?_
        refine rm_xald (j := st.length) f_X9_hasRelation_16 hW (by exact rfl) (by first | rfl | exact nI_addl _ _ | (simp only [nI, Int32.ofNat_add, Int32.ofNat_mul]; rfl) | (simp only [nI_addl, nI_mull, nI_lit, nI_1']; done) | (simp only [nI_1, nI_0, nI_addl, nI_mull, ← nI_succ]; rfl)) (by omega) ?_
        rw [q4]
        refine rw_const f_X9_hasRelation_17 ?_
        refine rw_icmpF f_X9_hasRelation_19 (decide_eq_false c20) ?_
        refine rw_aload f_X9_hasRelation_22 rfl ?_
        refine rm_getR f_X9_hasRelation_23 hW rfl ?_
        refine rw_iload f_X9_hasRelation_26 rfl ?_
        refine rm_xald (j := st.length) f_X9_hasRelation_27 hW (by exact rfl) (by first | rfl | exact nI_addl _ _ | (simp only [nI, Int32.ofNat_add, Int32.ofNat_mul]; rfl) | (simp only [nI_addl, nI_mull, nI_lit, nI_1']; done) | (simp only [nI_1, nI_0, nI_addl, nI_mull, ← nI_succ]; rfl)) (by omega) ?_
        rw [q4]
        refine rw_callS f_X9_hasRelation_28 rfl rfl rfl (rn_ki (m_tight ?_))
        refine rw_const f_X9_hasRelation_31 ?_
        refine rw_icmpT f_X9_hasRelation_32 (decide_eq_true (le.mpr (by omega))) ?_
        refine rw_iload f_X9_hasRelation_41 rfl ?_
        refine rw_ifF f_X9_hasRelation_42 (decide_eq_false nn) ?_
        refine rw_aload f_X9_hasRelation_45 rfl ?_
        refine rm_getR f_X9_hasRelation_46 hW rfl ?_
        refine rw_iload f_X9_hasRelation_49 rfl ?_
        refine rm_xald (j := st.length) f_X9_hasRelation_50 hW (by exact rfl) (by first | rfl | exact nI_addl _ _ | (simp only [nI, Int32.ofNat_add, Int32.ofNat_mul]; rfl) | (simp only [nI_addl, nI_mull, nI_lit, nI_1']; done) | (simp only [nI_1, nI_0, nI_addl, nI_mull, ← nI_succ]; rfl)) (by omega) ?_
        rw [q4]
        refine rw_const f_X9_hasRelation_51 ?_
        refine rw_icmpF f_X9_hasRelation_53 (decide_eq_false c20) ?_
        refine rw_aload f_X9_hasRelation_56 rfl ?_
        refine rm_getR f_X9_hasRelation_57 hW rfl ?_
        refine rw_iload f_X9_hasRelation_60 rfl ?_
        refine rm_xald (j := st.length) f_X9_hasRelation_61 hW (by exact rfl) (by first | rfl | exact nI_addl _ _ | (simp only [nI, Int32.ofNat_add, Int32.ofNat_mul]; rfl) | (simp only [nI_addl, nI_mull, nI_lit, nI_1']; done) | (simp only [nI_1, nI_0, nI_addl, nI_mull, ← nI_succ]; rfl)) (by omega) ?_
        rw [q4]
        refine rw_callS f_X9_hasRelation_62 rfl rfl rfl (rn_ki (m_tight ?_))
        refine rw_const f_X9_hasRelation_65 ?_
        refine rw_ne f_X9_hasRelation_66 (fun c1 => ?_) (fun c1 => ?_)
        · refine rw_const f_X9_hasRelation_73 ?_
          refine rw_zret f_X9_hasRelation_74 (by first | exact Or.inl rfl | exact Or.inr rfl | exact bI_01 _ | assumption) ?_
          rw [eq] at c1
          simpa [bI, c1] using hk
        · refine rw_const f_X9_hasRelation_69 ?_
          refine rw_goto f_X9_hasRelation_70 ?_
          refine rw_zret f_X9_hasRelation_74 (by first | exact Or.inl rfl | exact Or.inr rfl | exact bI_01 _ | assumption) ?_
          rw [eq] at c1
          simpa [bI, c1] using hk
  refine rw_aload f_X9_hasRelation_0 rfl ?_
  refine rm_getI f_X9_hasRelation_1 hW ?_
  rw [q2]
  refine rw_const f_X9_hasRelation_4 ?_
  refine rw_isub f_X9_hasRelation_5 ?_
  refine rw_istore f_X9_hasRelation_6 rfl rfl ?_
  exact loop st ks hl hk
theorem m_mayNot (hW : MW h m) (cp : CP W st c) (hl : st.length < 160) (hk : k (bI (mayN st)) (mh h m W)) : Rn (d + 1) n_X9_mayNot 0 [am_r m] [] (mh h m W) (kI k) := by
  obtain ⟨-, q2, -, ks, -⟩ := cp
  cases st with
  | nil =>
    refine rw_aload f_X9_mayNot_0 rfl ?_
    refine rm_getI f_X9_mayNot_1 hW ?_
    rw [q2]
    refine rw_ifT f_X9_mayNot_4 (by decide) ?_
    refine rw_const f_X9_mayNot_41 ?_
    refine rw_goto f_X9_mayNot_42 ?_
    refine rw_zret f_X9_mayNot_46 (by first | exact Or.inl rfl | exact Or.inr rfl | exact bI_01 _ | assumption) ?_
    exact hk
  | cons s st =>
    rw [List.length_cons] at hl q2
    obtain ⟨q4, q4'⟩ := ks
    have t6 := tgt_6 (s := s)
    have n0 : ¬ nI (st.length + 1) = 0 := fun z => by have := nI_inj (b := 0) (by omega) (by omega) z; omega
    have ge : 4 ≤ nI (tgt s) ↔ ¬ tgt s < 4 := (nI_leI (a := 4) (by omega) (by omega)).trans Nat.not_lt.symm
    unfold mayN at hk
    refine rw_aload f_X9_mayNot_0 rfl ?_
    refine rm_getI f_X9_mayNot_1 hW ?_
    rw [q2]
    refine rw_ifF f_X9_mayNot_4 (decide_eq_false n0) ?_
    refine rw_aload f_X9_mayNot_7 rfl ?_
    refine rm_getR f_X9_mayNot_8 hW rfl ?_
    refine rw_aload f_X9_mayNot_11 rfl ?_
    refine rm_getI f_X9_mayNot_12 hW ?_
    rw [q2]
    refine rw_const f_X9_mayNot_15 ?_
    refine rw_isub f_X9_mayNot_16 ?_
    rw [nI_s1]
    refine rm_xald (j := st.length) f_X9_mayNot_17 hW (by exact rfl) (by first | rfl | exact nI_addl _ _ | (simp only [nI, Int32.ofNat_add, Int32.ofNat_mul]; rfl) | (simp only [nI_addl, nI_mull, nI_lit, nI_1']; done) | (simp only [nI_1, nI_0, nI_addl, nI_mull, ← nI_succ]; rfl)) (by omega) ?_
    rw [q4]
    refine rw_const f_X9_mayNot_18 ?_
    refine rw_eq f_X9_mayNot_20 (fun c1 => ?_) (fun c1 => ?_)
    · refine rw_const f_X9_mayNot_41 ?_
      refine rw_goto f_X9_mayNot_42 ?_
      refine rw_zret f_X9_mayNot_46 (by first | exact Or.inl rfl | exact Or.inr rfl | exact bI_01 _ | assumption) ?_
      first | (rw [ge, Classical.not_not] at c2; simpa [bI, c1] using hk) | (rw [ge] at c2; simpa [bI, c1] using hk) | simpa [bI, c1] using hk
    · refine rw_aload f_X9_mayNot_23 rfl ?_
      refine rm_getR f_X9_mayNot_24 hW rfl ?_
      refine rw_aload f_X9_mayNot_27 rfl ?_
      refine rm_getI f_X9_mayNot_28 hW ?_
      rw [q2]
      refine rw_const f_X9_mayNot_31 ?_
      refine rw_isub f_X9_mayNot_32 ?_
      rw [nI_s1]
      refine rm_xald (j := st.length) f_X9_mayNot_33 hW (by exact rfl) (by first | rfl | exact nI_addl _ _ | (simp only [nI, Int32.ofNat_add, Int32.ofNat_mul]; rfl) | (simp only [nI_addl, nI_mull, nI_lit, nI_1']; done) | (simp only [nI_1, nI_0, nI_addl, nI_mull, ← nI_succ]; rfl)) (by omega) ?_
      rw [q4]
      refine rw_callS f_X9_mayNot_34 rfl rfl rfl (rn_ki (m_tight ?_))
      refine rw_const f_X9_mayNot_37 ?_
      refine rw_ge f_X9_mayNot_38 (fun c2 => ?_) (fun c2 => ?_)
      · refine rw_const f_X9_mayNot_45 ?_
        refine rw_zret f_X9_mayNot_46 (by first | exact Or.inl rfl | exact Or.inr rfl | exact bI_01 _ | assumption) ?_
        first | (rw [ge, Classical.not_not] at c2; simpa [bI, c1, c2] using hk) | (rw [ge] at c2; simpa [bI, c1, c2] using hk) | simpa [bI, c1, c2] using hk
      · refine rw_const f_X9_mayNot_41 ?_
        refine rw_goto f_X9_mayNot_42 ?_
        refine rw_zret f_X9_mayNot_46 (by first | exact Or.inl rfl | exact Or.inr rfl | exact bI_01 _ | assumption) ?_
        first | (rw [ge, Classical.not_not] at c2; simpa [bI, c1, c2] using hk) | (rw [ge] at c2; simpa [bI, c1, c2] using hk) | simpa [bI, c1, c2] using hk
def askN (T : tx) (N p : Nat) : Int32 := match pNamed T N p with
  | none => -1
  | some w => nI w
theorem m_asked (hW : MW h m) (ok : OK h m V T N p) (hk : k (askN T N p) (mh h m V)) : Rn d n_X9_asked 0 [am_r m] [] (mh h m V) (kI k) := by
  have e1 := srt_is (T := T) (N := N) (p := p) 1 (by decide)
  have key : ∀ v, v = askN T N p → k v (mh h m V) := fun v e => by rw [e]; exact hk
  unfold askN pNamed at key
  by_cases cd : tkD T N p = 1
  · have ew := ok.2.2.2.2.2.2.1 cd
    have eV : ∀ i, isV T N p i = decide (tkW T N p = wc i) := fun i => by unfold isV isW; rw [decide_eq_true cd, Bool.true_and]
    refine rw_aload f_X9_asked_0 rfl ?_
    refine rm_getI f_X9_asked_1 hW ?_
    rw [ok.s]
    refine rw_const f_X9_asked_4 ?_
    refine rw_icmpT f_X9_asked_5 (decide_eq_true (e1.mpr cd)) ?_
    refine rw_aload f_X9_asked_10 rfl ?_
    refine rm_getL f_X9_asked_11 hW ?_
    rw [ew]
    refine rw_const f_X9_asked_14 ?_
    refine rw_lcmp f_X9_asked_17 ?_
    first | refine rw_ne0B f_X9_asked_18 (fun c1 => ?_) (fun c1 => ?_) | refine rw_ne0 f_X9_asked_18 (fun c1 => ?_) (fun c1 => ?_)
    · refine rw_aload f_X9_asked_23 rfl ?_
      refine rm_getL f_X9_asked_24 hW ?_
      rw [ew]
      refine rw_const f_X9_asked_27 ?_
      refine rw_lcmp f_X9_asked_30 ?_
      first | refine rw_ne0B f_X9_asked_31 (fun c2 => ?_) (fun c2 => ?_) | refine rw_ne0 f_X9_asked_31 (fun c2 => ?_) (fun c2 => ?_)
      · refine rw_aload f_X9_asked_36 rfl ?_
        refine rm_getL f_X9_asked_37 hW ?_
        rw [ew]
        refine rw_const f_X9_asked_40 ?_
        refine rw_lcmp f_X9_asked_43 ?_
        first | refine rw_ne0B f_X9_asked_44 (fun c3 => ?_) (fun c3 => ?_) | refine rw_ne0 f_X9_asked_44 (fun c3 => ?_) (fun c3 => ?_)
        · refine rw_aload f_X9_asked_49 rfl ?_
          refine rm_getL f_X9_asked_50 hW ?_
          rw [ew]
          refine rw_const f_X9_asked_53 ?_
          refine rw_lcmp f_X9_asked_56 ?_
          first | refine rw_ne0B f_X9_asked_57 (fun c4 => ?_) (fun c4 => ?_) | refine rw_ne0 f_X9_asked_57 (fun c4 => ?_) (fun c4 => ?_)
          · refine rw_const f_X9_asked_64 ?_
            refine rw_iret f_X9_asked_65 ?_
            simp only [lgc] at *
            exact key _ (by simp [fst1, st_nd, eV, wc_19, wc_10, wc_18, wc_5, c1, c2, c3, c4] <;> rfl)
          · refine rw_const f_X9_asked_60 ?_
            refine rw_goto f_X9_asked_61 ?_
            refine rw_iret f_X9_asked_65 ?_
            simp only [lgc] at *
            exact key _ (by simp [fst1, st_nd, eV, wc_19, wc_10, wc_18, wc_5, c1, c2, c3, c4] <;> rfl)
        · refine rw_const f_X9_asked_47 ?_
          refine rw_iret f_X9_asked_48 ?_
          simp only [lgc] at *
          exact key _ (by simp [fst1, st_nd, eV, wc_19, wc_10, wc_18, wc_5, c1, c2, c3] <;> rfl)
      · refine rw_const f_X9_asked_34 ?_
        refine rw_iret f_X9_asked_35 ?_
        simp only [lgc] at *
        exact key _ (by simp [fst1, st_nd, eV, wc_19, wc_10, wc_18, wc_5, c1, c2] <;> rfl)
    · refine rw_const f_X9_asked_21 ?_
      refine rw_iret f_X9_asked_22 ?_
      simp only [lgc] at *
      exact key _ (by simp [fst1, st_nd, eV, wc_19, wc_10, wc_18, wc_5, c1] <;> rfl)
  · have eV : ∀ i, isV T N p i = false := fun i => by unfold isV isW; rw [decide_eq_false cd, Bool.false_and]
    refine rw_aload f_X9_asked_0 rfl ?_
    refine rm_getI f_X9_asked_1 hW ?_
    rw [ok.s]
    refine rw_const f_X9_asked_4 ?_
    refine rw_icmpF f_X9_asked_5 (decide_eq_false (fun z => cd (e1.mp z))) ?_
    refine rw_const f_X9_asked_8 ?_
    refine rw_iret f_X9_asked_9 ?_
    exact key _ (by simp [fst1, eV])
theorem m_isFull (hW : MW h m) (h1 : W 0 20 = nI u) (h2 : W 0 22 = nI u) (hu : u ≤ 30) (hk : k (bI (decide (u = 30))) (mh h m W)) : Rn d n_X9_isFull 0 [am_r m] [] (mh h m W) (kI k) := by
  have n60 : ¬ nI u = 60 := fun z => by have := nI_inj (b := 60) (by omega) (by omega) z; omega
  have e30 : nI u = 30 ↔ u = 30 := ⟨fun z => nI_inj (b := 30) (by omega) (by omega) z, fun z => by rw [z]; rfl⟩
  refine rw_aload f_X9_isFull_0 rfl ?_
  refine rm_getI f_X9_isFull_1 hW ?_
  rw [h1]
  refine rw_const f_X9_isFull_4 ?_
  refine rw_icmpF f_X9_isFull_6 (decide_eq_false n60) ?_
  refine rw_aload f_X9_isFull_9 rfl ?_
  refine rm_getI f_X9_isFull_10 hW ?_
  rw [h2]
  refine rw_const f_X9_isFull_13 ?_
  refine rw_ne f_X9_isFull_15 (fun c1 => ?_) (fun c1 => ?_)
  · refine rw_const f_X9_isFull_22 ?_
    refine rw_zret f_X9_isFull_23 (by first | exact Or.inl rfl | exact Or.inr rfl | exact bI_01 _ | assumption) ?_
    rw [e30] at c1
    simpa [bI, c1] using hk
  · refine rw_const f_X9_isFull_18 ?_
    refine rw_goto f_X9_isFull_19 ?_
    refine rw_zret f_X9_isFull_23 (by first | exact Or.inl rfl | exact Or.inr rfl | exact bI_01 _ | assumption) ?_
    rw [e30] at c1
    simpa [bI, c1] using hk
theorem m_countUnit (hW : MW h m) (h1 : W 0 20 = nI u) (h2 : W 0 22 = nI u) {k : am_H → Prop} (hk : k (mh h m (am_up (am_up W 0 20 (nI (u + 1))) 0 22 (nI (u + 1))))) : Rn d n_X9_countUnit 0 [am_r m] [] (mh h m W) (kV k) := by
  have a1 : am_up W 0 20 (nI (u + 1)) 0 22 = nI u := by rw [up_ne (by omega)]; exact h2
  refine rw_aload f_X9_countUnit_0 rfl ?_
  first | refine rw_dupr f_X9_countUnit_1 ?_ | refine rw_dupi f_X9_countUnit_1 ?_
  refine rm_getI f_X9_countUnit_2 hW ?_
  rw [h1]
  refine rw_const f_X9_countUnit_5 ?_
  refine rw_iadd f_X9_countUnit_6 ?_
  rw [nI_1']
  refine rm_putI f_X9_countUnit_7 hW ?_
  refine rw_aload f_X9_countUnit_10 rfl ?_
  first | refine rw_dupr f_X9_countUnit_11 ?_ | refine rw_dupi f_X9_countUnit_11 ?_
  refine rm_getI f_X9_countUnit_12 hW ?_
  rw [a1]
  refine rw_const f_X9_countUnit_15 ?_
  refine rw_iadd f_X9_countUnit_16 ?_
  rw [nI_1']
  refine rm_putI f_X9_countUnit_17 hW ?_
  refine rw_vret f_X9_countUnit_20 ?_
  exact hk
/-- one more is open -/
def opV (W : am_M) (n dp : Nat) (s : Int32) : am_M := am_up (am_up (am_up W 7 n s) 0 19 (nI (n + 1))) 0 23 (nI (dp + 1))
theorem m_openUp (hW : MW h m) (ok : OK h m W T N p) (nb : ¬ tkD T N p = 4) {n dp : Nat} (h1 : W 0 19 = nI n) (h2 : W 0 23 = nI dp) (hn : n < 160) {s : Int32} {k : am_H → Prop} (hk : ∀ h' X, Lw m h h' → Tk (opV W n dp s) X → OK h' m X T N (tkX T N p) → k (mh h' m X)) : Rn (d + 2) n_X9_openUp 0 [am_r m, am_i s] [] (mh h m W) (kV k) := by
  have a1 : am_up W 7 n s 0 19 = nI n := by rw [up_ne (by omega)]; exact h1
  have a2 : am_up (am_up W 7 n s) 0 19 (nI (n + 1)) 0 23 = nI dp := by rw [up_ne (by omega), up_ne (by omega)]; exact h2
  have ok2 : OK h m (opV W n dp s) T N p := ((ok.up (by unfold fks tks; omega)).up (by unfold fks tks; omega)).up (by unfold fks tks; omega)
  refine rw_aload f_X9_openUp_0 rfl ?_
  refine rm_getR f_X9_openUp_1 hW rfl ?_
  refine rw_aload f_X9_openUp_4 rfl ?_
  refine rm_getI f_X9_openUp_5 hW ?_
  rw [h1]
  refine rw_iload f_X9_openUp_8 rfl ?_
  refine rm_iast f_X9_openUp_9 hW (by exact rfl) rfl (by omega) ?_
  refine rw_aload f_X9_openUp_10 rfl ?_
  first | refine rw_dupr f_X9_openUp_11 ?_ | refine rw_dupi f_X9_openUp_11 ?_
  refine rm_getI f_X9_openUp_12 hW ?_
  rw [a1]
  refine rw_const f_X9_openUp_15 ?_
  refine rw_iadd f_X9_openUp_16 ?_
  rw [nI_1']
  refine rm_putI f_X9_openUp_17 hW ?_
  refine rw_aload f_X9_openUp_20 rfl ?_
  first | refine rw_dupr f_X9_openUp_21 ?_ | refine rw_dupi f_X9_openUp_21 ?_
  refine rm_getI f_X9_openUp_22 hW ?_
  rw [a2]
  refine rw_const f_X9_openUp_25 ?_
  refine rw_iadd f_X9_openUp_26 ?_
  rw [nI_1']
  refine rm_putI f_X9_openUp_27 hW ?_
  rw [show am_up (am_up (am_up W 7 n s) 0 19 (nI (n + 1))) 0 23 (nI (dp + 1)) = opV W n dp s from rfl]
  refine rw_aload f_X9_openUp_30 rfl ?_
  refine rm_getI f_X9_openUp_31 hW ?_
  rw [ok2.f]
  refine rw_ifF f_X9_openUp_34 (by decide) ?_
  refine rw_aload f_X9_openUp_37 rfl ?_
  refine rw_callV f_X9_openUp_38 rfl hW.1 hW.2.1 rfl rfl rfl rfl (rn_kv (m_next hW ok2 nb (fun h' X lw tk ok' => ?_)))
  refine rw_vret f_X9_openUp_41 ?_
  exact hk h' X lw tk ok'
theorem m_openUpE (hW : MW h m) {e : er} (er : ER W e) {n dp : Nat} (h1 : W 0 19 = nI n) (h2 : W 0 23 = nI dp) (hn : n < 160) {s : Int32} {k : am_H → Prop} (hk : ER (opV W n dp s) e → k (mh h m (opV W n dp s))) : Rn d n_X9_openUp 0 [am_r m, am_i s] [] (mh h m W) (kV k) := by
  have a1 : am_up W 7 n s 0 19 = nI n := by rw [up_ne (by omega)]; exact h1
  have a2 : am_up (am_up W 7 n s) 0 19 (nI (n + 1)) 0 23 = nI dp := by rw [up_ne (by omega), up_ne (by omega)]; exact h2
  have er2 : ER (opV W n dp s) e := ((er.up (by omega)).up (by omega)).up (by omega)
  refine rw_aload f_X9_openUp_0 rfl ?_
  refine rm_getR f_X9_openUp_1 hW rfl ?_
  refine rw_aload f_X9_openUp_4 rfl ?_
  refine rm_getI f_X9_openUp_5 hW ?_
  rw [h1]
  refine rw_iload f_X9_openUp_8 rfl ?_
  refine rm_iast f_X9_openUp_9 hW (by exact rfl) rfl (by omega) ?_
  refine rw_aload f_X9_openUp_10 rfl ?_
  first | refine rw_dupr f_X9_openUp_11 ?_ | refine rw_dupi f_X9_openUp_11 ?_
  refine rm_getI f_X9_openUp_12 hW ?_
  rw [a1]
  refine rw_const f_X9_openUp_15 ?_
  refine rw_iadd f_X9_openUp_16 ?_
  rw [nI_1']
  refine rm_putI f_X9_openUp_17 hW ?_
  refine rw_aload f_X9_openUp_20 rfl ?_
  first | refine rw_dupr f_X9_openUp_21 ?_ | refine rw_dupi f_X9_openUp_21 ?_
  refine rm_getI f_X9_openUp_22 hW ?_
  rw [a2]
  refine rw_const f_X9_openUp_25 ?_
  refine rw_iadd f_X9_openUp_26 ?_
  rw [nI_1']
  refine rm_putI f_X9_openUp_27 hW ?_
  rw [show am_up (am_up (am_up W 7 n s) 0 19 (nI (n + 1))) 0 23 (nI (dp + 1)) = opV W n dp s from rfl]
  refine rw_aload f_X9_openUp_30 rfl ?_
  refine rm_getI f_X9_openUp_31 hW ?_
  refine rw_ifT f_X9_openUp_34 (decide_eq_true er2.ne) ?_
  refine rw_vret f_X9_openUp_41 ?_
  exact hk er2
theorem m_hasBracket (hW : MW h m) (cp : CP W st c) (hl : st.length < 160) (hk : k (bI (hasBr st)) (mh h m W)) : Rn d n_X9_hasBracket 0 [am_r m, am_u, am_u] [] (mh h m W) (kI k) := by
  obtain ⟨-, q2, -, ks, -⟩ := cp
  -- the signs at the bottom come first
  have loop : ∀ st, KS W st → ∀ n, st.length + n < 160 → W 0 19 = nI (st.length + n) → Rn d n_X9_hasBracket 4 [am_r m, am_i (bI (hasBr st)), am_i (nI st.length)] [] (mh h m W) (kI k) → Rn d n_X9_hasBracket 4 [am_r m, am_i (bI false), am_i (nI 0)] [] (mh h m W) (kI k) := by
    intro st
    induction st with
    | nil => intro _ _ _ _ hx; exact hx
    | cons s st ih =>
      intro ks n hn ho hx
      rw [List.length_cons] at hn ho hx
      refine ih ks.2 (n + 1) (by omega) (by rw [ho]; congr 1; omega) ?_
      have q4 := ks.1
      have hx' : ∀ v, v = bI (hasBr (s :: st)) → Rn d n_X9_hasBracket 4 [am_r m, am_i v, am_i (nI (st.length + 1))] [] (mh h m W) (kI k) := fun v e => by rw [e]; exact hx
      have ge : ¬ nI (st.length + 1 + n) ≤ nI st.length := nI_ge (by omega) (by omega)
      unfold hasBr at hx'
      cases cb : hasBr st with
      | true =>
        rw [cb] at hx'
        refine rw_iload f_X9_hasBracket_4 rfl ?_
        refine rw_aload f_X9_hasBracket_5 rfl ?_
        refine rm_getI f_X9_hasBracket_6 hW ?_
        rw [ho]
        refine rw_icmpF f_X9_hasBracket_9 (decide_eq_false ge) ?_
        refine rw_iload f_X9_hasBracket_12 rfl ?_
        refine rw_ifT f_X9_hasBracket_13 (by decide) ?_
        refine rw_const f_X9_hasBracket_27 ?_
        refine rw_goto f_X9_hasBracket_28 ?_
        refine rw_istore f_X9_hasBracket_32 rfl rfl ?_
        refine rw_iinc f_X9_hasBracket_33 rfl rfl ?_
        refine rw_goto f_X9_hasBracket_36 ?_
        rw [nI_1']
        exact hx' _ (by simp [bI])
      | false =>
        rw [cb] at hx'
        refine rw_iload f_X9_hasBracket_4 rfl ?_
        refine rw_aload f_X9_hasBracket_5 rfl ?_
        refine rm_getI f_X9_hasBracket_6 hW ?_
        rw [ho]
        refine rw_icmpF f_X9_hasBracket_9 (decide_eq_false ge) ?_
        refine rw_iload f_X9_hasBracket_12 rfl ?_
        refine rw_ifF f_X9_hasBracket_13 (by decide) ?_
        refine rw_aload f_X9_hasBracket_16 rfl ?_
        refine rm_getR f_X9_hasBracket_17 hW rfl ?_
        refine rw_iload f_X9_hasBracket_20 rfl ?_
        refine rm_xald (j := st.length) f_X9_hasBracket_21 hW (by exact rfl) (by first | rfl | exact nI_addl _ _ | (simp only [nI, Int32.ofNat_add, Int32.ofNat_mul]; rfl) | (simp only [nI_addl, nI_mull, nI_lit, nI_1']; done) | (simp only [nI_1, nI_0, nI_addl, nI_mull, ← nI_succ]; rfl)) (by omega) ?_
        rw [q4]
        refine rw_const f_X9_hasBracket_22 ?_
        refine rw_ne f_X9_hasBracket_24 (fun c1 => ?_) (fun c1 => ?_)
        · refine rw_const f_X9_hasBracket_31 ?_
          refine rw_istore f_X9_hasBracket_32 rfl rfl ?_
          refine rw_iinc f_X9_hasBracket_33 rfl rfl ?_
          refine rw_goto f_X9_hasBracket_36 ?_
          rw [nI_1']
          exact hx' _ (by simp [bI, c1])
        · refine rw_const f_X9_hasBracket_27 ?_
          refine rw_goto f_X9_hasBracket_28 ?_
          refine rw_istore f_X9_hasBracket_32 rfl rfl ?_
          refine rw_iinc f_X9_hasBracket_33 rfl rfl ?_
          refine rw_goto f_X9_hasBracket_36 ?_
          rw [nI_1']
          exact hx' _ (by simp [bI, c1])
  refine rw_const f_X9_hasBracket_0 ?_
  refine rw_istore f_X9_hasBracket_1 rfl rfl ?_
  refine rw_const f_X9_hasBracket_2 ?_
  refine rw_istore f_X9_hasBracket_3 rfl rfl ?_
  refine loop st ks 0 (by omega) q2 ?_
  refine rw_iload f_X9_hasBracket_4 rfl ?_
  refine rw_aload f_X9_hasBracket_5 rfl ?_
  refine rm_getI f_X9_hasBracket_6 hW ?_
  rw [q2]
  refine rw_icmpT f_X9_hasBracket_9 (decide_eq_true (Int32.le_refl _)) ?_
  refine rw_iload f_X9_hasBracket_39 rfl ?_
  refine rw_zret f_X9_hasBracket_40 (by first | exact Or.inl rfl | exact Or.inr rfl | exact bI_01 _ | assumption) ?_
  exact hk
theorem m_sign (hW : MW h m) (ok : OK h m V T N p) (hk : k (sgn T N p) (mh h m V)) : Rn (d + 1) n_X9_sign 0 [am_r m] [] (mh h m V) (kI k) := by
  unfold sgn isV at hk
  rw [wc_1, wc_17] at hk
  cases ca : isW T N p 6385252 with
  | true =>
    rw [ca, if_pos rfl] at hk
    refine rw_aload f_X9_sign_0 rfl ?_
    refine rw_const f_X9_sign_1 ?_
    refine rw_callV f_X9_sign_4 rfl hW.1 hW.2.1 rfl rfl rfl rfl (rn_ki (m_isWord hW ok ?_))
    rw [ca]
    refine rw_ifF f_X9_sign_7 (by decide) ?_
    refine rw_const f_X9_sign_10 ?_
    refine rw_iret f_X9_sign_12 ?_
    exact hk
  | false =>
  rw [ca, if_neg (by decide)] at hk
  cases co : isW T N p 28530 with
  | true =>
    rw [co, if_pos rfl] at hk
    refine rw_aload f_X9_sign_0 rfl ?_
    refine rw_const f_X9_sign_1 ?_
    refine rw_callV f_X9_sign_4 rfl hW.1 hW.2.1 rfl rfl rfl rfl (rn_ki (m_isWord hW ok ?_))
    rw [ca]
    refine rw_ifT f_X9_sign_7 (by decide) ?_
    refine rw_aload f_X9_sign_13 rfl ?_
    refine rw_const f_X9_sign_14 ?_
    refine rw_callV f_X9_sign_17 rfl hW.1 hW.2.1 rfl rfl rfl rfl (rn_ki (m_isWord hW ok ?_))
    rw [co]
    refine rw_ifF f_X9_sign_20 (by decide) ?_
    refine rw_const f_X9_sign_23 ?_
    refine rw_iret f_X9_sign_25 ?_
    exact hk
  | false =>
  rw [co, if_neg (by decide)] at hk
  have sg : ∀ c : Int32, (¬ c = 0 ∧ ¬ c = 1 ∧ ¬ c = 2 ∧ ¬ c = 3) → (srt T N p = c ↔ isSH T N p c = true) := fun c hc => srt_sg hc
  have yes : (∃ c : Int32, (¬ c = 0 ∧ ¬ c = 1 ∧ ¬ c = 2 ∧ ¬ c = 3) ∧ isSH T N p c = true) → srt T N p = T p := fun ⟨c, hc, e⟩ => srt_3 (isSH_3 e).1
  have hd : (isSH T N p 60 = true ∨ isSH T N p 62 = true ∨ isSH T N p 61 = true ∨ isSH T N p 43 = true ∨ isSH T N p 45 = true ∨ isSH T N p 42 = true ∨ isSH T N p 47 = true ∨ isSH T N p 37 = true) ↔ (srt T N p = 60 ∨ srt T N p = 62 ∨ srt T N p = 61 ∨ srt T N p = 43 ∨ srt T N p = 45 ∨ srt T N p = 42 ∨ srt T N p = 47 ∨ srt T N p = 37) := by
    rw [sg 60 (by decide), sg 62 (by decide), sg 61 (by decide), sg 43 (by decide), sg 45 (by decide), sg 42 (by decide), sg 47 (by decide), sg 37 (by decide)]
  have yes2 : ∀ c : Int32, (¬ c = 0 ∧ ¬ c = 1 ∧ ¬ c = 2 ∧ ¬ c = 3) → srt T N p = c → srt T N p = T p := fun c hc e => yes ⟨c, hc, (sg c hc).mp e⟩
  have at98 : (srt T N p = 60 ∨ srt T N p = 62 ∨ srt T N p = 61 ∨ srt T N p = 43 ∨ srt T N p = 45 ∨ srt T N p = 42 ∨ srt T N p = 47 ∨ srt T N p = 37) → Rn (d + 1) n_X9_sign 98 [am_r m] [] (mh h m V) (kI k) := by
    intro e
    rw [if_pos (hd.mpr e)] at hk
    have et : srt T N p = T p := by
      rcases e with e | e | e | e | e | e | e | e
      · exact yes2 _ (by decide) e
      · exact yes2 _ (by decide) e
      · exact yes2 _ (by decide) e
      · exact yes2 _ (by decide) e
      · exact yes2 _ (by decide) e
      · exact yes2 _ (by decide) e
      · exact yes2 _ (by decide) e
      · exact yes2 _ (by decide) e
    refine rw_aload f_X9_sign_98 rfl ?_
    refine rm_getI f_X9_sign_99 hW ?_
    rw [ok.s, et]
    refine rw_goto f_X9_sign_102 ?_
    refine rw_iret f_X9_sign_106 ?_
    exact hk
  refine rw_aload f_X9_sign_0 rfl ?_
  refine rw_const f_X9_sign_1 ?_
  refine rw_callV f_X9_sign_4 rfl hW.1 hW.2.1 rfl rfl rfl rfl (rn_ki (m_isWord hW ok ?_))
  rw [ca]
  refine rw_ifT f_X9_sign_7 (by decide) ?_
  refine rw_aload f_X9_sign_13 rfl ?_
  refine rw_const f_X9_sign_14 ?_
  refine rw_callV f_X9_sign_17 rfl hW.1 hW.2.1 rfl rfl rfl rfl (rn_ki (m_isWord hW ok ?_))
  rw [co]
  refine rw_ifT f_X9_sign_20 (by decide) ?_
  refine rw_aload f_X9_sign_26 rfl ?_
  refine rm_getI f_X9_sign_27 hW ?_
  rw [ok.s]
  refine rw_const f_X9_sign_30 ?_
  refine rw_eq f_X9_sign_32 (fun c1 => ?_) (fun c1 => ?_)
  · exact at98 (by simp [c1])
  · refine rw_aload f_X9_sign_35 rfl ?_
    refine rm_getI f_X9_sign_36 hW ?_
    rw [ok.s]
    refine rw_const f_X9_sign_39 ?_
    refine rw_eq f_X9_sign_41 (fun c2 => ?_) (fun c2 => ?_)
    · exact at98 (by simp [c1, c2])
    · refine rw_aload f_X9_sign_44 rfl ?_
      refine rm_getI f_X9_sign_45 hW ?_
      rw [ok.s]
      refine rw_const f_X9_sign_48 ?_
      refine rw_eq f_X9_sign_50 (fun c3 => ?_) (fun c3 => ?_)
      · exact at98 (by simp [c1, c2, c3])
      · refine rw_aload f_X9_sign_53 rfl ?_
        refine rm_getI f_X9_sign_54 hW ?_
        rw [ok.s]
        refine rw_const f_X9_sign_57 ?_
        refine rw_eq f_X9_sign_59 (fun c4 => ?_) (fun c4 => ?_)
        · exact at98 (by simp [c1, c2, c3, c4])
        · refine rw_aload f_X9_sign_62 rfl ?_
          refine rm_getI f_X9_sign_63 hW ?_
          rw [ok.s]
          refine rw_const f_X9_sign_66 ?_
          refine rw_eq f_X9_sign_68 (fun c5 => ?_) (fun c5 => ?_)
          · exact at98 (by simp [c1, c2, c3, c4, c5])
          · refine rw_aload f_X9_sign_71 rfl ?_
            refine rm_getI f_X9_sign_72 hW ?_
            rw [ok.s]
            refine rw_const f_X9_sign_75 ?_
            refine rw_eq f_X9_sign_77 (fun c6 => ?_) (fun c6 => ?_)
            · exact at98 (by simp [c1, c2, c3, c4, c5, c6])
            · refine rw_aload f_X9_sign_80 rfl ?_
              refine rm_getI f_X9_sign_81 hW ?_
              rw [ok.s]
              refine rw_const f_X9_sign_84 ?_
              refine rw_eq f_X9_sign_86 (fun c7 => ?_) (fun c7 => ?_)
              · exact at98 (by simp [c1, c2, c3, c4, c5, c6, c7])
              · refine rw_aload f_X9_sign_89 rfl ?_
                refine rm_getI f_X9_sign_90 hW ?_
                rw [ok.s]
                refine rw_const f_X9_sign_93 ?_
                refine rw_ne f_X9_sign_95 (fun c8 => ?_) (fun c8 => ?_)
                · refine rw_const f_X9_sign_105 ?_
                  refine rw_iret f_X9_sign_106 ?_
                  rw [if_neg (fun z => absurd (hd.mp z) (by simp [c1, c2, c3, c4, c5, c6, c7, c8]))] at hk
                  exact hk
                · exact at98 (by simp [c1, c2, c3, c4, c5, c6, c7, c8])
end MWear
