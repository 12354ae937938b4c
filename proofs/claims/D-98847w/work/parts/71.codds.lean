/-! THE CLASS: odds -/
/-- ints and longs of cells in S are written -/
def OnL (S : Nat → Prop) (h h' : am_H) : Prop := h'.2.2 = h.2.2 ∧ ∀ b, ¬ S b → hp_I h' b = hp_I h b ∧ hp_L h' b = hp_L h b
section OnLs
variable {S : Nat → Prop} {h h1 h2 : am_H}
theorem OnL_refl : OnL S h h := ⟨rfl, fun _ _ => ⟨rfl, rfl⟩⟩
theorem OnL.K (q : OnL S h h1) : hp_K h1 = hp_K h := by show h1.2.2.2.1 = h.2.2.2.1; rw [q.1]
theorem OnL.R (q : OnL S h h1) : hp_R h1 = hp_R h := by show h1.2.2.1 = h.2.2.1; rw [q.1]
theorem OnL.n (q : OnL S h h1) : hp_n h1 = hp_n h := by show h1.2.2.2.2.1 = h.2.2.2.2.1; rw [q.1]
theorem OnL.u (q : OnL S h h1) : hp_u h1 = hp_u h := by show h1.2.2.2.2.2 = h.2.2.2.2.2; rw [q.1]
theorem OnL.tr (p : OnL S h h1) (q : OnL S h1 h2) : OnL S h h2 := ⟨q.1.trans p.1, fun b hb => ⟨(q.2 b hb).1.trans (p.2 b hb).1, (q.2 b hb).2.trans (p.2 b hb).2⟩⟩
theorem On.l (p : On S h h1) : OnL S h h1 := ⟨by rw [p.1], fun b hb => ⟨p.2 b hb, by rw [p.L]⟩⟩
theorem OnL.w {S1 : Nat → Prop} (p : OnL S1 h h1) (hs : ∀ b, S1 b → S b) : OnL S h h1 := ⟨p.1, fun b hb => p.2 b (fun w => hb (hs b w))⟩
theorem OnL_sL {a k : Nat} {v : Int64} (ha : S a) : OnL S h (hp_sL h a k v) := ⟨rfl, fun b hb => ⟨rfl, funext fun j => if_neg (show ¬ (b = a ∧ j = k) from fun e => hb (e.1 ▸ ha))⟩⟩
theorem OnL.fr (q : OnL S h h1) : Fr S no 0 0 h h1 := by
  refine ⟨⟨by rw [q.n]; exact Nat.le_refl _, by rw [q.n]; exact Nat.le_refl _⟩, by rw [q.u]; exact Nat.le_refl _, fun _ _ => by rw [q.K], fun al => ?_, fun b _ hb => q.2 b hb, fun _ _ _ => by rw [q.R]⟩
  unfold Al
  rw [q.n, q.K]; exact al
theorem sL_at {a k j : Nat} {w : Int64} : hp_L (hp_sL h a k w) a j = if j = k then w else hp_L h a j := by
  show (if a = a ∧ j = k then w else _) = _
  by_cases e : j = k
  · rw [if_pos ⟨rfl, e⟩, if_pos e]
  · rw [if_neg (fun q => e q.2), if_neg e]
theorem sL_ne {a b k j : Nat} {w : Int64} (hb : ¬ b = a) : hp_L (hp_sL h a k w) b j = hp_L h b j := if_neg (fun q => hb q.1)
end OnLs
def ok_odds (V : am_M) (b n part : Int32) : Bool := onB V b && isIn n 0 6 && isIn part 0 1
def oddN (V : am_M) (b : Int32) (n : Nat) : Nat := valN V b.toNatClampNeg (V 0 61).toNatClampNeg (100 - (V 0 61).toNatClampNeg) n 0 (V 34 (10 + b.toNatClampNeg)).toNatClampNeg
def sp_odds (V : am_M) (b n part : Int32) : Int64 := if ok_odds V b n part = false then -1 else if part = 0 then gN (oddN V b n.toNatClampNeg / Nat.gcd (100 ^ n.toNatClampNeg) (oddN V b n.toNatClampNeg)) else gN (100 ^ n.toNatClampNeg / Nat.gcd (100 ^ n.toNatClampNeg) (oddN V b n.toNatClampNeg))
section COdds
variable {d : Nat} {h : am_H} {V : am_M} {x r nM nD nB nA nU nT nL : Nat} {k : Int64 → am_H → Prop}
abbrev dS (h : am_H) (x r : Nat) : Nat → Prop := fun b => b = hp_R h r 13 ∨ b = x + 22 ∨ b = x + 23
theorem CR_dS {h' : am_H} (hC : CR h V x r nM nD nB nA nU nT nL) (on : OnL (dS h x r) h h') : CR h' V x r nM nD nB nA nU nT nL ∧ CFr x 0 0 h h' := by
  have kt := hC.2.2.1.2.2.2.2.2.1.1
  have ad := hC.2.2.1.2.2.2.2.1.1.2.2
  have k22 : hp_K h (x + 22) = (4, 100) := hC.1.k rfl
  have k23 : hp_K h (x + 23) = (4, 100) := hC.1.k rfl
  refine ⟨CR_fr hC on.fr (fun b w => ?_), Fr_w on.fr (fun b _ w => ?_) (fun _ _ w => absurd w id) (Nat.le_refl _) (Nat.le_refl _)⟩
  · unfold Scr
    rcases w with w | w | w
    · rw [w, kt]; simp
    · rw [w, k22]; simp
    · rw [w, k23]; simp
  · rcases w with w | w | w
    · show b < x + 33 ∨ x + 84 < b
      rw [w]; omega
    · left; omega
    · left; omega
/-- the inner loop: what the ways of a day make of those of the next -/
theorem C_oddsIn (hC0 : CR h V x r nM nD nB nA nU nT nL) {j n i s : Nat} (hj : j < nB) (hs : V 0 61 = nI s) (hs1 : s ≤ 100) {part : Int32} {all : Int64} {W v : Nat → Int64} {K : am_R → am_H → Prop} {h0 : am_H} (on0 : OnL (dS h x r) h h0) (hW0 : ∀ c, hp_L h0 (x + 22) c = W c) (hT0 : ∀ c, c < 100 → hp_L h0 (x + 23) c = 0) {j8 : am_V}
    (hk : ∀ h', OnL (dS h x r) h h' → (∀ c, hp_L h' (x + 22) c = W c) → sumL (fun c => hp_L h' (x + 23) c * v c) 100 = sumL (fun c => if c = 0 then 0 else W c * (gN s * v (dN V j 1 (V 34 20 + nI i) c) + gN (100 - s) * v (dN V j 0 (V 34 20 + nI i) c))) 100 → Rn (d + 331) n_X0_odds 236 [am_r x, am_i (nI j), am_i (nI n), am_i part, am_l all, am_u, am_i (nI i), am_i (nI 100), j8] [] h' K) : Rn (d + 331) n_X0_odds 109 [am_r x, am_i (nI j), am_i (nI n), am_i part, am_l all, am_u, am_i (nI i), am_i (nI 1), j8] [] h0 K := by
  let g : Nat → Int64 := fun c => if c = 0 then 0 else W c * (gN s * v (dN V j 1 (V 34 20 + nI i) c) + gN (100 - s) * v (dN V j 0 (V 34 20 + nI i) c))
  have key : ∀ q c, c + q = 100 → 0 < c → ∀ hh, OnL (dS h x r) h hh → (∀ c, hp_L hh (x + 22) c = W c) → sumL (fun c => hp_L hh (x + 23) c * v c) 100 = sumL g c → Rn (d + 331) n_X0_odds 109 [am_r x, am_i (nI j), am_i (nI n), am_i part, am_l all, am_u, am_i (nI i), am_i (nI c), j8] [] hh K := by
    intro q
    induction q with
    | zero =>
      intro c hc _ hh on hw hsum
      obtain rfl : c = 100 := by omega
      refine rw_iload f_X0_odds_109 rfl ?_
      refine rw_const f_X0_odds_111 ?_
      refine rw_icmpT f_X0_odds_113 (by decide) ?_
      exact hk hh on hw hsum
    | succ q ih =>
      intro c hc hc0 hh on hw hsum
      have C1 := (CR_dS hC0 on).1
      have hW := C1.1
      have hr := C1.2.1
      have rK := C1.2.2.1.1.1
      have r0 := C1.2.2.1.1.2
      have e20 : hp_I hh (x + 7) 2 = V 34 20 := C1.2.2.2.1.2.1
      have e8 : hp_I hh r 8 = nI s := by rw [C1.2.2.1.2.2.2.2.2.2.2.2.2]; exact hs
      have rt : hp_R hh r 13 = hp_R h r 13 := by rw [on.R]
      have k9 : ¬ ((9 : Int32) < 0) := by decide
      have le99 : ¬ (99 : Int32) < nI c := by rw [show (99 : Int32) = nI 99 from rfl]; exact Int32.not_lt.mpr (nI_le (by omega) (by omega))
      by_cases w0 : W c = 0
      · refine rw_iload f_X0_odds_109 rfl ?_
        refine rw_const f_X0_odds_111 ?_
        refine rw_icmpF f_X0_odds_113 (decide_eq_false le99) ?_
        refine rw_aload f_X0_odds_116 rfl ?_
        refine rw_getR f_X0_odds_117 (by first | assumption | exact hW.k rfl | exact hW.k0) (by first | assumption | exact hW.r0 rfl | exact hW.r rfl | rfl) ?_
        refine rw_iload f_X0_odds_120 rfl ?_
        refine rw_laldE (j := c) f_X0_odds_122 (by first | assumption | exact hW.k rfl | exact hW.k0) (by first | rfl | exact nI_addl _ _ | (simp only [nI, Int32.ofNat_add, Int32.ofNat_mul]; rfl) | (simp only [nI_addl, nI_mull, nI_lit, nI_1']; done) | (simp only [nI_1, nI_0, nI_addl, nI_mull, ← nI_succ]; rfl)) (by omega) (by omega) ?_
        rw [hw c, w0]
        refine rw_const f_X0_odds_123 ?_
        refine rw_lcmp f_X0_odds_124 ?_
        refine rw_ifF f_X0_odds_125 (by decide) ?_
        refine rw_goto f_X0_odds_128 ?_
        refine rw_iinc f_X0_odds_230 rfl rfl ?_
        refine rw_goto f_X0_odds_233 ?_
        rw [nI_1']
        exact ih (c + 1) (by omega) (by omega) hh on hw (by rw [hsum]; show sumL g c = sumL g c + g c; rw [show g c = 0 by show (if c = 0 then 0 else W c * _) = 0; rw [if_neg (by omega), w0, Int64.zero_mul], Int64.add_zero])
      · have cz : ¬ lg_cmp (W c) 0 = 0 := fun q => w0 ((lg_cmp_0 _ _).mp q)
        obtain ⟨d1e, d1l⟩ := dN_eq (V := V) (b := j) (st := 1) (dy := V 34 20 + nI i) (k := c) (by omega)
        obtain ⟨d0e, d0l⟩ := dN_eq (V := V) (b := j) (st := 0) (dy := V 34 20 + nI i) (k := c) (by omega)
        refine rw_iload f_X0_odds_109 rfl ?_
        refine rw_const f_X0_odds_111 ?_
        refine rw_icmpF f_X0_odds_113 (decide_eq_false le99) ?_
        refine rw_aload f_X0_odds_116 rfl ?_
        refine rw_getR f_X0_odds_117 (by first | assumption | exact hW.k rfl | exact hW.k0) (by first | assumption | exact hW.r0 rfl | exact hW.r rfl | rfl) ?_
        refine rw_iload f_X0_odds_120 rfl ?_
        refine rw_laldE (j := c) f_X0_odds_122 (by first | assumption | exact hW.k rfl | exact hW.k0) (by first | rfl | exact nI_addl _ _ | (simp only [nI, Int32.ofNat_add, Int32.ofNat_mul]; rfl) | (simp only [nI_addl, nI_mull, nI_lit, nI_1']; done) | (simp only [nI_1, nI_0, nI_addl, nI_mull, ← nI_succ]; rfl)) (by omega) (by omega) ?_
        rw [hw c]
        refine rw_const f_X0_odds_123 ?_
        refine rw_lcmp f_X0_odds_124 ?_
        refine rw_ifT f_X0_odds_125 (decide_eq_true cz) ?_
        refine rw_aload f_X0_odds_131 rfl ?_
        refine rw_getR f_X0_odds_132 (by first | assumption | exact hW.k rfl | exact hW.k0) (by first | assumption | exact hW.r0 rfl | exact hW.r rfl | rfl) ?_
        refine rw_iload f_X0_odds_135 rfl ?_
        refine rw_aload f_X0_odds_137 rfl ?_
        refine rw_getR f_X0_odds_138 (by first | assumption | exact hW.k rfl | exact hW.k0) (by first | assumption | exact hW.r0 rfl | exact hW.r rfl | rfl) ?_
        refine rw_iload f_X0_odds_141 rfl ?_
        refine rw_iload f_X0_odds_142 rfl ?_
        refine rw_const f_X0_odds_144 ?_
        refine rw_aload f_X0_odds_145 rfl ?_
        refine rw_getR f_X0_odds_146 (by first | assumption | exact hW.k rfl | exact hW.k0) (by first | assumption | exact hW.r0 rfl | exact hW.r rfl | rfl) ?_
        refine rw_getI f_X0_odds_149 (by first | assumption | exact hW.k rfl | exact hW.k0) ?_
        rw [e20]
        refine rw_iload f_X0_odds_152 rfl ?_
        refine rw_iadd f_X0_odds_154 ?_
        refine rw_callV f_X0_odds_155 rfl (by first | assumption | exact hW.k rfl | exact hW.k0) (by first | assumption | exact hW.1 | omega | exact Nat.succ_ne_zero _) rfl rfl rfl rfl (rn_ki (C_wears (d := d) C1.b hj (nI_pos' (by omega)) (fun h2 on2 => ?_)))
        skip
        have onB : OnL (dS h x r) h h2 := on.tr (on2.l.w (fun b w => Or.inl (by rw [show b = _ from w, rt])))
        have C2 := (CR_dS hC0 onB).1
        have hW := C2.1
        have hr := C2.2.1
        have rK := C2.2.2.1.1.1
        have hw2 : ∀ c, hp_L h2 (x + 22) c = W c := fun c => by rw [on2.L]; exact hw c
        have e82 : hp_I h2 r 8 = nI s := by rw [C2.2.2.1.2.2.2.2.2.2.2.2.2]; exact hs
        have l2 : hp_L h2 = hp_L hh := on2.L
        generalize hdd1 : dN V j 1 (V 34 20 + nI i) c = D1 at *
        generalize hdd0 : dN V j 0 (V 34 20 + nI i) c = D0 at *
        refine rw_isub f_X0_odds_158 ?_
        rw [d1e]
        refine rw_dup2 f_X0_odds_159 ?_
        refine rw_laldE (j := D1) f_X0_odds_160 (by first | assumption | exact hW.k rfl | exact hW.k0) (by first | rfl | exact nI_addl _ _ | (simp only [nI, Int32.ofNat_add, Int32.ofNat_mul]; rfl) | (simp only [nI_addl, nI_mull, nI_lit, nI_1']; done) | (simp only [nI_1, nI_0, nI_addl, nI_mull, ← nI_succ]; rfl)) (by omega) (by omega) ?_
        refine rw_aload f_X0_odds_161 rfl ?_
        refine rw_getR f_X0_odds_162 (by first | assumption | exact hW.k rfl | exact hW.k0) (by first | assumption | exact hW.r0 rfl | exact hW.r rfl | rfl) ?_
        refine rw_iload f_X0_odds_165 rfl ?_
        refine rw_laldE (j := c) f_X0_odds_167 (by first | assumption | exact hW.k rfl | exact hW.k0) (by first | rfl | exact nI_addl _ _ | (simp only [nI, Int32.ofNat_add, Int32.ofNat_mul]; rfl) | (simp only [nI_addl, nI_mull, nI_lit, nI_1']; done) | (simp only [nI_1, nI_0, nI_addl, nI_mull, ← nI_succ]; rfl)) (by omega) (by omega) ?_
        rw [hw2 c]
        refine rw_aload f_X0_odds_168 rfl ?_
        refine rw_getR f_X0_odds_169 (by first | assumption | exact hW.k rfl | exact hW.k0) (by first | assumption | exact hW.r0 rfl | exact hW.r rfl | rfl) ?_
        refine rw_getI f_X0_odds_172 (by first | assumption | exact hW.k rfl | exact hW.k0) ?_
        rw [e82]
        refine rw_i2l f_X0_odds_175 ?_
        rw [show (nI s).toInt64 = gN s from nI_l (by omega)]
        refine rw_lmul f_X0_odds_176 ?_
        refine rw_ladd f_X0_odds_177 ?_
        refine rw_lastE (j := D1) f_X0_odds_178 (by first | assumption | exact hW.k rfl | exact hW.k0) (by first | rfl | exact nI_addl _ _ | (simp only [nI, Int32.ofNat_add, Int32.ofNat_mul]; rfl) | (simp only [nI_addl, nI_mull, nI_lit, nI_1']; done) | (simp only [nI_1, nI_0, nI_addl, nI_mull, ← nI_succ]; rfl)) (by omega) (by omega) ?_
        skip
        generalize hg3 : hp_sL h2 (x + 23) D1 (hp_L h2 (x + 23) D1 + W c * gN s) = h3
        have on3 : OnL (dS h x r) h h3 := by rw [← hg3]; exact onB.tr (OnL_sL (Or.inr (Or.inr rfl)))
        have hw3 : ∀ c, hp_L h3 (x + 22) c = W c := fun c => by rw [← hg3, sL_ne (by omega)]; exact hw2 c
        have t3 : ∀ e, hp_L h3 (x + 23) e = if e = D1 then hp_L hh (x + 23) e + W c * gN s else hp_L hh (x + 23) e := fun e => by
          rw [← hg3, sL_at, l2]
          by_cases z : e = D1
          · rw [if_pos z, if_pos z, z]
          · rw [if_neg z, if_neg z]
        have C3 := (CR_dS hC0 on3).1
        have hW := C3.1
        have hr := C3.2.1
        have rK := C3.2.2.1.1.1
        have r0 := C3.2.2.1.1.2
        have e203 : hp_I h3 (x + 7) 2 = V 34 20 := C3.2.2.2.1.2.1
        have rt3 : hp_R h3 r 13 = hp_R h r 13 := by rw [on3.R]
        refine rw_aload f_X0_odds_179 rfl ?_
        refine rw_getR f_X0_odds_180 (by first | assumption | exact hW.k rfl | exact hW.k0) (by first | assumption | exact hW.r0 rfl | exact hW.r rfl | rfl) ?_
        refine rw_iload f_X0_odds_183 rfl ?_
        refine rw_aload f_X0_odds_185 rfl ?_
        refine rw_getR f_X0_odds_186 (by first | assumption | exact hW.k rfl | exact hW.k0) (by first | assumption | exact hW.r0 rfl | exact hW.r rfl | rfl) ?_
        refine rw_iload f_X0_odds_189 rfl ?_
        refine rw_iload f_X0_odds_190 rfl ?_
        refine rw_const f_X0_odds_192 ?_
        refine rw_aload f_X0_odds_193 rfl ?_
        refine rw_getR f_X0_odds_194 (by first | assumption | exact hW.k rfl | exact hW.k0) (by first | assumption | exact hW.r0 rfl | exact hW.r rfl | rfl) ?_
        refine rw_getI f_X0_odds_197 (by first | assumption | exact hW.k rfl | exact hW.k0) ?_
        rw [e203]
        refine rw_iload f_X0_odds_200 rfl ?_
        refine rw_iadd f_X0_odds_202 ?_
        refine rw_callV f_X0_odds_203 rfl (by first | assumption | exact hW.k rfl | exact hW.k0) (by first | assumption | exact hW.1 | omega | exact Nat.succ_ne_zero _) rfl rfl rfl rfl (rn_ki (C_wears (d := d) C3.b hj (nI_pos' (by omega)) (fun h4 on4 => ?_)))
        skip
        have onD : OnL (dS h x r) h h4 := on3.tr (on4.l.w (fun b w => Or.inl (by rw [show b = _ from w, rt3])))
        have C4 := (CR_dS hC0 onD).1
        have hW := C4.1
        have hr := C4.2.1
        have rK := C4.2.2.1.1.1
        have hw4 : ∀ c, hp_L h4 (x + 22) c = W c := fun c => by rw [on4.L]; exact hw3 c
        have e84 : hp_I h4 r 8 = nI s := by rw [C4.2.2.1.2.2.2.2.2.2.2.2.2]; exact hs
        have l4 : hp_L h4 = hp_L h3 := on4.L
        have es : (100 : Int32) - nI s = nI (100 - s) := by
          have : nI (100 - s) + nI s = 100 := by rw [nI_addl, Nat.sub_add_cancel hs1]; rfl
          rw [← this, Int32.add_sub_cancel]
        refine rw_isub f_X0_odds_206 ?_
        rw [d0e]
        refine rw_dup2 f_X0_odds_207 ?_
        refine rw_laldE (j := D0) f_X0_odds_208 (by first | assumption | exact hW.k rfl | exact hW.k0) (by first | rfl | exact nI_addl _ _ | (simp only [nI, Int32.ofNat_add, Int32.ofNat_mul]; rfl) | (simp only [nI_addl, nI_mull, nI_lit, nI_1']; done) | (simp only [nI_1, nI_0, nI_addl, nI_mull, ← nI_succ]; rfl)) (by omega) (by omega) ?_
        refine rw_aload f_X0_odds_209 rfl ?_
        refine rw_getR f_X0_odds_210 (by first | assumption | exact hW.k rfl | exact hW.k0) (by first | assumption | exact hW.r0 rfl | exact hW.r rfl | rfl) ?_
        refine rw_iload f_X0_odds_213 rfl ?_
        refine rw_laldE (j := c) f_X0_odds_215 (by first | assumption | exact hW.k rfl | exact hW.k0) (by first | rfl | exact nI_addl _ _ | (simp only [nI, Int32.ofNat_add, Int32.ofNat_mul]; rfl) | (simp only [nI_addl, nI_mull, nI_lit, nI_1']; done) | (simp only [nI_1, nI_0, nI_addl, nI_mull, ← nI_succ]; rfl)) (by omega) (by omega) ?_
        rw [hw4 c]
        refine rw_const f_X0_odds_216 ?_
        refine rw_aload f_X0_odds_218 rfl ?_
        refine rw_getR f_X0_odds_219 (by first | assumption | exact hW.k rfl | exact hW.k0) (by first | assumption | exact hW.r0 rfl | exact hW.r rfl | rfl) ?_
        refine rw_getI f_X0_odds_222 (by first | assumption | exact hW.k rfl | exact hW.k0) ?_
        rw [e84]
        refine rw_isub f_X0_odds_225 ?_
        rw [es]
        refine rw_i2l f_X0_odds_226 ?_
        rw [show (nI (100 - s)).toInt64 = gN (100 - s) from nI_l (by omega)]
        refine rw_lmul f_X0_odds_227 ?_
        refine rw_ladd f_X0_odds_228 ?_
        refine rw_lastE (j := D0) f_X0_odds_229 (by first | assumption | exact hW.k rfl | exact hW.k0) (by first | rfl | exact nI_addl _ _ | (simp only [nI, Int32.ofNat_add, Int32.ofNat_mul]; rfl) | (simp only [nI_addl, nI_mull, nI_lit, nI_1']; done) | (simp only [nI_1, nI_0, nI_addl, nI_mull, ← nI_succ]; rfl)) (by omega) (by omega) ?_
        refine rw_iinc f_X0_odds_230 rfl rfl ?_
        refine rw_goto f_X0_odds_233 ?_
        rw [nI_1']
        refine ih (c + 1) (by omega) (by omega) _ (onD.tr (OnL_sL (Or.inr (Or.inr rfl)))) (fun e => by rw [sL_ne (by omega)]; exact hw4 e) ?_
        have a1 := sumL_up (f := fun e => hp_L hh (x + 23) e) (v := v) (n := 100) (a := W c * gN s) (show D1 < 100 by omega)
        have a2 := sumL_up (f := fun e => hp_L h3 (x + 23) e) (v := v) (n := 100) (a := W c * gN (100 - s)) (show D0 < 100 by omega)
        have b1 : sumL (fun e => hp_L h3 (x + 23) e * v e) 100 = sumL (fun e => (if e = D1 then hp_L hh (x + 23) e + W c * gN s else hp_L hh (x + 23) e) * v e) 100 := sumL_congr (fun e _ => by rw [t3 e])
        have b2 : sumL (fun e => hp_L (hp_sL h4 (x + 23) D0 (hp_L h4 (x + 23) D0 + W c * gN (100 - s))) (x + 23) e * v e) 100 = sumL (fun e => (if e = D0 then hp_L h3 (x + 23) e + W c * gN (100 - s) else hp_L h3 (x + 23) e) * v e) 100 := sumL_congr (fun e _ => by
          rw [sL_at, l4]
          by_cases z : e = D0
          · rw [if_pos z, if_pos z, z]
          · rw [if_neg z, if_neg z])
        rw [b2, a2, b1, a1, hsum]
        show sumL g c + W c * gN s * v D1 + W c * gN (100 - s) * v D0 = sumL g c + g c
        have eg : g c = W c * (gN s * v D1 + gN (100 - s) * v D0) := by
          show (if c = 0 then 0 else W c * _) = _
          rw [if_neg (by omega), hdd1, hdd0]
        rw [eg]
        generalize sumL g c = A
        generalize gN s = B
        generalize gN (100 - s) = C
        generalize v D1 = E
        generalize v D0 = F
        generalize W c = G
        grind
  refine key 99 1 rfl (by decide) h0 on0 hW0 ?_
  have z1 : sumL (fun c => hp_L h0 (x + 23) c * v c) 100 = sumL (fun _ => 0) 100 := sumL_congr (fun c hc => by rw [hT0 c hc]; exact Int64.zero_mul)
  rw [z1, sumL_zero]
  show 0 = sumL g 0 + g 0
  rfl
theorem C_odds (hC : CR h V x r nM nD nB nA nU nT nL) {b n part : Int32} (hk : ∀ h', CR h' V x r nM nD nB nA nU nT nL → CFr x 0 0 h h' → k (sp_odds V b n part) h') : Rn (d + 331) n_X0_odds 0 [am_r x, am_i b, am_i n, am_i part, am_u, am_u, am_u, am_u, am_u] [] h (kL k) := by
  have C0 := hC
  unfold sp_odds at hk
  have tail : ok_odds V b n part = true → Rn (d + 331) n_X0_odds 31 [am_r x, am_i b, am_i n, am_i part, am_u, am_u, am_u, am_u, am_u] [] h (kL k) := by
    intro ok
    have hk1 : ∀ h', OnL (dS h x r) h h' → k (if part = 0 then gN (oddN V b n.toNatClampNeg / Nat.gcd (100 ^ n.toNatClampNeg) (oddN V b n.toNatClampNeg)) else gN (100 ^ n.toNatClampNeg / Nat.gcd (100 ^ n.toNatClampNeg) (oddN V b n.toNatClampNeg))) h' := by
      intro h' on
      obtain ⟨z1, z2⟩ := CR_dS C0 on
      have := hk h' z1 z2
      rw [if_neg (by rw [ok]; decide)] at this
      exact this
    unfold ok_odds at ok
    simp only [Bool.and_eq_true] at ok
    obtain ⟨⟨o1, o2⟩, o3⟩ := ok
    unfold onB at o1
    rw [Bool.and_eq_true] at o1
    have hC' := hC
    obtain ⟨hW, hr, hG, hN, hA, hT, hX, hI, hS, hF⟩ := hC'
    obtain ⟨⟨rK, r0⟩, ⟨hLM, hM⟩, ⟨hLD, hD⟩, ⟨hLO, hO⟩, ⟨⟨hlk, hla⟩, hlike⟩, ⟨htk, hwear⟩, gf, gu, gh, gs⟩ := hG
    obtain ⟨⟨⟨fM, fM6, fD, fD6, fB, fB10⟩, fO, ⟨fH, fSt⟩, fHr, fFr, fWr⟩, ⟨fA, fU, fAU, fT, fT30, fL, fL10⟩, fTp, fNow, fWere, fBox, fTg⟩ := hF
    have kLM := hLM.1.1; have zLM := hLM.2
    have kLD := hLD.1.1; have zLD := hLD.2
    have kLO := hLO.1.1; have zLO := hLO.2
    obtain ⟨j, rfl, hj⟩ := isIn_nat (n := nB) (by omega) (by rw [← fB]; exact o1.1)
    obtain ⟨N, rfl, hN6⟩ := isIn_nat (n := 7) (by omega) o2
    obtain ⟨s, hs1, hs⟩ := fSt
    obtain ⟨t0, ht0, et0⟩ := fNow j (by omega)
    rw [nI_clamp (by omega)] at hk1
    have eodd : oddN V (nI j) N = valN V j s (100 - s) N 0 t0 := by
      unfold oddN
      rw [nI_clamp (by omega), hs, nI_clamp (by omega), et0, nI_clamp (by omega)]
    rw [eodd] at hk1
    have eT := (hN.1 j (by omega)).2
    -- the ways are nought
    have z1 : ∀ q c, c + q = 100 → ∀ hh, OnL (dS h x r) h hh → (∀ e, e < c → hp_L hh (x + 22) e = 0) → (∀ hh, OnL (dS h x r) h hh → (∀ e, e < 100 → hp_L hh (x + 22) e = 0) → Rn (d + 331) n_X0_odds 55 [am_r x, am_i (nI j), am_i (nI N), am_i part, am_i (nI 100), am_u, am_u, am_u, am_u] [] hh (kL k)) → Rn (d + 331) n_X0_odds 34 [am_r x, am_i (nI j), am_i (nI N), am_i part, am_i (nI c), am_u, am_u, am_u, am_u] [] hh (kL k) := by
      intro q
      induction q with
      | zero =>
        intro c hc hh on hz kk
        obtain rfl : c = 100 := by omega
        refine rw_iload f_X0_odds_34 rfl ?_
        refine rw_const f_X0_odds_36 ?_
        refine rw_icmpT f_X0_odds_38 (by decide) ?_
        exact kk hh on hz
      | succ q ih =>
        intro c hc hh on hz kk
        have hW := (CR_dS C0 on).1.1
        have le99 : ¬ (99 : Int32) < nI c := by rw [show (99 : Int32) = nI 99 from rfl]; exact Int32.not_lt.mpr (nI_le (by omega) (by omega))
        refine rw_iload f_X0_odds_34 rfl ?_
        refine rw_const f_X0_odds_36 ?_
        refine rw_icmpF f_X0_odds_38 (decide_eq_false le99) ?_
        refine rw_aload f_X0_odds_41 rfl ?_
        refine rw_getR f_X0_odds_42 (by first | assumption | exact hW.k rfl | exact hW.k0) (by first | assumption | exact hW.r0 rfl | exact hW.r rfl | rfl) ?_
        refine rw_iload f_X0_odds_45 rfl ?_
        refine rw_const f_X0_odds_47 ?_
        refine rw_lastE (j := c) f_X0_odds_48 (by first | assumption | exact hW.k rfl | exact hW.k0) (by first | rfl | exact nI_addl _ _ | (simp only [nI, Int32.ofNat_add, Int32.ofNat_mul]; rfl) | (simp only [nI_addl, nI_mull, nI_lit, nI_1']; done) | (simp only [nI_1, nI_0, nI_addl, nI_mull, ← nI_succ]; rfl)) (by omega) (by omega) ?_
        refine rw_iinc f_X0_odds_49 rfl rfl ?_
        refine rw_goto f_X0_odds_52 ?_
        rw [nI_1']
        refine ih (c + 1) (by omega) _ (on.tr (OnL_sL (Or.inr (Or.inl rfl)))) (fun e he => ?_) kk
        rw [sL_at]
        by_cases z : e = c
        · rw [if_pos z]
        · rw [if_neg z]; exact hz e (by omega)
    have z2 : ∀ {all : Int64} {i : Nat} {j8 : am_V} {W : Nat → Int64}, ∀ q c, c + q = 100 → ∀ hh, OnL (dS h x r) h hh → (∀ e, hp_L hh (x + 22) e = W e) → (∀ e, e < c → hp_L hh (x + 23) e = 0) → (∀ hh, OnL (dS h x r) h hh → (∀ e, hp_L hh (x + 22) e = W e) → (∀ e, e < 100 → hp_L hh (x + 23) e = 0) → Rn (d + 331) n_X0_odds 106 [am_r x, am_i (nI j), am_i (nI N), am_i part, am_l all, am_u, am_i (nI i), am_i (nI 100), j8] [] hh (kL k)) → Rn (d + 331) n_X0_odds 85 [am_r x, am_i (nI j), am_i (nI N), am_i part, am_l all, am_u, am_i (nI i), am_i (nI c), j8] [] hh (kL k) := by
      intro all i j8 W q
      induction q with
      | zero =>
        intro c hc hh on hw hz kk
        obtain rfl : c = 100 := by omega
        refine rw_iload f_X0_odds_85 rfl ?_
        refine rw_const f_X0_odds_87 ?_
        refine rw_icmpT f_X0_odds_89 (by decide) ?_
        exact kk hh on hw hz
      | succ q ih =>
        intro c hc hh on hw hz kk
        have hW := (CR_dS C0 on).1.1
        have le99 : ¬ (99 : Int32) < nI c := by rw [show (99 : Int32) = nI 99 from rfl]; exact Int32.not_lt.mpr (nI_le (by omega) (by omega))
        refine rw_iload f_X0_odds_85 rfl ?_
        refine rw_const f_X0_odds_87 ?_
        refine rw_icmpF f_X0_odds_89 (decide_eq_false le99) ?_
        refine rw_aload f_X0_odds_92 rfl ?_
        refine rw_getR f_X0_odds_93 (by first | assumption | exact hW.k rfl | exact hW.k0) (by first | assumption | exact hW.r0 rfl | exact hW.r rfl | rfl) ?_
        refine rw_iload f_X0_odds_96 rfl ?_
        refine rw_const f_X0_odds_98 ?_
        refine rw_lastE (j := c) f_X0_odds_99 (by first | assumption | exact hW.k rfl | exact hW.k0) (by first | rfl | exact nI_addl _ _ | (simp only [nI, Int32.ofNat_add, Int32.ofNat_mul]; rfl) | (simp only [nI_addl, nI_mull, nI_lit, nI_1']; done) | (simp only [nI_1, nI_0, nI_addl, nI_mull, ← nI_succ]; rfl)) (by omega) (by omega) ?_
        refine rw_iinc f_X0_odds_100 rfl rfl ?_
        refine rw_goto f_X0_odds_103 ?_
        rw [nI_1']
        refine ih (c + 1) (by omega) _ (on.tr (OnL_sL (Or.inr (Or.inr rfl)))) (fun e => by rw [sL_ne (by omega)]; exact hw e) (fun e he => ?_) kk
        rw [sL_at]
        by_cases z : e = c
        · rw [if_pos z]
        · rw [if_neg z]; exact hz e (by omega)
    -- the end: the sum, the common divisor
    have p6 : 100 ^ N ≤ 100 ^ 6 := Nat.pow_le_pow_right (by decide) (by omega)
    have p0 : 0 < 100 ^ N := Nat.pow_pos (by decide)
    have u6 : valN V j s (100 - s) N 0 t0 ≤ 100 ^ N := valN_le (by omega) N 0 t0
    have g0 : 0 < Nat.gcd (100 ^ N) (valN V j s (100 - s) N 0 t0) := Nat.gcd_pos_of_pos_left _ p0
    have gle : Nat.gcd (100 ^ N) (valN V j s (100 - s) N 0 t0) ≤ 100 ^ N := Nat.gcd_le_left _ p0
    have fin : ∀ hh (y7 y8 : am_V), OnL (dS h x r) h hh → sumL (fun c => hp_L hh (x + 22) c * gN (valN V j s (100 - s) 0 N c)) 100 = gN (valN V j s (100 - s) N 0 t0) → Rn (d + 331) n_X0_odds 265 [am_r x, am_i (nI j), am_i (nI N), am_i part, am_l (gN (100 ^ N)), am_u, am_i (nI N), y7, y8] [] hh (kL k) := by
      intro hh y7 y8 on hsum
      have hk2 := hk1 hh on
      have hW := (CR_dS C0 on).1.1
      have hsum2 : sumL (fun c => if c = 0 then 0 else hp_L hh (x + 22) c) 100 = gN (valN V j s (100 - s) N 0 t0) := by
        rw [← hsum]
        apply sumL_congr
        intro c _
        unfold valN
        by_cases z : c = 0
        · rw [if_pos z, if_pos z]; exact Int64.mul_zero.symm
        · rw [if_neg z, if_neg z]; exact (Int64.mul_one _).symm
      have loop : ∀ q c, c + q = 100 → 0 < c → Rn (d + 331) n_X0_odds 271 [am_r x, am_i (nI j), am_i (nI N), am_i part, am_l (gN (100 ^ N)), am_u, am_l (sumL (fun c => if c = 0 then 0 else hp_L hh (x + 22) c) c), am_u, am_i (nI c)] [] hh (kL k) := by
        intro q
        induction q with
        | zero =>
          intro c hc _
          obtain rfl : c = 100 := by omega
          rw [hsum2]
          generalize valN V j s (100 - s) N 0 t0 = u at *
          generalize hA : 100 ^ N = A at *
          have c1 : A < 2 ^ 62 := by have : (100 : Nat) ^ 6 < 2 ^ 62 := by decide
                                     omega
          have cd : ∀ {kk : Int64 → am_H → Prop}, kk (gN (Nat.gcd A u)) hh → Rn (d + 330) n_X0_common 0 [am_l (gN A), am_u, am_l (gN u), am_u] [] hh (kL kk) := fun {kk} q => by
            have := C_common (d := d + 250) 40 A u (by have : (100 : Nat) ^ 6 < 2 ^ 40 := by decide
                                                       omega) (by decide) c1 (by omega) q
            rw [show d + 250 + 2 * 40 = d + 330 by omega] at this
            exact this
          have ng : ¬ gN (Nat.gcd A u) = 0 := fun q => by have := (gN_0 (by omega)).mp q; omega
          refine rw_iload f_X0_odds_271 rfl ?_
          refine rw_const f_X0_odds_273 ?_
          refine rw_icmpT f_X0_odds_275 (by decide) ?_
          refine rw_iload f_X0_odds_296 rfl ?_
          first | refine rw_ne0B f_X0_odds_297 (fun c1 => ?_) (fun c1 => ?_) | refine rw_ne0 f_X0_odds_297 (fun c1 => ?_) (fun c1 => ?_)
          · refine rw_lload f_X0_odds_305 rfl ?_
            refine rw_lload f_X0_odds_307 rfl ?_
            refine rw_lload f_X0_odds_309 rfl ?_
            refine rw_callS f_X0_odds_311 rfl rfl rfl (rn_kl (cd ?_))
            refine rw_ldiv f_X0_odds_314 ng ?_
            refine rw_lret f_X0_odds_315 ?_
            first | (rw [gN_div (by omega) (by omega) g0]; rw [if_pos c1_] at hk2; exact hk2) | (rw [gN_div (by omega) (by omega) g0]; simpa [*] using hk2)
          · refine rw_lload f_X0_odds_300 rfl ?_
            refine rw_goto f_X0_odds_302 ?_
            refine rw_lload f_X0_odds_307 rfl ?_
            refine rw_lload f_X0_odds_309 rfl ?_
            refine rw_callS f_X0_odds_311 rfl rfl rfl (rn_kl (cd ?_))
            refine rw_ldiv f_X0_odds_314 ng ?_
            refine rw_lret f_X0_odds_315 ?_
            first | (rw [gN_div (by omega) (by omega) g0]; rw [if_pos c1_] at hk2; exact hk2) | (rw [gN_div (by omega) (by omega) g0]; simpa [*] using hk2)
        | succ q ih =>
          intro c hc hc0
          have le99 : ¬ (99 : Int32) < nI c := by rw [show (99 : Int32) = nI 99 from rfl]; exact Int32.not_lt.mpr (nI_le (by omega) (by omega))
          have ih2 := ih (c + 1) (by omega) (by omega)
          simp only [sumL] at ih2
          rw [if_neg (by omega)] at ih2
          refine rw_iload f_X0_odds_271 rfl ?_
          refine rw_const f_X0_odds_273 ?_
          refine rw_icmpF f_X0_odds_275 (decide_eq_false le99) ?_
          refine rw_lload f_X0_odds_278 rfl ?_
          refine rw_aload f_X0_odds_280 rfl ?_
          refine rw_getR f_X0_odds_281 (by first | assumption | exact hW.k rfl | exact hW.k0) (by first | assumption | exact hW.r0 rfl | exact hW.r rfl | rfl) ?_
          refine rw_iload f_X0_odds_284 rfl ?_
          refine rw_laldE (j := c) f_X0_odds_286 (by first | assumption | exact hW.k rfl | exact hW.k0) (by first | rfl | exact nI_addl _ _ | (simp only [nI, Int32.ofNat_add, Int32.ofNat_mul]; rfl) | (simp only [nI_addl, nI_mull, nI_lit, nI_1']; done) | (simp only [nI_1, nI_0, nI_addl, nI_mull, ← nI_succ]; rfl)) (by omega) (by omega) ?_
          refine rw_ladd f_X0_odds_287 ?_
          refine rw_lstore f_X0_odds_288 rfl rfl ?_
          refine rw_iinc f_X0_odds_290 rfl rfl ?_
          refine rw_goto f_X0_odds_293 ?_
          rw [nI_1']
          exact ih2
      refine rw_const f_X0_odds_265 ?_
      refine rw_lstore f_X0_odds_266 rfl rfl ?_
      refine rw_const f_X0_odds_268 ?_
      refine rw_istore f_X0_odds_269 rfl rfl ?_
      exact loop 99 1 rfl (by decide)
    -- the days
    have days : ∀ q i, i + q = N → ∀ hh (y7 y8 : am_V), OnL (dS h x r) h hh → sumL (fun c => hp_L hh (x + 22) c * gN (valN V j s (100 - s) q i c)) 100 = gN (valN V j s (100 - s) N 0 t0) → Rn (d + 331) n_X0_odds 76 [am_r x, am_i (nI j), am_i (nI N), am_i part, am_l (gN (100 ^ i)), am_u, am_i (nI i), y7, y8] [] hh (kL k) := by
      intro q
      induction q with
      | zero =>
        intro i hi hh y7 y8 on hsum
        obtain rfl : i = N := by omega
        refine rw_iload f_X0_odds_76 rfl ?_
        refine rw_iload f_X0_odds_78 rfl ?_
        refine rw_icmpT f_X0_odds_79 (decide_eq_true (Int32.le_refl _)) ?_
        exact fin hh y7 y8 on hsum
      | succ q ih =>
        intro i hi hh y7 y8 on hsum
        refine rw_iload f_X0_odds_76 rfl ?_
        refine rw_iload f_X0_odds_78 rfl ?_
        refine rw_icmpF f_X0_odds_79 (decide_eq_false (nI_ge (by omega) (by omega))) ?_
        refine rw_const f_X0_odds_82 ?_
        refine rw_istore f_X0_odds_83 rfl rfl ?_
        refine z2 (W := fun e => hp_L hh (x + 22) e) 100 0 rfl hh on (fun _ => rfl) (fun e he => absurd he (Nat.not_lt_zero e)) (fun h2 on2 hw2 ht2 => ?_)
        refine rw_const f_X0_odds_106 ?_
        refine rw_istore f_X0_odds_107 rfl rfl ?_
        refine C_oddsIn (d := d) (v := fun c => gN (valN V j s (100 - s) q (i + 1) c)) C0 hj hs hs1 on2 hw2 ht2 (fun h3 on3 hw3 hsum3 => ?_)
        have hW := (CR_dS C0 on3).1.1
        refine rw_aload f_X0_odds_236 rfl ?_
        refine rw_getR f_X0_odds_237 (by first | assumption | exact hW.k rfl | exact hW.k0) (by first | assumption | exact hW.r0 rfl | exact hW.r rfl | rfl) ?_
        refine rw_const f_X0_odds_240 ?_
        refine rw_aload f_X0_odds_241 rfl ?_
        refine rw_getR f_X0_odds_242 (by first | assumption | exact hW.k rfl | exact hW.k0) (by first | assumption | exact hW.r0 rfl | exact hW.r rfl | rfl) ?_
        refine rw_const f_X0_odds_245 ?_
        refine rw_const f_X0_odds_246 ?_
        refine rw_acpyL f_X0_odds_248 (hW.k (a := 23) rfl) (hW.k (a := 22) rfl) (by decide) ?_
        rw [show Int32.toNatClampNeg 100 = 100 from rfl, show Int32.toNatClampNeg 0 = 0 from rfl]
        have rd : ∀ b e, ¬ b = x + 22 → am_cpy h3.2.1 (x + 23) 0 (x + 22) 0 100 b e = hp_L h3 b e := fun b e hb => by unfold am_cpy; rw [if_neg (by omega)]
        have rd2 : ∀ e, e < 100 → am_cpy h3.2.1 (x + 23) 0 (x + 22) 0 100 (x + 22) e = hp_L h3 (x + 23) e := fun e he => by
          unfold am_cpy; rw [if_pos ⟨rfl, Nat.zero_le _, by omega⟩, show 0 + (e - 0) = e by omega]
        have on4 : OnL (dS h x r) h (h3.1, am_cpy h3.2.1 (x + 23) 0 (x + 22) 0 100, h3.2.2) := on3.tr ⟨rfl, fun b hb => ⟨rfl, funext fun e => rd b e (fun z => hb (Or.inr (Or.inl z)))⟩⟩
        have p100 : gN (100 ^ i) * 100 = gN (100 ^ (i + 1)) := by rw [Nat.pow_succ, gN_mul]; rfl
        refine rw_lload f_X0_odds_251 rfl ?_
        refine rw_const f_X0_odds_253 ?_
        refine rw_lmul f_X0_odds_256 ?_
        rw [p100]
        refine rw_lstore f_X0_odds_257 rfl rfl ?_
        refine rw_iinc f_X0_odds_259 rfl rfl ?_
        refine rw_goto f_X0_odds_262 ?_
        rw [nI_1']
        refine ih (i + 1) (by omega) _ _ _ on4 ?_
        rw [← hsum]
        have a1 : sumL (fun c => hp_L (h3.1, am_cpy h3.2.1 (x + 23) 0 (x + 22) 0 100, h3.2.2) (x + 22) c * gN (valN V j s (100 - s) q (i + 1) c)) 100 = sumL (fun c => hp_L h3 (x + 23) c * gN (valN V j s (100 - s) q (i + 1) c)) 100 := sumL_congr (fun c hc => by show am_cpy _ _ _ _ _ _ _ _ * _ = _; rw [rd2 c hc])
        rw [a1, hsum3]
        apply sumL_congr
        intro c hc
        by_cases z : c = 0
        · rw [if_pos z, z, valN_0]; exact Int64.mul_zero.symm
        · rw [if_neg z]
          show _ = hp_L hh (x + 22) c * gN (if c = 0 then 0 else _)
          rw [if_neg z, gN_add, gN_mul, gN_mul]
    have hW := hC.1
    refine rw_const f_X0_odds_31 ?_
    refine rw_istore f_X0_odds_32 rfl rfl ?_
    refine z1 100 0 rfl h OnL_refl (fun e he => absurd he (Nat.not_lt_zero e)) (fun h1 on1 hz1 => ?_)
    have C1 := (CR_dS C0 on1).1
    have hW := C1.1
    have eT1 : hp_I h1 (x + 9) j = nI t0 := by rw [(C1.2.2.2.1.1 j (by omega)).2]; exact et0
    refine rw_aload f_X0_odds_55 rfl ?_
    refine rw_getR f_X0_odds_56 (by first | assumption | exact hW.k rfl | exact hW.k0) (by first | assumption | exact hW.r0 rfl | exact hW.r rfl | rfl) ?_
    refine rw_aload f_X0_odds_59 rfl ?_
    refine rw_getR f_X0_odds_60 (by first | assumption | exact hW.k rfl | exact hW.k0) (by first | assumption | exact hW.r0 rfl | exact hW.r rfl | rfl) ?_
    refine rw_getR f_X0_odds_63 (by first | assumption | exact hW.k rfl | exact hW.k0) (by first | assumption | exact hW.r0 rfl | exact hW.r rfl | rfl) ?_
    refine rw_iload f_X0_odds_66 rfl ?_
    refine rw_xaldE f_X0_odds_67 (by first | assumption | exact hW.k rfl | exact hW.k0) rfl (by omega) (by omega) ?_
    rw [eT1]
    refine rw_const f_X0_odds_68 ?_
    refine rw_lastE (j := t0) f_X0_odds_69 (by first | assumption | exact hW.k rfl | exact hW.k0) (by first | rfl | exact nI_addl _ _ | (simp only [nI, Int32.ofNat_add, Int32.ofNat_mul]; rfl) | (simp only [nI_addl, nI_mull, nI_lit, nI_1']; done) | (simp only [nI_1, nI_0, nI_addl, nI_mull, ← nI_succ]; rfl)) (by omega) (by omega) ?_
    refine rw_const f_X0_odds_70 ?_
    refine rw_lstore f_X0_odds_71 rfl rfl ?_
    refine rw_const f_X0_odds_73 ?_
    refine rw_istore f_X0_odds_74 rfl rfl ?_
    refine days N 0 (by omega) _ _ _ (on1.tr (OnL_sL (Or.inr (Or.inl rfl)))) ?_
    have a1 : sumL (fun c => hp_L (hp_sL h1 (x + 22) t0 1) (x + 22) c * gN (valN V j s (100 - s) N 0 c)) 100 = sumL (fun c => (if c = t0 then 1 else 0) * gN (valN V j s (100 - s) N 0 c)) 100 := sumL_congr (fun c hc => by
      rw [sL_at]
      by_cases z : c = t0
      · rw [if_pos z, if_pos z]
      · rw [if_neg z, if_neg z, hz1 c hc])
    rw [a1, sumL_one (by omega)]
  have hC' := hC
  obtain ⟨hW, hr, hG, hN, hA, hT, hX, hI, hS, hF⟩ := hC'
  obtain ⟨⟨rK, r0⟩, ⟨hLM, hM⟩, ⟨hLD, hD⟩, ⟨hLO, hO⟩, ⟨⟨hlk, hla⟩, hlike⟩, ⟨htk, hwear⟩, gf, gu, gh, gs⟩ := hG
  obtain ⟨⟨⟨fM, fM6, fD, fD6, fB, fB10⟩, fO, ⟨fH, fSt⟩, fHr, fFr, fWr⟩, ⟨fA, fU, fAU, fT, fT30, fL, fL10⟩, fTp, fNow, fWere, fBox, fTg⟩ := hF
  have kLM := hLM.1.1; have zLM := hLM.2
  have kLD := hLD.1.1; have zLD := hLD.2
  have kLO := hLO.1.1; have zLO := hLO.2
  refine rw_aload f_X0_odds_0 rfl ?_
  refine rw_iload f_X0_odds_1 rfl ?_
  refine rw_callV f_X0_odds_2 rfl (by first | assumption | exact hW.k rfl | exact hW.k0) (by first | assumption | exact hW.1 | omega | exact Nat.succ_ne_zero _) rfl rfl rfl rfl (rn_ki (C_isOnX hC ?_))
  first | refine rw_eq0B f_X0_odds_5 (fun c1 => ?_) (fun c1 => ?_) | refine rw_eq0 f_X0_odds_5 (fun c1 => ?_) (fun c1 => ?_)
  · refine rw_const f_X0_odds_27 ?_
    refine rw_lret f_X0_odds_30 ?_
    have hk2 := hk h hC Fr_refl
    unfold ok_odds at hk2
    simpa [c1] using hk2
  · refine rw_iload f_X0_odds_8 rfl ?_
    refine rw_const f_X0_odds_9 ?_
    refine rw_const f_X0_odds_10 ?_
    refine rw_callS f_X0_odds_12 rfl rfl rfl (rn_ki (C_isIn ?_))
    first | refine rw_eq0B f_X0_odds_15 (fun c2 => ?_) (fun c2 => ?_) | refine rw_eq0 f_X0_odds_15 (fun c2 => ?_) (fun c2 => ?_)
    · refine rw_const f_X0_odds_27 ?_
      refine rw_lret f_X0_odds_30 ?_
      have hk2 := hk h hC Fr_refl
      unfold ok_odds at hk2
      simpa [c1, c2] using hk2
    · refine rw_iload f_X0_odds_18 rfl ?_
      refine rw_const f_X0_odds_19 ?_
      refine rw_const f_X0_odds_20 ?_
      refine rw_callS f_X0_odds_21 rfl rfl rfl (rn_ki (C_isIn ?_))
      first | refine rw_ne0B f_X0_odds_24 (fun c3 => ?_) (fun c3 => ?_) | refine rw_ne0 f_X0_odds_24 (fun c3 => ?_) (fun c3 => ?_)
      · exact tail (by unfold ok_odds; simp [c1, c2, c3])
      · refine rw_const f_X0_odds_27 ?_
        refine rw_lret f_X0_odds_30 ?_
        have hk2 := hk h hC Fr_refl
        unfold ok_odds at hk2
        simpa [c1, c2, c3] using hk2
end COdds
