/-! FORMULAS: what steps make of a stack; the class's trees -/
/-- a sign between two numbers -/
def dn (s x y : Int32) : Int32 := if s = 37 then (if y = 0 then 0 else x - x / y * y) else if s = 38 then (if x = 0 then 0 else if y = 0 then 0 else 1) else if s = 42 then x * y else if s = 43 then x + y else if s = 45 then x - y else if s = 47 then (if y = 0 then 0 else x / y) else if s = 60 then (if y ≤ x then 0 else 1) else if s = 61 then (if x = y then 1 else 0) else if s = 62 then (if x ≤ y then 0 else 1) else (if x = 0 then (if y = 0 then 0 else 1) else 1)
def ev1 (f : Int32 → Int32) (st : List Int32) (s : Int32 × Int32) : List Int32 := if s.1 = 0 then s.2 :: st else if s.1 = 1 then f s.2 :: st else if s.1 = 2 then (match st with | x :: st => (if x = 0 then 1 else 0) :: st | [] => []) else (match st with | y :: x :: st => dn s.2 x y :: st | _ => [])
def ev (f : Int32 → Int32) (c : am_S) (st : List Int32) : List Int32 := c.foldl (ev1 f) st
theorem ev_app (f : Int32 → Int32) (c1 c2 : am_S) (st : List Int32) : ev f (c1 ++ c2) st = ev f c2 (ev f c1 st) := List.foldl_append
theorem leaves_app (c1 c2 : am_S) : leaves (c1 ++ c2) = leaves c1 + leaves c2 := by
  induction c1 with
  | nil => simp [leaves]
  | cons s c ih => simp only [List.cons_append, leaves, ih]; omega
theorem PF_ev (f : Int32 → Int32) : ∀ n c, PF n c → ∃ v, ∀ st, ev f c st = v :: st := by
  intro n
  induction n with
  | zero => intro c h; exact absurd h id
  | succ n ih =>
    intro c h
    rcases h with ⟨v, rfl⟩ | ⟨w, -, rfl⟩ | ⟨c1, h1, rfl⟩ | ⟨c1, c2, s, h1, h2, rfl⟩
    · exact ⟨v, fun st => rfl⟩
    · exact ⟨f (nI w), fun st => rfl⟩
    · obtain ⟨v, e⟩ := ih c1 h1
      exact ⟨if v = 0 then 1 else 0, fun st => by rw [ev_app, e]; rfl⟩
    · obtain ⟨v1, e1⟩ := ih c1 h1
      obtain ⟨v2, e2⟩ := ih c2 h2
      exact ⟨dn s v1 v2, fun st => by rw [ev_app, ev_app, e1, e2]; rfl⟩
theorem Tree_PF {h : am_H} : ∀ n a c, Tree h n a c → PF n c := by
  intro n
  induction n with
  | zero => intro a c q; exact absurd q id
  | succ n ih =>
    intro a c q
    rcases q with ⟨-, rfl⟩ | ⟨-, ⟨w, hw, e⟩, rfl⟩ | ⟨-, c1, q1, rfl⟩ | ⟨-, c1, c2, q1, q2, rfl⟩
    · exact Or.inl ⟨_, rfl⟩
    · exact Or.inr (Or.inl ⟨w, hw, by rw [e]⟩)
    · exact Or.inr (Or.inr (Or.inl ⟨c1, ih _ _ q1, rfl⟩))
    · exact Or.inr (Or.inr (Or.inr ⟨c1, c2, _, ih _ _ q1, ih _ _ q2, rfl⟩))
theorem Tree_mono {h : am_H} : ∀ n a c, Tree h n a c → Tree h (n + 1) a c := by
  intro n
  induction n with
  | zero => intro a c q; exact absurd q id
  | succ n ih =>
    intro a c q
    rcases q with q | q | ⟨e, c1, q1, q2⟩ | ⟨e, c1, c2, q1, q2, q3⟩
    · exact Or.inl q
    · exact Or.inr (Or.inl q)
    · exact Or.inr (Or.inr (Or.inl ⟨e, c1, ih _ _ q1, q2⟩))
    · exact Or.inr (Or.inr (Or.inr ⟨e, c1, c2, ih _ _ q1, ih _ _ q2, q3⟩))
theorem Tree_le {h : am_H} {n m a : Nat} {c : am_S} (q : Tree h n a c) (hm : n ≤ m) : Tree h m a c := by
  induction hm with
  | refl => exact q
  | step _ ih => exact Tree_mono _ _ _ ih
theorem rw_skip {d i : Nat} {ls st : List am_V} {h : am_H} {K : am_R → am_H → Prop} {tb : List (Int32 × Nat)} {df : Nat} {x k : Int32} (hk : am_sw tb df k = df) (kk : Rn d i (am_sw tb df x) ls st h K) : Rn d i (am_sw ((k, df) :: tb) df x) ls st h K := by
  rw [am_sw]
  by_cases e : x = k
  · rw [if_pos e]; rw [e, hk] at kk; exact kk
  · rw [if_neg e]; exact kk
section Trees
variable {d : Nat} {h : am_H} {k : Int32 → am_H → Prop}
theorem X21_is {v : Int32} (hv : v = 0 ∨ v = 1) (hk : k v h) : Rn d n_X21_is 0 [am_i v] [] h (kI k) := by
  rcases hv with e | e
  · subst e
    refine rw_iload f_X21_is_0 rfl ?_
    refine rw_ifT f_X21_is_1 (by decide) ?_
    refine rw_const f_X21_is_8 ?_
    refine rw_iret f_X21_is_9 ?_
    exact hk
  · subst e
    refine rw_iload f_X21_is_0 rfl ?_
    refine rw_ifF f_X21_is_1 (by decide) ?_
    refine rw_const f_X21_is_4 ?_
    refine rw_goto f_X21_is_5 ?_
    refine rw_iret f_X21_is_9 ?_
    exact hk
abbrev of_tb : List (Nat × Nat) := [(118, n_X18_of), (119, n_X19_of), (120, n_X20_of), (121, n_X21_of)]
/-- what is told: of numbers of places -/
abbrev tld (h : am_H) (t : Nat) : Int32 → Int32 := fun w => hp_I h t w.toNatClampNeg
theorem X21_tail {a t : Nat} {x y : Int32} (hK : hp_K h a = (121, 0)) (hk : k (dn (hp_I h a 0) x y) h) : Rn (d + 1) n_X21_of 18 [am_r a, am_r t, am_i x, am_i y] [] h (kI k) := by
  unfold dn at hk
  generalize hs : hp_I h a 0 = s at hk
  refine rw_aload f_X21_of_18 rfl ?_
  refine rw_getI f_X21_of_19 hK ?_
  rw [hs]
  refine rw_switch f_X21_of_22 ?_
  refine rw_sw1 (fun c1 => ?_) (fun c1 => ?_)
  · refine rw_iload f_X21_of_164 rfl ?_
    first | refine rw_ne0B f_X21_of_165 (fun c2 => ?_) (fun c2 => ?_) | refine rw_ne0 f_X21_of_165 (fun c2 => ?_) (fun c2 => ?_)
    · refine rw_iload f_X21_of_172 rfl ?_
      refine rw_iload f_X21_of_173 rfl ?_
      refine rw_irem f_X21_of_174 (by first | assumption | decide) ?_
      refine rw_iret f_X21_of_175 ?_
      simpa [c1, c2] using hk
    · refine rw_const f_X21_of_168 ?_
      refine rw_goto f_X21_of_169 ?_
      refine rw_iret f_X21_of_175 ?_
      simpa [c1, c2] using hk
  · refine rw_sw1 (fun c3 => ?_) (fun c3 => ?_)
    · refine rw_iload f_X21_of_218 rfl ?_
      first | refine rw_eq0B f_X21_of_219 (fun c4 => ?_) (fun c4 => ?_) | refine rw_eq0 f_X21_of_219 (fun c4 => ?_) (fun c4 => ?_)
      · refine rw_const f_X21_of_230 ?_
        refine rw_callS f_X21_of_231 rfl rfl rfl (rn_ki (X21_is (by first | exact Or.inl rfl | exact Or.inr rfl) ?_))
        refine rw_iret f_X21_of_234 ?_
        simpa [c1, c3, c4] using hk
      · refine rw_iload f_X21_of_222 rfl ?_
        first | refine rw_eq0B f_X21_of_223 (fun c5 => ?_) (fun c5 => ?_) | refine rw_eq0 f_X21_of_223 (fun c5 => ?_) (fun c5 => ?_)
        · refine rw_const f_X21_of_230 ?_
          refine rw_callS f_X21_of_231 rfl rfl rfl (rn_ki (X21_is (by first | exact Or.inl rfl | exact Or.inr rfl) ?_))
          refine rw_iret f_X21_of_234 ?_
          simpa [c1, c3, c4, c5] using hk
        · refine rw_const f_X21_of_226 ?_
          refine rw_goto f_X21_of_227 ?_
          refine rw_callS f_X21_of_231 rfl rfl rfl (rn_ki (X21_is (by first | exact Or.inl rfl | exact Or.inr rfl) ?_))
          refine rw_iret f_X21_of_234 ?_
          simpa [c1, c3, c4, c5] using hk
    · refine rw_skip (by decide) ?_
      refine rw_skip (by decide) ?_
      refine rw_skip (by decide) ?_
      refine rw_sw1 (fun c6 => ?_) (fun c6 => ?_)
      · refine rw_iload f_X21_of_148 rfl ?_
        refine rw_iload f_X21_of_149 rfl ?_
        refine rw_imul f_X21_of_150 ?_
        refine rw_iret f_X21_of_151 ?_
        simpa [c1, c3, c6] using hk
      · refine rw_sw1 (fun c7 => ?_) (fun c7 => ?_)
        · refine rw_iload f_X21_of_140 rfl ?_
          refine rw_iload f_X21_of_141 rfl ?_
          refine rw_iadd f_X21_of_142 ?_
          refine rw_iret f_X21_of_143 ?_
          simpa [c1, c3, c6, c7] using hk
        · refine rw_skip (by decide) ?_
          refine rw_sw1 (fun c8 => ?_) (fun c8 => ?_)
          · refine rw_iload f_X21_of_144 rfl ?_
            refine rw_iload f_X21_of_145 rfl ?_
            refine rw_isub f_X21_of_146 ?_
            refine rw_iret f_X21_of_147 ?_
            simpa [c1, c3, c6, c7, c8] using hk
          · refine rw_skip (by decide) ?_
            refine rw_sw1 (fun c9 => ?_) (fun c9 => ?_)
            · refine rw_iload f_X21_of_152 rfl ?_
              first | refine rw_ne0B f_X21_of_153 (fun c10 => ?_) (fun c10 => ?_) | refine rw_ne0 f_X21_of_153 (fun c10 => ?_) (fun c10 => ?_)
              · refine rw_iload f_X21_of_160 rfl ?_
                refine rw_iload f_X21_of_161 rfl ?_
                refine rw_idiv f_X21_of_162 (by first | assumption | decide) ?_
                refine rw_iret f_X21_of_163 ?_
                simpa [c1, c3, c6, c7, c8, c9, c10] using hk
              · refine rw_const f_X21_of_156 ?_
                refine rw_goto f_X21_of_157 ?_
                refine rw_iret f_X21_of_163 ?_
                simpa [c1, c3, c6, c7, c8, c9, c10] using hk
            · refine rw_skip (by decide) ?_
              refine rw_skip (by decide) ?_
              refine rw_skip (by decide) ?_
              refine rw_skip (by decide) ?_
              refine rw_skip (by decide) ?_
              refine rw_skip (by decide) ?_
              refine rw_skip (by decide) ?_
              refine rw_skip (by decide) ?_
              refine rw_skip (by decide) ?_
              refine rw_skip (by decide) ?_
              refine rw_skip (by decide) ?_
              refine rw_skip (by decide) ?_
              refine rw_sw1 (fun c11 => ?_) (fun c11 => ?_)
              · refine rw_iload f_X21_of_176 rfl ?_
                refine rw_iload f_X21_of_177 rfl ?_
                refine rw_ge f_X21_of_178 (fun c12 => ?_) (fun c12 => ?_)
                · refine rw_const f_X21_of_185 ?_
                  refine rw_callS f_X21_of_186 rfl rfl rfl (rn_ki (X21_is (by first | exact Or.inl rfl | exact Or.inr rfl) ?_))
                  refine rw_iret f_X21_of_189 ?_
                  simpa [c1, c3, c6, c7, c8, c9, c11, c12] using hk
                · refine rw_const f_X21_of_181 ?_
                  refine rw_goto f_X21_of_182 ?_
                  refine rw_callS f_X21_of_186 rfl rfl rfl (rn_ki (X21_is (by first | exact Or.inl rfl | exact Or.inr rfl) ?_))
                  refine rw_iret f_X21_of_189 ?_
                  simpa [c1, c3, c6, c7, c8, c9, c11, c12] using hk
              · refine rw_sw1 (fun c13 => ?_) (fun c13 => ?_)
                · refine rw_iload f_X21_of_204 rfl ?_
                  refine rw_iload f_X21_of_205 rfl ?_
                  refine rw_ne f_X21_of_206 (fun c14 => ?_) (fun c14 => ?_)
                  · refine rw_const f_X21_of_213 ?_
                    refine rw_callS f_X21_of_214 rfl rfl rfl (rn_ki (X21_is (by first | exact Or.inl rfl | exact Or.inr rfl) ?_))
                    refine rw_iret f_X21_of_217 ?_
                    simpa [c1, c3, c6, c7, c8, c9, c11, c13, c14] using hk
                  · refine rw_const f_X21_of_209 ?_
                    refine rw_goto f_X21_of_210 ?_
                    refine rw_callS f_X21_of_214 rfl rfl rfl (rn_ki (X21_is (by first | exact Or.inl rfl | exact Or.inr rfl) ?_))
                    refine rw_iret f_X21_of_217 ?_
                    simpa [c1, c3, c6, c7, c8, c9, c11, c13, c14] using hk
                · refine rw_sw1 (fun c15 => ?_) (fun c15 => ?_)
                  · refine rw_iload f_X21_of_190 rfl ?_
                    refine rw_iload f_X21_of_191 rfl ?_
                    refine rw_le f_X21_of_192 (fun c16 => ?_) (fun c16 => ?_)
                    · refine rw_const f_X21_of_199 ?_
                      refine rw_callS f_X21_of_200 rfl rfl rfl (rn_ki (X21_is (by first | exact Or.inl rfl | exact Or.inr rfl) ?_))
                      refine rw_iret f_X21_of_203 ?_
                      simpa [c1, c3, c6, c7, c8, c9, c11, c13, c15, c16] using hk
                    · refine rw_const f_X21_of_195 ?_
                      refine rw_goto f_X21_of_196 ?_
                      refine rw_callS f_X21_of_200 rfl rfl rfl (rn_ki (X21_is (by first | exact Or.inl rfl | exact Or.inr rfl) ?_))
                      refine rw_iret f_X21_of_203 ?_
                      simpa [c1, c3, c6, c7, c8, c9, c11, c13, c15, c16] using hk
                  · refine rw_sw0 ?_
                    refine rw_iload f_X21_of_235 rfl ?_
                    first | refine rw_ne0B f_X21_of_236 (fun c17 => ?_) (fun c17 => ?_) | refine rw_ne0 f_X21_of_236 (fun c17 => ?_) (fun c17 => ?_)
                    · refine rw_const f_X21_of_243 ?_
                      refine rw_goto f_X21_of_244 ?_
                      refine rw_callS f_X21_of_248 rfl rfl rfl (rn_ki (X21_is (by first | exact Or.inl rfl | exact Or.inr rfl) ?_))
                      refine rw_iret f_X21_of_251 ?_
                      simpa [c1, c3, c6, c7, c8, c9, c11, c13, c15, c17] using hk
                    · refine rw_iload f_X21_of_239 rfl ?_
                      first | refine rw_eq0B f_X21_of_240 (fun c18 => ?_) (fun c18 => ?_) | refine rw_eq0 f_X21_of_240 (fun c18 => ?_) (fun c18 => ?_)
                      · refine rw_const f_X21_of_247 ?_
                        refine rw_callS f_X21_of_248 rfl rfl rfl (rn_ki (X21_is (by first | exact Or.inl rfl | exact Or.inr rfl) ?_))
                        refine rw_iret f_X21_of_251 ?_
                        simpa [c1, c3, c6, c7, c8, c9, c11, c13, c15, c17, c18] using hk
                      · refine rw_const f_X21_of_243 ?_
                        refine rw_goto f_X21_of_244 ?_
                        refine rw_callS f_X21_of_248 rfl rfl rfl (rn_ki (X21_is (by first | exact Or.inl rfl | exact Or.inr rfl) ?_))
                        refine rw_iret f_X21_of_251 ?_
                        simpa [c1, c3, c6, c7, c8, c9, c11, c13, c15, c17, c18] using hk
/-- a tree's answer, by its method -/
def TOf (h : am_H) (t a : Nat) (c : am_S) (n : Nat) : Prop := ∃ j, am_disp of_tb (hp_K h a).1 = some j ∧ Nat.ble (am_sum [am_r a, am_r t]) (am_maxL j) = true ∧ ∀ (d : Nat) (k : Int32 → am_H → Prop), (∀ v, (∀ st, ev (tld h t) c st = v :: st) → k v h) → Rn (d + n) j 0 (am_ent j [am_r a, am_r t]) [] h (kI k)
theorem rw_of {i pc nx a t n : Nat} {c : am_S} {ls st : List am_V} {K : am_R → am_H → Prop} (f : am_fetch i pc = some (in_callU of_tb 1 nx)) (q : TOf h t a c n) (h0 : ¬ a = 0) (hn : Nat.ble (am_sum st) 8 = true) (k : ∀ v, (∀ st, ev (tld h t) c st = v :: st) → Rn (d + n + 1) i nx ls (am_i v :: st) h K) : Rn (d + n + 1) i pc ls (am_r t :: am_r a :: st) h K := by
  obtain ⟨j, e1, e2, e3⟩ := q
  exact rw_callV (u := (hp_K h a).2) (t := (hp_K h a).1) f rfl rfl h0 e1 hn rfl e2 (rn_ki (e3 d _ k))
theorem T_of (al : Al h) {t : Nat} (ht : hp_K h t = (1, 4)) : ∀ n a c, Tree h n a c → TOf h t a c n := by
  intro n
  induction n with
  | zero => intro a c q; exact absurd q id
  | succ n ih =>
    intro a c q
    rcases q with ⟨hK, rfl⟩ | ⟨hK, ⟨w, hw, e⟩, rfl⟩ | ⟨hK, c1, q1, rfl⟩ | ⟨hK, c1, c2, q1, q2, rfl⟩
    · refine ⟨n_X19_of, by rw [hK]; rfl, rfl, fun d k hk => ?_⟩
      refine rw_aload f_X19_of_0 rfl ?_
      refine rw_getI f_X19_of_1 hK ?_
      exact rw_iret f_X19_of_4 (hk _ (fun st => rfl))
    · refine ⟨n_X20_of, by rw [hK]; rfl, rfl, fun d k hk => ?_⟩
      refine rw_aload f_X20_of_0 rfl ?_
      refine rw_aload f_X20_of_1 rfl ?_
      refine rw_getI f_X20_of_2 hK ?_
      refine rw_xaldE (j := w) f_X20_of_5 ht e (by omega) (by omega) ?_
      refine rw_iret f_X20_of_6 (hk _ (fun st => ?_))
      show tld h t (hp_I h a 0) :: st = _
      rw [e]
      show hp_I h t (nI w).toNatClampNeg :: st = _
      rw [nI_clamp (by omega)]
    · refine ⟨n_X18_of, by rw [hK]; rfl, rfl, fun d k hk => ?_⟩
      have z1 : ¬ hp_R h a 0 = 0 := by
        obtain ⟨j, e1, -⟩ := ih _ _ q1
        intro z
        rw [z, al.2 0 (Or.inr rfl)] at e1
        exact absurd (show (none : Option Nat) = some j from e1) (by simp)
      refine rw_aload f_X18_of_0 rfl ?_
      refine rw_getR f_X18_of_1 hK rfl ?_
      refine rw_aload f_X18_of_4 rfl ?_
      refine rw_of f_X18_of_5 (ih _ _ q1) z1 rfl (fun v hv => ?_)
      have hk2 := hk (if v = 0 then 1 else 0) (fun st => by rw [ev_app, hv]; rfl)
      refine rw_ne0 f_X18_of_8 (fun c1 => ?_) (fun c1 => ?_)
      · refine rw_const f_X18_of_15 ?_
        rw [if_neg c1] at hk2
        exact rw_iret f_X18_of_16 hk2
      · refine rw_const f_X18_of_11 ?_
        refine rw_goto f_X18_of_12 ?_
        rw [if_pos c1] at hk2
        exact rw_iret f_X18_of_16 hk2
    · refine ⟨n_X21_of, by rw [hK]; rfl, rfl, fun d k hk => ?_⟩
      have zz : ∀ b c', Tree h n b c' → ¬ b = 0 := by
        intro b c' q z
        obtain ⟨j, e1, -⟩ := ih _ _ q
        rw [z, al.2 0 (Or.inr rfl)] at e1
        exact absurd (show (none : Option Nat) = some j from e1) (by simp)
      refine rw_aload f_X21_of_0 rfl ?_
      refine rw_getR f_X21_of_1 hK rfl ?_
      refine rw_aload f_X21_of_4 rfl ?_
      refine rw_of f_X21_of_5 (ih _ _ q1) (zz _ _ q1) rfl (fun v hv => ?_)
      refine rw_istore f_X21_of_8 rfl rfl ?_
      refine rw_aload f_X21_of_9 rfl ?_
      refine rw_getR f_X21_of_10 hK rfl ?_
      refine rw_aload f_X21_of_13 rfl ?_
      refine rw_of f_X21_of_14 (ih _ _ q2) (zz _ _ q2) rfl (fun v2 hv2 => ?_)
      refine rw_istore f_X21_of_17 rfl rfl ?_
      exact X21_tail hK (hk _ (fun st => by rw [ev_app, ev_app, hv, hv2]; rfl))
end Trees
