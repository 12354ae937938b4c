/-! SOUND, part 3: instructions that go on in the frame; no heap -/
def sd_Hyp (P : sd_P) (p : Program) (l : Launch) (R : Room) (s : State) (m : MethodId) (args : Array Value) (meth : Method) (c : Code) (own : String) (cc : ByteArray) (ini : Bool) (H : Heap) (locs : List Loc) (A : Array Slot) (ls : List am_V) (h : am_H) : Prop :=
  p.tables.exec = Jvm.exec ∧ c.code = cc ∧ s.vm.findClass own = some m.cls ∧ (∀ w ∈ lw_all, w.before args s = true) ∧ (ini = true → meth.name = "<init>") ∧ c.maxLocals = ls.length ∧ sd_G P s ∧ sd_Rel P s h H ∧ sd_L ls A ∧ (∀ q ∈ locs, sd_lo P ≤ q.base) ∧ 6 ≤ R.frames ∧ 384 ≤ R.locals ∧ sd_lo P ≤ H.size ∧ l.stackTraces = false
def sd_Cont (P : sd_P) (p : Program) (l : Launch) (e : Env) (R : Room) (s : State) (m : MethodId) (args : Array Value) (below : List Frame) (meth : Method) (c : Code) (Q : State → Prop) (ls0 : List am_V) (h : am_H) (cells slots pc' : Nat) (ls' st' : List am_V) (h' : am_H) : Prop :=
  ∀ (H' : Heap) (locs' : List Loc) (A' : Array Slot) (cells' slots' : Nat), sd_Rel P s h' H' → sd_L ls' A' → ls'.length = ls0.length → (∀ q ∈ locs', sd_lo P ≤ q.base) → sd_lo P ≤ H'.size → cells' + hp_n h = cells + hp_n h' → slots' + hp_u h = slots + hp_u h' → W p l e R s m args below meth c H' locs' cells' slots' Q (F0 m pc' A' (st'.map am_toV))
/-- the instruction f at pc is the JVM's there -/
def sd_I (own : String) (cc : ByteArray) (ini : Bool) (pc : Nat) (f : am_F) : Prop := ∀ (P : sd_P) (p : Program) (l : Launch) (e : Env) (R : Room) (s : State) (m : MethodId) (args : Array Value) (below : List Frame) (meth : Method) (c : Code) (H : Heap) (locs : List Loc) (cells slots : Nat) (Q : State → Prop) (A : Array Slot) (ls st : List am_V) (h : am_H) (pc' : Nat) (ls' st' : List am_V) (h' : am_H),
  sd_Hyp P p l R s m args meth c own cc ini H locs A ls h → f ls st h = some (.inl (pc', ls', st', h')) → cells + hp_n h' ≤ R.cells + hp_n h → slots + hp_u h' ≤ R.slots + hp_u h → sd_Cont P p l e R s m args below meth c Q ls h cells slots pc' ls' st' h' → W p l e R s m args below meth c H locs cells slots Q (F0 m pc A (st.map am_toV))
section S3
variable {P : sd_P} {p : Program} {l : Launch} {e : Env} {R : Room} {s : State} {m : MethodId} {args : Array Value} {below : List Frame} {meth : Method} {c : Code} {own : String} {cc : ByteArray} {ini : Bool} {H : Heap} {locs : List Loc} {cells slots : Nat} {Q : State → Prop} {A : Array Slot} {ls st : List am_V} {h : am_H} {pc' : Nat} {ls' st' : List am_V} {h' : am_H} {pc nx : Nat}
theorem sd_K0 (X : sd_Hyp P p l R s m args meth c own cc ini H locs A ls h) (K : sd_Cont P p l e R s m args below meth c Q ls h cells slots pc' ls st' h) : W p l e R s m args below meth c H locs cells slots Q (F0 m pc' A (st'.map am_toV)) :=
  K H locs A cells slots X.2.2.2.2.2.2.2.1 X.2.2.2.2.2.2.2.2.1 rfl X.2.2.2.2.2.2.2.2.2.1 X.2.2.2.2.2.2.2.2.2.2.2.2.1 rfl rfl
theorem sd_K1 (X : sd_Hyp P p l R s m args meth c own cc ini H locs A ls h) (K : sd_Cont P p l e R s m args below meth c Q ls h cells slots pc' ls' st' h) {A' : Array Slot} (hL : sd_L ls' A') (hl : ls'.length = ls.length) : W p l e R s m args below meth c H locs cells slots Q (F0 m pc' A' (st'.map am_toV)) :=
  K H locs A' cells slots X.2.2.2.2.2.2.2.1 hL hl X.2.2.2.2.2.2.2.2.2.1 X.2.2.2.2.2.2.2.2.2.2.2.2.1 rfl rfl
theorem sd_Hyp.G (X : sd_Hyp P p l R s m args meth c own cc ini H locs A ls h) : sd_G P s := X.2.2.2.2.2.2.1
theorem sd_Hyp.Rel (X : sd_Hyp P p l R s m args meth c own cc ini H locs A ls h) : sd_Rel P s h H := X.2.2.2.2.2.2.2.1
theorem sd_Hyp.L (X : sd_Hyp P p l R s m args meth c own cc ini H locs A ls h) : sd_L ls A := X.2.2.2.2.2.2.2.2.1
theorem sd_Hyp.ow (X : sd_Hyp P p l R s m args meth c own cc ini H locs A ls h) : s.vm.findClass own = some m.cls := X.2.2.1
theorem sd_Hyp.ts (X : sd_Hyp P p l R s m args meth c own cc ini H locs A ls h) : ∀ w ∈ lw_all, w.before args s = true := X.2.2.2.1
theorem sd_Hyp.lcs (X : sd_Hyp P p l R s m args meth c own cc ini H locs A ls h) : ∀ q ∈ locs, sd_lo P ≤ q.base := X.2.2.2.2.2.2.2.2.2.1
theorem sd_Hyp.lo (X : sd_Hyp P p l R s m args meth c own cc ini H locs A ls h) : sd_lo P ≤ H.size := X.2.2.2.2.2.2.2.2.2.2.2.2.1
theorem sd_Hyp.tr (X : sd_Hyp P p l R s m args meth c own cc ini H locs A ls h) : l.stackTraces = false := X.2.2.2.2.2.2.2.2.2.2.2.2.2
theorem sd_Hyp.ml (X : sd_Hyp P p l R s m args meth c own cc ini H locs A ls h) : c.maxLocals = ls.length := X.2.2.2.2.2.1
theorem sd_Hyp.fr6 (X : sd_Hyp P p l R s m args meth c own cc ini H locs A ls h) : 6 ≤ R.frames := X.2.2.2.2.2.2.2.2.2.2.1
theorem sd_Hyp.fr (X : sd_Hyp P p l R s m args meth c own cc ini H locs A ls h) : 1 ≤ R.frames := Nat.le_trans (by decide) X.fr6
theorem sd_Hyp.lc6 (X : sd_Hyp P p l R s m args meth c own cc ini H locs A ls h) : 384 ≤ R.locals := X.2.2.2.2.2.2.2.2.2.2.2.1
theorem sd_Hyp.lc (X : sd_Hyp P p l R s m args meth c own cc ini H locs A ls h) : 64 ≤ R.locals := Nat.le_trans (by decide) X.lc6
-- what an instruction's answer says
theorem iv_const {v : am_V} (E : in_const v nx ls st h = some (.inl (pc', ls', st', h'))) : nx = pc' ∧ ls = ls' ∧ v :: st = st' ∧ h = h' := by
  unfold in_const at E; cases E; exact ⟨rfl, rfl, rfl, rfl⟩
theorem iv_iload {g : Nat} (E : in_iload g nx ls st h = some (.inl (pc', ls', st', h'))) : ∃ x, ls[g]? = some (am_i x) ∧ nx = pc' ∧ ls = ls' ∧ am_i x :: st = st' ∧ h = h' := by
  unfold in_iload at E; split at E
  · rename_i x e; cases E; exact ⟨x, e, rfl, rfl, rfl, rfl⟩
  · cases E
theorem iv_lload {g : Nat} (E : in_lload g nx ls st h = some (.inl (pc', ls', st', h'))) : ∃ x, ls[g]? = some (am_l x) ∧ nx = pc' ∧ ls = ls' ∧ am_l x :: st = st' ∧ h = h' := by
  unfold in_lload at E; split at E
  · rename_i x e; cases E; exact ⟨x, e, rfl, rfl, rfl, rfl⟩
  · cases E
theorem iv_aload {g : Nat} (E : in_aload g nx ls st h = some (.inl (pc', ls', st', h'))) : ∃ x, ls[g]? = some (am_r x) ∧ nx = pc' ∧ ls = ls' ∧ am_r x :: st = st' ∧ h = h' := by
  unfold in_aload at E; split at E
  · rename_i x e; cases E; exact ⟨x, e, rfl, rfl, rfl, rfl⟩
  · cases E
theorem iv_istore {g : Nat} (E : in_istore g nx ls st h = some (.inl (pc', ls', st', h'))) : ∃ x st0, g < ls.length ∧ am_i x :: st0 = st ∧ nx = pc' ∧ am_put ls g (am_i x) = ls' ∧ st0 = st' ∧ h = h' := by
  unfold in_istore at E; split at E
  · rename_i x st0; split at E
    · rename_i hl; cases E; exact ⟨x, _, hl, rfl, rfl, rfl, rfl, rfl⟩
    · cases E
  · cases E
theorem iv_lstore {g : Nat} (E : in_lstore g nx ls st h = some (.inl (pc', ls', st', h'))) : ∃ x st0, g + 1 < ls.length ∧ am_l x :: st0 = st ∧ nx = pc' ∧ am_putL ls g (am_l x) = ls' ∧ st0 = st' ∧ h = h' := by
  unfold in_lstore at E; split at E
  · rename_i x st0; split at E
    · rename_i hl; cases E; exact ⟨x, _, hl, rfl, rfl, rfl, rfl, rfl⟩
    · cases E
  · cases E
theorem iv_astore {g : Nat} (E : in_astore g nx ls st h = some (.inl (pc', ls', st', h'))) : ∃ x st0, g < ls.length ∧ am_r x :: st0 = st ∧ nx = pc' ∧ am_put ls g (am_r x) = ls' ∧ st0 = st' ∧ h = h' := by
  unfold in_astore at E; split at E
  · rename_i x st0; split at E
    · rename_i hl; cases E; exact ⟨x, _, hl, rfl, rfl, rfl, rfl, rfl⟩
    · cases E
  · cases E
theorem iv_iinc {g : Nat} {v : Int32} (E : in_iinc g v nx ls st h = some (.inl (pc', ls', st', h'))) : ∃ x, ls[g]? = some (am_i x) ∧ nx = pc' ∧ am_put ls g (am_i (x + v)) = ls' ∧ st = st' ∧ h = h' := by
  unfold in_iinc at E; split at E
  · rename_i x e; cases E; exact ⟨x, e, rfl, rfl, rfl, rfl⟩
  · cases E
theorem iv_bin {g : Int32 → Int32 → Int32} (E : in_bin g nx ls st h = some (.inl (pc', ls', st', h'))) : ∃ x y st0, am_i y :: am_i x :: st0 = st ∧ nx = pc' ∧ ls = ls' ∧ am_i (g x y) :: st0 = st' ∧ h = h' := by
  unfold in_bin at E; split at E
  · rename_i y x st0; cases E; exact ⟨x, y, _, rfl, rfl, rfl, rfl, rfl⟩
  · cases E
theorem iv_bin0 {g : Int32 → Int32 → Int32} (E : in_bin0 g nx ls st h = some (.inl (pc', ls', st', h'))) : ∃ x y st0, ¬ y = 0 ∧ am_i y :: am_i x :: st0 = st ∧ nx = pc' ∧ ls = ls' ∧ am_i (g x y) :: st0 = st' ∧ h = h' := by
  unfold in_bin0 at E; split at E
  · rename_i y x st0; split at E
    · cases E
    · rename_i hy; cases E; exact ⟨x, y, st0, hy, rfl, rfl, rfl, rfl, rfl⟩
  · cases E
theorem iv_un {g : Int32 → Int32} (E : in_un g nx ls st h = some (.inl (pc', ls', st', h'))) : ∃ x st0, am_i x :: st0 = st ∧ nx = pc' ∧ ls = ls' ∧ am_i (g x) :: st0 = st' ∧ h = h' := by
  unfold in_un at E; split at E
  · rename_i x st0; cases E; exact ⟨x, _, rfl, rfl, rfl, rfl, rfl⟩
  · cases E
theorem iv_lbin {g : Int64 → Int64 → Int64} (E : in_lbin g nx ls st h = some (.inl (pc', ls', st', h'))) : ∃ x y st0, am_l y :: am_l x :: st0 = st ∧ nx = pc' ∧ ls = ls' ∧ am_l (g x y) :: st0 = st' ∧ h = h' := by
  unfold in_lbin at E; split at E
  · rename_i y x st0; cases E; exact ⟨x, y, _, rfl, rfl, rfl, rfl, rfl⟩
  · cases E
theorem iv_lbin0 {g : Int64 → Int64 → Int64} (E : in_lbin0 g nx ls st h = some (.inl (pc', ls', st', h'))) : ∃ x y st0, ¬ y = 0 ∧ am_l y :: am_l x :: st0 = st ∧ nx = pc' ∧ ls = ls' ∧ am_l (g x y) :: st0 = st' ∧ h = h' := by
  unfold in_lbin0 at E; split at E
  · rename_i y x st0; split at E
    · cases E
    · rename_i hy; cases E; exact ⟨x, y, st0, hy, rfl, rfl, rfl, rfl, rfl⟩
  · cases E
theorem iv_lsh (E : in_lsh nx ls st h = some (.inl (pc', ls', st', h'))) : ∃ x y st0, am_i y :: am_l x :: st0 = st ∧ nx = pc' ∧ ls = ls' ∧ am_l (x <<< (y.toInt64 &&& 63)) :: st0 = st' ∧ h = h' := by
  unfold in_lsh at E; split at E
  · rename_i y x st0; cases E; exact ⟨x, y, _, rfl, rfl, rfl, rfl, rfl⟩
  · cases E
theorem iv_lcmp (E : in_lcmp nx ls st h = some (.inl (pc', ls', st', h'))) : ∃ x y st0, am_l y :: am_l x :: st0 = st ∧ nx = pc' ∧ ls = ls' ∧ am_i (lg_cmp x y) :: st0 = st' ∧ h = h' := by
  unfold in_lcmp at E; split at E
  · rename_i y x st0; cases E; exact ⟨x, y, _, rfl, rfl, rfl, rfl, rfl⟩
  · cases E
theorem iv_i2l (E : in_i2l nx ls st h = some (.inl (pc', ls', st', h'))) : ∃ x st0, am_i x :: st0 = st ∧ nx = pc' ∧ ls = ls' ∧ am_l x.toInt64 :: st0 = st' ∧ h = h' := by
  unfold in_i2l at E; split at E
  · rename_i x st0; cases E; exact ⟨x, _, rfl, rfl, rfl, rfl, rfl⟩
  · cases E
theorem sd_cat1 (v : am_V) (h : ¬ ∃ x, v = am_l x) : (am_toV v).category = 1 := by
  rcases v with x | x | x | x
  · rfl
  · exact absurd ⟨x, rfl⟩ h
  · cases x <;> rfl
  · rfl
-- the JVM's rows
theorem ok_iadd (hd : decode cc pc = .ok (.iadd, 1)) : sd_I own cc ini pc (in_bin f_add (pc + 1)) := by
  intro P p l e R s m args below meth c H locs cells slots Q A ls st h pc' ls' st' h' X E hc hs K
  obtain ⟨x, y, st0, rfl, rfl, rfl, rfl, rfl⟩ := iv_bin E
  exact lv_iadd X.1 X.2.1 hd (sd_K0 X K)
theorem ok_isub (hd : decode cc pc = .ok (.isub, 1)) : sd_I own cc ini pc (in_bin f_sub (pc + 1)) := by
  intro P p l e R s m args below meth c H locs cells slots Q A ls st h pc' ls' st' h' X E hc hs K
  obtain ⟨x, y, st0, rfl, rfl, rfl, rfl, rfl⟩ := iv_bin E
  exact lv_isub X.1 X.2.1 hd (sd_K0 X K)
theorem ok_imul (hd : decode cc pc = .ok (.imul, 1)) : sd_I own cc ini pc (in_bin f_mul (pc + 1)) := by
  intro P p l e R s m args below meth c H locs cells slots Q A ls st h pc' ls' st' h' X E hc hs K
  obtain ⟨x, y, st0, rfl, rfl, rfl, rfl, rfl⟩ := iv_bin E
  exact lv_imul X.1 X.2.1 hd (sd_K0 X K)
theorem ok_ishl (hd : decode cc pc = .ok (.ishl, 1)) : sd_I own cc ini pc (in_bin f_shl (pc + 1)) := by
  intro P p l e R s m args below meth c H locs cells slots Q A ls st h pc' ls' st' h' X E hc hs K
  obtain ⟨x, y, st0, rfl, rfl, rfl, rfl, rfl⟩ := iv_bin E
  exact lv_ishl X.1 X.2.1 hd (sd_K0 X K)
theorem ok_ishr (hd : decode cc pc = .ok (.ishr, 1)) : sd_I own cc ini pc (in_bin f_shr (pc + 1)) := by
  intro P p l e R s m args below meth c H locs cells slots Q A ls st h pc' ls' st' h' X E hc hs K
  obtain ⟨x, y, st0, rfl, rfl, rfl, rfl, rfl⟩ := iv_bin E
  exact lv_ishr X.1 X.2.1 hd (sd_K0 X K)
theorem ok_iand (hd : decode cc pc = .ok (.iand, 1)) : sd_I own cc ini pc (in_bin f_and (pc + 1)) := by
  intro P p l e R s m args below meth c H locs cells slots Q A ls st h pc' ls' st' h' X E hc hs K
  obtain ⟨x, y, st0, rfl, rfl, rfl, rfl, rfl⟩ := iv_bin E
  exact lv_iand X.1 X.2.1 hd (sd_K0 X K)
theorem ok_ior (hd : decode cc pc = .ok (.ior, 1)) : sd_I own cc ini pc (in_bin f_or (pc + 1)) := by
  intro P p l e R s m args below meth c H locs cells slots Q A ls st h pc' ls' st' h' X E hc hs K
  obtain ⟨x, y, st0, rfl, rfl, rfl, rfl, rfl⟩ := iv_bin E
  exact lv_ior X.1 X.2.1 hd (sd_K0 X K)
theorem ok_ixor (hd : decode cc pc = .ok (.ixor, 1)) : sd_I own cc ini pc (in_bin f_xor (pc + 1)) := by
  intro P p l e R s m args below meth c H locs cells slots Q A ls st h pc' ls' st' h' X E hc hs K
  obtain ⟨x, y, st0, rfl, rfl, rfl, rfl, rfl⟩ := iv_bin E
  exact lv_ixor X.1 X.2.1 hd (sd_K0 X K)
theorem ok_iushr (hd : decode cc pc = .ok (.iushr, 1)) : sd_I own cc ini pc (in_bin f_ushr (pc + 1)) := by
  intro P p l e R s m args below meth c H locs cells slots Q A ls st h pc' ls' st' h' X E hc hs K
  obtain ⟨x, y, st0, rfl, rfl, rfl, rfl, rfl⟩ := iv_bin E
  exact lv_iushr X.1 X.2.1 hd rfl (sd_K0 X K)
theorem ok_idiv (hd : decode cc pc = .ok (.idiv, 1)) : sd_I own cc ini pc (in_bin0 f_div (pc + 1)) := by
  intro P p l e R s m args below meth c H locs cells slots Q A ls st h pc' ls' st' h' X E hc hs K
  obtain ⟨x, y, st0, hy, rfl, rfl, rfl, rfl, rfl⟩ := iv_bin0 E
  exact lv_idiv X.1 X.2.1 hd hy (sd_K0 X K)
theorem ok_irem (hd : decode cc pc = .ok (.irem, 1)) : sd_I own cc ini pc (in_bin0 f_rem (pc + 1)) := by
  intro P p l e R s m args below meth c H locs cells slots Q A ls st h pc' ls' st' h' X E hc hs K
  obtain ⟨x, y, st0, hy, rfl, rfl, rfl, rfl, rfl⟩ := iv_bin0 E
  exact lv_irem X.1 X.2.1 hd hy (sd_K0 X K)
theorem ok_ineg (hd : decode cc pc = .ok (.ineg, 1)) : sd_I own cc ini pc (in_un f_neg (pc + 1)) := by
  intro P p l e R s m args below meth c H locs cells slots Q A ls st h pc' ls' st' h' X E hc hs K
  obtain ⟨x, st0, rfl, rfl, rfl, rfl, rfl⟩ := iv_un E
  exact lv_ineg X.1 X.2.1 hd (sd_K0 X K)
theorem ok_i2b (hd : decode cc pc = .ok (.i2b, 1)) : sd_I own cc ini pc (in_un f_i2b (pc + 1)) := by
  intro P p l e R s m args below meth c H locs cells slots Q A ls st h pc' ls' st' h' X E hc hs K
  obtain ⟨x, st0, rfl, rfl, rfl, rfl, rfl⟩ := iv_un E
  exact lv_i2b X.1 X.2.1 hd rfl (sd_K0 X K)
theorem ok_i2c (hd : decode cc pc = .ok (.i2c, 1)) : sd_I own cc ini pc (in_un f_i2c (pc + 1)) := by
  intro P p l e R s m args below meth c H locs cells slots Q A ls st h pc' ls' st' h' X E hc hs K
  obtain ⟨x, st0, rfl, rfl, rfl, rfl, rfl⟩ := iv_un E
  exact lv_i2c X.1 X.2.1 hd rfl (sd_K0 X K)
theorem ok_ladd (hd : decode cc pc = .ok (.ladd, 1)) : sd_I own cc ini pc (in_lbin f_ladd (pc + 1)) := by
  intro P p l e R s m args below meth c H locs cells slots Q A ls st h pc' ls' st' h' X E hc hs K
  obtain ⟨x, y, st0, rfl, rfl, rfl, rfl, rfl⟩ := iv_lbin E
  exact lv_ladd X.1 X.2.1 hd (sd_K0 X K)
theorem ok_lmul (hd : decode cc pc = .ok (.lmul, 1)) : sd_I own cc ini pc (in_lbin f_lmul (pc + 1)) := by
  intro P p l e R s m args below meth c H locs cells slots Q A ls st h pc' ls' st' h' X E hc hs K
  obtain ⟨x, y, st0, rfl, rfl, rfl, rfl, rfl⟩ := iv_lbin E
  exact lv_lmul X.1 X.2.1 hd (sd_K0 X K)
theorem ok_lor (hd : decode cc pc = .ok (.lor, 1)) : sd_I own cc ini pc (in_lbin f_lor (pc + 1)) := by
  intro P p l e R s m args below meth c H locs cells slots Q A ls st h pc' ls' st' h' X E hc hs K
  obtain ⟨x, y, st0, rfl, rfl, rfl, rfl, rfl⟩ := iv_lbin E
  exact lv_lor X.1 X.2.1 hd (sd_K0 X K)
theorem ok_ldiv (hd : decode cc pc = .ok (.ldiv, 1)) : sd_I own cc ini pc (in_lbin0 f_ldiv (pc + 1)) := by
  intro P p l e R s m args below meth c H locs cells slots Q A ls st h pc' ls' st' h' X E hc hs K
  obtain ⟨x, y, st0, hy, rfl, rfl, rfl, rfl, rfl⟩ := iv_lbin0 E
  exact lv_ldiv X.1 X.2.1 hd hy (sd_K0 X K)
theorem ok_lrem (hd : decode cc pc = .ok (.lrem, 1)) : sd_I own cc ini pc (in_lbin0 f_lrem (pc + 1)) := by
  intro P p l e R s m args below meth c H locs cells slots Q A ls st h pc' ls' st' h' X E hc hs K
  obtain ⟨x, y, st0, hy, rfl, rfl, rfl, rfl, rfl⟩ := iv_lbin0 E
  exact lv_lrem X.1 X.2.1 hd hy (sd_K0 X K)
theorem ok_lshl (hd : decode cc pc = .ok (.lshl, 1)) : sd_I own cc ini pc (in_lsh (pc + 1)) := by
  intro P p l e R s m args below meth c H locs cells slots Q A ls st h pc' ls' st' h' X E hc hs K
  obtain ⟨x, y, st0, rfl, rfl, rfl, rfl, rfl⟩ := iv_lsh E
  exact lv_lshl X.1 X.2.1 hd rfl (sd_K0 X K)
theorem ok_lcmp (hd : decode cc pc = .ok (.lcmp, 1)) : sd_I own cc ini pc (in_lcmp (pc + 1)) := by
  intro P p l e R s m args below meth c H locs cells slots Q A ls st h pc' ls' st' h' X E hc hs K
  obtain ⟨x, y, st0, rfl, rfl, rfl, rfl, rfl⟩ := iv_lcmp E
  exact W.lcmp X.1 X.2.1 hd (sd_K0 X K)
theorem ok_i2l (hd : decode cc pc = .ok (.i2l, 1)) : sd_I own cc ini pc (in_i2l (pc + 1)) := by
  intro P p l e R s m args below meth c H locs cells slots Q A ls st h pc' ls' st' h' X E hc hs K
  obtain ⟨x, st0, rfl, rfl, rfl, rfl, rfl⟩ := iv_i2l E
  exact lv_i2l X.1 X.2.1 hd rfl (sd_K0 X K)
theorem ok_iconst {n : Int} {v : Int32} (hd : decode cc pc = .ok (.iconst n, 1)) (hv : Int32.ofInt n = v) : sd_I own cc ini pc (in_const (am_i v) (pc + 1)) := by
  intro P p l e R s m args below meth c H locs cells slots Q A ls st h pc' ls' st' h' X E hc hs K
  obtain ⟨rfl, rfl, rfl, rfl⟩ := iv_const E
  exact lv_iconst X.1 X.2.1 hd hv (sd_K0 X K)
theorem ok_bipush {n : Int} {v : Int32} (hd : decode cc pc = .ok (.bipush n, 2)) (hv : (Int8.ofInt n).toInt32 = v) : sd_I own cc ini pc (in_const (am_i v) (pc + 2)) := by
  intro P p l e R s m args below meth c H locs cells slots Q A ls st h pc' ls' st' h' X E hc hs K
  obtain ⟨rfl, rfl, rfl, rfl⟩ := iv_const E
  exact lv_bipush X.1 X.2.1 hd hv (sd_K0 X K)
theorem ok_sipush {n : Int} {v : Int32} (hd : decode cc pc = .ok (.sipush n, 3)) (hv : (Int16.ofInt n).toInt32 = v) : sd_I own cc ini pc (in_const (am_i v) (pc + 3)) := by
  intro P p l e R s m args below meth c H locs cells slots Q A ls st h pc' ls' st' h' X E hc hs K
  obtain ⟨rfl, rfl, rfl, rfl⟩ := iv_const E
  exact lv_sipush X.1 X.2.1 hd hv (sd_K0 X K)
theorem ok_lconst {n : Fin 2} {v : Int64} (hd : decode cc pc = .ok (.lconst n, 1)) (hv : Int64.ofNat (n : Nat) = v) : sd_I own cc ini pc (in_const (am_l v) (pc + 1)) := by
  intro P p l e R s m args below meth c H locs cells slots Q A ls st h pc' ls' st' h' X E hc hs K
  obtain ⟨rfl, rfl, rfl, rfl⟩ := iv_const E
  exact lv_lconst X.1 X.2.1 hd hv (sd_K0 X K)
theorem ok_null (hd : decode cc pc = .ok (.aconst_null, 1)) : sd_I own cc ini pc (in_const (am_r 0) (pc + 1)) := by
  intro P p l e R s m args below meth c H locs cells slots Q A ls st h pc' ls' st' h' X E hc hs K
  obtain ⟨rfl, rfl, rfl, rfl⟩ := iv_const E
  exact lv_null X.1 X.2.1 hd (sd_K0 X K)
theorem ok_ldc {n : Nat} {v : Int32} (hd : decode cc pc = .ok (.ldc n, 2)) (hw : Cond.constant own n v ∈ lw_all) : sd_I own cc ini pc (in_const (am_i v) (pc + 2)) := by
  intro P p l e R s m args below meth c H locs cells slots Q A ls st h pc' ls' st' h' X E hc hs K
  obtain ⟨rfl, rfl, rfl, rfl⟩ := iv_const E
  exact lv_ldc X.1 X.2.1 X.ow (X.ts _ hw) hd (sd_K0 X K)
theorem ok_ldcw {n : Nat} {v : Int32} (hd : decode cc pc = .ok (.ldc_w n, 3)) (hw : Cond.constant own n v ∈ lw_all) : sd_I own cc ini pc (in_const (am_i v) (pc + 3)) := by
  intro P p l e R s m args below meth c H locs cells slots Q A ls st h pc' ls' st' h' X E hc hs K
  obtain ⟨rfl, rfl, rfl, rfl⟩ := iv_const E
  exact lv_ldcw X.1 X.2.1 X.ow (X.ts _ hw) hd (sd_K0 X K)
theorem ok_ldc2 {n : Nat} {v : Int64} (hd : decode cc pc = .ok (.ldc2_w n, 3)) (hw : Cond.constantLong own n v ∈ lw_all) : sd_I own cc ini pc (in_const (am_l v) (pc + 3)) := by
  intro P p l e R s m args below meth c H locs cells slots Q A ls st h pc' ls' st' h' X E hc hs K
  obtain ⟨rfl, rfl, rfl, rfl⟩ := iv_const E
  exact lv_ldc2 X.1 X.2.1 X.ow (X.ts _ hw) hd (sd_K0 X K)
theorem ok_iload {g : Nat} (hd : decode cc pc = .ok (.iload g, 2)) : sd_I own cc ini pc (in_iload g (pc + 2)) := by
  intro P p l e R s m args below meth c H locs cells slots Q A ls st h pc' ls' st' h' X E hc hs K
  obtain ⟨x, ex, rfl, rfl, rfl, rfl⟩ := iv_iload E
  exact lv_iload X.1 X.2.1 hd (X.L.at ex (by simp)) (sd_K0 X K)
theorem ok_iload_n {g : Fin 4} (hd : decode cc pc = .ok (.iload_n g, 1)) : sd_I own cc ini pc (in_iload g (pc + 1)) := by
  intro P p l e R s m args below meth c H locs cells slots Q A ls st h pc' ls' st' h' X E hc hs K
  obtain ⟨x, ex, rfl, rfl, rfl, rfl⟩ := iv_iload E
  exact lv_iload_n X.1 X.2.1 hd rfl (X.L.at ex (by simp)) (sd_K0 X K)
theorem ok_lload {g : Nat} (hd : decode cc pc = .ok (.lload g, 2)) : sd_I own cc ini pc (in_lload g (pc + 2)) := by
  intro P p l e R s m args below meth c H locs cells slots Q A ls st h pc' ls' st' h' X E hc hs K
  obtain ⟨x, ex, rfl, rfl, rfl, rfl⟩ := iv_lload E
  exact lv_lload X.1 X.2.1 hd (X.L.at ex (by simp)) (sd_K0 X K)
theorem ok_lload_n {g : Fin 4} (hd : decode cc pc = .ok (.lload_n g, 1)) : sd_I own cc ini pc (in_lload g (pc + 1)) := by
  intro P p l e R s m args below meth c H locs cells slots Q A ls st h pc' ls' st' h' X E hc hs K
  obtain ⟨x, ex, rfl, rfl, rfl, rfl⟩ := iv_lload E
  exact lv_lload_n X.1 X.2.1 hd rfl (X.L.at ex (by simp)) (sd_K0 X K)
theorem ok_aload {g : Nat} (hd : decode cc pc = .ok (.aload g, 2)) : sd_I own cc ini pc (in_aload g (pc + 2)) := by
  intro P p l e R s m args below meth c H locs cells slots Q A ls st h pc' ls' st' h' X E hc hs K
  obtain ⟨x, ex, rfl, rfl, rfl, rfl⟩ := iv_aload E
  cases x with
  | zero => exact lv_aloadN X.1 X.2.1 hd (X.L.at ex (by simp)) (sd_K0 X K)
  | succ x => exact lv_aload X.1 X.2.1 hd (X.L.at ex (by simp)) (sd_K0 X K)
theorem ok_aload_n {g : Fin 4} (hd : decode cc pc = .ok (.aload_n g, 1)) : sd_I own cc ini pc (in_aload g (pc + 1)) := by
  intro P p l e R s m args below meth c H locs cells slots Q A ls st h pc' ls' st' h' X E hc hs K
  obtain ⟨x, ex, rfl, rfl, rfl, rfl⟩ := iv_aload E
  cases x with
  | zero => exact lv_aload_nN X.1 X.2.1 hd rfl (X.L.at ex (by simp)) (sd_K0 X K)
  | succ x => exact lv_aload_n X.1 X.2.1 hd rfl (X.L.at ex (by simp)) (sd_K0 X K)
theorem ok_istore {g : Nat} (hd : decode cc pc = .ok (.istore g, 2)) : sd_I own cc ini pc (in_istore g (pc + 2)) := by
  intro P p l e R s m args below meth c H locs cells slots Q A ls st h pc' ls' st' h' X E hc hs K
  obtain ⟨x, st0, hg, rfl, rfl, rfl, rfl, rfl⟩ := iv_istore E
  exact lv_istore X.1 X.2.1 hd X.L hg rfl (fun A' hA => sd_K1 X K (sd_put (v := am_i x) hg hA) (am_put_len _ _ _))
theorem ok_istore_n {g : Fin 4} (hd : decode cc pc = .ok (.istore_n g, 1)) : sd_I own cc ini pc (in_istore g (pc + 1)) := by
  intro P p l e R s m args below meth c H locs cells slots Q A ls st h pc' ls' st' h' X E hc hs K
  obtain ⟨x, st0, hg, rfl, rfl, rfl, rfl, rfl⟩ := iv_istore E
  exact lv_istore_n X.1 X.2.1 hd rfl X.L hg rfl (fun A' hA => sd_K1 X K (sd_put (v := am_i x) hg hA) (am_put_len _ _ _))
theorem ok_lstore {g : Nat} (hd : decode cc pc = .ok (.lstore g, 2)) : sd_I own cc ini pc (in_lstore g (pc + 2)) := by
  intro P p l e R s m args below meth c H locs cells slots Q A ls st h pc' ls' st' h' X E hc hs K
  obtain ⟨x, st0, hg, rfl, rfl, rfl, rfl, rfl⟩ := iv_lstore E
  exact lv_lstore X.1 X.2.1 hd X.L hg rfl (fun A' hA => sd_K1 X K (sd_putL (v := am_l x) hg hA) (am_putL_len _ _ _))
theorem ok_lstore_n {g : Fin 4} (hd : decode cc pc = .ok (.lstore_n g, 1)) : sd_I own cc ini pc (in_lstore g (pc + 1)) := by
  intro P p l e R s m args below meth c H locs cells slots Q A ls st h pc' ls' st' h' X E hc hs K
  obtain ⟨x, st0, hg, rfl, rfl, rfl, rfl, rfl⟩ := iv_lstore E
  exact lv_lstore_n X.1 X.2.1 hd rfl X.L hg rfl (fun A' hA => sd_K1 X K (sd_putL (v := am_l x) hg hA) (am_putL_len _ _ _))
theorem ok_astore {g : Nat} (hd : decode cc pc = .ok (.astore g, 2)) : sd_I own cc ini pc (in_astore g (pc + 2)) := by
  intro P p l e R s m args below meth c H locs cells slots Q A ls st h pc' ls' st' h' X E hc hs K
  obtain ⟨x, st0, hg, rfl, rfl, rfl, rfl, rfl⟩ := iv_astore E
  cases x with
  | zero => exact lv_astoreN X.1 X.2.1 hd X.L hg rfl (fun A' hA => sd_K1 X K (sd_put (v := am_r 0) hg hA) (am_put_len _ _ _))
  | succ x => exact lv_astore X.1 X.2.1 hd X.L hg rfl (fun A' hA => sd_K1 X K (sd_put (v := am_r (x + 1)) hg hA) (am_put_len _ _ _))
theorem ok_astore_n {g : Fin 4} (hd : decode cc pc = .ok (.astore_n g, 1)) : sd_I own cc ini pc (in_astore g (pc + 1)) := by
  intro P p l e R s m args below meth c H locs cells slots Q A ls st h pc' ls' st' h' X E hc hs K
  obtain ⟨x, st0, hg, rfl, rfl, rfl, rfl, rfl⟩ := iv_astore E
  cases x with
  | zero => exact lv_astore_nN X.1 X.2.1 hd rfl X.L hg rfl (fun A' hA => sd_K1 X K (sd_put (v := am_r 0) hg hA) (am_put_len _ _ _))
  | succ x => exact lv_astore_n X.1 X.2.1 hd rfl X.L hg rfl (fun A' hA => sd_K1 X K (sd_put (v := am_r (x + 1)) hg hA) (am_put_len _ _ _))
theorem ok_iinc {g : Nat} {n : Int} {v : Int32} (hd : decode cc pc = .ok (.iinc g n, 3)) (hv : Int32.ofInt n = v) : sd_I own cc ini pc (in_iinc g v (pc + 3)) := by
  intro P p l e R s m args below meth c H locs cells slots Q A ls st h pc' ls' st' h' X E hc hs K
  obtain ⟨x, ex, rfl, rfl, rfl, rfl⟩ := iv_iinc E
  subst hv
  have hg : g < ls.length := (List.getElem?_eq_some_iff.mp ex).1
  have hm := sd_al_in ex (by simp)
  obtain ⟨k, hk⟩ := List.getElem?_of_mem hm
  exact lv_iinc X.1 X.2.1 hd X.L hk rfl hg rfl (fun A' hA => sd_K1 X K (sd_put (v := am_i (x + Int32.ofInt n)) hg hA) (am_put_len _ _ _))
theorem ok_dup (hd : decode cc pc = .ok (.dup, 1)) : sd_I own cc ini pc (in_dup (pc + 1)) := by
  intro P p l e R s m args below meth c H locs cells slots Q A ls st h pc' ls' st' h' X E hc hs K
  unfold in_dup at E; split at E
  · rename_i x st0; cases E; exact lv_dup X.1 X.2.1 hd rfl (sd_K0 X K)
  · rename_i x st0; cases E; exact lv_dup (va := am_toV (am_r x)) X.1 X.2.1 hd (sd_cat1 _ (by simp)) (sd_K0 X K)
  · cases E
theorem ok_pop (hd : decode cc pc = .ok (.pop, 1)) : sd_I own cc ini pc (in_pop (pc + 1)) := by
  intro P p l e R s m args below meth c H locs cells slots Q A ls st h pc' ls' st' h' X E hc hs K
  unfold in_pop at E; split at E
  · rename_i x st0; cases E; exact lv_pop X.1 X.2.1 hd rfl (sd_K0 X K)
  · rename_i x st0; cases E; exact lv_pop (va := am_toV (am_r x)) X.1 X.2.1 hd (sd_cat1 _ (by simp)) (sd_K0 X K)
  · cases E
theorem ok_dup_x1 (hd : decode cc pc = .ok (.dup_x1, 1)) : sd_I own cc ini pc (in_dupx1 (pc + 1)) := by
  intro P p l e R s m args below meth c H locs cells slots Q A ls st h pc' ls' st' h' X E hc hs K
  unfold in_dupx1 at E; split at E
  · rename_i x y st0; cases E; exact lv_dup_x1 (va := am_toV (am_i x)) (vb := am_toV (am_r y)) X.1 X.2.1 hd rfl (sd_cat1 _ (by simp)) (sd_K0 X K)
  · rename_i x y st0; cases E; exact lv_dup_x1 (va := am_toV (am_r x)) (vb := am_toV (am_r y)) X.1 X.2.1 hd (sd_cat1 _ (by simp)) (sd_cat1 _ (by simp)) (sd_K0 X K)
  · cases E
theorem ok_dup2 (hd : decode cc pc = .ok (.dup2, 1)) : sd_I own cc ini pc (in_dup2 (pc + 1)) := by
  intro P p l e R s m args below meth c H locs cells slots Q A ls st h pc' ls' st' h' X E hc hs K
  unfold in_dup2 at E; split at E
  · rename_i x y st0; cases E; exact lv_dup2_11 (va := am_toV (am_i x)) (vb := am_toV (am_r y)) X.1 X.2.1 hd rfl (sd_cat1 _ (by simp)) (sd_K0 X K)
  · cases E
theorem iv_if {g : Int32 → Bool} {tgt : Nat} (E : in_if g tgt nx ls st h = some (.inl (pc', ls', st', h'))) : ∃ x st0, am_i x :: st0 = st ∧ cond (g x) tgt nx = pc' ∧ ls = ls' ∧ st0 = st' ∧ h = h' := by
  unfold in_if at E; split at E
  · rename_i x st0; cases E; exact ⟨x, _, rfl, rfl, rfl, rfl, rfl⟩
  · cases E
theorem iv_icmp {g : Int32 → Int32 → Bool} {tgt : Nat} (E : in_icmp g tgt nx ls st h = some (.inl (pc', ls', st', h'))) : ∃ x y st0, am_i y :: am_i x :: st0 = st ∧ cond (g x y) tgt nx = pc' ∧ ls = ls' ∧ st0 = st' ∧ h = h' := by
  unfold in_icmp at E; split at E
  · rename_i y x st0; cases E; exact ⟨x, y, _, rfl, rfl, rfl, rfl, rfl⟩
  · cases E
theorem ok_icmp_eq {off : Int} {tgt : Nat} (hd : decode cc pc = .ok (.if_icmp .eq off, 3)) (ht : (pc : Int) + off = (tgt : Int)) : sd_I own cc ini pc (in_icmp c_eq tgt (pc + 3)) := by
  intro P p l e R s m args below meth c H locs cells slots Q A ls st h pc' ls' st' h' X E hc hs K
  obtain ⟨x, y, st0, rfl, epc, rfl, rfl, rfl⟩ := iv_icmp E
  refine lv_icmp_eq X.1 X.2.1 hd ht (fun q => ?_) (fun q => ?_)
  · rw [show c_eq x y = true from decide_eq_true q] at epc
    subst epc; exact sd_K0 X K
  · rw [show c_eq x y = false from decide_eq_false q] at epc
    subst epc; exact sd_K0 X K
theorem ok_if_eq {off : Int} {tgt : Nat} (hd : decode cc pc = .ok (.ifCond .eq off, 3)) (ht : (pc : Int) + off = (tgt : Int)) : sd_I own cc ini pc (in_if c_eq0 tgt (pc + 3)) := by
  intro P p l e R s m args below meth c H locs cells slots Q A ls st h pc' ls' st' h' X E hc hs K
  obtain ⟨x, st0, rfl, epc, rfl, rfl, rfl⟩ := iv_if E
  refine lv_if_eq X.1 X.2.1 hd ht (fun q => ?_) (fun q => ?_)
  · rw [show c_eq0 x = true from decide_eq_true q] at epc
    subst epc; exact sd_K0 X K
  · rw [show c_eq0 x = false from decide_eq_false q] at epc
    subst epc; exact sd_K0 X K
theorem ok_icmp_ne {off : Int} {tgt : Nat} (hd : decode cc pc = .ok (.if_icmp .ne off, 3)) (ht : (pc : Int) + off = (tgt : Int)) : sd_I own cc ini pc (in_icmp c_ne tgt (pc + 3)) := by
  intro P p l e R s m args below meth c H locs cells slots Q A ls st h pc' ls' st' h' X E hc hs K
  obtain ⟨x, y, st0, rfl, epc, rfl, rfl, rfl⟩ := iv_icmp E
  refine lv_icmp_ne X.1 X.2.1 hd ht (fun q => ?_) (fun q => ?_)
  · rw [show c_ne x y = true from decide_eq_true q] at epc
    subst epc; exact sd_K0 X K
  · rw [show c_ne x y = false from decide_eq_false (fun z => z q)] at epc
    subst epc; exact sd_K0 X K
theorem ok_if_ne {off : Int} {tgt : Nat} (hd : decode cc pc = .ok (.ifCond .ne off, 3)) (ht : (pc : Int) + off = (tgt : Int)) : sd_I own cc ini pc (in_if c_ne0 tgt (pc + 3)) := by
  intro P p l e R s m args below meth c H locs cells slots Q A ls st h pc' ls' st' h' X E hc hs K
  obtain ⟨x, st0, rfl, epc, rfl, rfl, rfl⟩ := iv_if E
  refine lv_if_ne X.1 X.2.1 hd ht (fun q => ?_) (fun q => ?_)
  · rw [show c_ne0 x = true from decide_eq_true q] at epc
    subst epc; exact sd_K0 X K
  · rw [show c_ne0 x = false from decide_eq_false (fun z => z q)] at epc
    subst epc; exact sd_K0 X K
theorem ok_icmp_lt {off : Int} {tgt : Nat} (hd : decode cc pc = .ok (.if_icmp .lt off, 3)) (ht : (pc : Int) + off = (tgt : Int)) : sd_I own cc ini pc (in_icmp c_lt tgt (pc + 3)) := by
  intro P p l e R s m args below meth c H locs cells slots Q A ls st h pc' ls' st' h' X E hc hs K
  obtain ⟨x, y, st0, rfl, epc, rfl, rfl, rfl⟩ := iv_icmp E
  refine lv_icmp_lt X.1 X.2.1 hd ht (fun q => ?_) (fun q => ?_)
  · rw [show c_lt x y = true from decide_eq_true q] at epc
    subst epc; exact sd_K0 X K
  · rw [show c_lt x y = false from decide_eq_false q] at epc
    subst epc; exact sd_K0 X K
theorem ok_if_lt {off : Int} {tgt : Nat} (hd : decode cc pc = .ok (.ifCond .lt off, 3)) (ht : (pc : Int) + off = (tgt : Int)) : sd_I own cc ini pc (in_if c_lt0 tgt (pc + 3)) := by
  intro P p l e R s m args below meth c H locs cells slots Q A ls st h pc' ls' st' h' X E hc hs K
  obtain ⟨x, st0, rfl, epc, rfl, rfl, rfl⟩ := iv_if E
  refine lv_if_lt X.1 X.2.1 hd ht (fun q => ?_) (fun q => ?_)
  · rw [show c_lt0 x = true from decide_eq_true q] at epc
    subst epc; exact sd_K0 X K
  · rw [show c_lt0 x = false from decide_eq_false q] at epc
    subst epc; exact sd_K0 X K
theorem ok_icmp_ge {off : Int} {tgt : Nat} (hd : decode cc pc = .ok (.if_icmp .ge off, 3)) (ht : (pc : Int) + off = (tgt : Int)) : sd_I own cc ini pc (in_icmp c_ge tgt (pc + 3)) := by
  intro P p l e R s m args below meth c H locs cells slots Q A ls st h pc' ls' st' h' X E hc hs K
  obtain ⟨x, y, st0, rfl, epc, rfl, rfl, rfl⟩ := iv_icmp E
  refine lv_icmp_ge X.1 X.2.1 hd ht (fun q => ?_) (fun q => ?_)
  · rw [show c_ge x y = true from decide_eq_true q] at epc
    subst epc; exact sd_K0 X K
  · rw [show c_ge x y = false from decide_eq_false q] at epc
    subst epc; exact sd_K0 X K
theorem ok_if_ge {off : Int} {tgt : Nat} (hd : decode cc pc = .ok (.ifCond .ge off, 3)) (ht : (pc : Int) + off = (tgt : Int)) : sd_I own cc ini pc (in_if c_ge0 tgt (pc + 3)) := by
  intro P p l e R s m args below meth c H locs cells slots Q A ls st h pc' ls' st' h' X E hc hs K
  obtain ⟨x, st0, rfl, epc, rfl, rfl, rfl⟩ := iv_if E
  refine lv_if_ge X.1 X.2.1 hd ht (fun q => ?_) (fun q => ?_)
  · rw [show c_ge0 x = true from decide_eq_true q] at epc
    subst epc; exact sd_K0 X K
  · rw [show c_ge0 x = false from decide_eq_false q] at epc
    subst epc; exact sd_K0 X K
theorem ok_icmp_gt {off : Int} {tgt : Nat} (hd : decode cc pc = .ok (.if_icmp .gt off, 3)) (ht : (pc : Int) + off = (tgt : Int)) : sd_I own cc ini pc (in_icmp c_gt tgt (pc + 3)) := by
  intro P p l e R s m args below meth c H locs cells slots Q A ls st h pc' ls' st' h' X E hc hs K
  obtain ⟨x, y, st0, rfl, epc, rfl, rfl, rfl⟩ := iv_icmp E
  refine lv_icmp_gt X.1 X.2.1 hd ht (fun q => ?_) (fun q => ?_)
  · rw [show c_gt x y = true from decide_eq_true q] at epc
    subst epc; exact sd_K0 X K
  · rw [show c_gt x y = false from decide_eq_false q] at epc
    subst epc; exact sd_K0 X K
theorem ok_if_gt {off : Int} {tgt : Nat} (hd : decode cc pc = .ok (.ifCond .gt off, 3)) (ht : (pc : Int) + off = (tgt : Int)) : sd_I own cc ini pc (in_if c_gt0 tgt (pc + 3)) := by
  intro P p l e R s m args below meth c H locs cells slots Q A ls st h pc' ls' st' h' X E hc hs K
  obtain ⟨x, st0, rfl, epc, rfl, rfl, rfl⟩ := iv_if E
  refine lv_if_gt X.1 X.2.1 hd ht (fun q => ?_) (fun q => ?_)
  · rw [show c_gt0 x = true from decide_eq_true q] at epc
    subst epc; exact sd_K0 X K
  · rw [show c_gt0 x = false from decide_eq_false q] at epc
    subst epc; exact sd_K0 X K
theorem ok_icmp_le {off : Int} {tgt : Nat} (hd : decode cc pc = .ok (.if_icmp .le off, 3)) (ht : (pc : Int) + off = (tgt : Int)) : sd_I own cc ini pc (in_icmp c_le tgt (pc + 3)) := by
  intro P p l e R s m args below meth c H locs cells slots Q A ls st h pc' ls' st' h' X E hc hs K
  obtain ⟨x, y, st0, rfl, epc, rfl, rfl, rfl⟩ := iv_icmp E
  refine lv_icmp_le X.1 X.2.1 hd ht (fun q => ?_) (fun q => ?_)
  · rw [show c_le x y = true from decide_eq_true q] at epc
    subst epc; exact sd_K0 X K
  · rw [show c_le x y = false from decide_eq_false q] at epc
    subst epc; exact sd_K0 X K
theorem ok_if_le {off : Int} {tgt : Nat} (hd : decode cc pc = .ok (.ifCond .le off, 3)) (ht : (pc : Int) + off = (tgt : Int)) : sd_I own cc ini pc (in_if c_le0 tgt (pc + 3)) := by
  intro P p l e R s m args below meth c H locs cells slots Q A ls st h pc' ls' st' h' X E hc hs K
  obtain ⟨x, st0, rfl, epc, rfl, rfl, rfl⟩ := iv_if E
  refine lv_if_le X.1 X.2.1 hd ht (fun q => ?_) (fun q => ?_)
  · rw [show c_le0 x = true from decide_eq_true q] at epc
    subst epc; exact sd_K0 X K
  · rw [show c_le0 x = false from decide_eq_false q] at epc
    subst epc; exact sd_K0 X K
theorem ok_goto {off : Int} {tgt : Nat} (hd : decode cc pc = .ok (.goto off, 3)) (ht : (pc : Int) + off = (tgt : Int)) : sd_I own cc ini pc (in_goto tgt) := by
  intro P p l e R s m args below meth c H locs cells slots Q A ls st h pc' ls' st' h' X E hc hs K
  unfold in_goto at E; cases E
  exact lv_goto X.1 X.2.1 hd ht (sd_K0 X K)
theorem ok_ifnull {off : Int} {tgt : Nat} (hd : decode cc pc = .ok (.ifnull off, 3)) (ht : (pc : Int) + off = (tgt : Int)) : sd_I own cc ini pc (in_ifnull tgt (pc + 3)) := by
  intro P p l e R s m args below meth c H locs cells slots Q A ls st h pc' ls' st' h' X E hc hs K
  unfold in_ifnull at E; split at E
  · rename_i x st0
    cases x with
    | zero => cases E; exact lv_ifnullN X.1 X.2.1 hd ht (sd_K0 X K)
    | succ x => cases E; exact lv_ifnull X.1 X.2.1 hd (sd_K0 X K)
  · cases E
theorem ok_ifnonnull {off : Int} {tgt : Nat} (hd : decode cc pc = .ok (.ifnonnull off, 3)) (ht : (pc : Int) + off = (tgt : Int)) : sd_I own cc ini pc (in_ifnull (pc + 3) tgt) := by
  intro P p l e R s m args below meth c H locs cells slots Q A ls st h pc' ls' st' h' X E hc hs K
  unfold in_ifnull at E; split at E
  · rename_i x st0
    cases x with
    | zero => cases E; exact lv_ifnonnullN X.1 X.2.1 hd (sd_K0 X K)
    | succ x => cases E; exact lv_ifnonnull X.1 X.2.1 hd ht (sd_K0 X K)
  · cases E
end S3
