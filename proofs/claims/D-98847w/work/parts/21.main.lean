/-! SOUND, part 10: a run of the small machine is a run of the JVM -/
/-- what a return says -/
def sd_rt (ret : Option FieldType) (cc : ByteArray) (pc : Nat) (ro : Option am_V) : Prop := match ro with
  | none => ret = none ∧ decode cc pc = .ok (.return_, 1)
  | some (.inl x) => ∃ ty, ret = some ty ∧ decode cc pc = .ok (.ireturn, 1) ∧ narrow ty (.int x) = .int x
  | some (.inr (.inl _)) => ret = some .long ∧ decode cc pc = .ok (.lreturn, 1)
  | some (.inr (.inr (.inl _))) => ∃ rt, ret = some rt ∧ ((∃ n, rt = .object n) ∨ ∃ t, rt = .array t) ∧ decode cc pc = .ok (.areturn, 1)
  | _ => False
def sd_Rt (cc : ByteArray) (ret : Option FieldType) (pc : Nat) (f : am_F) : Prop := ∀ ls st h ro, f ls st h = some (.inr (.inr (.inl ro))) → st = ro.toList ∧ sd_rt ret cc pc ro
def sd_T (cc : ByteArray) (pc : Nat) (f : am_F) : Prop := ∀ ls st h q, f ls st h = some (.inr (.inr (.inr q))) → ∃ rest, st = am_r q :: rest ∧ decode cc pc = .ok (.athrow, 1) ∧ (hp_K h q).1 = 103
def sd_M (f : am_F) : Prop := ∀ ls st h pc' ls' st' h', f ls st h = some (.inl (pc', ls', st', h')) → hp_n h ≤ hp_n h' ∧ hp_u h ≤ hp_u h'
/-- the instruction f at pc: whatever it does, the JVM does -/
def sd_Ins (own : String) (cc : ByteArray) (ini : Bool) (ret : Option FieldType) (pc : Nat) (f : am_F) : Prop := sd_I own cc ini pc f ∧ sd_CT own cc ini pc f ∧ sd_CF own cc ini pc f ∧ sd_Rt cc ret pc f ∧ sd_T cc pc f ∧ sd_M f
/-- a method's exception table -/
def sd_xt (i : Nat) (c : Code) : Prop := c.exceptionTable.toList.map (fun h => (h.startPc, h.endPc, h.handlerPc, h.catchType)) = if i = n_X0_regiment then [(20, 43, 46, 30)] else []
def sd_Qc (P : sd_P) (r : am_R) (h2 : am_H) : Array Value → State → Outcome → State → Prop := fun _ _ o t => (∃ ro, r = .inl ro ∧ o = .returned (ro.map am_toV)) ∧ sd_Rel P t h2 t.heap ∧ sd_lo P ≤ t.heap.size
def sd_XC (P : sd_P) (r : am_R) (h2 : am_H) : Addr → String → State → State → Prop := fun z E _ t => (∃ q, r = .inr q ∧ 0 < q ∧ z = q - 1 ∧ (hp_K h2 q).1 = 103) ∧ E = RX3 ∧ sd_Rel P t h2 t.heap ∧ sd_lo P ≤ t.heap.size
section S10
variable {P : sd_P} {p : Program} {l : Launch} {e : Env} {R : Room} {s : State} {m : MethodId} {args : Array Value} {below : List Frame} {meth : Method} {c : Code} {own : String} {cc : ByteArray} {ini : Bool} {H : Heap} {locs : List Loc} {cells slots : Nat} {Q : State → Prop} {A : Array Slot} {ls st : List am_V} {h : am_H} {pc' : Nat} {ls' st' : List am_V} {h' : am_H} {pc nx : Nat}
/-- what is asked of a frame's end -/
def sd_End (P : sd_P) (p : Program) (l : Launch) (e : Env) (R : Room) (s : State) (m : MethodId) (args : Array Value) (below : List Frame) (meth : Method) (c : Code) (Q : State → Prop) (i : Nat) (h : am_H) (cells slots : Nat) (r : am_R) (h2 : am_H) : Prop :=
  ∀ (H' : Heap) (locs' : List Loc) (A' : Array Slot) (cells' slots' pc' : Nat), sd_Rel P s h2 H' → (∀ q ∈ locs', sd_lo P ≤ q.base) → sd_lo P ≤ H'.size → cells' + hp_n h = cells + hp_n h2 → slots' + hp_u h = slots + hp_u h2 → match r with
    | .inl ro => sd_rt (sd_ret i) (sd_code i) pc' ro → W p l e R s m args below meth c H' locs' cells' slots' Q (F0 m pc' A' (ro.toList.map am_toV))
    | .inr q => am_hnd i pc' = none → (hp_K h2 q).1 = 103 → ∀ rest : List Value, vx_W p l e R s m args below meth c H' locs' cells' slots' Q (F0 m pc' A' rest) (q - 1)
theorem Met_of_vx {l : Launch} {y : MethodName} {ws : List Cond} {rm : Room} {Pc : Array Value → State → Prop} {Qc : Array Value → State → Outcome → State → Prop} {XC : Addr → String → State → State → Prop} {mc ms : Nat} {free : Addr → Prop} (h : vx_Met l y ws rm Pc Qc XC mc ms free) (hx : ∀ q E st t, ¬ XC q E st t) : Met l y ws rm Pc Qc mc ms free := by
  intro p e h1 h2 h3 s m args below h4 h5 h6 h7
  obtain ⟨n, o, a1, a2, a3, a4⟩ := h p e h1 h2 h3 s m args below h4 h5 h6 h7
  refine ⟨n, o, a1, a2, a3, ?_⟩
  rcases a4 with a4 | ⟨q, -, E, ce, L, q1, -⟩
  · exact a4
  · exact absurd q1 (hx _ _ _ _)

theorem sd_xt_none {i : Nat} (hx : sd_xt i c) {pc : Nat} (hh : am_hnd i pc = none) : ∀ x ∈ c.exceptionTable.toList, covers x pc = false := by
  intro x hm
  unfold sd_xt at hx
  have h1 : (x.startPc, x.endPc, x.handlerPc, x.catchType) ∈ c.exceptionTable.toList.map (fun h => (h.startPc, h.endPc, h.handlerPc, h.catchType)) := List.mem_map.mpr ⟨x, hm, rfl⟩
  rw [hx] at h1
  unfold am_hnd at hh
  split at h1
  · rename_i hi
    rw [List.mem_singleton] at h1
    cases hc : covers x pc with
    | false => rfl
    | true =>
      simp only [covers, Bool.and_eq_true, decide_eq_true_eq] at hc
      rw [if_pos ⟨hi, by simp only [Prod.mk.injEq] at h1; omega⟩] at hh
      cases hh
  · cases h1
theorem sd_catch {i hp q : Nat} {rest : List Value} (X : sd_Hyp P p l R s m args meth c (sd_own i) (sd_code i) (sd_ini i) H locs A ls h) (hx : sd_xt i c) (hh : am_hnd i pc = some hp) (hq : (hp_K h q).1 = 103) (hown : sd_own n_X0_regiment = RX0) (w1 : Cond.classLink RX0 30 RX3 ∈ lw_all) (w2 : Cond.castable RX3 RX3 ∈ lw_tbl) (hdup : True)
    (kk : W p l e R s m args below meth c H locs cells slots Q (F0 m hp A [am_toV (am_r q)])) : vx_W p l e R s m args below meth c H locs cells slots Q (F0 m pc A rest) (q - 1) := by
  unfold am_hnd at hh
  split at hh
  · rename_i hi
    cases hh
    obtain ⟨rfl, h1, h2⟩ := hi
    unfold sd_xt at hx
    rw [if_pos rfl] at hx
    have hk : hp_K h q = (103, (hp_K h q).2) := by rw [← hq]
    obtain ⟨h0, cell, g1, -, g3, g4⟩ := sd_recv X.G X.Rel hk (by decide) (by decide) (rfl : sd_cl 3 = some (RX3, TWr, 2))
    have hown' := X.ow
    rw [hown] at hown'
    cases ht : c.exceptionTable.toList with
    | nil => rw [ht] at hx; cases hx
    | cons x xs =>
      rw [ht, List.map_cons] at hx
      obtain ⟨e1, e2⟩ := List.cons.inj hx
      simp only [Prod.mk.injEq] at e1
      obtain ⟨x1, x2, x3, x4⟩ := e1
      refine vx_catch (own := RX0) (name := RX3) (E := RX3) hown' [] x xs (by rw [ht]; rfl) (fun z hz => by cases hz) (by simp only [covers, Bool.and_eq_true, decide_eq_true_eq]; omega) (by rw [x4]; decide) (by rw [x4]; exact X.ts _ w1) (va_Nw.use rfl (X.G.2.2.1 _ w2 rfl)) g1 g3 g4 ?_
      rw [x3, ← sd_pred h0]
      exact kk
  · cases hh
-- the entry's locals
theorem am_pad_len : ∀ (n : Nat) (l : List am_V), (am_pad n l).length = n
  | 0, _ => rfl
  | n + 1, [] => by show (am_pad n []).length + 1 = _; rw [am_pad_len n]
  | n + 1, v :: l => by show (am_pad n l).length + 1 = _; rw [am_pad_len n]
theorem am_pad_get : ∀ (n : Nat) (l : List am_V) (k : Nat) (v : am_V), (am_pad n l)[k]? = some v → ¬ v = am_u → l[k]? = some v
  | 0, _, k, v, h, _ => by simp [am_pad] at h
  | n + 1, [], k, v, h, hv => by
    exfalso
    cases k with
    | zero => simp [am_pad] at h; exact hv h.symm
    | succ k =>
      have : (am_pad n [])[k]? = some v := by simpa [am_pad] using h
      have := am_pad_get n [] k v this hv
      simp at this
  | n + 1, w :: l, k, v, h, hv => by
    cases k with
    | zero => simpa [am_pad] using h
    | succ k =>
      have : (am_pad n l)[k]? = some v := by simpa [am_pad] using h
      simpa using am_pad_get n l k v this hv
theorem am_ex_args : ∀ (As : List am_V) (b k : Nat) (v : am_V), (am_ex As)[k]? = some v → ¬ v = am_u → (b + k, am_toV v) ∈ lv_args b (As.map am_toV)
  | [], b, k, v, h, _ => by simp [am_ex] at h
  | w :: As, b, k, v, h, hv => by
    rcases w with x | x | x | x
    · cases k with
      | zero =>
        have e : v = am_i x := by simpa [am_ex] using h.symm
        rw [e]; exact List.mem_cons_self
      | succ k =>
        have h' : (am_ex As)[k]? = some v := by simpa [am_ex] using h
        have := am_ex_args As (b + 1) k v h' hv
        rw [show b + (k + 1) = b + 1 + k by omega]
        exact List.mem_cons_of_mem _ this
    · match k, h with
      | 0, h =>
        have e : v = am_l x := by simpa [am_ex] using h.symm
        rw [e]; exact List.mem_cons_self
      | 1, h =>
        exfalso
        have e : am_u = v := by simpa [am_ex] using h
        exact hv e.symm
      | k + 2, h =>
        have h' : (am_ex As)[k]? = some v := by simpa [am_ex] using h
        have := am_ex_args As (b + 2) k v h' hv
        rw [show b + (k + 2) = b + 2 + k by omega]
        exact List.mem_cons_of_mem _ this
    · have hc : (am_toV (am_r x)).category = 1 := sd_cat1 _ (by simp)
      cases k with
      | zero =>
        have e : v = am_r x := by simpa [am_ex] using h.symm
        rw [e]; exact List.mem_cons_self
      | succ k =>
        have h' : (am_ex As)[k]? = some v := by simpa [am_ex] using h
        have := am_ex_args As (b + 1) k v h' hv
        rw [show b + (k + 1) = b + 1 + k by omega]
        show _ ∈ (b, am_toV (am_r x)) :: lv_args (if (am_toV (am_r x)).category = 2 then b + 2 else b + 1) (As.map am_toV)
        rw [hc, if_neg (by decide)]
        exact List.mem_cons_of_mem _ this
    · cases k with
      | zero =>
        exfalso
        have e : am_u = v := by simpa [am_ex] using h
        exact hv e.symm
      | succ k =>
        have h' : (am_ex As)[k]? = some v := by simpa [am_ex] using h
        have := am_ex_args As (b + 1) k v h' hv
        rw [show b + (k + 1) = b + 1 + k by omega]
        exact List.mem_cons_of_mem _ this
theorem sd_sl_len : ∀ (As : List am_V), (lg_sl (As.map am_toV)).length ≤ am_sum As
  | [] => Nat.le_refl _
  | v :: As => by
    have ih := sd_sl_len As
    show (lg_sl (am_toV v :: As.map am_toV)).length ≤ am_cat v + am_sum As
    unfold lg_sl at ih ⊢
    rw [List.flatMap_cons, List.length_append]
    rcases v with x | x | x | x
    · show 1 + _ ≤ 1 + _; omega
    · show 2 + _ ≤ 2 + _; omega
    · cases x <;> (show 1 + _ ≤ 1 + _; omega)
    · show 1 + _ ≤ 1 + _; omega
theorem sd_entry {j : Nat} {As : List am_V} (hs : am_sum As ≤ am_maxL j) : sd_L (am_ent j As) ((lg_sl (As.map am_toV) ++ List.replicate (am_maxL j - (lg_sl (As.map am_toV)).length) Slot.unset).toArray) := by
  have h1 := lv_entry (As.map am_toV) (n := am_maxL j) (Nat.le_trans (sd_sl_len As) hs)
  unfold sd_L
  have hl : (am_ent j As).length = am_maxL j := am_pad_len _ _
  rw [hl]
  refine ⟨h1.1, h1.2.1, fun q hq => h1.2.2 q ?_⟩
  obtain ⟨k, v, e, rfl, hv⟩ := sd_al_mem hq
  have := am_ex_args As 0 k v (am_pad_get _ _ _ _ e hv) hv
  rw [Nat.zero_add] at this
  exact this
/-- methods by number -/
def sd_mo (i : Nat) : Prop := plainName (sd_y i).cls = true ∧ (sd_y i).cls = sd_own i ∧ (sd_ini i = true → (sd_y i).name = "<init>")
/-- what the main theorem says at fuel n -/
def sd_St (n : Nat) : Prop := ∀ (d i pc : Nat) (ls st : List am_V) (h : am_H) (r : am_R) (h2 : am_H), am_run n d i pc ls st h = some (r, h2) → (hp_n h ≤ hp_n h2 ∧ hp_u h ≤ hp_u h2) ∧
  ∀ (P : sd_P) (p : Program) (l : Launch) (e : Env) (R : Room) (s : State) (m : MethodId) (args : Array Value) (below : List Frame) (meth : Method) (c : Code) (H : Heap) (locs : List Loc) (cells slots : Nat) (Q : State → Prop) (A : Array Slot), sd_Hyp P p l R s m args meth c (sd_own i) (sd_code i) (sd_ini i) H locs A ls h → d + 6 ≤ R.frames → 64 * (d + 6) ≤ R.locals → cells + hp_n h2 ≤ R.cells + hp_n h → slots + hp_u h2 ≤ R.slots + hp_u h → sd_xt i c → sd_End P p l e R s m args below meth c Q i h cells slots r h2 → W p l e R s m args below meth c H locs cells slots Q (F0 m pc A (st.map am_toV))
/-- the body of a contract -/
theorem sd_body {n d j : Nat} {As : List am_V} {h : am_H} {r : am_R} {h2 : am_H} (hSt : sd_St n) (hmo : sd_mo j) (hrun : am_run n d j 0 (am_ent j As) [] h = some (r, h2)) (hsum : am_sum As ≤ am_maxL j) {x0 : MethodName} {S : Spec} {s₁ : State} (hb : c.code = sd_code j) (hret : meth.sig.returnType = sd_ret j) (hlocks : meth.locks = false) (hml : c.maxLocals = am_maxL j) (hx : p.tables.exec = Jvm.exec) (hnamed : s.methodNamed? (sd_y j) = some m) (hmeth : s.vm.method? m = some meth) (hts : ∀ w ∈ lw_all, w.before args s = true) (hxt : sd_xt j c) (htr : l.stackTraces = false) (hPc : sd_Pc P h As args s) :
    W p l e (sd_rm d (hp_n h2 - hp_n h) (hp_u h2 - hp_u h)) s m args below meth c s.heap [] 0 0 (vx_MQ below (sd_Qc P r h2) (sd_XC P r h2) args s (hp_n h2 - hp_n h) (hp_u h2 - hp_u h) (sd_A P)) (entryFrame m args (am_maxL j)) := by
  obtain ⟨ea, hG, hR, hlo⟩ := hPc
  obtain ⟨hmono, hW⟩ := hSt d j 0 _ _ h r h2 hrun
  subst ea
  rw [lg_entry_eq]
  have hX : sd_Hyp P p l (sd_rm d (hp_n h2 - hp_n h) (hp_u h2 - hp_u h)) s m (As.map am_toV).toArray meth c (sd_own j) (sd_code j) (sd_ini j) s.heap [] ((lg_sl (As.map am_toV) ++ List.replicate (am_maxL j - (lg_sl (As.map am_toV)).length) Slot.unset).toArray) (am_ent j As) h :=
    ⟨hx, hb, by rw [← hmo.2.1]; exact findClass_of_methodNamed hnamed, hts, fun q => ((name_of_methodNamed hnamed hmeth).1).trans (hmo.2.2 q), hml.trans (am_pad_len _ _).symm, hG, hR, sd_entry hsum, (fun q hq => by cases hq), (by show 6 ≤ d + 6; omega), (by rw [sd_rm_l]; omega), hlo, htr⟩
  refine hW P p l e _ s m _ below meth c s.heap [] 0 0 _ _ hX (Nat.le_refl _) (Nat.le_refl _) (by show 0 + hp_n h2 ≤ (hp_n h2 - hp_n h) + hp_n h; omega) (by show 0 + hp_u h2 ≤ (hp_u h2 - hp_u h) + hp_u h; omega) hxt ?_
  intro H' locs' A' cells' slots' pc' hR' hl' hlo' hc' hs'
  have ec : cells' = hp_n h2 - hp_n h := by omega
  have es : slots' = hp_u h2 - hp_u h := by omega
  subst ec; subst es
  cases r with
  | inl ro =>
    intro hrt
    refine vx_ret ?_
    have hq : ∀ t : State, t.heap = H' → s.WarmedH t.vm → sd_Qc P (.inl ro) h2 (As.map am_toV).toArray s (.returned (ro.map am_toV)) t := fun t ht hW2 => ⟨⟨ro, rfl, rfl⟩, by rw [ht]; exact hR'.alike hW2.alike, by rw [ht]; exact hlo'⟩
    match ro, hrt, hq with
    | none, hrt, hq => exact W.vret hx hb (hret.trans hrt.1) hq hl' hrt.2
    | some (.inl x), ⟨ty, q1, q2, q3⟩, hq => exact W.zret hx hb (hret.trans q1) q3 hq hl' q2
    | some (.inr (.inl x)), hrt, hq => exact W.lret hx hb (hret.trans hrt.1) hq hl' hrt.2
    | some (.inr (.inr (.inl x))), ⟨rt, q1, q2, q3⟩, hq => exact W.aret (v := sd_rv x) hx hb (hret.trans q1) q2 (by cases x with | zero => exact Or.inl rfl | succ x => exact Or.inr ⟨x, rfl⟩) hq hl' q3
    | some (.inr (.inr (.inr x))), hrt, hq => exact hrt.elim
  | inr q =>
    intro hh hq rest
    have hk : hp_K h2 q = (103, (hp_K h2 q).2) := by rw [← hq]
    obtain ⟨h0, cell, g1, -, g3, g4⟩ := sd_recv hG hR' hk (by decide) (by decide) (rfl : sd_cl 3 = some (RX3, TWr, 2))
    exact vx_out (sd_xt_none hxt hh) hlocks g1 g3 g4 (fun t ht hal => ⟨⟨q, rfl, h0, rfl, hq⟩, rfl, by rw [ht]; exact hR'.alike hal, by rw [ht]; exact hlo'⟩) hl' (Nat.le_refl _) (Nat.le_refl _)
theorem sd_met {n d j : Nat} {As : List am_V} {h : am_H} {r : am_R} {h2 : am_H} (hSt : sd_St n) (hmo : sd_mo j) (hrun : am_run n d j 0 (am_ent j As) [] h = some (r, h2)) (hsum : am_sum As ≤ am_maxL j) (l : Launch) (htr : l.stackTraces = false) (P : sd_P) : vx_Met l (sd_y j) (sd_ws j) (sd_rm d (hp_n h2 - hp_n h) (hp_u h2 - hp_u h)) (sd_Pc P h As) (sd_Qc P r h2) (sd_XC P r h2) (hp_n h2 - hp_n h) (hp_u h2 - hp_u h) (sd_A P) := by
  by_cases hj : j = n_X0_regiment
  · have hws : sd_ws j = wsW_ (sd_y j) (sd_code j) (am_maxL j) (sd_ret j) [(20, 43, 46, 30)] := if_pos hj
    rw [hws]
    refine vx_ofWH (cc := sd_code j) (maxL := am_maxL j) (ret := sd_ret j) (hh := [(20, 43, 46, 30)]) hmo.1 rfl ?_
    intro p e s m args below meth c s₁ B hml hv
    have hts0 := atoms_spec (ws := wsW_ (sd_y j) (sd_code j) (am_maxL j) (sd_ret j) [(20, 43, 46, 30)]) B.pre
    have hts : ∀ w ∈ lw_all, w.before args s = true := fun w h => hts0 w (List.mem_cons_of_mem _ h)
    have hxt : sd_xt j c := by
      obtain ⟨m', meth', c', k1, k2, k3, k4, k5, k6, -⟩ := Cond.codeWith_spec (hts0 _ List.mem_cons_self)
      cases B.named.symm.trans k1
      cases B.method.symm.trans k2
      cases ((Stand.of_body B).code).symm.trans k3
      unfold sd_xt
      rw [if_pos hj]
      exact k6
    exact sd_body (x0 := sd_y j) (S := headSpec [] (sd_rm 0 0 0)) (s₁ := s₁) hSt hmo hrun hsum B.bytes B.returns B.notSynchronized hml B.exec B.named B.method hts hxt htr hv
  · rw [sd_ws_code hj]
    refine vx_ofW (cc := sd_code j) (maxL := am_maxL j) (ret := sd_ret j) hmo.1 rfl ?_
    intro p e s m args below meth c s₁ B hml hxe hv
    have hts0 := atoms_spec (ws := ws_ (sd_y j) (sd_code j) (am_maxL j) (sd_ret j)) B.pre
    have hts : ∀ w ∈ lw_all, w.before args s = true := fun w h => hts0 w (List.mem_cons_of_mem _ h)
    have hxt : sd_xt j c := by
      unfold sd_xt
      rw [if_neg hj]
      cases ht : c.exceptionTable.toList with
      | nil => rfl
      | cons x xs => exact (hxe x (by rw [ht]; exact List.mem_cons_self)).elim
    exact sd_body (x0 := sd_y j) (S := headSpec [] (sd_rm 0 0 0)) (s₁ := s₁) hSt hmo hrun hsum B.bytes B.returns B.notSynchronized hml B.exec B.named B.method hts hxt htr hv

/-- behind a call of a callee that returned -/
theorem sd_behind {X : List am_V} {rest : List Value} {mc ms : Nat} {ro : Option am_V} {h2 : am_H} {av : Array Value} (X0 : sd_Hyp P p l R s m args meth c own cc ini H locs A ls h) (hr : va_Run p l e R s m args below meth c H locs cells slots mc ms (F0 m pc A (X.map am_toV)) rest (sd_Qc P (.inl ro) h2 av) (sd_A P))
    (kw : ∀ (H' : Heap) (locs' : List Loc), sd_Rel P s h2 H' → (∀ q ∈ locs', sd_lo P ≤ q.base) → sd_lo P ≤ H'.size → W p l e R s m args below meth c H' locs' (cells + mc) (slots + ms) Q (F0 m (pc + 3) A (ro.toList.map am_toV ++ rest))) : W p l e R s m args below meth c H locs cells slots Q (F0 m pc A (X.map am_toV)) := by
  intro T hT Y
  obtain ⟨v, st₀, t, T', L, h0, Y', hL, e1, e2, ⟨⟨ro', q1, q2⟩, q3, q4⟩, st⟩ := hr T hT Y
  cases q1
  cases q2
  have hal : s.vm.Alike t.vm := by rw [← e2]; exact Y'.warmed.alike
  obtain ⟨t2, a1, b1⟩ := kw T'.heap (locs ++ L) (by rw [e1]; exact q3.alike hal.symm) (fun q hq => (List.mem_append.mp hq).elim (X0.lcs q) (fun z => hL q z)) (by rw [e1]; exact q4) T' rfl Y'
  refine ⟨t2, st t2 ?_, b1⟩
  cases ro <;> exact a1
theorem sd_behindX {X : List am_V} {rest : List Value} {mc ms : Nat} {r : am_R} {h2 : am_H} {av : Array Value} (X0 : sd_Hyp P p l R s m args meth c own cc ini H locs A ls h) (hr : vx_Run p l e R s m args below meth c H locs cells slots mc ms (F0 m pc A (X.map am_toV)) rest (sd_Qc P r h2 av) (sd_XC P r h2) (sd_A P))
    (kw : ∀ (ro : Option am_V), r = .inl ro → ∀ (H' : Heap) (locs' : List Loc), sd_Rel P s h2 H' → (∀ q ∈ locs', sd_lo P ≤ q.base) → sd_lo P ≤ H'.size → W p l e R s m args below meth c H' locs' (cells + mc) (slots + ms) Q (F0 m (pc + 3) A (ro.toList.map am_toV ++ rest)))
    (kx : ∀ q, r = .inr q → (hp_K h2 q).1 = 103 → ∀ (H' : Heap) (locs' : List Loc), sd_Rel P s h2 H' → (∀ q ∈ locs', sd_lo P ≤ q.base) → sd_lo P ≤ H'.size → vx_W p l e R s m args below meth c H' locs' (cells + mc) (slots + ms) Q (F0 m pc A rest) (q - 1)) : W p l e R s m args below meth c H locs cells slots Q (F0 m pc A (X.map am_toV)) := by
  intro T hT Y
  rcases hr T hT Y with ⟨v, st₀, t, T', L, h0, Y', hL, e1, e2, ⟨⟨ro, q1, q2⟩, q3, q4⟩, st⟩ | ⟨q, st₀, t, T', L, E, ce, h0, Y', hL, e1, e2, ⟨⟨q', q1, q5, q6, q7⟩, q2, q3, q4⟩, c1, c2, c3, st⟩
  · cases q2
    have hal : s.vm.Alike t.vm := by rw [← e2]; exact Y'.warmed.alike
    obtain ⟨t2, a1, b1⟩ := kw ro q1 T'.heap (locs ++ L) (by rw [e1]; exact q3.alike hal.symm) (fun q hq => (List.mem_append.mp hq).elim (X0.lcs q) (fun z => hL q z)) (by rw [e1]; exact q4) T' rfl Y'
    refine ⟨t2, st t2 ?_, b1⟩
    cases ro <;> exact a1
  · have hal : s.vm.Alike t.vm := by rw [← e2]; exact Y'.warmed.alike
    obtain ⟨t2, a1, b1⟩ := kx q' q1 q7 T'.heap (locs ++ L) (by rw [e1]; exact q3.alike hal.symm) (fun q hq => (List.mem_append.mp hq).elim (X0.lcs q) (fun z => hL q z)) (by rw [e1]; exact q4) T' rfl Y'
    rw [← q6] at a1
    exact ⟨t2, Steps.trans st a1, b1⟩
theorem sd_hyp2 (X : sd_Hyp P p l R s m args meth c own cc ini H locs A ls h) {H' : Heap} {locs' : List Loc} {A' : Array Slot} (hR : sd_Rel P s h' H') (hL : sd_L ls' A') (hlen : ls'.length = ls.length) (hl : ∀ q ∈ locs', sd_lo P ≤ q.base) (hlo : sd_lo P ≤ H'.size) : sd_Hyp P p l R s m args meth c own cc ini H' locs' A' ls' h' :=
  ⟨X.1, X.2.1, X.ow, X.ts, X.2.2.2.2.1, X.ml.trans hlen.symm, X.G, hR, hL, hl, X.fr6, X.lc6, hlo, X.tr⟩
theorem sd_End.shift {i : Nat} {r : am_R} {h1 h2 : am_H} {cells1 slots1 : Nat} (hE : sd_End P p l e R s m args below meth c Q i h cells slots r h2) (hc : cells1 + hp_n h = cells + hp_n h1) (hs : slots1 + hp_u h = slots + hp_u h1) : sd_End P p l e R s m args below meth c Q i h1 cells1 slots1 r h2 :=
  fun H' locs' A' cells' slots' pc' q1 q2 q3 q4 q5 => hE H' locs' A' cells' slots' pc' q1 q2 q3 (by omega) (by omega)
/-- THE RUNS AGREE -/
theorem sd_main (hall : ∀ i pc f, am_fetch i pc = some f → sd_mo i ∧ sd_Ins (sd_own i) (sd_code i) (sd_ini i) (sd_ret i) pc f) (hown : sd_own n_X0_regiment = RX0) (w1 : Cond.classLink RX0 30 RX3 ∈ lw_all) (w2 : Cond.castable RX3 RX3 ∈ lw_tbl) : ∀ n, sd_St n := by
  intro n
  induction n with
  | zero => intro d i pc ls st h r h2 hrun; cases hrun
  | succ n ih =>
    intro d i pc ls st h r h2 hrun
    rw [am_run] at hrun
    cases hf : am_fetch i pc with
    | none => rw [hf] at hrun; cases hrun
    | some f =>
    rw [hf] at hrun
    dsimp only at hrun
    obtain ⟨hmo, hI, hCT, hCF, hRt, hT, hM⟩ := hall i pc f hf
    cases ho : f ls st h with
    | none => rw [ho] at hrun; cases hrun
    | some o =>
    rw [ho] at hrun
    rcases o with ⟨pc', ls', st', h'⟩ | ⟨j, As, st', nx, fl⟩ | ro | q
    · -- goes on
      dsimp only at hrun
      obtain ⟨hm1, hm2⟩ := hM _ _ _ _ _ _ _ ho
      obtain ⟨⟨hn1, hn2⟩, hW⟩ := ih _ _ _ _ _ _ _ _ hrun
      refine ⟨⟨by omega, by omega⟩, ?_⟩
      intro P p l e R s m args below meth c H locs cells slots Q A X hR1 hR2 hR3 hR4 hxt hE
      refine hI P p l e R s m args below meth c H locs cells slots Q A ls st h pc' ls' st' h' X ho (by omega) (by omega) ?_
      intro H' locs' A' cells' slots' k1 k2 k3 k4 k5 k6 k7
      exact hW P p l e R s m args below meth c H' locs' cells' slots' Q A' (sd_hyp2 X k1 k2 k3 k4 k5) hR1 hR2 (by omega) (by omega) hxt (hE.shift k6 k7)
    · -- a call
      dsimp only at hrun
      cases hb : Nat.ble (am_sum As) (am_maxL j) with
      | false => rw [hb] at hrun; cases hrun
      | true =>
      rw [hb] at hrun
      dsimp only at hrun
      have hsum := Nat.le_of_ble_eq_true hb
      cases d with
      | zero => cases hrun
      | succ d =>
      dsimp only at hrun
      cases hc : am_run n d j 0 (am_ent j As) [] h with
      | none => rw [hc] at hrun; cases hrun
      | some z =>
      obtain ⟨rc, hc2⟩ := z
      rw [hc] at hrun
      have hmoj : sd_mo j := by
        cases n with
        | zero => cases hc
        | succ n =>
          cases hfj : am_fetch j 0 with
          | none => rw [am_run, hfj] at hc; cases hc
          | some g => exact (hall j 0 g hfj).1
      obtain ⟨⟨hm1, hm2⟩, -⟩ := ih _ _ _ _ _ _ _ _ hc
      have hmet := sd_met (As := As) ih hmoj hc hsum
      cases fl with
      | false =>
        rcases rc with ro | q
        · have hrun2 : am_run n (d + 1) i nx ls (ro.toList ++ st') hc2 = some (r, h2) := by cases ro <;> exact hrun
          obtain ⟨⟨hn1, hn2⟩, hW⟩ := ih _ _ _ _ _ _ _ _ hrun2
          refine ⟨⟨by omega, by omega⟩, ?_⟩
          intro P p l e R s m args below meth c H locs cells slots Q A X hR1 hR2 hR3 hR4 hxt hE
          obtain ⟨hnx, hrunC⟩ := hCF P p l e R s m args below meth c H locs cells slots A ls st h j As st' nx X ho
          subst hnx
          have hr := hrunC d (hp_n hc2 - hp_n h) (hp_u hc2 - hp_u h) _ (by omega) (by omega) (by omega) (by omega) (Met_of_vx (hmet l X.tr P) (fun q E st t z => by obtain ⟨⟨q', z1, -⟩, -⟩ := z; cases z1))
          refine sd_behind X hr (fun H' locs' k1 k2 k3 => ?_)
          rw [← List.map_append]
          exact hW P p l e R s m args below meth c H' locs' _ _ Q A (sd_hyp2 X k1 X.L rfl k2 k3) hR1 hR2 (by omega) (by omega) hxt (hE.shift (by omega) (by omega))
        · cases hrun
      | true =>
        rcases rc with ro | q
        · have hrun2 : am_run n (d + 1) i nx ls (ro.toList ++ st') hc2 = some (r, h2) := by cases ro <;> exact hrun
          obtain ⟨⟨hn1, hn2⟩, hW⟩ := ih _ _ _ _ _ _ _ _ hrun2
          refine ⟨⟨by omega, by omega⟩, ?_⟩
          intro P p l e R s m args below meth c H locs cells slots Q A X hR1 hR2 hR3 hR4 hxt hE
          obtain ⟨hnx, hrunC⟩ := hCT P p l e R s m args below meth c H locs cells slots A ls st h j As st' nx X ho
          subst hnx
          have hr := hrunC d (hp_n hc2 - hp_n h) (hp_u hc2 - hp_u h) _ _ (by omega) (by omega) (by omega) (by omega) (hmet l X.tr P)
          refine sd_behindX X hr (fun ro' e' H' locs' k1 k2 k3 => ?_) (fun q e' => by cases e')
          cases e'
          rw [← List.map_append]
          exact hW P p l e R s m args below meth c H' locs' _ _ Q A (sd_hyp2 X k1 X.L rfl k2 k3) hR1 hR2 (by omega) (by omega) hxt (hE.shift (by omega) (by omega))
        · dsimp only at hrun
          cases hh : am_hnd i pc with
          | none =>
            rw [hh] at hrun
            cases hrun
            refine ⟨⟨hm1, hm2⟩, ?_⟩
            intro P p l e R s m args below meth c H locs cells slots Q A X hR1 hR2 hR3 hR4 hxt hE
            obtain ⟨hnx, hrunC⟩ := hCT P p l e R s m args below meth c H locs cells slots A ls st h j As st' nx X ho
            have hr := hrunC d (hp_n h2 - hp_n h) (hp_u h2 - hp_u h) _ _ (by omega) (by omega) (by omega) (by omega) (hmet l X.tr P)
            refine sd_behindX X hr (fun ro' e' => by cases e') (fun q' e' hq H' locs' k1 k2 k3 => ?_)
            cases e'
            exact hE H' locs' A _ _ pc k1 k2 k3 (by omega) (by omega) hh hq _
          | some hp =>
            rw [hh] at hrun
            dsimp only at hrun
            obtain ⟨⟨hn1, hn2⟩, hW⟩ := ih _ _ _ _ _ _ _ _ hrun
            refine ⟨⟨by omega, by omega⟩, ?_⟩
            intro P p l e R s m args below meth c H locs cells slots Q A X hR1 hR2 hR3 hR4 hxt hE
            obtain ⟨hnx, hrunC⟩ := hCT P p l e R s m args below meth c H locs cells slots A ls st h j As st' nx X ho
            have hr := hrunC d (hp_n hc2 - hp_n h) (hp_u hc2 - hp_u h) _ _ (by omega) (by omega) (by omega) (by omega) (hmet l X.tr P)
            refine sd_behindX X hr (fun ro' e' => by cases e') (fun q' e' hq H' locs' k1 k2 k3 => ?_)
            cases e'
            have X' := sd_hyp2 X k1 X.L rfl k2 k3
            exact sd_catch X' hxt hh hq hown w1 w2 trivial (hW P p l e R s m args below meth c H' locs' _ _ Q A X' hR1 hR2 (by omega) (by omega) hxt (hE.shift (by omega) (by omega)))
    · -- returns
      cases hrun
      refine ⟨⟨Nat.le_refl _, Nat.le_refl _⟩, ?_⟩
      intro P p l e R s m args below meth c H locs cells slots Q A X hR1 hR2 hR3 hR4 hxt hE
      obtain ⟨est, hrt⟩ := hRt _ _ _ _ ho
      rw [est]
      exact hE H locs A cells slots pc X.Rel X.lcs X.lo rfl rfl hrt
    · -- throws
      obtain ⟨rest, est, hd, hq⟩ := hT _ _ _ _ ho
      dsimp only at hrun
      cases hh : am_hnd i pc with
      | none =>
        rw [hh] at hrun
        cases hrun
        refine ⟨⟨Nat.le_refl _, Nat.le_refl _⟩, ?_⟩
        intro P p l e R s m args below meth c H locs cells slots Q A X hR1 hR2 hR3 hR4 hxt hE
        have hk : hp_K h q = (103, (hp_K h q).2) := by rw [← hq]
        obtain ⟨h0, -⟩ := sd_recv X.G X.Rel hk (by decide) (by decide) (rfl : sd_cl 3 = some (RX3, TWr, 2))
        rw [est, List.map_cons, show am_toV (am_r q) = .ref (q - 1) from sd_pred h0]
        exact vx_athrow X.1 X.2.1 hd (hE H locs A cells slots pc X.Rel X.lcs X.lo rfl rfl hh hq _)
      | some hp =>
        rw [hh] at hrun
        dsimp only at hrun
        obtain ⟨⟨hn1, hn2⟩, hW⟩ := ih _ _ _ _ _ _ _ _ hrun
        refine ⟨⟨hn1, hn2⟩, ?_⟩
        intro P p l e R s m args below meth c H locs cells slots Q A X hR1 hR2 hR3 hR4 hxt hE
        have hk : hp_K h q = (103, (hp_K h q).2) := by rw [← hq]
        obtain ⟨h0, -⟩ := sd_recv X.G X.Rel hk (by decide) (by decide) (rfl : sd_cl 3 = some (RX3, TWr, 2))
        rw [est, List.map_cons, show am_toV (am_r q) = .ref (q - 1) from sd_pred h0]
        exact vx_athrow X.1 X.2.1 hd (sd_catch X hxt hh hq hown w1 w2 trivial (hW P p l e R s m args below meth c H locs cells slots Q A X hR1 hR2 hR3 hR4 hxt hE))
end S10
