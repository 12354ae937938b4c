/-! SOUND, part 4: fields -/
def sd_FL (own : String) (idx : Nat) (ref name desc : String) : Prop := Cond.fieldLink own idx ref name desc ∈ lw_all ∨ ∃ host, Cond.fieldLinkNest own idx ref name desc host ∈ lw_tbl
def sd_same (O ref n d : String) : Prop := O = ref ∨ Cond.sameField ref O n d ∈ lw_all
/-- kind t has the field ref.name : desc, its place kk in the class's table, its cell (tc, k) -/
def sd_fld (t tc k kk : Nat) (ref name desc : String) : Prop := ∃ r : vw_C, sd_cl (t - 100) = some r ∧ 100 ≤ t ∧ t < 200 ∧ kk < r.2.2 ∧ sd_mu (t - 100) kk = k ∧ sd_tc (sd_ty (t - 100) kk) = tc ∧ (r.2.1 kk).2.1 = name ∧ (r.2.1 kk).2.2.1 = desc ∧ sd_same (r.2.1 kk).1 ref name desc
/-- and it may be set: no other field of the name, no other field in its cell -/
def sd_fldp (t tc k kk : Nat) (ref name desc : String) (own : String) (ini : Bool) : Prop := ∃ r : vw_C, sd_cl (t - 100) = some r ∧ 100 ≤ t ∧ t < 200 ∧ kk < r.2.2 ∧ sd_mu (t - 100) kk = k ∧ sd_tc (sd_ty (t - 100) kk) = tc ∧ (r.2.1 kk).2.1 = name ∧ (r.2.1 kk).2.2.1 = desc ∧ sd_same (r.2.1 kk).1 ref name desc ∧ ((r.2.1 kk).2.2.2 = false ∨ ((r.2.1 kk).2.2.2 = true ∧ ini = true ∧ (r.2.1 kk).1 = own)) ∧ (∀ j, j < r.2.2 → j ≠ kk → (r.2.1 j).2.1 ≠ name) ∧ (∀ j, j < r.2.2 → j ≠ kk → ¬ (sd_tc (sd_ty (t - 100) j) = tc ∧ sd_mu (t - 100) j = k)) ∧ ¬ ((t = 106 ∨ t = 107) ∧ kk = 1)
section S4
variable {P : sd_P} {p : Program} {l : Launch} {e : Env} {R : Room} {s : State} {m : MethodId} {args : Array Value} {below : List Frame} {meth : Method} {c : Code} {own : String} {cc : ByteArray} {ini : Bool} {H : Heap} {locs : List Loc} {cells slots : Nat} {Q : State → Prop} {A : Array Slot} {ls st : List am_V} {h : am_H} {pc' : Nat} {ls' st' : List am_V} {h' : am_H} {pc nx : Nat}
theorem sd_same.use {O ref n d : String} (hs : sd_same O ref n d) (hts : ∀ w ∈ lw_all, w.before args s = true) : ∀ x, s.fieldFound? O n d = some x → s.fieldFound? ref n d = some x := by
  intro x hx
  rcases hs with rfl | hs
  · exact hx
  · exact u_same (hts _ hs) x hx
/-- what a field of a tracked object is to the JVM -/
theorem sd_find (X : sd_Hyp P p l R s m args meth c own cc ini H locs A ls h) {a t u tc k kk : Nat} {ref name desc : String} (hk : hp_K h a = (t, u)) (hf : sd_fld t tc k kk ref name desc) :
    ∃ (r : vw_C) (cell : Cell) (cf : ClassId) (kf kC : Class) (fi : Nat) (f : Field), sd_cl (t - 100) = some r ∧ kk < r.2.2 ∧ sd_lo P < a ∧ H[a - 1]? = some cell ∧ cell.cls = P.1.1 (t - 100) ∧ cell.vm = .none ∧ s.vm.findClass r.1 = some (P.1.1 (t - 100)) ∧ s.vm.classes[P.1.1 (t - 100)]? = some kC ∧ kC.kind = .ordinary ∧ s.fieldFound? (r.2.1 kk).1 name desc = some (cf, kf, fi, f) ∧ s.fieldFound? ref name desc = some (cf, kf, fi, f) ∧ f.isStatic = false ∧ f.slot = P.1.2 (t - 100) kk ∧ f.slot < cell.slots.size ∧ (sd_free (t - 100) kk h a ∨ cell.slots[f.slot]? = some (sd_val tc h a k)) ∧
      ∀ j, j < r.2.2 → P.1.2 (t - 100) j < cell.slots.size ∧ (sd_free (t - 100) j h a ∨ cell.slots[P.1.2 (t - 100) j]? = some (sd_fv (t - 100) j h a)) := by
  obtain ⟨r, e1, e2, e3, e4, e5, e6, e7, e8, e9⟩ := hf
  obtain ⟨hlo, r', cell, c1, c2, c3, c4, c5⟩ := X.Rel.ob hk e2 e3
  rw [e1] at c1; cases c1
  obtain ⟨hS, hfc, kC, hkC, hkind⟩ := X.G.1 _ _ e1
  obtain ⟨cf, kf, fi, f, hi, hsl⟩ := hS kk e4
  have hst := (u_facts hfc hkC (u_lays X.ts (sd_cl_in e1).1 e4) hi).1
  rw [e7, e8] at hi
  refine ⟨r, cell, cf, kf, kC, fi, f, e1, e4, hlo, c2, c3, c4, hfc, hkC, hkind, hi, e9.use X.ts _ hi, hst, hsl, by rw [hsl]; exact (c5 kk e4).1, ?_, c5⟩
  rw [hsl]
  rcases (c5 kk e4).2 with q | q
  · exact Or.inl q
  · exact Or.inr (by rw [q]; unfold sd_fv; rw [e5, e6])
theorem sd_getW (X : sd_Hyp P p l R s m args meth c own cc ini H locs A ls h) {idx a t u tc k kk : Nat} {ref name desc : String} {rest : List Value} (hd : decode cc pc = .ok (.getfield idx, 3)) (hl : sd_FL own idx ref name desc) (hk : hp_K h a = (t, u)) (hf : sd_fld t tc k kk ref name desc) (hfr : ¬ sd_free (t - 100) kk h a)
    (kw : W p l e R s m args below meth c H locs cells slots Q (F0 m (pc + 3) A (sd_val tc h a k :: rest))) : W p l e R s m args below meth c H locs cells slots Q (F0 m pc A (sd_rv a :: rest)) := by
  obtain ⟨r, cell, cf, kf, kC, fi, f, b1, b2, b3, b4, b5, b6, b7, b8, b9, b10, b11, b12, b13, b14, b15, -⟩ := sd_find X hk hf
  obtain ⟨a', rfl⟩ : ∃ a', a = a' + 1 := ⟨a - 1, by omega⟩
  have hv := b15.resolve_left hfr
  have hkn : cell.vm ≠ .unknown := by rw [b6]; exact fun q => by cases q
  rcases hl with hl | ⟨host, hl⟩
  · exact W.getf X.1 X.2.1 X.ow (X.ts _ hl) b11 b12 b4 hkn hv rfl rfl hd kw
  · exact va_Wgetf X.1 X.2.1 X.ow (va_Nw.use rfl (X.G.2.2.1 _ hl rfl)) b11 b12 b4 hkn hv rfl rfl hd kw
/-- a store into a field -/
theorem sd_putW (X : sd_Hyp P p l R s m args meth c own cc ini H locs A ls h) {idx a t u tc k kk : Nat} {ref name desc : String} {v : Value} {rest : List Value} (hd : decode cc pc = .ok (.putfield idx, 3)) (hl : sd_FL own idx ref name desc) (hk : hp_K h a = (t, u)) (hf : sd_fldp t tc k kk ref name desc own ini) (hpl : Cond.fieldLink own idx ref name desc ∈ lw_all ∨ ini = false)
    (hn : narrow (sd_ty (t - 100) kk) v = v) (hfit : fits (sd_ty (t - 100) kk) v = true) (hK' : hp_K h' = hp_K h) (hn' : hp_n h' = hp_n h) (hI : ∀ b j, ¬ (b = a ∧ tc = 0 ∧ j = k) → hp_I h' b j = hp_I h b j) (hL : ∀ b j, ¬ (b = a ∧ tc = 1 ∧ j = k) → hp_L h' b j = hp_L h b j) (hRr : ∀ b j, ¬ (b = a ∧ tc = 2 ∧ j = k) → hp_R h' b j = hp_R h b j) (hv : sd_val tc h' a k = v) (htc : tc ≤ 2) (hk1 : tc = 2 → (t = 106 ∨ t = 107) → k ≠ 1)
    (kw : ∀ (H' : Heap) (locs' : List Loc), sd_Rel P s h' H' → (∀ q ∈ locs', sd_lo P ≤ q.base) → H'.size = H.size → W p l e R s m args below meth c H' locs' cells slots Q (F0 m (pc + 3) A rest)) : W p l e R s m args below meth c H locs cells slots Q (F0 m pc A (v :: sd_rv a :: rest)) := by
  obtain ⟨r0, e1, e2, e3, e4, e5, e6, e7, e8, e9, e10, e11, e12, e13⟩ := hf
  obtain ⟨r, cell, cf, kf, kC, fi, f, b1, b2, b3, b4, b5, b6, b7, b8, b9, b10, b11, b12, b13, b14, b15, b16⟩ := sd_find X hk ⟨r0, e1, e2, e3, e4, e5, e6, e7, e8, e9⟩
  rw [e1] at b1; cases b1
  obtain ⟨a', rfl⟩ : ∃ a', a = a' + 1 := ⟨a - 1, by omega⟩
  have hin := (sd_cl_in e1).1
  have hty := (sd_cl_in e1).2 kk e4
  rw [e8] at hty
  have hlay := u_lays X.ts hin e4
  rw [e7, e8] at hlay
  -- slots of other fields lie elsewhere
  have hap : ∀ j, j < r0.2.2 → j ≠ kk → P.1.2 (t - 100) j ≠ f.slot := by
    intro j hj hne
    obtain ⟨hS, -⟩ := X.G.1 _ _ e1
    obtain ⟨cf2, kf2, fi2, f2, hi2, hs2⟩ := hS j hj
    rw [← hs2]
    refine u_apart (u_lays X.ts hin hj) hlay hi2 b10 ?_
    rw [(State.fieldFound?_type hi2 ((sd_cl_in e1).2 j hj)).1, (State.fieldFound?_type b10 hty).1]
    exact e11 j hj hne
  have hvj : ∀ j, j < r0.2.2 → j ≠ kk → sd_fv (t - 100) j h' (a' + 1) = sd_fv (t - 100) j h (a' + 1) := by
    intro j hj hne
    have q := e12 j hj hne
    unfold sd_fv sd_val
    split
    · rename_i z; rw [hI _ _ (fun w => q ⟨z.trans w.2.1.symm, w.2.2⟩)]
    · rename_i z; rw [hL _ _ (fun w => q ⟨z.trans w.2.1.symm, w.2.2⟩)]
    · rename_i z1 z2
      have h2 : sd_tc (sd_ty (t - 100) j) ≤ 2 := by unfold sd_tc; split <;> omega
      have h0 : sd_tc (sd_ty (t - 100) j) ≠ 0 := fun z => z1 z
      have h1 : sd_tc (sd_ty (t - 100) j) ≠ 1 := fun z => z2 z
      rw [hRr _ _ (fun w => q ⟨by have := w.2.1; omega, w.2.2⟩)]
  have fin : ∀ (H' : Heap), H'[a']? = some (cell.setSlot f.slot v) → H'.size = H.size → (∀ q, q ≠ a' → H'[q]? = H[q]?) → W p l e R s m args below meth c H' (locs ++ [⟨a', f.slot⟩]) cells slots Q (F0 m (pc + 3) A rest) := by
    intro H' g1 g2 g3
    refine kw H' _ (X.Rel.put (a := a' + 1) b3 hK' hn' (fun b j hb => hI b j (fun w => hb w.1)) (fun b j hb => hL b j (fun w => hb w.1)) (fun b j hb => hRr b j (fun w => hb w.1)) g2 g3 (fun t' u' hk' => ?_)) (fun q hq => ?_) g2
    · rw [hk] at hk'; cases hk'
      refine Or.inr (Or.inr (Or.inr (Or.inl ⟨e2, e3, b3, r0, _, e1, g1, b5, b6, fun j hj => ?_⟩)))
      by_cases hjk : j = kk
      · subst hjk
        refine ⟨by rw [← b13]; simpa [Cell.setSlot] using b14, Or.inr ?_⟩
        rw [← b13]
        have e0 : sd_fv (t - 100) j h' (a' + 1) = v := by unfold sd_fv; rw [e5, e6]; exact hv
        rw [e0]
        simp [Cell.setSlot, b14]
      · refine ⟨by simpa [Cell.setSlot] using (b16 j hj).1, ?_⟩
        rcases (b16 j hj).2 with w | w
        · refine Or.inl ⟨w.1, w.2.1, ?_⟩
          rw [hRr _ _ (fun z => hk1 z.2.1 (by have := w.1; omega) z.2.2.symm)]
          exact w.2.2
        · refine Or.inr ?_
          rw [hvj j hj hjk, ← w]
          simp only [Cell.setSlot]
          rw [Array.getElem?_setIfInBounds_ne (fun z => hap j hj hjk z.symm)]
    · rcases List.mem_append.mp hq with z | z
      · exact X.lcs q z
      · rw [List.mem_singleton.mp z]; show sd_lo P ≤ a'; omega
  rcases e10 with hfin | ⟨hfin, hini, hown⟩
  · have hl0 := X.ts _ (hin _ (u_in_lay e4))
    unfold u_lay at hl0
    rw [if_neg (by rw [hfin]; decide), e7, e8] at hl0
    have h6 := u_store b7 b8 b9 hl0 b10 hty hn hfit
    rcases hl with hl | ⟨host, hl⟩
    · exact W.putK X.1 X.2.1 (f := f) ⟨X.ow, X.ts _ hl, ⟨_, _, _, b11⟩, b12⟩ (by rw [b5]; exact h6) b4 b6 b14 rfl rfl hd fin
    · exact va_WputK X.1 X.2.1 (f := f) X.ow (va_Nw.use rfl (X.G.2.2.1 _ hl rfl)) b11 b12 (by rw [b5]; exact h6) b4 b6 b14 rfl rfl hd fin
  · have hl0 := X.ts _ (hin _ (u_in_lay e4))
    unfold u_lay at hl0
    rw [if_pos hfin, e7, e8] at hl0
    have hcf : m.cls = cf := by
      obtain ⟨_, _, c', _, _, _, -, -, hf', -, -, -, hown2, -⟩ := Cond.laysFinal_spec hl0
      have q1 : c' = cf := by have := b10.symm.trans hf'; simp at this; exact this.1.symm
      rw [hown] at hown2
      rw [← q1]; exact Option.some.inj (X.ow.symm.trans hown2)
    have h6 := u_fits b7 b8 b9 (Or.inr hl0) b10 hty hn hfit
    rcases hpl with hl | hl
    · exact W.putFinK X.1 X.2.1 X.ow (X.ts _ hl) b11 b12 hcf (X.2.2.2.2.1 hini) (by rw [b5]; exact h6) b4 b6 b14 rfl rfl hd fin
    · rw [hini] at hl; cases hl
end S4
