/-! 'new Wrong()' as one step: an own exception with fields of its own, made by a nest mate -/
def wx_tail : List Cond := [.instantiable RX3 8, .selects RX3 Bundle.tFill0 Bundle.tFill0, .selects RX3 Bundle.tFill Bundle.tFill,
   .lays RX3 Bundle.tN "cause" "Ljava/lang/Throwable;", .lays RX3 Bundle.tN "stackTrace" Bundle.steD, .lays RX3 Bundle.tN "suppressedExceptions" Bundle.listD, .lays RX3 Bundle.tN "detailMessage" "Ljava/lang/String;",
   .isRef (.static Bundle.tN "UNASSIGNED_STACK" Bundle.steD), .isRef (.static Bundle.tN "SUPPRESSED_SENTINEL" Bundle.listD),
   .fieldLink Bundle.tN 198 Bundle.tN "backtrace" "Ljava/lang/Object;", .lays Bundle.tN Bundle.tN "backtrace" "Ljava/lang/Object;", .lays RX3 Bundle.tN "backtrace" "Ljava/lang/Object;"]
def wx_at : List Cond := Bundle.throwableAtoms ++ Bundle.chain0Atoms RX3 ["java/lang/Exception"] ++ wx_tail
theorem wx_a1 {w : Cond} (h : w ∈ Bundle.throwableAtoms) : w ∈ wx_at := List.mem_append_left _ (List.mem_append_left _ h)
theorem wx_a2 {w : Cond} (h : w ∈ Bundle.chain0Atoms RX3 ["java/lang/Exception"]) : w ∈ wx_at := List.mem_append_left _ (List.mem_append_right _ h)
theorem wx_a3 {w : Cond} (i : Nat) (h : wx_tail[i]? = some w) : w ∈ wx_at := List.mem_append_right _ (List.mem_of_getElem? h)
theorem wx_good : ∀ w ∈ (wx_at.filter vx_no).filter goodWord, w ∈ lw_all := lw_in _ [123, 310, 319, 321, 324, 326, 311, 312, 161, 162, 313, 318, 322, 339, 300, 340, 302, 341, 304, 314, 316, 306, 328, 329, 330, 331, 331, 332, 333, 311, 291, 297, 298, 299, 301, 303, 305, 309, 308, 307] (by decide +kernel) (by decide +kernel)
theorem wx_bad : ∀ w ∈ (wx_at.filter vx_no).filter (fun w => !goodWord w), w ∈ [Cond.declares (Bundle.init0 "java/lang/Exception"), Cond.declares (Bundle.init0 Bundle.tN)] := by decide +kernel
section Wx
variable {p : Program} {l : Launch} {e : Env} {R : Room} {s : State} {m₀ : MethodId} {args : Array Value} {below : List Frame} {meth : Method} {c : Code} {W : State} {locs : List Loc} {cells slots : Nat}
set_option maxHeartbeats 1000000 in
theorem wx_ctor (X : Stand p l e R s m₀ args below meth c W locs cells slots) (hexec : p.tables.exec = Jvm.exec) (htr : e.platform.stackTraces = false)
    (hown : s.vm.findClass RX0 = some m₀.cls)
    (h : ∀ a ∈ wx_at, a.before args s = true) (hnl : (Cond.methodLinkNest RX0 32 (Bundle.init0 RX3) RX0).before args s = true)
    (hlocs : ∀ x ∈ locs, ∀ cell, s.heap[x.base]? = some cell → cell.vm.isStatics = false)
    {a : Addr} {cX : ClassId} {kX : Class} (hfoundX : s.vm.findClass RX3 = some cX) (hkX : s.vm.classes[cX]? = some kX) (hcell : W.heap[a]? = some (freshCell cX kX)) (hnew : s.heap.size ≤ a)
    {g : JFrame} (hg : g.method = m₀) (hsize : g.locals.size = c.maxLocals) {rest : List Value} (hstack : g.stack = .ref a :: .ref a :: rest)
    (hd6 : decode c.code g.pc = .ok (.invokespecial 32, 3))
    (hRframes : 1 + 3 < R.frames) (hRlocals : 2 * g.monitorRoom + ((Value.ref a :: rest).map fun v => v.category).sum + (13 * (1 + 1) + 41) ≤ R.locals) :
    ∃ (V : State) (ce : Cell) (L : List Loc), Stand p l e R s m₀ args below meth c (V.setCell a ce) (locs ++ L) cells slots ∧ (∀ y ∈ L, y.base = a) ∧ V.heap = W.heap ∧ ce.cls = cX ∧ ce.vm = .none ∧ (∀ n i, (Cond.lays RX3 RX3 n "I").before args s = true → SlotIs s RX3 n "I" i → n ≠ "cause" → n ≠ "stackTrace" → n ≠ "suppressedExceptions" → ce.slots[i]? = (freshCell cX kX).slots[i]?) ∧
      ∀ target, Steps p.tables e below ((V.setCell a ce).setTop { g with stack := .ref a :: rest, pc := g.pc + 3 }) target → Steps p.tables e below (W.setTop g) target := by
  have howns : e.platform.frameOwnsMonitors = true := by rw [X.admits.platform]
  have hfin : e.platform.finalization = false := by rw [X.admits.platform]
  have hpl : e.platform.magicAccessors = ({} : Platform).magicAccessors := by rw [X.admits.platform]
  have hcls : Bundle.fit RX3 = true := by decide +kernel
  have hnames : ∀ n ∈ ["java/lang/Exception"], Bundle.fit n = true := by decide +kernel
  have a' : ∀ (i : Nat) {w : Cond}, wx_tail[i]? = some w → w.holds args s none s [] = true := fun i w hx => h w (wx_a3 i hx)
  obtain ⟨T, Z, L, LZ, Y⟩ := ThrowableC.of_atoms (args := args) howns hfin hpl (fun x hx => h x (wx_a1 hx))
  obtain ⟨P1, Ps, hlen, L1, hL, hP1m, hlink1, hlink⟩ := Bundle.chain0 (args := args) hpl Y.init0 ["java/lang/Exception"] RX3 hcls hnames (fun x hx => h x (wx_a2 hx))
  have hfound : s.vm.findClass RX3 = some P1.m.cls := findClass_of_methodNamed hP1m
  cases Option.some.inj (hfoundX.symm.trans hfound)
  obtain ⟨c1, kX', hc1, hk, hord, -, -, hn6⟩ := Cond.instantiable_spec (a' 0 rfl)
  cases Option.some.inj (hc1.symm.trans hfound)
  cases Option.some.inj (hkX.symm.trans hk)
  have hsel0 : selectMethod e.platform s.vm P1.m.cls T.fill0 = .method T.fill0 := by
    obtain ⟨c2, r2, m2, q1, q2, q3, q4, -⟩ := Cond.selects_spec (a' 1 rfl)
    cases Option.some.inj (q1.symm.trans hfound)
    cases Option.some.inj (q2.symm.trans (State.methodFound?_of_named Y.fill0 (by decide)))
    cases Option.some.inj (q3.symm.trans Y.fill0)
    rw [Launch.admits_selectMethod X.admits]; exact q4
  have hselF : selectMethod e.platform s.vm P1.m.cls T.fill = .method T.fill := by
    obtain ⟨c2, r2, m2, q1, q2, q3, q4, -⟩ := Cond.selects_spec (a' 2 rfl)
    cases Option.some.inj (q1.symm.trans hfound)
    cases Option.some.inj (q2.symm.trans (State.methodFound?_of_named Y.fill (by decide)))
    cases Option.some.inj (q3.symm.trans Y.fill)
    rw [Launch.admits_selectMethod X.admits]; exact q4
  obtain ⟨cellS0, hcS0, hiss⟩ := Y.statics
  obtain ⟨u0, hu0⟩ := Cond.staticRefV Y.unassigned L.unassignedStatic L.statics hcS0 hiss (a' 7 rfl)
  obtain ⟨sen, hsen⟩ := Cond.staticRefV Y.sentinel L.sentinelStatic L.statics hcS0 hiss (a' 8 rfl)
  obtain ⟨ci198, i198, fB, hk198, hg198, ha198, hsB, -, hnB, htB, hffB⟩ := Cond.ownField (t := .object "java/lang/Object") Y.found L.cls (by decide +kernel) (a' 9 rfl) (a' 10 rfl) e.platform hpl
  obtain ⟨cellS, hcS', heS, -, hkeep⟩ := X.same.2.2.2.2.2 T.aS cellS0 hcS0
  have hcellS : W.heap[T.aS]? = some cellS := hcS'
  have hout' : ∀ i, (⟨T.aS, i⟩ : Loc) ∉ locs := fun i hmem => by
    have := hlocs _ hmem cellS0 hcS0
    rw [hiss] at this; cases this
  have hknownS : cellS.vm ≠ .unknown := by
    rw [heS]; intro hu
    rw [show cellS0.vm = .unknown from hu] at hiss
    cases hiss
  have hneS : T.aS ≠ a := Nat.ne_of_lt (Nat.lt_of_lt_of_le (Array.getElem?_eq_some_iff.mp hcS0).1 hnew)
  obtain ⟨iM, hffM⟩ := Y.msg
  obtain ⟨tyC, dC, hdC, hdnC⟩ := Cond.laysAt hfound hk Y.cause (a' 3 rfl)
  obtain ⟨tyS, dS, hdS, hdnS⟩ := Cond.laysAt hfound hk Y.stack (a' 4 rfl)
  obtain ⟨tyP, dP, hdP, hdnP⟩ := Cond.laysAt hfound hk Y.supp (a' 5 rfl)
  obtain ⟨tyM, dM, hdM, hdnM⟩ := Cond.laysAt hfound hk hffM (a' 6 rfl)
  obtain ⟨tyB, dB, hdB, hdnB⟩ := Cond.laysAt hfound hk hffB (a' 11 rfl)
  have bC := Cond.laysApart hdB hdC hdnB hdnC (by rw [hnB, Y.causeName]; decide)
  have bS := Cond.laysApart hdB hdS hdnB hdnS (by rw [hnB, Y.stackName]; decide)
  have bP := Cond.laysApart hdB hdP hdnB hdnP (by rw [hnB, Y.suppName]; decide)
  have hskip : SkipFacts T e.platform s (fun u => u) u0 ((preparedCellV T.toThrowableT (freshCell P1.m.cls kX) a u0 sen).withEntry W.cur) :=
    ⟨{ ci198 := ci198, i198 := i198, fBack := fB }, ⟨hk198, hg198, ha198, hsB⟩, by
      have := fresh_default (c := P1.m.cls) tyB
      rw [htB] at this
      simpa [preparedCellV, Cell.setSlot, Cell.withEntry, Array.getElem?_setIfInBounds, bC, bS, bP, bC.symm, bS.symm, bP.symm, defaultValue] using this, fun _ _ => rfl⟩
  obtain ⟨tm, methC, cdC, kC, vm₁, hnC, -, -, -, -, -, -, -, hW₁, st1⟩ := Steps.initColdArgsNest (tb := p.tables) (e := e) (below := below) (s := s) (U := W) X.here hexec X.warmed hpl hown (t := Bundle.init0 RX3) rfl (Bundle.fit_spec hcls).2
    hnl (h (.instanceMethod (Bundle.init0 RX3)) (wx_a2 (by simp [Bundle.chain0Atoms, Bundle.passAtoms]))) (bytes := Bundle.five) (maxL := 1) (h (.code (Bundle.init0 RX3) Bundle.five 1 none) (wx_a2 (by simp [Bundle.chain0Atoms, Bundle.passAtoms])))
    (f := g) hg (a := a) (argsL := []) (rest := .ref a :: rest) (fun sig hs => by
      have hq : (parseMethodDescriptor (Bundle.init0 RX3).desc).map (fun d => d.parameters.length) = some 0 := by decide +kernel
      rw [hs] at hq
      exact (Option.some.inj hq).symm) hstack hd6
  cases Option.some.inj (hnC.symm.trans hP1m)
  have X₁ := X.noted hW₁
  obtain ⟨vm₂, X₂, st2⟩ := X₁.ctorPlainOffV hexec (g := { g with stack := .ref a :: rest }) hg hsize T L Z LZ (P1 :: Ps)
    (fun P hP => by rcases List.mem_cons.mp hP with rfl | hP; exact L1; exact hL P hP) ⟨hlink1, hlink⟩ (u0 := u0) (sen := sen) (self := a) (cell := freshCell P1.m.cls kX) (cellS := cellS)
    hcell (fun _ => by simp) (by simp) rfl rfl hsel0 hselF hcellS hneS hknownS (by rw [hkeep _ (hout' _)]; exact hu0) (by rw [hkeep _ (hout' _)]; exact hsen)
    (Takes.of_laid hk hord tyC (by rw [Y.causeType]; rfl)) (Takes.of_laid hk hord tyS (by rw [Y.stackType]; exact fits_refV_array _ u0)) (Takes.of_laid hk hord tyP (by rw [Y.suppType]; exact fits_refV_object _ sen)) Y.objLocals hskip htr [] hd6
    (by simp only [List.length_cons, hlen, List.length_nil]; omega) (by simp only [List.length_cons, hlen, List.length_nil]; omega)
  refine ⟨(W.setVm vm₁).setVm vm₂, _, _, X₂, fun y hy => ?_, rfl, rfl, rfl, fun n i hl hsl n1 n2 n3 => ?_, fun target hwalk => st1 _ (fun acts => ?_)⟩
  · simp only [List.mem_cons, List.not_mem_nil, or_false] at hy
    rcases hy with rfl | rfl | rfl | rfl <;> rfl
  · obtain ⟨cf, kf, fi, fd, hi, he⟩ := hsl
    obtain ⟨tyK, dK, hdK, hdnK⟩ := Cond.laysAt hfound hk hi hl
    have hn : fd.name = n := (State.fieldFound?_type hi (t := .int) (by decide +kernel)).1
    have aC := Cond.laysApart hdK hdC hdnK hdnC (by rw [hn, Y.causeName]; exact n1)
    have aS := Cond.laysApart hdK hdS hdnK hdnS (by rw [hn, Y.stackName]; exact n2)
    have aP := Cond.laysApart hdK hdP hdnK hdnP (by rw [hn, Y.suppName]; exact n3)
    subst he
    simp [preparedCellV, Cell.setSlot, Array.getElem?_setIfInBounds, aC, aS, aP, aC.symm, aS.symm, aP.symm]
  · rw [doInvoke_state]
    exact st2 _ hwalk
end Wx
theorem wx_ot : ∀ w ∈ wx_at.filter vx_no, vx_ot w = true := by decide +kernel
section Newex
variable {own : String} {cc : ByteArray} {ini : Bool} {pc : Nat}
set_option maxHeartbeats 1000000 in
theorem ok_newex (ho : own = RX0) (d0 : decode cc pc = .ok (.new 30, 3)) (d3 : decode cc (pc + 3) = .ok (.dup, 1)) (d4 : decode cc (pc + 4) = .ok (.invokespecial 32, 3)) : sd_I own cc ini pc (in_newex 8 (pc + 7)) := by
  intro P p l e R s m args below meth c H locs cells slots Q A ls st h pc' ls' st' h' X E hc hs K
  unfold in_newex at E; split at E
  case isFalse => cases E
  case isTrue hst =>
  cases E
  subst ho
  have e1 : hp_n (hp_new h 103 0 8) = hp_n h + 1 := rfl
  have e2 : hp_u (hp_new h 103 0 8) = hp_u h + 8 := rfl
  rw [e1] at hc; rw [e2] at hs
  have hz := X.Rel.1
  have hlo := X.lo
  have hK := X.G.1 3 _ (rfl : sd_cl 3 = some (RX3, TWr, 2))
  intro T hT X0
  subst hT
  have hexec := X.1
  have htr : e.platform.stackTraces = false := (show e.platform.stackTraces = l.stackTraces by rw [X0.admits.platform]).trans X.tr
  have Y := vx_rebase X0 (R' := { frames := R.frames, locals := R.locals, cells := 1, slots := 8 }) (Nat.le_refl _) (Nat.le_refl _) (show cells + 1 ≤ R.cells by omega) (show slots + 8 ≤ R.slots by omega)
  obtain ⟨s', hA'⟩ : ∃ z, z = (T.setVm s.vm).setFrames (.invoking m args :: below) := ⟨_, rfl⟩
  rw [← hA'] at Y
  have hvm : s'.vm = s.vm := by rw [hA']; rfl
  have hhp : s'.heap = T.heap := by rw [hA']; rfl
  have hW0 : s.WarmedH s'.vm := by rw [hvm]; exact State.WarmedH.refl s
  have hat : ∀ w ∈ wx_at.filter vx_no, w.before args s = true := vx_hat (fun w hw => X.ts w (wx_good w hw)) wx_bad (fun w hw => by
    simp only [List.mem_cons, List.not_mem_nil, or_false] at hw
    rcases hw with e | e
    · rw [e]; exact va_Nw.use rfl (X.G.2.2.1 _ q293 rfl)
    · rw [e]; exact va_Nw.use rfl (X.G.2.2.1 _ q295 rfl))
  have hat' : ∀ w ∈ wx_at.filter vx_no, w.before args s' = true := fun w hw => vx_ot_at hW0 hvm.symm (wx_ot w hw) (hat w hw)
  have hk' : (Cond.classLink RX0 30 RX3).before args s' = true := vx_ot_at hW0 hvm.symm rfl (X.ts _ q290)
  have hini' : (Cond.initialized RX3).before args s' = true := vx_ot_at hW0 hvm.symm rfl (X.ts _ q125)
  have hnl' : (Cond.methodLinkNest RX0 32 (Bundle.init0 RX3) RX0).before args s' = true := va_Nw.use rfl (va_Nw.warmM hW0 (X.G.2.2.1 _ q327 rfl))
  have hkp : ∀ a : Nat, a < P.2.2.1.size → ¬ sd_A P a → T.heap[a]? = P.2.2.1[a]? := fun a _ hA => X.Rel.2.2.1 a (Nat.not_le.mp hA)
  have hU' : vx_Zq Bundle.tN "UNASSIGNED_STACK" Bundle.steD (sd_A P) s' s'.heap := by rw [hhp]; exact vx_Zq.moved hW0.alike (X.G.2.2.2.2.2.2.1.2.1.kept hkp)
  have hN' : vx_Zq Bundle.tN "SUPPRESSED_SENTINEL" Bundle.listD (sd_A P) s' s'.heap := by rw [hhp]; exact vx_Zq.moved hW0.alike (X.G.2.2.2.2.2.2.1.2.2.1.kept hkp)
  have hall : ∀ w ∈ wx_at, w.before args s' = true := vx_own hat' (vx_isRefq hU'.1) (vx_isRefq hN'.1) hU'.2.word hN'.2.word
  have hown' : s'.vm.findClass RX0 = some m.cls := by rw [hvm]; exact X.ow
  have hins : (Cond.instantiable RX3 8).before args s' = true := hall _ (wx_a3 0 rfl)
  have hb := X.2.1
  obtain ⟨vm₁, cX, kX, hfX, hkX, -, -, X₁, st1⟩ := Y.newCold hexec (own := RX0) (C := RX3) (index := 30) (n := 8) hown' hk' hins hini'
    (g := F0 m pc A (st.map am_toV)) rfl (by rw [hb]; exact d0) (Nat.le_refl _) (Nat.le_refl _)
  generalize hT1 : (T.setVm vm₁).pushCell { cls := cX, slots := kX.instanceTypes.map defaultValue, vm := .none } = T1 at X₁ st1
  have hcat : (Value.ref T.heap.size).category = 1 := rfl
  have hcellA : T1.heap[T.heap.size]? = some (freshCell cX kX) := by rw [← hT1]; exact State.heap_pushCell_size _ _
  have d3' : decode c.code (pc + 3) = .ok (.dup, 1) := by rw [hb]; exact d3
  have hsum := sd_sum_cat st
  have hfr := X.fr6
  have hlc := X.lc6
  obtain ⟨V, ce, L, Z, hL, hVh, hcl9, hvm9, hsl9, st9⟩ := wx_ctor X₁ hexec htr hown' hall hnl' (fun x hx => nomatch hx) hfX hkX hcellA (by rw [hhp]; exact Nat.le_refl _)
    (g := { method := m, pc := pc + 4, locals := A, stack := .ref T.heap.size :: .ref T.heap.size :: st.map am_toV, locked := none }) rfl (X.L.1.trans X.ml.symm) (rest := st.map am_toV) rfl
    (by rw [hb]; exact d4) (show 1 + 3 < R.frames by omega) (by
      simp only [List.map_cons, List.sum_cons, hcat]
      show 2 * 0 + _ + _ ≤ R.locals
      omega)
  have Z0 := Stand.forget (locs := []) Z (fun y hy => by rw [hL y hy, hhp]; exact Nat.le_refl _)
  have f1 : (V.setCell T.heap.size ce).heap.size = T.heap.size + 1 := by
    rw [State.heap_setCell, Array.size_setIfInBounds, hVh, ← hT1]; exact State.heap_size_pushCell _ _
  have f2 : ∀ q, q < T.heap.size → (V.setCell T.heap.size ce).heap[q]? = T.heap[q]? := fun q hq => by
    rw [heapAt_setCell_ne ce (Nat.ne_of_gt hq), hVh, ← hT1]; exact State.heap_pushCell_of_lt _ _ hq
  have hlt : T.heap.size < V.heap.size := by rw [hVh]; exact (Array.getElem?_eq_some_iff.mp hcellA).1
  have hh : (V.setCell T.heap.size ce).heap[T.heap.size]? = some ce := heapAt_setCell_self (s := V) ce hlt
  have hcid : cX = P.1.1 3 := by
    have h1 := hK.2.1
    rw [hvm] at hfX
    exact Option.some.inj (hfX.symm.trans h1)
  have hslot : ∀ k, k < 2 → ce.slots[P.1.2 3 k]? = some (.int 0) := by
    intro k hk
    obtain ⟨cf, kf, fi, fd, hi, he⟩ := hK.1 k hk
    have hlays : ∀ n ∈ ["kind", "place"], (Cond.lays RX3 RX3 n "I").before args s' = true := by
      intro n hn
      simp only [List.mem_cons, List.not_mem_nil, or_false] at hn
      rcases hn with e | e
      · rw [e]; exact vx_ot_at hW0 hvm.symm rfl (X.ts _ q342)
      · rw [e]; exact vx_ot_at hW0 hvm.symm rfl (X.ts _ q344)
    have hcase : (TWr k).1 = RX3 ∧ (TWr k).2.1 ∈ ["kind", "place"] ∧ (TWr k).2.2.1 = "I" := by
      rcases k with _ | _ | k
      · exact ⟨rfl, by decide, rfl⟩
      · exact ⟨rfl, by decide, rfl⟩
      · omega
    have hi' := slotIs_moved hW0.alike (hK.1 k hk)
    rw [hcase.1, hcase.2.2] at hi'
    rw [hsl9 _ _ (hlays _ hcase.2.1) hi' (fun q => by have := hcase.2.1; rw [q] at this; revert this; decide) (fun q => by have := hcase.2.1; rw [q] at this; revert this; decide) (fun q => by have := hcase.2.1; rw [q] at this; revert this; decide)]
    obtain ⟨cf, kf, fi, fd, hi, he⟩ := hi'
    have h3 := (u_facts hfX hkX (Or.inl (hlays _ hcase.2.1)) hi).2.2
    have h4 := fresh_default (c := cX) h3
    rw [(State.fieldFound?_type hi (t := .int) (by decide +kernel)).2] at h4
    rw [← he]
    exact h4
  subst hA'
  have X5 := vx_back9 X0 Y Z0
  have hRel : sd_Rel P s (hp_new h 103 0 8) (V.setCell T.heap.size ce).heap := by
    refine X.Rel.push X.lo f1 f2 (Or.inr (Or.inr (Or.inl ⟨by decide, by decide, by omega, ?_⟩)))
    refine ⟨_, ce, rfl, by rw [show hp_n h - 1 = T.heap.size by omega]; exact hh, hcl9.trans hcid, hvm9, fun k hk => ⟨k2_hasslot (hslot k hk), Or.inr ?_⟩⟩
    rw [hslot k hk]
    have hty : sd_tc (sd_ty 3 k) = 0 := by
      rcases k with _ | _ | k
      · rfl
      · rfl
      · exact absurd hk (by show ¬ (k + 2 < 2); omega)
    unfold sd_fv sd_val
    rw [show sd_ty (103 - 100) k = sd_ty 3 k from rfl, hty]
    exact congrArg (fun x => some (Value.int x)) (sd_zapI _ _ _ _ _).symm
  have hv : am_toV (am_r (hp_n h)) = .ref T.heap.size := by
    show sd_rv (hp_n h) = _
    rw [← hz]; rfl
  have hk9 := K (V.setCell T.heap.size ce).heap locs A (cells + 1) (slots + 8) hRel X.L rfl X.lcs (by rw [f1]; omega) (by rw [e1]; omega) (by rw [e2]; omega)
  rw [List.map_cons, hv] at hk9
  obtain ⟨t, a1, b1⟩ := hk9 _ rfl { X5 with same := X5.same.mono (by omega) (by omega) }
  refine ⟨t, st1 _ ?_, b1⟩
  show Steps p.tables e below (T1.setTop { method := m, pc := pc + 3, locals := A, stack := .ref T.heap.size :: st.map am_toV, locked := none }) _
  jvm_step X₁.here [X₁.here.top, hexec, d3', Value.category]
  exact st9 _ a1
end Newex
