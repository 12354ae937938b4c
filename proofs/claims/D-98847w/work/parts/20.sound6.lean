/-! SOUND, part 6: new, arrays made, references stored, casts, globals, switches, Object's constructor, arraycopy -/
def sd_okty (ty : FieldType) : Bool := match ty with
  | .float => false
  | .double => false
  | _ => true
theorem sd_default {ty : FieldType} (h : sd_okty ty = true) (h0 : am_H) (a k : Nat) (hI : hp_I h0 a k = 0) (hL : hp_L h0 a k = 0) (hR : hp_R h0 a k = 0) : defaultValue ty = sd_val (sd_tc ty) h0 a k := by
  cases ty with
  | float => cases h
  | double => cases h
  | long => show Value.long 0 = .long _; rw [hL]
  | object C => show Value.null = sd_rv _; rw [hR]; rfl
  | array t => show Value.null = sd_rv _; rw [hR]; rfl
  | _ => show Value.int 0 = .int _; rw [hI]
theorem sd_cl_okty {ci : Nat} {r : vw_C} (h : sd_cl ci = some r) : ∀ k, k < r.2.2 → sd_okty (sd_ty ci k) = true := by
  unfold sd_cl at h
  split at h
  all_goals first
    | (cases h; decide +kernel)
    | cases h
section S6
variable {P : sd_P} {p : Program} {l : Launch} {e : Env} {R : Room} {s : State} {m : MethodId} {args : Array Value} {below : List Frame} {meth : Method} {c : Code} {own : String} {cc : ByteArray} {ini : Bool} {H : Heap} {locs : List Loc} {cells slots : Nat} {Q : State → Prop} {A : Array Slot} {ls st : List am_V} {h : am_H} {pc' : Nat} {ls' st' : List am_V} {h' : am_H} {pc nx : Nat}
theorem sd_zapI (h : am_H) (t n w k : Nat) : hp_I (hp_new h t n w) (hp_n h) k = 0 := if_pos rfl
theorem sd_zapL (h : am_H) (t n w k : Nat) : hp_L (hp_new h t n w) (hp_n h) k = 0 := if_pos rfl
theorem sd_zapR (h : am_H) (t n w k : Nat) : hp_R (hp_new h t n w) (hp_n h) k = 0 := if_pos rfl
theorem ok_new {t idx n : Nat} {r : vw_C} (hd : decode cc pc = .ok (.new idx, 3)) (ht : 100 ≤ t ∧ t < 200) (hr : sd_cl (t - 100) = some r) (hw1 : Cond.classLink own idx r.1 ∈ lw_all) (hw2 : Cond.instantiable r.1 n ∈ lw_all) (hw3 : Cond.initialized r.1 ∈ lw_all) : sd_I own cc ini pc (in_new t n (pc + 3)) := by
  intro P p l e R s m args below meth c H locs cells slots Q A ls st h pc' ls' st' h' X E hc hs K
  unfold in_new at E; cases E
  have hKn := X.G.1 _ _ hr
  have hz := X.Rel.1
  have e1 : hp_n (hp_new h t 0 n) = hp_n h + 1 := rfl
  have e2 : hp_u (hp_new h t 0 n) = hp_u h + n := rfl
  rw [e1] at hc; rw [e2] at hs
  refine W.newcK X.1 X.2.1 X.ow (X.ts _ hw1) (X.ts _ hw2) (X.ts _ hw3) rfl hd (by omega) (by omega) hKn.2.1 rfl (fun H' kC hkC g1 g2 g3 => ?_)
  have hb := u_born (sd_ty (t - 100)) X.ts (sd_cl_in hr).1 hKn hkC g1 (sd_cl_in hr).2
  have hRel : sd_Rel P s (hp_new h t 0 n) H' := by
    refine X.Rel.push X.lo g2 g3 (Or.inr (Or.inr (Or.inl ⟨ht.1, ht.2, by have := X.lo; omega, ?_⟩)))
    obtain ⟨cell, c1, c2, c3, c4⟩ := hb
    refine ⟨r, cell, hr, by rw [show hp_n h - 1 = H.size by omega]; exact c1, c2, c3, fun k hk => ⟨k2_hasslot (c4 k hk), Or.inr ?_⟩⟩
    rw [c4 k hk]
    exact congrArg some (sd_default (sd_cl_okty hr k hk) (hp_new h t 0 n) (hp_n h) (sd_mu (t - 100) k) (sd_zapI _ _ _ _ _) (sd_zapL _ _ _ _ _) (sd_zapR _ _ _ _ _))
  have hv : am_toV (am_r (hp_n h)) = .ref H.size := by
    show sd_rv (hp_n h) = _
    rw [← hz]; rfl
  have := K H' locs A (cells + 1) (slots + n) hRel X.L rfl X.lcs (by rw [g2]; have := X.lo; omega) (by rw [e1]; omega) (by rw [e2]; omega)
  rw [List.map_cons, hv] at this
  exact this
theorem ok_newa {atype : ArrayType} {t : Nat} {ty : FieldType} (hd : decode cc pc = .ok (.newarray atype, 2)) (hty : newarray.typeOf atype = ty) (ht : sd_ar t = some (sd_tc ty, ty)) (hp : ∀ (U : State) (cA : ClassId), va_RA U cA ty → U.vm.findClass ("[" ++ ty.toString) = some cA) (hok : sd_okty ty = true) (hcb : componentBytes ty ≤ 8) (hw : Cond.arrayClass ty ∈ lw_all) : sd_I own cc ini pc (in_newa t (pc + 2)) := by
  intro P p l e R s m args below meth c H locs cells slots Q A ls st h pc' ls' st' h' X E hc hs K
  subst hty
  unfold in_newa at E; split at E
  · rename_i x st0
    split at E
    · cases E
    · rename_i hx
      cases E
      have hz := X.Rel.1
      have e1 : hp_n (hp_new h t x.toNatClampNeg x.toNatClampNeg) = hp_n h + 1 := rfl
      have e2 : hp_u (hp_new h t x.toNatClampNeg x.toNatClampNeg) = hp_u h + x.toNatClampNeg := rfl
      rw [e1] at hc; rw [e2] at hs
      have hle : x.toNatClampNeg ≤ 10000 := Nat.not_lt.mp (fun q => hx (Or.inr q))
      refine va_newaK X.1 X.2.1 (X.ts _ hw) rfl hd rfl (fun q => hx (Or.inl q)) rfl (Nat.le_trans (Nat.mul_le_mul hle hcb) (by decide)) (by omega) (by omega) rfl (fun H' cA g1 g2 g3 hAr hNm => ?_)
      have hcA : cA = P.2.1 t := Option.some.inj (hNm.symm.trans (hp s _ (X.G.2.1 t _ _ ht).2))
      subst hcA
      have hRel : sd_Rel P s (hp_new h t x.toNatClampNeg x.toNatClampNeg) H' := by
        refine X.Rel.push X.lo g2 g3 (Or.inl ⟨_, _, ht, by have := X.lo; omega, ?_⟩)
        rw [show hp_n h - 1 = H.size by omega, g1]
        congr 2
        funext j
        exact sd_default hok _ _ _ (sd_zapI _ _ _ _ _) (sd_zapL _ _ _ _ _) (sd_zapR _ _ _ _ _)
      have hv : am_toV (am_r (hp_n h)) = .ref H.size := by
        show sd_rv (hp_n h) = _
        rw [← hz]; rfl
      have := K H' locs A (cells + 1) (slots + x.toNatClampNeg) hRel X.L rfl X.lcs (by rw [g2]; have := X.lo; omega) (by rw [e1]; omega) (by rw [e2]; omega)
      rw [List.map_cons, hv] at this
      exact this
  · cases E
theorem ok_anewa {idx t : Nat} {C : String} (hd : decode cc pc = .ok (.anewarray idx, 3)) (ht : sd_ar t = some (2, .object C)) (hw : Cond.classLink own idx C ∈ lw_all) (ho : Cond.arrayOver (.object C) ∈ lw_tbl) : sd_I own cc ini pc (in_newa t (pc + 3)) := by
  intro P p l e R s m args below meth c H locs cells slots Q A ls st h pc' ls' st' h' X E hc hs K
  unfold in_newa at E; split at E
  · rename_i x st0
    split at E
    · cases E
    · rename_i hx
      cases E
      have hz := X.Rel.1
      have e1 : hp_n (hp_new h t x.toNatClampNeg x.toNatClampNeg) = hp_n h + 1 := rfl
      have e2 : hp_u (hp_new h t x.toNatClampNeg x.toNatClampNeg) = hp_u h + x.toNatClampNeg := rfl
      rw [e1] at hc; rw [e2] at hs
      have hle : x.toNatClampNeg ≤ 10000 := Nat.not_lt.mp (fun q => hx (Or.inr q))
      refine W.anew X.1 X.2.1 X.ow (X.ts _ hw) (va_AO.use (X.G.2.2.1 _ ho rfl)) rfl hd rfl (fun q => hx (Or.inl q)) (by omega) (by omega) (by omega) (fun cA kA comp f1 f2 f3 f4 => ?_)
      have hcA : cA = P.2.1 t := by
        obtain ⟨_, _, _, _, _, q⟩ := (X.G.2.1 t _ _ ht).2
        exact Option.some.inj (f1.symm.trans q)
      subst hcA
      have hRel : sd_Rel P s (hp_new h t x.toNatClampNeg x.toNatClampNeg) (H.push ({ cls := P.2.1 t, slots := Array.replicate x.toNatClampNeg .null, vm := .none } : Cell)) := by
        refine X.Rel.push X.lo (Array.size_push ..) (fun q hq => by rw [Array.getElem?_push, if_neg (Nat.ne_of_lt hq)]) (Or.inl ⟨_, _, ht, by have := X.lo; omega, ?_⟩)
        rw [show hp_n h - 1 = H.size by omega, Array.getElem?_push_size, arrV_new]
        congr 2
        funext j
        show Value.null = sd_rv _
        rw [sd_zapR]; rfl
      have hv : am_toV (am_r (hp_n h)) = .ref H.size := by
        show sd_rv (hp_n h) = _
        rw [← hz]; rfl
      have := K _ locs A (cells + 1) (slots + x.toNatClampNeg) hRel X.L rfl X.lcs (by rw [Array.size_push]; have := X.lo; omega) (by rw [e1]; omega) (by rw [e2]; omega)
      rw [List.map_cons, hv] at this
      exact this
  · cases E
/-- an object as a receiver -/
theorem sd_recv (hG : sd_G P s) (hR : sd_Rel P s h H) {a t u : Nat} (hk : hp_K h a = (t, u)) (h1 : 100 ≤ t) (h2 : t < 200) {r : vw_C} (hr : sd_cl (t - 100) = some r) : 0 < a ∧ ∃ cell : Cell, H[a - 1]? = some cell ∧ cell.vm.isStatics = false ∧ cell.vm = .none ∧ s.vm.findClass r.1 = some cell.cls := by
  obtain ⟨hlo, r', cell, c1, c2, c3, c4, c5⟩ := hR.ob hk h1 h2
  rw [hr] at c1; cases c1
  exact ⟨by omega, cell, c2, by rw [c4]; rfl, c4, by rw [c3]; exact (hG.1 _ _ hr).2.1⟩
theorem ok_cast {idx : Nat} {C : String} {ts : List Nat} (hd : decode cc pc = .ok (.checkcast idx, 3)) (hw : Cond.classLink own idx C ∈ lw_all) (hf : ∀ t ∈ ts, 100 ≤ t ∧ t < 200 ∧ ∃ r : vw_C, sd_cl (t - 100) = some r ∧ (r.1 = C ∨ Cond.castable r.1 C ∈ lw_tbl)) : sd_I own cc ini pc (in_cast ts (pc + 3)) := by
  intro P p l e R s m args below meth c H locs cells slots Q A ls st h pc' ls' st' h' X E hc hs K
  unfold in_cast at E; split at E
  · rename_i a st0
    cases ha : a with
    | zero =>
      subst ha
      cases E
      exact lv_castN X.1 X.2.1 hd (sd_K0 X K)
    | succ a0 =>
      cases ht : ts.contains (hp_K h a).1 with
      | false => rw [ht, ha] at E; cases E
      | true =>
        rw [ht, Bool.or_true] at E; cases E
        obtain ⟨h1, h2, r, hr, hcst⟩ := hf _ (List.contains_iff_mem.mp ht)
        obtain ⟨h0, cell, g1, g2, -, g3⟩ := sd_recv X.G X.Rel (u := (hp_K h a).2) rfl h1 h2 hr
        subst ha
        rcases hcst with q | q
        · rw [q] at g3
          exact va_castE X.1 X.2.1 X.ow (X.ts _ hw) ⟨cell, g1, g2, g3⟩ hd (sd_K0 X K)
        · exact va_castY X.1 X.2.1 X.ow (X.ts _ hw) (X.G.2.2.1 _ q rfl) ⟨cell, g1, g2, g3⟩ hd (sd_K0 X K)
  · cases E
-- globals
theorem sd_ldcw {T : State} (X : Stand p l e R s m args below meth c T locs cells slots) (hexec : p.tables.exec = Jvm.exec) {text : String} {index : Nat} {a : Addr} (hown : s.vm.findClass own = some m.cls)
    (hconst : (Cond.stringRef own index text).before args s = true) (hev : (Term.string own index).eval args s none [] s = some (.ref a)) {g : JFrame} (hg : g.method = m) (hdg : decode c.code g.pc = .ok (.ldc_w index, 3)) :
    ∀ target, Steps p.tables e below (T.setTop { g with pc := g.pc + 3, stack := .ref a :: g.stack }) target → Steps p.tables e below (T.setTop g) target := by
  obtain ⟨k, cf, i, a', hk, hcf, hcp, -, hr, hev'⟩ := Cond.stringRef_spec hown hconst
  cases hev.symm.trans hev'
  obtain ⟨k', hk', he⟩ := X.warmed.alike.2.2 _ _ hk
  have hr' : k'.resolved[index]? = some (some (.string a)) := by
    rcases X.warmed.entry hk hk' index with h | ⟨h, -⟩
    · rw [h]; exact hr
    · rw [hr] at h; cases h
  intro target hrest
  subst hg
  jvm_step X.here [hexec, hdg, ldc_w.wp_string (e := e) (s := T) (f := g) X.here.top hk' (by rw [he]; exact hcf) hcp hr']
  exact hrest
theorem ok_ldcS {n g : Nat} {tx : String} (hd : decode cc pc = .ok (.ldc n, 2)) (ho : own = RX10) (hm : (n, tx, g) ∈ sd_sk) : sd_I own cc ini pc (in_glob g (pc + 2)) := by
  intro P p l e R s m args below meth c H locs cells slots Q A ls st h pc' ls' st' h' X E hc hs K
  unfold in_glob at E; cases E
  subst ho
  obtain ⟨q1, q2⟩ := X.G.2.2.2.2.2.1 _ hm
  refine va_ldcS X.1 X.2.1 X.ow q2 hd ?_
  have := sd_K0 X K
  rw [List.map_cons, show am_toV (am_r (hp_R h 0 g)) = .ref (P.2.2.2 g - 1) from by show sd_rv _ = _; rw [X.Rel.2.1 g]; exact sd_pred q1] at this
  exact this
theorem ok_ldcwS {n g : Nat} {tx : String} (hd : decode cc pc = .ok (.ldc_w n, 3)) (ho : own = RX10) (hm : (n, tx, g) ∈ sd_sk) : sd_I own cc ini pc (in_glob g (pc + 3)) := by
  intro P p l e R s m args below meth c H locs cells slots Q A ls st h pc' ls' st' h' X E hc hs K
  unfold in_glob at E; cases E
  subst ho
  obtain ⟨q1, q2⟩ := X.G.2.2.2.2.2.1 _ hm
  have k := sd_K0 X K
  rw [List.map_cons, show am_toV (am_r (hp_R h 0 g)) = .ref (P.2.2.2 g - 1) from by show sd_rv _ = _; rw [X.Rel.2.1 g]; exact sd_pred q1] at k
  intro T hT Y
  obtain ⟨t, a1, b1⟩ := k T hT Y
  exact ⟨t, sd_ldcw (own := RX10) (text := tx) (index := n) (a := P.2.2.2 g - 1) Y X.1 X.ow q2.1 q2.2 (g := F0 m pc A (st.map am_toV)) rfl (by rw [X.2.1]; exact hd) t a1, b1⟩
theorem sd_getsW (X : sd_Hyp P p l R s m args meth c own cc ini H locs A ls h) {idx : Nat} {C ref name desc : String} {v : Value} {rest : List Value} (hd : decode cc pc = .ok (.getstatic idx, 3)) (hZ : va_Z C name desc v (sd_A P) s P.2.2.1) (hl : Cond.fieldLink own idx ref name desc ∈ lw_all) (hsm : sd_same C ref name desc) (kw : W p l e R s m args below meth c H locs cells slots Q (F0 m (pc + 3) A (v :: rest))) : W p l e R s m args below meth c H locs cells slots Q (F0 m pc A rest) := by
  obtain ⟨cf, kf, fi, f, a, cell, h1, h2, h3, h4, h5, h6, h7, h8⟩ := hZ
  exact W.gets X.1 X.2.1 X.ow (X.ts _ hl) (hsm.use X.ts _ h1) h2 h3 h4 (by rw [X.Rel.2.2.1 a (Nat.not_le.mp h8)]; exact h5) (fun q => by rw [q] at h6; cases h6) h7 rfl hd kw
theorem ok_gets {idx g : Nat} {C ref name desc : String} (hd : decode cc pc = .ok (.getstatic idx, 3)) (hm : (C, name, desc, g) ∈ sd_st) (hl : Cond.fieldLink own idx ref name desc ∈ lw_all) (hsm : sd_same C ref name desc) : sd_I own cc ini pc (in_glob g (pc + 3)) := by
  intro P p l e R s m args below meth c H locs cells slots Q A ls st h pc' ls' st' h' X E hc hs K
  unfold in_glob at E; cases E
  refine sd_getsW X hd (X.G.2.2.2.1 _ hm) hl hsm ?_
  have := sd_K0 X K
  rw [List.map_cons, show am_toV (am_r (hp_R h 0 g)) = sd_rv (P.2.2.2 g) from by show sd_rv _ = _; rw [X.Rel.2.1 g]] at this
  exact this
theorem ok_getsC {idx : Nat} {ref : String} (hd : decode cc pc = .ok (.getstatic idx, 3)) (hl : Cond.fieldLink own idx ref "COMPACT_STRINGS" "Z" ∈ lw_all) (hsm : sd_same "java/lang/String" ref "COMPACT_STRINGS" "Z") : sd_I own cc ini pc (in_const (am_i 1) (pc + 3)) := by
  intro P p l e R s m args below meth c H locs cells slots Q A ls st h pc' ls' st' h' X E hc hs K
  obtain ⟨rfl, rfl, rfl, rfl⟩ := iv_const E
  exact sd_getsW X hd X.G.2.2.2.2.1 hl hsm (sd_K0 X K)
-- a string's own fields
theorem ok_strV {idx : Nat} {ref : String} (hd : decode cc pc = .ok (.getfield idx, 3)) (hl : Cond.fieldLink own idx ref "value" "[B" ∈ lw_all) (hsm : sd_same "java/lang/String" ref "value" "[B") : sd_I own cc ini pc (in_strV (pc + 3)) := by
  intro P p l e R s m args below meth c H locs cells slots Q A ls st h pc' ls' st' h' X E hc hs K
  unfold in_strV at E; split at E
  · rename_i a st0
    split at E
    · cases E
    · rename_i hne
      cases E
      have eg := X.Rel.2.1 (1000 + a)
      rw [eg] at hne
      obtain ⟨h0, -, -, cf, k, fi, f, cell, h1, h2, h3, h4, h5, h6⟩ := X.G.2.2.2.2.2.2.1.2.2.2 a hne
      show W p l e R s m args below meth c H locs cells slots Q (F0 m pc A (sd_rv a :: st0.map am_toV))
      rw [sd_pred h0]
      refine W.getf X.1 X.2.1 X.ow (X.ts _ hl) (hsm.use X.ts _ h1) h2 (by rw [X.Rel.2.2.1 _ (Nat.not_le.mp h6)]; exact h3) h4 h5 rfl rfl hd ?_
      have := sd_K0 X K
      rw [List.map_cons, show am_toV (am_r (hp_R h 0 (1000 + a))) = sd_rv (P.2.2.2 (1000 + a)) from by rw [eg]; rfl] at this
      exact this
  · cases E
theorem ok_strC {idx : Nat} {ref : String} (hd : decode cc pc = .ok (.getfield idx, 3)) (hl : Cond.fieldLink own idx ref "coder" "B" ∈ lw_all ∨ Cond.fieldLink own idx ref "code\x72" "B" ∈ lw_all) (hsm : sd_same "java/lang/String" ref "coder" "B") : sd_I own cc ini pc (in_strC (pc + 3)) := by
  intro P p l e R s m args below meth c H locs cells slots Q A ls st h pc' ls' st' h' X E hc hs K
  unfold in_strC at E; split at E
  · rename_i a st0
    split at E
    · cases E
    · rename_i hne
      cases E
      rw [X.Rel.2.1 (1000 + a)] at hne
      obtain ⟨h0, -, ⟨cf, k, fi, f, cell, h1, h2, h3, h4, h5, h6⟩, -⟩ := X.G.2.2.2.2.2.2.1.2.2.2 a hne
      have hl' : Cond.fieldLink own idx ref "coder" "B" ∈ lw_all := hl.elim id id
      show W p l e R s m args below meth c H locs cells slots Q (F0 m pc A (sd_rv a :: st0.map am_toV))
      rw [sd_pred h0]
      exact W.getf X.1 X.2.1 X.ow (X.ts _ hl') (hsm.use X.ts _ h1) h2 (by rw [X.Rel.2.2.1 _ (Nat.not_le.mp h6)]; exact h3) h4 h5 rfl rfl hd (sd_K0 X K)
  · cases E
-- comparing references
def sd_op (r : Nat) : Option Nat := match r with
  | 0 => none
  | a + 1 => some a
theorem sd_rv_op (r : Nat) : sd_rv r = va_rf (sd_op r) := by cases r <;> rfl
theorem sd_op_inj {a b : Nat} : sd_op a = sd_op b ↔ a = b := by
  cases a <;> cases b <;> simp [sd_op]
theorem ok_acmpne {off : Int} {tgt : Nat} (hd : decode cc pc = .ok (.if_acmp .ne off, 3)) (ht : (pc : Int) + off = (tgt : Int)) : sd_I own cc ini pc (in_acmpne tgt (pc + 3)) := by
  intro P p l e R s m args below meth c H locs cells slots Q A ls st h pc' ls' st' h' X E hc hs K
  unfold in_acmpne at E; split at E
  · rename_i y x st0
    show W p l e R s m args below meth c H locs cells slots Q (F0 m pc A (sd_rv y :: sd_rv x :: st0.map am_toV))
    rw [sd_rv_op, sd_rv_op]
    refine lv_acmp_ne X.1 X.2.1 hd ht (fun q => ?_) (fun q => ?_)
    · have hb : Nat.beq x y = false := by
        cases hb : Nat.beq x y with
        | false => rfl
        | true => exact absurd (sd_op_inj.mpr (Nat.eq_of_beq_eq_true hb)) q
      rw [hb] at E; cases E; exact sd_K0 X K
    · have hb : Nat.beq x y = true := by rw [sd_op_inj.mp q]; exact Nat.beq_refl y
      rw [hb] at E; cases E; exact sd_K0 X K
  · cases E
theorem ok_acmpeq {off : Int} {tgt : Nat} (hd : decode cc pc = .ok (.if_acmp .eq off, 3)) (ht : (pc : Int) + off = (tgt : Int)) : sd_I own cc ini pc (in_acmpne (pc + 3) tgt) := by
  intro P p l e R s m args below meth c H locs cells slots Q A ls st h pc' ls' st' h' X E hc hs K
  unfold in_acmpne at E; split at E
  · rename_i y x st0
    show W p l e R s m args below meth c H locs cells slots Q (F0 m pc A (sd_rv y :: sd_rv x :: st0.map am_toV))
    rw [sd_rv_op, sd_rv_op]
    refine lv_acmp_eq X.1 X.2.1 hd ht (fun q => ?_) (fun q => ?_)
    · have hb : Nat.beq x y = true := by rw [sd_op_inj.mp q]; exact Nat.beq_refl y
      rw [hb] at E; cases E; exact sd_K0 X K
    · have hb : Nat.beq x y = false := by
        cases hb : Nat.beq x y with
        | false => rfl
        | true => exact absurd (sd_op_inj.mpr (Nat.eq_of_beq_eq_true hb)) q
      rw [hb] at E; cases E; exact sd_K0 X K
  · cases E
-- switches
def sd_tb (pc : Nat) : List Int → Int → List (Int32 × Nat) → Prop
  | [], _, tb => tb = []
  | o :: os, k, tb => ∃ (y : Int32) (t : Nat) (tb' : List (Int32 × Nat)), tb = (y, t) :: tb' ∧ y.toInt = k ∧ (pc : Int) + o = (t : Int) ∧ sd_tb pc os (k + 1) tb'
theorem sd_tb_in {pc : Nat} {df : Nat} {x : Int32} : ∀ {os : List Int} {k : Int} {tb : List (Int32 × Nat)} {o : Int}, sd_tb pc os k tb → k ≤ x.toInt → os[(x.toInt - k).toNat]? = some o → (pc : Int) + o = (am_sw tb df x : Nat)
  | [], k, tb, o, _, _, h => by simp at h
  | o' :: os, k, tb, o, ht, hk, h => by
    obtain ⟨y, t, tb', rfl, hy, hp, ht'⟩ := ht
    unfold am_sw
    by_cases hx : x = y
    · rw [if_pos hx]
      subst hx
      rw [show (x.toInt - k).toNat = 0 by omega] at h
      cases h
      exact hp
    · rw [if_neg hx]
      have hne : x.toInt ≠ k := fun q => hx (Int32.toInt_inj.mp (q.trans hy.symm))
      refine sd_tb_in ht' (by omega) ?_
      rw [show (x.toInt - k).toNat = (x.toInt - (k + 1)).toNat + 1 by omega] at h
      exact h
theorem sd_tb_out {pc : Nat} {df : Nat} {x : Int32} : ∀ {os : List Int} {k : Int} {tb : List (Int32 × Nat)}, sd_tb pc os k tb → (x.toInt < k ∨ k + os.length ≤ x.toInt) → am_sw tb df x = df
  | [], k, tb, ht, _ => by rw [show tb = [] from ht]; rfl
  | o' :: os, k, tb, ht, h => by
    obtain ⟨y, t, tb', rfl, hy, hp, ht'⟩ := ht
    unfold am_sw
    rw [List.length_cons] at h
    have hne : x ≠ y := fun q => by rw [q, hy] at h; omega
    rw [if_neg hne]
    exact sd_tb_out ht' (by omega)
theorem ok_table {dflt lo hi : Int} {offs : Array Int} {len df : Nat} {tb : List (Int32 × Nat)} (hd : decode cc pc = .ok (.tableswitch dflt lo hi offs, len)) (hdf : (pc : Int) + dflt = (df : Int)) (hlen : (offs.toList.length : Int) = hi - lo + 1) (htb : sd_tb pc offs.toList lo tb) : sd_I own cc ini pc (in_switch tb df) := by
  intro P p l e R s m args below meth c H locs cells slots Q A ls st h pc' ls' st' h' X E hc hs K
  unfold in_switch at E; split at E
  · rename_i x st0
    cases E
    by_cases hx : x.toInt < lo ∨ hi < x.toInt
    · refine lv_tableOut X.1 X.2.1 hd hx (tgt := am_sw tb df x) ?_ (sd_K0 X K)
      rw [sd_tb_out htb (by omega)]; exact hdf
    · have h1 : ¬ x.toInt < lo := fun q => hx (Or.inl q)
      have h2 : ¬ hi < x.toInt := fun q => hx (Or.inr q)
      have hj : (x.toInt - lo).toNat < offs.toList.length := by omega
      refine lv_tableIn X.1 X.2.1 hd h1 h2 (off := offs.toList[(x.toInt - lo).toNat]) (tgt := am_sw tb df x) ?_ ?_ (sd_K0 X K)
      · rw [← Array.getElem?_toList, List.getElem?_eq_getElem hj]
      · exact sd_tb_in htb (by omega) (List.getElem?_eq_getElem hj)
  · cases E
def sd_lb (pc : Nat) : List (Int × Int) → List (Int32 × Nat) → Prop
  | [], tb => tb = []
  | q :: ps, tb => ∃ (y : Int32) (t : Nat) (tb' : List (Int32 × Nat)), tb = (y, t) :: tb' ∧ y.toInt = q.1 ∧ (pc : Int) + q.2 = (t : Int) ∧ sd_lb pc ps tb'
theorem sd_lb_off {pc df : Nat} {dflt : Int} {x : Int32} (hdf : (pc : Int) + dflt = (df : Int)) : ∀ {ps : List (Int × Int)} {tb : List (Int32 × Nat)}, sd_lb pc ps tb → (pc : Int) + Op.lookupswitch.offset ps dflt x.toInt = (am_sw tb df x : Nat)
  | [], tb, ht => by rw [show tb = [] from ht]; exact hdf
  | q :: ps, tb, ht => by
    obtain ⟨y, t, tb', rfl, hy, hp, ht'⟩ := ht
    unfold am_sw
    by_cases hx : x = y
    · subst hx
      rw [if_pos rfl]
      show (pc : Int) + (if q.1 = x.toInt then q.2 else _) = _
      rw [if_pos hy.symm]
      exact hp
    · rw [if_neg hx]
      show (pc : Int) + (if q.1 = x.toInt then q.2 else _) = _
      rw [if_neg (fun z => hx (Int32.toInt_inj.mp (z.symm.trans hy.symm)))]
      exact sd_lb_off hdf ht'
theorem ok_lookup {dflt : Int} {ps : Array (Int × Int)} {len df : Nat} {tb : List (Int32 × Nat)} (hd : decode cc pc = .ok (.lookupswitch dflt ps, len)) (hdf : (pc : Int) + dflt = (df : Int)) (hp : (ps.toList.zip (ps.toList.drop 1)).all (fun (a, next) => a.1 < next.1) = true) (htb : sd_lb pc ps.toList tb) : sd_I own cc ini pc (in_switch tb df) := by
  intro P p l e R s m args below meth c H locs cells slots Q A ls st h pc' ls' st' h' X E hc hs K
  unfold in_switch at E; split at E
  · rename_i x st0
    cases E
    exact lv_lookup X.1 X.2.1 hd hp rfl (sd_lb_off hdf htb) (sd_K0 X K)
  · cases E
-- Object's constructor
theorem sd_sum_cat : ∀ (st : List am_V), ((st.map am_toV).map fun v => v.category).sum ≤ am_sum st
  | [] => Nat.le_refl _
  | v :: st => by
    show (am_toV v).category + _ ≤ am_cat v + am_sum st
    have h1 : (am_toV v).category ≤ am_cat v := by
      rcases v with x | x | x | x
      · exact Nat.le_refl 1
      · exact Nat.le_refl 2
      · cases x <;> exact Nat.le_refl 1
      · exact Nat.le_refl 1
    exact Nat.add_le_add h1 (sd_sum_cat st)
theorem ok_obj {idx : Nat} (hd : decode cc pc = .ok (.invokespecial idx, 3)) (hw1 : Cond.methodLink own idx Lib.objectInit ∈ lw_all) (hw2 : Cond.instanceMethod Lib.objectInit ∈ lw_all) (hw3 : Cond.code Lib.objectInit ⟨#[0xb1]⟩ 1 none ∈ lw_all) : sd_I own cc ini pc (in_obj (pc + 3)) := by
  intro P p l e R s m args below meth c H locs cells slots Q A ls st h pc' ls' st' h' X E hc hs K
  unfold in_obj at E; split at E
  · rename_i a st0
    split at E
    · rename_i ha
      cases E
      show W p l e R s m args below meth c H locs cells slots Q (F0 m pc A (sd_rv a :: st'.map am_toV))
      rw [sd_pred (Nat.pos_of_ne_zero ha.1)]
      refine W.objInit X.1 X.2.1 X.ow (X.ts _ hw1) (X.ts _ hw2) (X.ts _ hw3) rfl (by rw [X.ml]; exact X.L.1) rfl hd X.fr ?_ (sd_K0 X K)
      have h1 := sd_sum_cat st'
      have h2 := X.lc
      show 2 * 0 + _ + 12 ≤ _
      have h3 := ha.2
      omega
    · cases E
  · cases E
end S6
