/-! SOUND, part 7: references stored, arraycopy, the outer object's links -/
theorem sd_cl_obj {ci : Nat} {r : vw_C} (h : sd_cl ci = some r) : Cond.castable r.1 "java/lang/Object" ∈ lw_tbl := by
  unfold sd_cl at h
  split at h
  · cases h; exact q2206
  · cases h; exact q2207
  · cases h; exact q2209
  · cases h; exact q2210
  · cases h; exact q2211
  · cases h; exact q2212
  · cases h; exact q2213
  · cases h; exact q2204
  · cases h; exact q2214
  · cases h; exact q2215
  · cases h; exact q2216
  · cases h; exact q2217
  · cases h; exact q2218
  · cases h; exact q2219
  · cases h; exact q2220
  · cases h; exact q2221
  · cases h; exact q2222
  · cases h; exact q2223
  · cases h; exact q2224
  · cases h; exact q2208
  · cases h
section S7
variable {P : sd_P} {p : Program} {l : Launch} {e : Env} {R : Room} {s : State} {m : MethodId} {args : Array Value} {below : List Frame} {meth : Method} {c : Code} {own : String} {cc : ByteArray} {ini : Bool} {H : Heap} {locs : List Loc} {cells slots : Nat} {Q : State → Prop} {A : Array Slot} {ls st : List am_V} {h : am_H} {pc' : Nat} {ls' st' : List am_V} {h' : am_H} {pc nx : Nat}
/-- an object made here, as an element of an Object array -/
theorem sd_elem (hG : sd_G P s) (hR : sd_Rel P s h H) {x : Nat} (hx : 100 ≤ (hp_K h x).1 ∧ (hp_K h x).1 < 200) : 0 < x ∧ ∃ cv : Cell, H[x - 1]? = some cv ∧ (∀ q, cv.vm ≠ .statics q) ∧ (∃ kv : Class, s.vm.classes[cv.cls]? = some kv) ∧ ∀ comp : ClassId, s.vm.findClass "java/lang/Object" = some comp → s.vm.assignable cv.cls comp = true := by
  obtain ⟨hlo, r, cell, c1, c2, c3, c4, c5⟩ := hR.ob (u := (hp_K h x).2) rfl hx.1 hx.2
  obtain ⟨-, hfc, kC, hkC, -⟩ := hG.1 _ _ c1
  refine ⟨by omega, cell, c2, (fun q z => by rw [c4] at z; cases z), ⟨kC, by rw [c3]; exact hkC⟩, fun comp hcomp => ?_⟩
  obtain ⟨c', t', q1, q2, q3⟩ := Cond.castable_spec (hG.2.2.1 _ (sd_cl_obj c1) rfl)
  cases hfc.symm.trans q1
  cases hcomp.symm.trans q2
  rw [c3]
  exact q3
theorem ok_aastore (hd : decode cc pc = .ok (.aastore, 1)) : sd_I own cc ini pc (in_aast (pc + 1)) := by
  intro P p l e R s m args below meth c H locs cells slots Q A ls st h pc' ls' st' h' X E hc hs K
  unfold in_aast at E; split at E
  · rename_i x i a st0
    split at E
    · cases E
    · rename_i hin
      split at E
      · rename_i hcase
        cases E
        have hin' : ¬ i < 0 ∧ i.toNatClampNeg < (hp_K h a).2 := ⟨fun q => hin (Or.inl q), Nat.not_le.mp (fun q => hin (Or.inr q))⟩
        show W p l e R s m args below meth c H locs cells slots Q (F0 m pc A (sd_rv x :: .int i :: sd_rv a :: st'.map am_toV))
        rcases hcase with ⟨ht, hx⟩ | ⟨ht, hx⟩
        · have hk : hp_K h a = (5, (hp_K h a).2) := by rw [← ht]
          obtain ⟨hlo, e0⟩ := X.Rel.aw hk (rfl : sd_ar 5 = some (2, .object "java/lang/Object"))
          have fin : ∀ (H' : Heap), H'[a - 1]? = some ((arrV (P.2.1 5) (hp_K h a).2 (fun k => sd_val 2 h a k)).setSlot i.toNatClampNeg (sd_rv x)) → H'.size = H.size → (∀ q, q ≠ a - 1 → H'[q]? = H[q]?) → W p l e R s m args below meth c H' (locs ++ [⟨a - 1, i.toNatClampNeg⟩]) cells slots Q (F0 m (pc + 1) A (st'.map am_toV)) :=
            fun H' e1 e2 e3 => sd_arK X K hk rfl rfl rfl rfl (fun _ _ _ => rfl) (fun _ _ _ => rfl) (fun b k hb => am_up_ne (fun z => hb z.1)) (fun k => sd_up_val (g := sd_rv) k) e1 e2 e3
          rw [sd_pred (show 0 < a by omega)]
          rcases hx with hx | hx
          · subst hx
            exact va_WaastN X.1 X.2.1 e0 ((X.G.2.1 5 _ _ rfl).1 _ _) (fun q => by cases q) (by rw [arrV_size]; exact hin) rfl rfl hd fin
          · obtain ⟨hx0, cv, v1, v2, ⟨kv, v3⟩, v4⟩ := sd_elem X.G X.Rel hx
            obtain ⟨kA, comp, k1, k2, k3, -⟩ := (X.G.2.1 5 _ _ rfl).2
            obtain ⟨kE, hkE, -⟩ := Vm.findClass_spec k3
            rw [sd_pred hx0] at fin ⊢
            exact W.aast X.1 X.2.1 e0 (fun q z => by cases z) (fun z => by cases z) k1 k2 rfl hkE ⟨hin'.1, by rw [arrV_size]; exact hin'.2⟩ v1 v2 v3 (v4 _ k3) rfl rfl hd fin
        · have hk : hp_K h a = (6, (hp_K h a).2) := by rw [← ht]
          obtain ⟨hlo, e0⟩ := X.Rel.aw hk (rfl : sd_ar 6 = some (2, .object "OathButtons$Kept"))
          have fin : ∀ (H' : Heap), H'[a - 1]? = some ((arrV (P.2.1 6) (hp_K h a).2 (fun k => sd_val 2 h a k)).setSlot i.toNatClampNeg (sd_rv x)) → H'.size = H.size → (∀ q, q ≠ a - 1 → H'[q]? = H[q]?) → W p l e R s m args below meth c H' (locs ++ [⟨a - 1, i.toNatClampNeg⟩]) cells slots Q (F0 m (pc + 1) A (st'.map am_toV)) :=
            fun H' e1 e2 e3 => sd_arK X K hk rfl rfl rfl rfl (fun _ _ _ => rfl) (fun _ _ _ => rfl) (fun b k hb => am_up_ne (fun z => hb z.1)) (fun k => sd_up_val (g := sd_rv) k) e1 e2 e3
          rw [sd_pred (show 0 < a by omega)]
          have hkx : hp_K h x = (108, (hp_K h x).2) := by rw [← hx]
          obtain ⟨hx0, cv, v1, v2, v3, v4⟩ := sd_recv X.G X.Rel hkx (by decide) (by decide) (rfl : sd_cl 8 = some (RX8, TX8, 1))
          obtain ⟨-, hcls⟩ := X.G.1 8 _ rfl
          obtain ⟨kA, comp, k1, k2, k3, -⟩ := (X.G.2.1 6 _ _ rfl).2
          have hcomp : comp = P.1.1 8 := Option.some.inj (k3.symm.trans hcls.1)
          have hcv : cv.cls = P.1.1 8 := Option.some.inj (v4.symm.trans hcls.1)
          subst hcomp
          have hasg := va_assign hcls
          obtain ⟨-, kC, hkC, -⟩ := hcls
          rw [sd_pred hx0] at fin ⊢
          exact W.aast X.1 X.2.1 e0 (fun q z => by cases z) (fun z => by cases z) k1 k2 rfl hkC ⟨hin'.1, by rw [arrV_size]; exact hin'.2⟩ v1 (fun q z => by rw [v3] at z; cases z) (by rw [hcv]; exact hkC) (by rw [hcv]; exact hasg) rfl rfl hd fin
      · cases E
  · cases E
-- arraycopy
theorem sd_acpyW (X : sd_Hyp P p l R s m args meth c own cc ini H locs A ls h) (K : sd_Cont P p l e R s m args below meth c Q ls h cells slots (pc + 3) ls [] h') {idx a b t ua ub tc : Nat} {ty : FieldType} {n q0 p0 : Int32} (hd : decode cc pc = .ok (.invokestatic idx, 3)) (hw1 : Cond.methodLink own idx arraycopyName ∈ lw_all) (hw2 : Cond.native arraycopyName ∈ lw_all) (hw3 : Cond.static arraycopyName ∈ lw_all) (hw4 : Cond.initialized "java/lang/System" ∈ lw_all)
    (ht : sd_ar t = some (tc, ty)) (ha : hp_K h a = (t, ua)) (hb : hp_K h b = (t, ub)) (hr : ¬ (n < 0 ∨ p0 < 0 ∨ q0 < 0 ∨ ua < p0.toNatClampNeg + n.toNatClampNeg ∨ ub < q0.toNatClampNeg + n.toNatClampNeg))
    (hvals : ∀ (T : State) (vm' : Vm) (k1 : Class) (comp : ClassId), T.heap = H → s.vm.Alike vm' → s.vm.classes[P.2.1 t]? = some k1 → k1.kind = .array comp ty → ∀ i, i < n.toNatClampNeg → fits ty (sd_val tc h a (p0.toNatClampNeg + i)) = true ∧ (T.setVm vm').takes comp (sd_val tc h a (p0.toNatClampNeg + i)))
    (hK' : hp_K h' = hp_K h) (hn : hp_n h' = hp_n h) (hu : hp_u h' = hp_u h) (hI : ∀ d k, ¬ d = b → hp_I h' d k = hp_I h d k) (hL : ∀ d k, ¬ d = b → hp_L h' d k = hp_L h d k) (hRr : ∀ d k, ¬ d = b → hp_R h' d k = hp_R h d k) (hv : ∀ k, sd_val tc h' b k = va_cpy (fun k => sd_val tc h a k) (fun k => sd_val tc h b k) p0.toNatClampNeg q0.toNatClampNeg n.toNatClampNeg k) :
    W p l e R s m args below meth c H locs cells slots Q (F0 m pc A ([am_i n, am_i q0, am_r b, am_i p0, am_r a].map am_toV)) := by
  have nn : ∀ z : Int32, ¬ z < 0 → z.toInt = (z.toNatClampNeg : Int) := by
    intro z hz
    have hz0 : (0 : Int) ≤ z.toInt := by
      have := Int32.not_lt.mp hz
      simpa using Int32.le_iff_toInt_le.mp this
    show z.toInt = ((z.toInt.toNat : Nat) : Int)
    omega
  have h3 : ¬ n < 0 := fun q => hr (Or.inl q)
  have h1 : ¬ p0 < 0 := fun q => hr (Or.inr (Or.inl q))
  have h2 : ¬ q0 < 0 := fun q => hr (Or.inr (Or.inr (Or.inl q)))
  have h4 : p0.toNatClampNeg + n.toNatClampNeg ≤ ua := Nat.not_lt.mp (fun q => hr (Or.inr (Or.inr (Or.inr (Or.inl q)))))
  have h5 : q0.toNatClampNeg + n.toNatClampNeg ≤ ub := Nat.not_lt.mp (fun q => hr (Or.inr (Or.inr (Or.inr (Or.inr q)))))
  obtain ⟨hloa, ea⟩ := X.Rel.aw ha ht
  obtain ⟨hlob, eb⟩ := X.Rel.aw hb ht
  have hAr := (X.G.2.1 t _ _ ht).1
  obtain ⟨-, k1, hk1, cm1, hkk1⟩ := hAr ub (fun k => sd_val tc h b k)
  have hk1' : s.vm.classes[P.2.1 t]? = some k1 := hk1
  intro T hT Y
  show ∃ t', Steps p.tables e below (T.setTop (F0 m pc A [.int n, .int q0, sd_rv b, .int p0, sd_rv a])) t' ∧ Q t'
  rw [sd_pred (show 0 < a by omega), sd_pred (show 0 < b by omega)]
  obtain ⟨vm', Y', step⟩ := Y.arraycopy X.1 X.ow (X.ts _ hw1) (X.ts _ hw2) (X.ts _ hw3) (X.ts _ hw4) (src := a - 1) (dst := b - 1) (cs := arrV (P.2.1 t) ua (fun k => sd_val tc h a k)) (cd := arrV (P.2.1 t) ub (fun k => sd_val tc h b k)) (srcPos := p0) (destPos := q0) (n := n) (by rw [hT]; exact ea) (by rw [hT]; exact eb)
    (fun _ z => by cases z) (fun _ z => by cases z) (fun z => by cases z) (fun z => by cases z) hk1 hk1 hkk1 hkk1 (by cases refKind ty <;> simp) h1 h2 h3
    (by rw [nn p0 h1, nn n h3, arrV_size]; omega)
    (by rw [nn q0 h2, nn n h3, arrV_size]; omega)
    (fun vm₁ hal i hi => by
      have e' : (arrV (P.2.1 t) ua (fun k => sd_val tc h a k)).slots.getD (p0.toNatClampNeg + i) .null = sd_val tc h a (p0.toNatClampNeg + i) := by
        rw [Array.getD_eq_getD_getElem?, arrV_read _ _ (by omega)]
        rfl
      rw [e']
      exact hvals T vm₁ k1 cm1 hT hal hk1' hkk1 i hi)
    (g := F0 m pc A [.int n, .int q0, .ref (b - 1), .int p0, .ref (a - 1)]) rfl (by rw [X.ml]; exact X.L.1) (rest := []) rfl (by rw [X.2.1]; exact hd) X.fr (show 2 * 0 + 0 + (nativeFrameWords "java/lang/System" "arraycopy" 5 + 11) ≤ R.locals from Nat.le_trans (by decide +kernel) X.lc)
  have e1 : copied (arrV (P.2.1 t) ua (fun k => sd_val tc h a k)) (arrV (P.2.1 t) ub (fun k => sd_val tc h b k)) p0 q0 n = arrV (P.2.1 t) ub (va_cpy (fun k => sd_val tc h a k) (fun k => sd_val tc h b k) p0.toNatClampNeg q0.toNatClampNeg n.toNatClampNeg) := va_copied (fun z => z) (P.2.1 t) (P.2.1 t) (fun k => sd_val tc h a k) (fun k => sd_val tc h b k) h4
  rw [e1] at Y' step
  have hl : b - 1 < H.size := (Array.getElem?_eq_some_iff.mp eb).1
  have hheap : ((T.setVm vm').setCell (b - 1) (arrV (P.2.1 t) ub (va_cpy (fun k => sd_val tc h a k) (fun k => sd_val tc h b k) p0.toNatClampNeg q0.toNatClampNeg n.toNatClampNeg))).heap = H.setIfInBounds (b - 1) (arrV (P.2.1 t) ub (va_cpy (fun k => sd_val tc h a k) (fun k => sd_val tc h b k) p0.toNatClampNeg q0.toNatClampNeg n.toNatClampNeg)) := by rw [← hT]; rfl
  have hRel : sd_Rel P s h' (H.setIfInBounds (b - 1) (arrV (P.2.1 t) ub (va_cpy (fun k => sd_val tc h a k) (fun k => sd_val tc h b k) p0.toNatClampNeg q0.toNatClampNeg n.toNatClampNeg))) := by
    refine X.Rel.put hlob hK' hn hI hL hRr (by simp) (fun q hq => by simp [Array.getElem?_setIfInBounds, Ne.symm hq]) (fun t' u' hk' => ?_)
    rw [hb] at hk'; cases hk'
    refine Or.inr (Or.inl ⟨tc, ty, ht, hlob, ?_⟩)
    rw [Array.getElem?_setIfInBounds_self_of_lt hl]
    congr 2
    funext k
    exact (hv k).symm
  obtain ⟨t', a1, b1⟩ := K _ (locs ++ ((arrV (P.2.1 t) ua (fun k => sd_val tc h a k)).stretch p0.toNatClampNeg n.toNatClampNeg).zipIdx.map fun q => ⟨b - 1, q0.toNatClampNeg + q.2⟩) A cells slots hRel X.L rfl (fun q hq => by
      rcases List.mem_append.mp hq with z | z
      · exact X.lcs q z
      · obtain ⟨w, -, hz⟩ := List.mem_map.mp z
        rw [← hz]; show sd_lo P ≤ b - 1; omega) (by simp; exact X.lo) (by rw [hn]) (by rw [hu]) _ hheap Y'
  exact ⟨t', step t' a1, b1⟩
theorem sd_cpy_val {α : Type} {f : Nat → Nat → α} {a b p0 q0 n : Nat} {g : α → Value} (k : Nat) : g (am_cpy f a p0 b q0 n b k) = va_cpy (fun k => g (f a k)) (fun k => g (f b k)) p0 q0 n k := by
  unfold am_cpy va_cpy
  by_cases hk : q0 ≤ k ∧ k < q0 + n
  · rw [if_pos ⟨rfl, hk⟩, if_pos hk]
  · rw [if_neg (fun q => hk q.2), if_neg hk]
theorem ok_acpy {idx : Nat} (hd : decode cc pc = .ok (.invokestatic idx, 3)) (hw1 : Cond.methodLink own idx arraycopyName ∈ lw_all) (hw2 : Cond.native arraycopyName ∈ lw_all) (hw3 : Cond.static arraycopyName ∈ lw_all) (hw4 : Cond.initialized "java/lang/System" ∈ lw_all) : sd_I own cc ini pc (in_acpy (pc + 3)) := by
  intro P p l e R s m args below meth c H locs cells slots Q A ls st h pc' ls' st' h' X E hc hs K
  unfold in_acpy at E; split at E
  · rename_i n q0 b p0 a
    split at E
    · cases E
    · rename_i hr
      split at E
      · rename_i ht
        cases E
        have ha : hp_K h a = (1, (hp_K h a).2) := by rw [← ht.1]
        have hb : hp_K h b = (1, (hp_K h b).2) := by rw [← ht.2]
        exact sd_acpyW X K hd hw1 hw2 hw3 hw4 (rfl : sd_ar 1 = some (0, .int)) ha hb hr (fun _ _ _ _ _ _ _ _ i hi => ⟨rfl, trivial⟩) rfl rfl rfl (fun d k hd => if_neg (fun q => hd q.1)) (fun _ _ _ => rfl) (fun _ _ _ => rfl) (fun k => sd_cpy_val (g := Value.int) k)
      · split at E
        · rename_i ht
          cases E
          have ha : hp_K h a = (4, (hp_K h a).2) := by rw [← ht.1]
          have hb : hp_K h b = (4, (hp_K h b).2) := by rw [← ht.2]
          exact sd_acpyW X K hd hw1 hw2 hw3 hw4 (rfl : sd_ar 4 = some (1, .long)) ha hb hr (fun _ _ _ _ _ _ _ _ i hi => ⟨rfl, trivial⟩) rfl rfl rfl (fun _ _ _ => rfl) (fun d k hd => if_neg (fun q => hd q.1)) (fun _ _ _ => rfl) (fun k => sd_cpy_val (g := Value.long) k)
        · split at E
          · rename_i ht
            cases E
            have ha : hp_K h a = (5, (hp_K h a).2) := by rw [← ht.1]
            have hb : hp_K h b = (5, (hp_K h b).2) := by rw [← ht.2.1]
            have hobj := am_objs_iff.mp ht.2.2
            refine sd_acpyW X K hd hw1 hw2 hw3 hw4 (rfl : sd_ar 5 = some (2, .object "java/lang/Object")) ha hb hr (fun T vm' k1 comp hT hal hk1 hkk1 i hi => ?_) rfl rfl rfl (fun _ _ _ => rfl) (fun _ _ _ => rfl) (fun d k hd => if_neg (fun q => hd q.1)) (fun k => sd_cpy_val (g := sd_rv) k)
            show fits _ (sd_rv (hp_R h a (p0.toNatClampNeg + i))) = true ∧ (T.setVm vm').takes comp (sd_rv (hp_R h a (p0.toNatClampNeg + i)))
            rcases hobj i hi with q | q
            · rw [q]; exact ⟨rfl, trivial⟩
            · obtain ⟨hx0, cv, v1, v2, ⟨kv, v3⟩, v4⟩ := sd_elem X.G X.Rel q
              rw [sd_pred hx0]
              obtain ⟨kA, comp', r1, r2, r3, -⟩ := (X.G.2.1 5 _ _ rfl).2
              cases hk1.symm.trans r1
              cases hkk1.symm.trans r2
              obtain ⟨kE, hkE, -⟩ := Vm.findClass_spec r3
              obtain ⟨kC', hkC', -⟩ := hal.2.2 _ _ v3
              obtain ⟨kE', hkE', -⟩ := hal.2.2 _ _ hkE
              refine ⟨rfl, cv, (show T.heap[_]? = some cv by rw [hT]; exact v1), v2, ⟨kC', hkC'⟩, ⟨kE', hkE'⟩, ?_⟩
              show vm'.assignable _ _ = true
              rw [hal.assignable]
              exact v4 _ r3
          · cases E
  · cases E
end S7

