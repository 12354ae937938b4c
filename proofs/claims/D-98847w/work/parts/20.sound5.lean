/-! SOUND, part 5: instructions over the heap -/
section S5
variable {P : sd_P} {p : Program} {l : Launch} {e : Env} {R : Room} {s : State} {m : MethodId} {args : Array Value} {below : List Frame} {meth : Method} {c : Code} {own : String} {cc : ByteArray} {ini : Bool} {H : Heap} {locs : List Loc} {cells slots : Nat} {Q : State → Prop} {A : Array Slot} {ls st : List am_V} {h : am_H} {pc' : Nat} {ls' st' : List am_V} {h' : am_H} {pc nx : Nat}
theorem sd_nofree {t tc k kk : Nat} {ref name desc : String} {a : Nat} (hf : sd_fld t tc k kk ref name desc) (h6 : ¬ ((t = 106 ∨ t = 107) ∧ kk = 1)) : ¬ sd_free (t - 100) kk h a := by
  obtain ⟨r, -, e2, -⟩ := hf
  rintro ⟨q1, q2, -⟩
  exact h6 ⟨by omega, q2⟩
theorem sd_K2 {a : Nat} (X : sd_Hyp P p l R s m args meth c own cc ini H locs A ls h) (K : sd_Cont P p l e R s m args below meth c Q ls h cells slots pc' ls st' h') (hn : hp_n h' = hp_n h) (hu : hp_u h' = hp_u h) {H' : Heap} {locs' : List Loc} (hR : sd_Rel P s h' H') (hl : ∀ q ∈ locs', sd_lo P ≤ q.base) (hs : H'.size = H.size) : W p l e R s m args below meth c H' locs' cells slots Q (F0 m pc' A (st'.map am_toV)) :=
  K H' locs' A cells slots hR X.L rfl hl (by rw [hs]; exact X.lo) (by rw [hn]) (by rw [hu])
theorem ok_getI {ts : List Nat} {idx k : Nat} {ref name desc : String} (hd : decode cc pc = .ok (.getfield idx, 3)) (hl : sd_FL own idx ref name desc) (hf : ∀ t ∈ ts, ∃ kk, sd_fld t 0 k kk ref name desc ∧ ¬ ((t = 106 ∨ t = 107) ∧ kk = 1)) : sd_I own cc ini pc (in_getI ts k (pc + 3)) := by
  intro P p l e R s m args below meth c H locs cells slots Q A ls st h pc' ls' st' h' X E hc hs K
  unfold in_getI at E; split at E
  · rename_i a st0
    cases ht : ts.contains (hp_K h a).1 with
    | false => rw [ht] at E; cases E
    | true =>
      rw [ht] at E; cases E
      obtain ⟨kk, q1, q2⟩ := hf _ (List.contains_iff_mem.mp ht)
      exact sd_getW X hd hl (u := (hp_K h a).2) rfl q1 (sd_nofree q1 q2) (sd_K0 X K)
  · cases E
theorem ok_getL {ts : List Nat} {idx k : Nat} {ref name desc : String} (hd : decode cc pc = .ok (.getfield idx, 3)) (hl : sd_FL own idx ref name desc) (hf : ∀ t ∈ ts, ∃ kk, sd_fld t 1 k kk ref name desc ∧ ¬ ((t = 106 ∨ t = 107) ∧ kk = 1)) : sd_I own cc ini pc (in_getL ts k (pc + 3)) := by
  intro P p l e R s m args below meth c H locs cells slots Q A ls st h pc' ls' st' h' X E hc hs K
  unfold in_getL at E; split at E
  · rename_i a st0
    cases ht : ts.contains (hp_K h a).1 with
    | false => rw [ht] at E; cases E
    | true =>
      rw [ht] at E; cases E
      obtain ⟨kk, q1, q2⟩ := hf _ (List.contains_iff_mem.mp ht)
      exact sd_getW X hd hl (u := (hp_K h a).2) rfl q1 (sd_nofree q1 q2) (sd_K0 X K)
  · cases E
theorem ok_getR {ts : List Nat} {idx k : Nat} {ref name desc : String} (hd : decode cc pc = .ok (.getfield idx, 3)) (hl : sd_FL own idx ref name desc) (hf : ∀ t ∈ ts, ∃ kk, sd_fld t 2 k kk ref name desc ∧ ¬ ((t = 106 ∨ t = 107) ∧ kk = 1)) : sd_I own cc ini pc (in_getR ts k (pc + 3)) := by
  intro P p l e R s m args below meth c H locs cells slots Q A ls st h pc' ls' st' h' X E hc hs K
  unfold in_getR at E; split at E
  · rename_i a st0
    cases ht : ts.contains (hp_K h a).1 with
    | false => rw [ht] at E; cases E
    | true =>
      rw [ht] at E; cases E
      obtain ⟨kk, q1, q2⟩ := hf _ (List.contains_iff_mem.mp ht)
      exact sd_getW X hd hl (u := (hp_K h a).2) rfl q1 (sd_nofree q1 q2) (sd_K0 X K)
  · cases E
/-- Pairs' link to the outer object -/
theorem ok_getO {ts : List Nat} {idx : Nat} {ref name desc : String} (hd : decode cc pc = .ok (.getfield idx, 3)) (hl : sd_FL own idx ref name desc) (hf : ∀ t ∈ ts, sd_fld t 2 1 1 ref name desc) : sd_I own cc ini pc (in_getO ts (pc + 3)) := by
  intro P p l e R s m args below meth c H locs cells slots Q A ls st h pc' ls' st' h' X E hc hs K
  unfold in_getO at E; split at E
  · rename_i a st0
    cases ht : ts.contains (hp_K h a).1 with
    | false => rw [ht] at E; cases E
    | true =>
      rw [ht] at E
      dsimp only [cond] at E
      split at E
      · cases E
      · rename_i h0
        cases E
        exact sd_getW X hd hl (u := (hp_K h a).2) rfl (hf _ (List.contains_iff_mem.mp ht)) (fun q => h0 q.2.2) (sd_K0 X K)
  · cases E
theorem sd_fits_ref {t kk : Nat} {v : Nat} (h : sd_tc (sd_ty t kk) = 2) (h2 : ∃ z, sd_ty t kk = .object z ∨ ∃ y, sd_ty t kk = .array y) : narrow (sd_ty t kk) (sd_rv v) = sd_rv v ∧ fits (sd_ty t kk) (sd_rv v) = true := by
  obtain ⟨z, q | ⟨y, q⟩⟩ := h2
  · rw [q]; cases v <;> exact ⟨rfl, rfl⟩
  · rw [q]; cases v <;> exact ⟨rfl, rfl⟩
theorem am_up_ne {α : Type} {f : Nat → Nat → α} {a k b j : Nat} {v : α} (h : ¬ (b = a ∧ j = k)) : am_up f a k v b j = f b j := if_neg h
theorem am_up_eq {α : Type} {f : Nat → Nat → α} {a k : Nat} {v : α} : am_up f a k v a k = v := if_pos ⟨rfl, rfl⟩
theorem ok_putI {ts : List Nat} {idx k : Nat} {ref name desc : String} (hd : decode cc pc = .ok (.putfield idx, 3)) (hl : sd_FL own idx ref name desc) (hpl : Cond.fieldLink own idx ref name desc ∈ lw_all ∨ ini = false) (hf : ∀ t ∈ ts, ∃ kk, sd_fldp t 0 k kk ref name desc own ini ∧ sd_ty (t - 100) kk = .int) : sd_I own cc ini pc (in_putI ts k (pc + 3)) := by
  intro P p l e R s m args below meth c H locs cells slots Q A ls st h pc' ls' st' h' X E hc hs K
  unfold in_putI at E; split at E
  · rename_i x a st0
    cases ht : ts.contains (hp_K h a).1 with
    | false => rw [ht] at E; cases E
    | true =>
      rw [ht] at E; cases E
      obtain ⟨kk, q1, q2⟩ := hf _ (List.contains_iff_mem.mp ht)
      exact sd_putW (h' := hp_sI h a k x) (v := .int x) X hd hl (u := (hp_K h a).2) rfl q1 hpl (by rw [q2]; rfl) (by rw [q2]; rfl) rfl rfl (fun b j w => am_up_ne (fun z => w ⟨z.1, rfl, z.2⟩)) (fun _ _ _ => rfl) (fun _ _ _ => rfl) (by show Value.int (am_up _ _ _ _ _ _) = _; rw [am_up_eq]) (by decide) (fun z => by cases z) (fun H' locs' r1 r2 r3 => sd_K2 (a := a) X K rfl rfl r1 r2 r3)
  · cases E
theorem ok_putZ {ts : List Nat} {idx k : Nat} {ref name desc : String} (hd : decode cc pc = .ok (.putfield idx, 3)) (hl : sd_FL own idx ref name desc) (hpl : Cond.fieldLink own idx ref name desc ∈ lw_all ∨ ini = false) (hf : ∀ t ∈ ts, ∃ kk, sd_fldp t 0 k kk ref name desc own ini ∧ sd_ty (t - 100) kk = .boolean) : sd_I own cc ini pc (in_putZ ts k (pc + 3)) := by
  intro P p l e R s m args below meth c H locs cells slots Q A ls st h pc' ls' st' h' X E hc hs K
  unfold in_putZ at E; split at E
  · rename_i x a st0
    cases ht : ts.contains (hp_K h a).1 with
    | false => rw [ht] at E; cases E
    | true =>
      rw [ht] at E
      dsimp only [cond] at E
      split at E
      · rename_i hx
        cases E
        obtain ⟨kk, q1, q2⟩ := hf _ (List.contains_iff_mem.mp ht)
        exact sd_putW (h' := hp_sI h a k x) (v := .int x) X hd hl (u := (hp_K h a).2) rfl q1 hpl (by rw [q2]; rcases hx with rfl | rfl <;> rfl) (by rw [q2]; rcases hx with rfl | rfl <;> rfl) rfl rfl (fun b j w => am_up_ne (fun z => w ⟨z.1, rfl, z.2⟩)) (fun _ _ _ => rfl) (fun _ _ _ => rfl) (by show Value.int (am_up _ _ _ _ _ _) = _; rw [am_up_eq]) (by decide) (fun z => by cases z) (fun H' locs' r1 r2 r3 => sd_K2 (a := a) X K rfl rfl r1 r2 r3)
      · cases E
  · cases E
theorem ok_putL {ts : List Nat} {idx k : Nat} {ref name desc : String} (hd : decode cc pc = .ok (.putfield idx, 3)) (hl : sd_FL own idx ref name desc) (hpl : Cond.fieldLink own idx ref name desc ∈ lw_all ∨ ini = false) (hf : ∀ t ∈ ts, ∃ kk, sd_fldp t 1 k kk ref name desc own ini ∧ sd_ty (t - 100) kk = .long) : sd_I own cc ini pc (in_putL ts k (pc + 3)) := by
  intro P p l e R s m args below meth c H locs cells slots Q A ls st h pc' ls' st' h' X E hc hs K
  unfold in_putL at E; split at E
  · rename_i x a st0
    cases ht : ts.contains (hp_K h a).1 with
    | false => rw [ht] at E; cases E
    | true =>
      rw [ht] at E; cases E
      obtain ⟨kk, q1, q2⟩ := hf _ (List.contains_iff_mem.mp ht)
      exact sd_putW (h' := hp_sL h a k x) (v := .long x) X hd hl (u := (hp_K h a).2) rfl q1 hpl (by rw [q2]; rfl) (by rw [q2]; rfl) rfl rfl (fun _ _ _ => rfl) (fun b j w => am_up_ne (fun z => w ⟨z.1, rfl, z.2⟩)) (fun _ _ _ => rfl) (by show Value.long (am_up _ _ _ _ _ _) = _; rw [am_up_eq]) (by decide) (fun z => by cases z) (fun H' locs' r1 r2 r3 => sd_K2 (a := a) X K rfl rfl r1 r2 r3)
  · cases E
theorem ok_putR {ts : List Nat} {idx k : Nat} {ref name desc : String} (hd : decode cc pc = .ok (.putfield idx, 3)) (hl : sd_FL own idx ref name desc) (hpl : Cond.fieldLink own idx ref name desc ∈ lw_all ∨ ini = false) (hf : ∀ t ∈ ts, ∃ kk, sd_fldp t 2 k kk ref name desc own ini ∧ (∃ z, sd_ty (t - 100) kk = .object z ∨ ∃ y, sd_ty (t - 100) kk = .array y) ∧ ((t = 106 ∨ t = 107) → k ≠ 1)) : sd_I own cc ini pc (in_putR ts k (pc + 3)) := by
  intro P p l e R s m args below meth c H locs cells slots Q A ls st h pc' ls' st' h' X E hc hs K
  unfold in_putR at E; split at E
  · rename_i x a st0
    cases ht : ts.contains (hp_K h a).1 with
    | false => rw [ht] at E; cases E
    | true =>
      rw [ht] at E; cases E
      obtain ⟨kk, q1, q2, q3⟩ := hf _ (List.contains_iff_mem.mp ht)
      have hty : sd_tc (sd_ty ((hp_K h a).1 - 100) kk) = 2 := by obtain ⟨_, _, _, _, _, _, z, _⟩ := q1; exact z
      exact sd_putW (h' := hp_sR h a k x) (v := sd_rv x) X hd hl (u := (hp_K h a).2) rfl q1 hpl (sd_fits_ref hty q2).1 (sd_fits_ref hty q2).2 rfl rfl (fun _ _ _ => rfl) (fun _ _ _ => rfl) (fun b j w => am_up_ne (fun z => w ⟨z.1, rfl, z.2⟩)) (by show sd_rv (am_up _ _ _ _ _ _) = _; rw [am_up_eq]) (by decide) (fun _ => q3) (fun H' locs' r1 r2 r3 => sd_K2 (a := a) X K rfl rfl r1 r2 r3)
  · cases E
-- arrays
theorem sd_pred {a : Nat} (h : 0 < a) : sd_rv a = .ref (a - 1) := by
  cases a with
  | zero => omega
  | succ a => rfl
theorem ok_iaload (hd : decode cc pc = .ok (.iaload, 1)) : sd_I own cc ini pc (in_xald [1, 11] (pc + 1)) := by
  intro P p l e R s m args below meth c H locs cells slots Q A ls st h pc' ls' st' h' X E hc hs K
  unfold in_xald at E; split at E
  · rename_i i a st0
    cases ht : ([1, 11] : List Nat).contains (hp_K h a).1 with
    | false => rw [ht] at E; cases E
    | true =>
      rw [ht] at E
      dsimp only [cond] at E
      split at E
      · cases E
      · rename_i hin
        cases E
        have hm := List.contains_iff_mem.mp ht
        have htt : sd_ar (hp_K h a).1 = some (0, .int) ∨ sd_ro (hp_K h a).1 = some (0, .int) := by
          simp only [List.mem_cons, List.not_mem_nil, or_false] at hm
          rcases hm with q | q
          · rw [q]; exact Or.inl rfl
          · rw [q]; exact Or.inr rfl
        obtain ⟨cell, c1, c2, c3, c4, c5, c6, c7⟩ := X.Rel.ard X.G (a := a) (u := (hp_K h a).2) rfl htt
        have hlt : i.toNatClampNeg < (hp_K h a).2 := Nat.not_le.mp (fun q => hin (Or.inr q))
        show W p l e R s m args below meth c H locs cells slots Q (F0 m pc A (.int i :: sd_rv a :: st0.map am_toV))
        rw [sd_pred c1]
        exact W.iald X.1 X.2.1 c2 c3 c4 (fun q => hin (q.imp id (fun z => by omega))) (c7 _ hlt) rfl rfl hd (sd_K0 X K)
  · cases E
theorem ok_baload (hd : decode cc pc = .ok (.baload, 1)) : sd_I own cc ini pc (in_xald [2, 3, 12] (pc + 1)) := by
  intro P p l e R s m args below meth c H locs cells slots Q A ls st h pc' ls' st' h' X E hc hs K
  unfold in_xald at E; split at E
  · rename_i i a st0
    cases ht : ([2, 3, 12] : List Nat).contains (hp_K h a).1 with
    | false => rw [ht] at E; cases E
    | true =>
      rw [ht] at E
      dsimp only [cond] at E
      split at E
      · cases E
      · rename_i hin
        cases E
        have hm := List.contains_iff_mem.mp ht
        have hlt : i.toNatClampNeg < (hp_K h a).2 := Nat.not_le.mp (fun q => hin (Or.inr q))
        show W p l e R s m args below meth c H locs cells slots Q (F0 m pc A (.int i :: sd_rv a :: st0.map am_toV))
        by_cases h3 : (hp_K h a).1 = 3
        · obtain ⟨cell, c1, c2, c3, c4, c5, c6, c7⟩ := X.Rel.ard X.G (a := a) (u := (hp_K h a).2) rfl (Or.inl (by rw [h3]; rfl) : sd_ar (hp_K h a).1 = some (0, .boolean) ∨ sd_ro (hp_K h a).1 = some (0, .boolean))
          rw [sd_pred c1]
          exact W.zald X.1 X.2.1 c2 c3 c4 (fun q => hin (q.imp id (fun z => by omega))) (c7 _ hlt) rfl rfl hd (sd_K0 X K)
        · have htt : sd_ar (hp_K h a).1 = some (0, .byte) ∨ sd_ro (hp_K h a).1 = some (0, .byte) := by
            simp only [List.mem_cons, List.not_mem_nil, or_false] at hm
            rcases hm with q | q | q
            · rw [q]; exact Or.inl rfl
            · exact absurd q h3
            · rw [q]; exact Or.inr rfl
          obtain ⟨cell, c1, c2, c3, c4, c5, c6, c7⟩ := X.Rel.ard X.G (a := a) (u := (hp_K h a).2) rfl htt
          rw [sd_pred c1]
          exact W.bald X.1 X.2.1 c2 c3 c4 (fun q => hin (q.imp id (fun z => by omega))) (c7 _ hlt) rfl rfl hd (sd_K0 X K)
  · cases E
theorem ok_laload (hd : decode cc pc = .ok (.laload, 1)) : sd_I own cc ini pc (in_lald (pc + 1)) := by
  intro P p l e R s m args below meth c H locs cells slots Q A ls st h pc' ls' st' h' X E hc hs K
  unfold in_lald at E; split at E
  · rename_i i a st0
    cases ht : Nat.beq (hp_K h a).1 4 with
    | false => rw [ht] at E; cases E
    | true =>
      rw [ht] at E
      dsimp only [cond] at E
      split at E
      · cases E
      · rename_i hin
        cases E
        have htt : sd_ar (hp_K h a).1 = some (1, .long) ∨ sd_ro (hp_K h a).1 = some (1, .long) := by
          rw [Nat.eq_of_beq_eq_true ht]; exact Or.inl rfl
        obtain ⟨cell, c1, c2, c3, c4, c5, c6, c7⟩ := X.Rel.ard X.G (a := a) (u := (hp_K h a).2) rfl htt
        have hlt : i.toNatClampNeg < (hp_K h a).2 := Nat.not_le.mp (fun q => hin (Or.inr q))
        show W p l e R s m args below meth c H locs cells slots Q (F0 m pc A (.int i :: sd_rv a :: st0.map am_toV))
        rw [sd_pred c1]
        exact W.lald X.1 X.2.1 c2 c3 c4 (fun q => hin (q.imp id (fun z => by omega))) (c7 _ hlt) rfl rfl hd (sd_K0 X K)
  · cases E
theorem ok_aaload (hd : decode cc pc = .ok (.aaload, 1)) : sd_I own cc ini pc (in_aald [5, 6, 17] (pc + 1)) := by
  intro P p l e R s m args below meth c H locs cells slots Q A ls st h pc' ls' st' h' X E hc hs K
  unfold in_aald at E; split at E
  · rename_i i a st0
    cases ht : ([5, 6, 17] : List Nat).contains (hp_K h a).1 with
    | false => rw [ht] at E; cases E
    | true =>
      rw [ht] at E
      dsimp only [cond] at E
      split at E
      · cases E
      · rename_i hin
        cases E
        have hm := List.contains_iff_mem.mp ht
        have hlt : i.toNatClampNeg < (hp_K h a).2 := Nat.not_le.mp (fun q => hin (Or.inr q))
        obtain ⟨ty, hty, htt⟩ : ∃ ty : FieldType, ty.isReference = true ∧ (sd_ar (hp_K h a).1 = some (2, ty) ∨ sd_ro (hp_K h a).1 = some (2, ty)) := by
          simp only [List.mem_cons, List.not_mem_nil, or_false] at hm
          rcases hm with q | q | q
          · rw [q]; exact ⟨_, rfl, Or.inl rfl⟩
          · rw [q]; exact ⟨_, rfl, Or.inl rfl⟩
          · rw [q]; exact ⟨_, rfl, Or.inr rfl⟩
        obtain ⟨cell, c1, c2, c3, c4, c5, c6, c7⟩ := X.Rel.ard X.G (a := a) (u := (hp_K h a).2) rfl htt
        show W p l e R s m args below meth c H locs cells slots Q (F0 m pc A (.int i :: sd_rv a :: st0.map am_toV))
        rw [sd_pred c1]
        exact W.aald X.1 X.2.1 c2 c3 hty c4 (fun q => hin (q.imp id (fun z => by omega))) (c7 _ hlt) rfl rfl hd (sd_K0 X K)
  · cases E
theorem ok_alen (hd : decode cc pc = .ok (.arraylength, 1)) : sd_I own cc ini pc (in_alen (pc + 1)) := by
  intro P p l e R s m args below meth c H locs cells slots Q A ls st h pc' ls' st' h' X E hc hs K
  unfold in_alen at E; split at E
  · rename_i a st0
    cases ht : ([1, 2, 3, 4, 5, 6, 11, 12, 15, 17] : List Nat).contains (hp_K h a).1 with
    | false => rw [ht] at E; cases E
    | true =>
      rw [ht] at E; cases E
      have hm := List.contains_iff_mem.mp ht
      obtain ⟨tc, ty, htt⟩ : ∃ (tc : Nat) (ty : FieldType), (sd_ar (hp_K h a).1 = some (tc, ty) ∨ sd_ro (hp_K h a).1 = some (tc, ty)) := by
        simp only [List.mem_cons, List.not_mem_nil, or_false] at hm
        rcases hm with q | q | q | q | q | q | q | q | q | q
        · rw [q]; exact ⟨_, _, Or.inl rfl⟩
        · rw [q]; exact ⟨_, _, Or.inl rfl⟩
        · rw [q]; exact ⟨_, _, Or.inl rfl⟩
        · rw [q]; exact ⟨_, _, Or.inl rfl⟩
        · rw [q]; exact ⟨_, _, Or.inl rfl⟩
        · rw [q]; exact ⟨_, _, Or.inl rfl⟩
        · rw [q]; exact ⟨_, _, Or.inr rfl⟩
        · rw [q]; exact ⟨_, _, Or.inr rfl⟩
        · rw [q]; exact ⟨_, _, Or.inr rfl⟩
        · rw [q]; exact ⟨_, _, Or.inr rfl⟩
      obtain ⟨cell, c1, c2, c3, c4, c5, c6, c7⟩ := X.Rel.ard X.G (a := a) (u := (hp_K h a).2) rfl htt
      show W p l e R s m args below meth c H locs cells slots Q (F0 m pc A (sd_rv a :: st0.map am_toV))
      rw [sd_pred c1]
      exact W.alen X.1 X.2.1 c2 c3 c6 rfl rfl hd (sd_K0 X K)
  · cases E
/-- behind a store into an array -/
theorem sd_arK (X : sd_Hyp P p l R s m args meth c own cc ini H locs A ls h) (K : sd_Cont P p l e R s m args below meth c Q ls h cells slots pc' ls st' h') {a t u j tc : Nat} {ty : FieldType} {v : Value} (hk : hp_K h a = (t, u)) (hty : sd_ar t = some (tc, ty)) (hK' : hp_K h' = hp_K h) (hn : hp_n h' = hp_n h) (hu : hp_u h' = hp_u h) (hI : ∀ b k, ¬ b = a → hp_I h' b k = hp_I h b k) (hL : ∀ b k, ¬ b = a → hp_L h' b k = hp_L h b k) (hRr : ∀ b k, ¬ b = a → hp_R h' b k = hp_R h b k) (hv : ∀ k, sd_val tc h' a k = updV (fun k => sd_val tc h a k) j v k)
    {H' : Heap} (e1 : H'[a - 1]? = some ((arrV (P.2.1 t) u (fun k => sd_val tc h a k)).setSlot j v)) (e2 : H'.size = H.size) (e3 : ∀ q, q ≠ a - 1 → H'[q]? = H[q]?) : W p l e R s m args below meth c H' (locs ++ [⟨a - 1, j⟩]) cells slots Q (F0 m pc' A (st'.map am_toV)) := by
  have hlo := (X.Rel.aw hk hty).1
  refine sd_K2 (a := a) X K hn hu (X.Rel.put hlo hK' hn hI hL hRr e2 e3 (fun t' u' hk' => ?_)) (fun q hq => ?_) e2
  · rw [hk] at hk'; cases hk'
    refine Or.inr (Or.inl ⟨tc, ty, hty, hlo, ?_⟩)
    rw [e1, arrV_store]
    congr 2
    funext k
    exact (hv k).symm
  · rcases List.mem_append.mp hq with z | z
    · exact X.lcs q z
    · rw [List.mem_singleton.mp z]; show sd_lo P ≤ a - 1; omega
theorem sd_up_val {α : Type} {f : Nat → Nat → α} {a j : Nat} {x : α} {g : α → Value} (k : Nat) : g (am_up f a j x a k) = updV (fun k => g (f a k)) j (g x) k := by
  unfold am_up updV
  by_cases hk : k = j
  · rw [if_pos ⟨rfl, hk⟩, if_pos hk]
  · rw [if_neg (fun q => hk q.2), if_neg hk]
theorem ok_iastore (hd : decode cc pc = .ok (.iastore, 1)) : sd_I own cc ini pc (in_iast (pc + 1)) := by
  intro P p l e R s m args below meth c H locs cells slots Q A ls st h pc' ls' st' h' X E hc hs K
  unfold in_iast at E; split at E
  · rename_i x i a st0
    cases ht : Nat.beq (hp_K h a).1 1 with
    | false => rw [ht] at E; cases E
    | true =>
      rw [ht] at E
      dsimp only [cond] at E
      split at E
      · cases E
      · rename_i hin
        cases E
        have hk : hp_K h a = (1, (hp_K h a).2) := by rw [← Nat.eq_of_beq_eq_true ht]
        obtain ⟨hlo, e0⟩ := X.Rel.aw hk (rfl : sd_ar 1 = some (0, .int))
        show W p l e R s m args below meth c H locs cells slots Q (F0 m pc A (.int x :: .int i :: sd_rv a :: st'.map am_toV))
        rw [sd_pred (show 0 < a by omega)]
        refine W.iast X.1 X.2.1 e0 ((X.G.2.1 1 _ _ rfl).1 _ _) (fun q => by cases q) (by rw [arrV_size]; exact hin) rfl rfl hd (fun H' e1 e2 e3 => ?_)
        exact sd_arK X K hk rfl rfl rfl rfl (fun b k hb => am_up_ne (fun z => hb z.1)) (fun _ _ _ => rfl) (fun _ _ _ => rfl) (fun k => sd_up_val (g := Value.int) k) e1 e2 e3
  · cases E
theorem ok_lastore (hd : decode cc pc = .ok (.lastore, 1)) : sd_I own cc ini pc (in_last (pc + 1)) := by
  intro P p l e R s m args below meth c H locs cells slots Q A ls st h pc' ls' st' h' X E hc hs K
  unfold in_last at E; split at E
  · rename_i x i a st0
    cases ht : Nat.beq (hp_K h a).1 4 with
    | false => rw [ht] at E; cases E
    | true =>
      rw [ht] at E
      dsimp only [cond] at E
      split at E
      · cases E
      · rename_i hin
        cases E
        have hk : hp_K h a = (4, (hp_K h a).2) := by rw [← Nat.eq_of_beq_eq_true ht]
        obtain ⟨hlo, e0⟩ := X.Rel.aw hk (rfl : sd_ar 4 = some (1, .long))
        show W p l e R s m args below meth c H locs cells slots Q (F0 m pc A (.long x :: .int i :: sd_rv a :: st'.map am_toV))
        rw [sd_pred (show 0 < a by omega)]
        refine W.last X.1 X.2.1 e0 ((X.G.2.1 4 _ _ rfl).1 _ _) (fun q => by cases q) (by rw [arrV_size]; exact hin) rfl rfl hd (fun H' e1 e2 e3 => ?_)
        exact sd_arK X K hk rfl rfl rfl rfl (fun _ _ _ => rfl) (fun b k hb => am_up_ne (fun z => hb z.1)) (fun _ _ _ => rfl) (fun k => sd_up_val (g := Value.long) k) e1 e2 e3
  · cases E
theorem ok_bastore (hd : decode cc pc = .ok (.bastore, 1)) : sd_I own cc ini pc (in_bast (pc + 1)) := by
  intro P p l e R s m args below meth c H locs cells slots Q A ls st h pc' ls' st' h' X E hc hs K
  unfold in_bast at E; split at E
  · rename_i x i a st0
    split at E
    · cases E
    · rename_i hin
      split at E
      · rename_i ht
        cases E
        have hk : hp_K h a = (2, (hp_K h a).2) := by rw [← ht]
        obtain ⟨hlo, e0⟩ := X.Rel.aw hk (rfl : sd_ar 2 = some (0, .byte))
        show W p l e R s m args below meth c H locs cells slots Q (F0 m pc A (.int x :: .int i :: sd_rv a :: st'.map am_toV))
        rw [sd_pred (show 0 < a by omega)]
        refine W.bast X.1 X.2.1 e0 ((X.G.2.1 2 _ _ rfl).1 _ _) (fun q => by cases q) (by rw [arrV_size]; exact hin) rfl rfl hd (fun H' e1 e2 e3 => ?_)
        exact sd_arK X K hk rfl rfl rfl rfl (fun b k hb => am_up_ne (fun z => hb z.1)) (fun _ _ _ => rfl) (fun _ _ _ => rfl) (fun k => sd_up_val (g := Value.int) k) e1 e2 e3
      · split at E
        · rename_i ht
          cases E
          have hk : hp_K h a = (3, (hp_K h a).2) := by rw [← ht]
          obtain ⟨hlo, e0⟩ := X.Rel.aw hk (rfl : sd_ar 3 = some (0, .boolean))
          show W p l e R s m args below meth c H locs cells slots Q (F0 m pc A (.int x :: .int i :: sd_rv a :: st'.map am_toV))
          rw [sd_pred (show 0 < a by omega)]
          refine W.zast X.1 X.2.1 e0 ((X.G.2.1 3 _ _ rfl).1 _ _) (fun q => by cases q) (by rw [arrV_size]; exact hin) rfl rfl hd (fun H' e1 e2 e3 => ?_)
          exact sd_arK X K hk rfl rfl rfl rfl (fun b k hb => am_up_ne (fun z => hb z.1)) (fun _ _ _ => rfl) (fun _ _ _ => rfl) (fun k => sd_up_val (g := Value.int) k) e1 e2 e3
        · cases E
  · cases E
end S5
