/-! SOUND, part 8: the links to the outer object, in constructors -/
section S8
variable {P : sd_P} {p : Program} {l : Launch} {e : Env} {R : Room} {s : State} {m : MethodId} {args : Array Value} {below : List Frame} {meth : Method} {c : Code} {own : String} {cc : ByteArray} {H : Heap} {locs : List Loc} {cells slots : Nat} {Q : State → Prop} {A : Array Slot} {ls st : List am_V} {h : am_H} {pc' : Nat} {ls' st' : List am_V} {h' : am_H} {pc nx : Nat}
theorem sd_putOW (X : sd_Hyp P p l R s m args meth c own cc true H locs A ls h) {idx a t u k x : Nat} {ref desc : String} {rest : List Value} {r0 : vw_C} (hd : decode cc pc = .ok (.putfield idx, 3)) (hl : Cond.fieldLink own idx ref "this$0" desc ∈ lw_all) (hk : hp_K h a = (t, u)) (hf : sd_fld t 2 k k ref "this$0" desc) (hr0 : sd_cl (t - 100) = some r0) (hfin : (r0.2.1 k).2.2.2 = true) (hown : (r0.2.1 k).1 = own) (hobj : ∃ z, sd_ty (t - 100) k = .object z)
    (hval : ∀ j, j < r0.2.2 → j ≠ k → sd_fv (t - 100) j (hp_sR h a k x) a = sd_fv (t - 100) j h a)
    (hoth : ∀ j, j < r0.2.2 → j ≠ k → (r0.2.1 j).2.1 ≠ "this$0" ∨ sd_free (t - 100) j (hp_sR h a k x) a ∨ sd_fv (t - 100) j h a = sd_rv x)
    (hfree : ∀ j, j < r0.2.2 → j ≠ k → sd_free (t - 100) j h a → sd_free (t - 100) j (hp_sR h a k x) a)
    (kw : ∀ (H' : Heap) (locs' : List Loc), sd_Rel P s (hp_sR h a k x) H' → (∀ q ∈ locs', sd_lo P ≤ q.base) → H'.size = H.size → W p l e R s m args below meth c H' locs' cells slots Q (F0 m (pc + 3) A rest)) : W p l e R s m args below meth c H locs cells slots Q (F0 m pc A (sd_rv x :: sd_rv a :: rest)) := by
  have hf0 := hf
  obtain ⟨r1, e1, e2, e3, e4, e5, e6, e7, e8, e9⟩ := hf
  rw [hr0] at e1; cases e1
  obtain ⟨r, cell, cf, kf, kC, fi, f, b1, b2, b3, b4, b5, b6, b7, b8, b9, b10, b11, b12, b13, b14, b15, b16⟩ := sd_find X hk hf0
  rw [hr0] at b1; cases b1
  obtain ⟨a', rfl⟩ : ∃ a', a = a' + 1 := ⟨a - 1, by omega⟩
  have hin := (sd_cl_in hr0).1
  have hty := (sd_cl_in hr0).2 k e4
  rw [e8] at hty
  have hlay := u_lays X.ts hin e4
  rw [e7, e8] at hlay
  have hap : ∀ j, j < r0.2.2 → (r0.2.1 j).2.1 ≠ "this$0" → P.1.2 (t - 100) j ≠ f.slot := by
    intro j hj hne
    obtain ⟨hS, -⟩ := X.G.1 _ _ hr0
    obtain ⟨cf2, kf2, fi2, f2, hi2, hs2⟩ := hS j hj
    rw [← hs2]
    refine u_apart (u_lays X.ts hin hj) hlay hi2 b10 ?_
    rw [(State.fieldFound?_type hi2 ((sd_cl_in hr0).2 j hj)).1, (State.fieldFound?_type b10 hty).1]
    exact hne
  have fin : ∀ (H' : Heap), H'[a']? = some (cell.setSlot f.slot (sd_rv x)) → H'.size = H.size → (∀ q, q ≠ a' → H'[q]? = H[q]?) → W p l e R s m args below meth c H' (locs ++ [⟨a', f.slot⟩]) cells slots Q (F0 m (pc + 3) A rest) := by
    intro H' g1 g2 g3
    refine kw H' _ (X.Rel.put (a := a' + 1) b3 rfl rfl (fun _ _ _ => rfl) (fun _ _ _ => rfl) (fun b j hb => am_up_ne (fun w => hb w.1)) g2 g3 (fun t' u' hk' => ?_)) (fun q hq => ?_) g2
    · rw [hk] at hk'; cases hk'
      refine Or.inr (Or.inr (Or.inr (Or.inl ⟨e2, e3, b3, r0, _, hr0, g1, b5, b6, fun j hj => ?_⟩)))
      by_cases hjk : j = k
      · subst hjk
        refine ⟨by rw [← b13]; simpa [Cell.setSlot] using b14, Or.inr ?_⟩
        rw [← b13]
        have e0 : sd_fv (t - 100) j (hp_sR h (a' + 1) j x) (a' + 1) = sd_rv x := by
          unfold sd_fv; rw [e5, e6]
          show sd_rv (am_up _ _ _ _ _ _) = _
          rw [am_up_eq]
        rw [e0]
        simp [Cell.setSlot, b14]
      · refine ⟨by simpa [Cell.setSlot] using (b16 j hj).1, ?_⟩
        rcases hoth j hj hjk with q | q | q
        · rcases (b16 j hj).2 with w | w
          · exact Or.inl (hfree j hj hjk w)
          · refine Or.inr ?_
            rw [hval j hj hjk, ← w]
            simp only [Cell.setSlot]
            rw [Array.getElem?_setIfInBounds_ne (fun z => hap j hj q z.symm)]
        · exact Or.inl q
        · rcases (b16 j hj).2 with w | w
          · exact Or.inl (hfree j hj hjk w)
          · refine Or.inr ?_
            rw [hval j hj hjk]
            simp only [Cell.setSlot]
            by_cases hsl : f.slot = P.1.2 (t - 100) j
            · rw [← hsl, q]; simp [b14]
            · rw [Array.getElem?_setIfInBounds_ne hsl]; exact w
    · rcases List.mem_append.mp hq with z | z
      · exact X.lcs q z
      · rw [List.mem_singleton.mp z]; show sd_lo P ≤ a'; omega
  have hl0 := X.ts _ (hin _ (u_in_lay e4))
  unfold u_lay at hl0
  rw [if_pos hfin, e7, e8] at hl0
  have hcf : m.cls = cf := by
    obtain ⟨_, _, c', _, _, _, -, -, hf', -, -, -, hown2, -⟩ := Cond.laysFinal_spec hl0
    have q1 : c' = cf := by have := b10.symm.trans hf'; simp at this; exact this.1.symm
    rw [hown] at hown2
    rw [← q1]; exact Option.some.inj (X.ow.symm.trans hown2)
  obtain ⟨z, hz⟩ := hobj
  have h6 := u_fits b7 b8 b9 (Or.inr hl0) b10 hty (v := sd_rv x) (by rw [hz]; cases x <;> rfl) (by rw [hz]; cases x <;> rfl)
  exact W.putFinK X.1 X.2.1 X.ow (X.ts _ hl) b11 b12 hcf (X.2.2.2.2.1 rfl) (by rw [b5]; exact h6) b4 b6 b14 rfl rfl hd fin
theorem sd_up_fv {ci j a k x : Nat} (h : am_H) (hne : ¬ (sd_tc (sd_ty ci j) = 2 ∧ sd_mu ci j = k)) : sd_fv ci j (hp_sR h a k x) a = sd_fv ci j h a := by
  unfold sd_fv sd_val
  split
  · rfl
  · rfl
  · rename_i z1 z2
    have h2 : sd_tc (sd_ty ci j) ≤ 2 := by unfold sd_tc; split <;> omega
    have h0 : sd_tc (sd_ty ci j) ≠ 0 := fun z => z1 z
    have h1 : sd_tc (sd_ty ci j) ≠ 1 := fun z => z2 z
    show sd_rv (am_up _ _ _ _ _ _) = _
    rw [am_up_ne (fun w => hne ⟨by omega, w.2⟩)]
theorem ok_putOO {t idx k : Nat} {ref desc : String} (htk : (t = 106 ∧ k = 4 ∧ own = RX6 ∧ ref = RX6) ∨ (t = 107 ∧ k = 3 ∧ own = RX7 ∧ ref = RX7)) (hd : decode cc pc = .ok (.putfield idx, 3)) (hl : Cond.fieldLink own idx ref "this$0" desc ∈ lw_all) (hdesc : desc = "LOathButtons;") : sd_I own cc true pc (in_putOO [t] k (pc + 3)) := by
  intro P p l e R s m args below meth c H locs cells slots Q A ls st h pc' ls' st' h' X E hc hs K
  unfold in_putOO at E; split at E
  · rename_i x a st0
    cases ht : ([t] : List Nat).contains (hp_K h a).1 with
    | false => rw [ht] at E; cases E
    | true =>
      rw [ht] at E
      dsimp only [cond] at E
      split at E
      · rename_i h0
        cases E
        have hk : hp_K h a = (t, (hp_K h a).2) := by rw [← List.mem_singleton.mp (List.contains_iff_mem.mp ht)]
        subst hdesc
        rcases htk with ⟨rfl, rfl, rfl, rfl⟩ | ⟨rfl, rfl, rfl, rfl⟩
        · refine sd_putOW (r0 := (RX6, TX6, 5)) X hd hl hk ⟨(RX6, TX6, 5), rfl, by decide, by decide, by decide, rfl, rfl, rfl, rfl, Or.inl rfl⟩ rfl rfl rfl ⟨_, rfl⟩ (fun j hj hne => sd_up_fv h (fun w => ?_)) (fun j hj hne => ?_) (fun j hj hne q => ⟨q.1, q.2.1, (am_up_ne (fun w => by omega)).trans q.2.2⟩) (fun H' locs' r1 r2 r3 => sd_K2 (a := a) X K rfl rfl r1 r2 r3)
          · have : sd_mu (106 - 100) j = j := by unfold sd_mu; rw [if_neg (by omega)]
            omega
          · have hj' : j < 5 := hj
            match j, hj', hne with
            | 0, _, _ => exact Or.inl (by decide)
            | 1, _, _ => exact Or.inr (Or.inl ⟨Or.inl rfl, rfl, (am_up_ne (fun w => by omega)).trans h0⟩)
            | 2, _, _ => exact Or.inl (by decide)
            | 3, _, _ => exact Or.inl (by decide)
            | 4, _, q => exact absurd rfl q
        · refine sd_putOW (r0 := (RX7, TX7, 4)) X hd hl hk ⟨(RX7, TX7, 4), rfl, by decide, by decide, by decide, rfl, rfl, rfl, rfl, Or.inl rfl⟩ rfl rfl rfl ⟨_, rfl⟩ (fun j hj hne => sd_up_fv h (fun w => ?_)) (fun j hj hne => ?_) (fun j hj hne q => ⟨q.1, q.2.1, (am_up_ne (fun w => by omega)).trans q.2.2⟩) (fun H' locs' r1 r2 r3 => sd_K2 (a := a) X K rfl rfl r1 r2 r3)
          · have : sd_mu (107 - 100) j = j := by unfold sd_mu; rw [if_neg (by omega)]
            omega
          · have hj' : j < 4 := hj
            match j, hj', hne with
            | 0, _, _ => exact Or.inl (by decide)
            | 1, _, _ => exact Or.inr (Or.inl ⟨Or.inr rfl, rfl, (am_up_ne (fun w => by omega)).trans h0⟩)
            | 2, _, _ => exact Or.inl (by decide)
            | 3, _, q => exact absurd rfl q
      · cases E
  · cases E
theorem ok_putO {idx : Nat} {desc : String} (hd : decode cc pc = .ok (.putfield idx, 3)) (ho : own = RX5) (hl : Cond.fieldLink own idx RX5 "this$0" desc ∈ lw_all) (hdesc : desc = "LOathButtons;") : sd_I own cc true pc (in_putO [106, 107] (pc + 3)) := by
  intro P p l e R s m args below meth c H locs cells slots Q A ls st h pc' ls' st' h' X E hc hs K
  unfold in_putO at E; split at E
  · rename_i x a st0
    cases ht : ([106, 107] : List Nat).contains (hp_K h a).1 with
    | false => rw [ht] at E; cases E
    | true =>
      rw [ht] at E
      dsimp only [cond] at E
      split at E
      · rename_i h0
        cases E
        subst hdesc
        subst ho
        have hm := List.contains_iff_mem.mp ht
        simp only [List.mem_cons, List.not_mem_nil, or_false] at hm
        rcases hm with q | q
        · have hk : hp_K h a = (106, (hp_K h a).2) := by rw [← q]
          rw [q] at h0
          have h0' : hp_R h a 4 = x := h0
          refine sd_putOW (r0 := (RX6, TX6, 5)) X hd hl hk ⟨(RX6, TX6, 5), rfl, by decide, by decide, by decide, rfl, rfl, rfl, rfl, Or.inl rfl⟩ rfl rfl rfl ⟨_, rfl⟩ (fun j hj hne => sd_up_fv h (fun w => ?_)) (fun j hj hne => ?_) (fun j hj hne q => absurd q.2.1 hne) (fun H' locs' r1 r2 r3 => sd_K2 (a := a) X K rfl rfl r1 r2 r3)
          · have : sd_mu (106 - 100) j = j := by unfold sd_mu; rw [if_neg (by omega)]
            omega
          · have hj' : j < 5 := hj
            match j, hj', hne with
            | 0, _, _ => exact Or.inl (by decide)
            | 1, _, q => exact absurd rfl q
            | 2, _, _ => exact Or.inl (by decide)
            | 3, _, _ => exact Or.inl (by decide)
            | 4, _, _ => exact Or.inr (Or.inr (by show sd_rv (hp_R h a 4) = _; rw [h0']))
        · have hk : hp_K h a = (107, (hp_K h a).2) := by rw [← q]
          rw [q] at h0
          have h0' : hp_R h a 3 = x := h0
          refine sd_putOW (r0 := (RX7, TX7, 4)) X hd hl hk ⟨(RX7, TX7, 4), rfl, by decide, by decide, by decide, rfl, rfl, rfl, rfl, Or.inl rfl⟩ rfl rfl rfl ⟨_, rfl⟩ (fun j hj hne => sd_up_fv h (fun w => ?_)) (fun j hj hne => ?_) (fun j hj hne q => absurd q.2.1 hne) (fun H' locs' r1 r2 r3 => sd_K2 (a := a) X K rfl rfl r1 r2 r3)
          · have : sd_mu (107 - 100) j = j := by unfold sd_mu; rw [if_neg (by omega)]
            omega
          · have hj' : j < 4 := hj
            match j, hj', hne with
            | 0, _, _ => exact Or.inl (by decide)
            | 1, _, q => exact absurd rfl q
            | 2, _, _ => exact Or.inl (by decide)
            | 3, _, _ => exact Or.inr (Or.inr (by show sd_rv (hp_R h a 3) = _; rw [h0']))
      · cases E
  · cases E
end S8
