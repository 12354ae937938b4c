/-! THE START, part 1: what the tables say at the entry -/
theorem st_able {ci : Nat} {r : vw_C} (h : sd_cl ci = some r) : ∃ n, Cond.instantiable r.1 n ∈ lw_all := by
  unfold sd_cl at h
  split at h
  · cases h; exact ⟨_, q156⟩
  · cases h; exact ⟨_, q164⟩
  · cases h; exact ⟨_, q262⟩
  · cases h; exact ⟨_, q291⟩
  · cases h; exact ⟨_, q358⟩
  · cases h; exact ⟨_, q401⟩
  · cases h; exact ⟨_, q431⟩
  · cases h; exact ⟨_, q447⟩
  · cases h; exact ⟨_, q1433⟩
  · cases h; exact ⟨_, q571⟩
  · cases h; exact ⟨_, q725⟩
  · cases h; exact ⟨_, q858⟩
  · cases h; exact ⟨_, q883⟩
  · cases h; exact ⟨_, q926⟩
  · cases h; exact ⟨_, q980⟩
  · cases h; exact ⟨_, q1007⟩
  · cases h; exact ⟨_, q1017⟩
  · cases h; exact ⟨_, q1027⟩
  · cases h; exact ⟨_, q1365⟩
  · cases h; exact ⟨_, q170⟩
  · cases h
theorem st_classes {args : Array Value} {s : State} (hts : ∀ w ∈ lw_all, w.before args s = true) : ∃ D : va_G, ∀ ci r, sd_cl ci = some r → u_Kn s r.1 r.2.1 r.2.2 (D.1 ci) (D.2 ci) := by
  have h : ∀ ci : Nat, ∃ q : ClassId × (Nat → Nat), ∀ r, sd_cl ci = some r → u_Kn s r.1 r.2.1 r.2.2 q.1 q.2 := by
    intro ci
    cases hr : sd_cl ci with
    | none => exact ⟨(0, fun _ => 0), fun r e => by cases e⟩
    | some r =>
      obtain ⟨n, hn⟩ := st_able hr
      obtain ⟨cC, iS, hK⟩ := u_known hts (sd_cl_in hr).1 (hts _ hn)
      exact ⟨(cC, iS), fun r' e => by cases e; exact hK⟩
  obtain ⟨f, hf⟩ := Classical.axiomOfChoice h
  exact ⟨(fun ci => (f ci).1, fun ci => (f ci).2), fun ci r e => hf ci r e⟩
theorem st_arr1 {args : Array Value} {s : State} {ty : FieldType} (h : (Cond.arrayClass ty).before args s = true) (hp : ∀ (cA : ClassId), s.vm.findClass ("[" ++ ty.toString) = some cA → va_RA s cA ty) : ∃ cA, ArrOfT s cA ty ∧ va_RA s cA ty := by
  obtain ⟨cA, kA, comp, h1, h2, h3⟩ := Cond.arrayClass_spec h
  exact ⟨cA, fun n z => ⟨fun k h => (by cases h), kA, h2, comp, h3⟩, hp cA h1⟩
theorem st_arr2 {args : Array Value} {s : State} {C : String} (h : (Cond.arrayOver (.object C)).before args s = true) : ∃ cA, ArrOfT s cA (.object C) ∧ va_RA s cA (.object C) := by
  obtain ⟨comp, cA, kA, h1, -, h2, h3, h4⟩ := Cond.arrayOver_spec h
  exact ⟨cA, fun n z => ⟨fun k h => (by cases h), kA, h2, comp, h3⟩, kA, comp, h2, h3, h1, h4⟩
theorem st_arrays {args : Array Value} {s : State} (hts : ∀ w ∈ lw_tbl, w.before args s = true) : ∃ f : Nat → ClassId, ∀ t tc ty, sd_ar t = some (tc, ty) → ArrOfT s (f t) ty ∧ va_RA s (f t) ty := by
  have ha : ∀ w ∈ lw_all, w.before args s = true := fun w hw => hts w (List.mem_filter.mp hw).1
  have h : ∀ t : Nat, ∃ c : ClassId, ∀ tc ty, sd_ar t = some (tc, ty) → ArrOfT s c ty ∧ va_RA s c ty := by
    intro t
    by_cases h1 : t = 1
    · obtain ⟨c, hc⟩ := st_arr1 (ha _ q260) (fun _ z => z)
      exact ⟨c, fun tc ty e => by subst h1; cases e; exact hc⟩
    by_cases h2 : t = 2
    · obtain ⟨c, hc⟩ := st_arr1 (ha _ q354) (fun _ z => z)
      exact ⟨c, fun tc ty e => by subst h2; cases e; exact hc⟩
    by_cases h3 : t = 3
    · obtain ⟨c, hc⟩ := st_arr1 (ha _ q399) (fun _ z => z)
      exact ⟨c, fun tc ty e => by subst h3; cases e; exact hc⟩
    by_cases h4 : t = 4
    · obtain ⟨c, hc⟩ := st_arr1 (ha _ q429) (fun _ z => z)
      exact ⟨c, fun tc ty e => by subst h4; cases e; exact hc⟩
    by_cases h5 : t = 5
    · obtain ⟨c, hc⟩ := st_arr2 (hts _ q843)
      exact ⟨c, fun tc ty e => by subst h5; cases e; exact hc⟩
    by_cases h6 : t = 6
    · obtain ⟨c, hc⟩ := st_arr2 (hts _ q446)
      exact ⟨c, fun tc ty e => by subst h6; cases e; exact hc⟩
    exact ⟨0, fun tc ty e => by unfold sd_ar at e; split at e <;> first | contradiction | cases e⟩
  obtain ⟨f, hf⟩ := Classical.axiomOfChoice h
  exact ⟨f, hf⟩
theorem st_nw {args : Array Value} {s : State} (hts : ∀ w ∈ lw_tbl, w.before args s = true) : ∀ w ∈ lw_tbl, sd_isnw w = true → va_Nw w s := by
  intro w hw hi
  have h := hts w hw
  unfold sd_isnw at hi
  split at hi
  · exact va_Nw.of rfl h
  · exact va_Nw.of rfl h
  · exact va_Nw.of rfl h
  · exact va_Nw.of rfl h
  · exact va_AO.of h
  · cases hi
theorem st_sel {args : Array Value} {s : State} {C : String} {x z y : MethodName} (hz : (Cond.selects C x z).before args s = true) (hyz : y.cls = z.cls) (hy : y.cls ≠ "java/lang/invoke/MethodHandle" ∧ y.cls ≠ "java/lang/invoke/VarHandle")
    (hpriv : (Cond.privateMethod y).before args s = true) (hinst : (Cond.instanceMethod y).before args s = true) : (Cond.selects C y y).before args s = true := by
  obtain ⟨c, r, m, hc, -, hm, -, mk, hmk, hni⟩ := Cond.selects_spec hz
  obtain ⟨my, methM, hnamed, hmethM, -, -⟩ := Cond.instanceMethod_spec hinst
  have hfound : s.methodFound? y.cls y.name y.desc = some my := State.methodFound?_of_named hnamed hy
  have hcls : my.cls = m.cls := by
    have h1 := findClass_of_methodNamed hnamed
    have h2 := findClass_of_methodNamed hm
    rw [hyz] at h1
    exact Option.some.inj (h1.symm.trans h2)
  have hsel : selectMethod {} s.vm c my = .method my := selectMethod_private hmethM (Cond.privateMethod_at hpriv my methM hnamed hmethM)
  simp only [Cond.before, Cond.holds, Cond.value, hc, hfound, hnamed, hsel, hcls, hmk]
  simp; exact hni
theorem st_ex {args : Array Value} {s : State} (hts : ∀ w ∈ lw_tbl, w.before args s = true) : ∀ w ∈ sd_ex, w.before #[] s = true := by
  have ha : ∀ w ∈ lw_all, w.before args s = true := fun w hw => hts w (List.mem_filter.mp hw).1
  intro w hw
  simp only [sd_ex, List.mem_cons, List.not_mem_nil, or_false] at hw
  rcases hw with e | e
  · rw [e]; exact va_tabs rfl rfl (st_sel (ha _ q1315) rfl (by decide) (hts _ q1319) (ha _ q1320))
  · rw [e]; exact va_tabs rfl rfl (st_sel (ha _ q1354) rfl (by decide) (hts _ q1319) (ha _ q1320))
