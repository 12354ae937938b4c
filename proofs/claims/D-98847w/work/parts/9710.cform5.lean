/-! THE CLASS: whole formulas -/
section CForm5
variable {h h' : am_H} {R F tp N : Nat} {T : tx} {g : rgT}
theorem C_lv : ∀ f, f ≤ 7 → FC (6 * f) 14 n_X10_either [am_u] R F tp N T g (7 - f) (lv T N f).1 ∧ FC (6 * f) 12 n_X10_one [am_u, am_u] R F tp N T g (7 - f) (lv T N f).2 := by
  intro f
  induction f with
  | zero =>
    intro _
    have hs : fok T N 0 (fSum T N none) := fok_sum (E := none) (w := 0) (by omega) (fun o e => by cases e)
    have ht : fok T N 0 (fBin T N (opT T N) (fUnit T N none)) := fok_bin (by omega) opT_lt (fok_unit (E := none) (w := 0) (by omega) (fun o e => by cases e))
    have hu : fok T N 0 (fUnit T N none) := fok_unit (E := none) (w := 0) (by omega) (fun o e => by cases e)
    have h1 := fok_lv (T := T) (N := N) 0 (by omega)
    have cu : FC (6 * 0) 9 n_X10_unit [am_u, am_u, am_u] R F tp N T g (7 - 0) (fUnit T N none) := C_unit (D' := 0) (by omega) (fun z => by omega) (fun _ => rfl)
    have cs : FC (6 * 0) 11 n_X10_sum [am_u, am_u] R F tp N T g (7 - 0) (fSum T N none) := C_sum (C_term cu hu) ht
    have c1 : FC (6 * 0) 12 n_X10_one [am_u, am_u] R F tp N T g (7 - 0) (lv T N 0).2 := C_one (D' := 0) (by omega) cs hs (fun z => by omega) (fun _ => rfl)
    exact ⟨C_either (C_both c1 h1.2) (fok_bin (w := 1) (by omega) opA_lt h1.2), c1⟩
  | succ f ih =>
    intro hf
    obtain ⟨i1, i2⟩ := ih (by omega)
    have h0 := fok_lv (T := T) (N := N) f (by omega)
    have h1 := fok_lv (T := T) (N := N) (f + 1) (by omega)
    have e7 : 7 - (f + 1) + 1 = 7 - f := by omega
    have hu : fok T N 0 (fUnit T N (some (lv T N f).1)) := fok_unit (w := f + 1) (by omega) (fun o e => by cases e; exact h0.1)
    have ht : fok T N 0 (fBin T N (opT T N) (fUnit T N (some (lv T N f).1))) := fok_bin (by omega) opT_lt hu
    have hs : fok T N 0 (fSum T N (some (lv T N f).1)) := fok_bin (by omega) opS_lt ht
    have cu : FC (6 * (f + 1)) 9 n_X10_unit [am_u, am_u, am_u] R F tp N T g (7 - (f + 1)) (fUnit T N (some (lv T N f).1)) := C_unit (D' := 6 * f) (by omega) (fun _ => ⟨by omega, _, _, rfl, h0.1, by rw [e7]; exact i1⟩) (fun z => by omega)
    have cs : FC (6 * (f + 1)) 11 n_X10_sum [am_u, am_u] R F tp N T g (7 - (f + 1)) (fSum T N (some (lv T N f).1)) := C_sum (C_term cu hu) ht
    have c1 : FC (6 * (f + 1)) 12 n_X10_one [am_u, am_u] R F tp N T g (7 - (f + 1)) (lv T N (f + 1)).2 := C_one (D' := 6 * f) (by omega) cs hs (fun _ => ⟨by omega, _, _, rfl, h0.2, by rw [e7]; exact i2⟩) (fun z => by omega)
    exact ⟨C_either (C_both c1 h1.2) (fok_bin (w := f + 2) (by omega) opA_lt h1.2), c1⟩
end CForm5
