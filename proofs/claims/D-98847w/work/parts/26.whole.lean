/-! The walk of the law out of the pure goal -/
theorem st_whole (hpure : PureGoal) {p : Program} {e : Env} {s : State} {m : MethodId} {below : List Frame} {meth : Method} {c : Code} (l : Launch) (hflags : l.flags = flags0) {b L : Nat} {xs : Nat → Int32} (hL : L ≤ 384) (C0 : lw_At p s m meth c b L xs) : W p l e room_1 s m #[Value.ref b] below meth c s.heap [] 0 0 (lw_Z below #[Value.ref b] s) (entryFrame m ([Value.ref b] : List Value).toArray 4) := by
  obtain ⟨hx, hb, hr, hml, hown, hts, hX, hbl, hlocks, hgv, hxe⟩ := C0
  obtain ⟨P, h, hP1, hG, hRel, hI⟩ := st_start hts hgv hX hL
  obtain ⟨n, r, h2, hrun, er, hn, hu⟩ := hpure h (b + 1) L hI hL
  subst er
  obtain ⟨hmono, hW⟩ := sd_all n 1200 n_L_law 0 _ _ h _ h2 hrun
  have htr : l.stackTraces = false := by
    unfold Launch.stackTraces
    rw [hflags]
    decide +kernel
  have hxt : sd_xt n_L_law c := by
    have h1 : c.exceptionTable.toList = [] := by
      rw [Array.isEmpty_iff] at hxe
      rw [hxe]
    unfold sd_xt
    rw [h1, if_neg (by decide)]
    rfl
  have hlo : sd_lo P = s.heap.size := by unfold sd_lo; rw [hP1]
  have hXh : sd_Hyp P p l room_1 s m #[Value.ref b] meth c (sd_own n_L_law) (sd_code n_L_law) (sd_ini n_L_law) s.heap [] ((lg_sl (([am_r (b + 1)] : List am_V).map am_toV) ++ List.replicate (am_maxL n_L_law - (lg_sl (([am_r (b + 1)] : List am_V).map am_toV)).length) Slot.unset).toArray) [am_r (b + 1), am_u, am_u, am_u] h :=
    ⟨hx, hb, hown, (fun w hw => hts w (List.mem_filter.mp hw).1), (fun q => absurd q (by decide)), hml, hG, hRel, sd_entry (j := n_L_law) (As := [am_r (b + 1)]) (Nat.le_of_ble_eq_true rfl), (fun q hq => by cases hq), (by decide), (by decide), Nat.le_of_eq hlo, htr⟩
  have hEnd : sd_End P p l e room_1 s m #[Value.ref b] below meth c (lw_Z below #[Value.ref b] s) n_L_law h 0 0 (.inl (some (am_i 1))) h2 := by
    intro H' locs' A' cells' slots' pc' hR' hl' hlo' hc' hs' hrt
    obtain ⟨ty, q1, hd, q3⟩ := hrt
    refine va_forget (fun q hq => by rw [← hlo]; exact hl' q hq) (W.widen (k := 601024) (n := 7293034) (by omega) (by omega) ?_)
    exact lw_ret hx hb hr hlocks hd
  have hWk := hW P p l e room_1 s m #[Value.ref b] below meth c s.heap [] 0 0 (lw_Z below #[Value.ref b] s) _ hXh (by decide) (by decide) (by show 0 + hp_n h2 ≤ 601024 + hp_n h; omega) (by show 0 + hp_u h2 ≤ 7293034 + hp_u h; omega) hxt hEnd
  rw [lg_entry_eq m [Value.ref b] 4]
  exact hWk
