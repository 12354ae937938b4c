/-! The instructions' table: class objects; a step that stands for three -/
section Prim
variable {own : String} {cc : ByteArray} {ini : Bool} {pc : Nat}
theorem ok_ldcM (ho : own = RJ12) (hd : decode cc pc = .ok (.ldc 110, 2)) : sd_I own cc ini pc (in_glob 5 (pc + 2)) := by
  intro P p l e R s m args below meth c H locs cells slots Q A ls st h pc' ls' st' h' X E hc hs K
  unfold in_glob at E; cases E
  subst ho
  refine va_ldcM X.1 X.2.1 X.ow (X.ts _ q842) X.G.2.2.2.2.2.2.2.2 hd ?_
  have := sd_K0 X K
  rw [List.map_cons, show am_toV (am_r (hp_R h 0 5)) = .ref (P.2.2.2 5 - 1) from by show sd_rv _ = _; rw [X.Rel.2.1 5]; exact sd_pred X.G.2.2.2.2.2.2.2.1] at this
  exact this
theorem ok_getCls (ho : own = RJ12) (hd : decode cc pc = .ok (.invokevirtual 86, 3)) : sd_I own cc ini pc (in_getCls (pc + 3)) := by
  intro P p l e R s m args below meth c H locs cells slots Q A ls st h pc' ls' st' h' X E hc hs K
  unfold in_getCls at E; split at E
  · rename_i a st0
    split at E
    · rename_i ht
      cases E
      subst ho
      have hk : hp_K h a = (5, (hp_K h a).2) := by rw [← ht.1]
      obtain ⟨hlo, e0⟩ := X.Rel.aw hk (rfl : sd_ar 5 = some (2, .object "java/lang/Object"))
      show W p l e R s m args below meth c H locs cells slots Q (F0 m pc A (sd_rv a :: st0.map am_toV))
      rw [sd_pred (show 0 < a by omega)]
      refine va_getC (C := "[Ljava/lang/Object;") X.1 X.2.1 (X.ml.trans X.L.1.symm) X.ow (X.ts _ q815) (va_Nw.use rfl (X.G.2.2.1 _ q2228 rfl)) (X.ts _ q2227) (X.ts _ q816) (X.ts _ q838) X.G.2.2.2.2.2.2.2.2 ⟨_, e0, rfl, va_nmO (X.G.2.1 5 _ _ rfl).2 rfl⟩ X.fr ?_ hd ?_
      · have h1 := sd_sum_cat st0
        have h2 := X.lc
        have h3 := ht.2
        omega
      · have := sd_K0 X K
        rw [List.map_cons, show am_toV (am_r (hp_R h 0 5)) = .ref (P.2.2.2 5 - 1) from by show sd_rv _ = _; rw [X.Rel.2.1 5]; exact sd_pred X.G.2.2.2.2.2.2.2.1] at this
        exact this
    · cases E
  · cases E
theorem ok_mmax {idx : Nat} (hd : decode cc pc = .ok (.invokestatic idx, 3)) (hl : Cond.methodLink own idx Lib.Math.max.name ∈ lw_all) : sd_I own cc ini pc (in_binR f_max (pc + 3)) := by
  intro P p l e R s m args below meth c H locs cells slots Q A ls st h pc' ls' st' h' X E hc hs K
  unfold in_binR at E; split at E
  · rename_i y x st0
    split at E
    · rename_i hst
      cases E
      have h1 := sd_sum_cat st0
      have h2 := X.lc
      exact va_mmax X.1 X.2.1 (X.ml.trans X.L.1.symm) X.ow (X.ts _ hl) (X.ts _ q806) (X.ts _ q141) (X.ts _ q807) X.fr (by omega) (by omega) (by omega) hd (sd_K0 X K)
    · cases E
  · cases E
theorem ok_mmin {idx : Nat} (hd : decode cc pc = .ok (.invokestatic idx, 3)) (hl : Cond.methodLink own idx Lib.Math.min.name ∈ lw_all) : sd_I own cc ini pc (in_binR f_min (pc + 3)) := by
  intro P p l e R s m args below meth c H locs cells slots Q A ls st h pc' ls' st' h' X E hc hs K
  unfold in_binR at E; split at E
  · rename_i y x st0
    split at E
    · rename_i hst
      cases E
      have h1 := sd_sum_cat st0
      have h2 := X.lc
      exact va_mmin X.1 X.2.1 (X.ml.trans X.L.1.symm) X.ow (X.ts _ hl) (X.ts _ q846) (X.ts _ q141) (X.ts _ q847) X.fr (by omega) (by omega) (by omega) hd (sd_K0 X K)
    · cases E
  · cases E
end Prim
