/-! THE MODEL: a line -/
section MLine
variable {d : Nat} {h h' : am_H} {m : Nat} {V W : am_M} {T : tx} {N p : Nat} {g : rgT}
theorem EN_opt (q : EN h m V g) {o : Option Int32 × Option Int32 × Option Int32} (hA : ∀ a j, enp a j → ¬ (a = 0 ∧ ((53 ≤ j ∧ j ≤ 55) ∨ (63 ≤ j ∧ j ≤ 65))) → W a j = V a j) (w : W 0 53 = o.1.getD 8 ∧ W 0 54 = o.2.1.getD 0 ∧ W 0 55 = o.2.2.getD 0 ∧ W 0 63 = bI o.1.isSome ∧ W 0 64 = bI o.2.1.isSome ∧ W 0 65 = bI o.2.2.isSome) (n : hp_L h' (m + 2) = hp_L h (m + 2)) : EN h' m W (g.1, g.2.1, g.2.2.1, o) := by
  obtain ⟨⟨n1, n2, n3, n4⟩, ⟨n5, n6, n7, n8⟩, ⟨n9, n10, n11, n12⟩, ⟨l1, l2, l3⟩, eM, eD, eO, ⟨eF, eG⟩, eW⟩ := q
  obtain ⟨w1, w2, w3, w4, w5, w6⟩ := w
  have e0 : ∀ j, (j = 3 ∨ j = 17 ∨ j = 20 ∨ (49 ≤ j ∧ j ≤ 52) ∨ j = 62) → W 0 j = V 0 j := fun j z => hA 0 j (by unfold enp; omega) (by omega)
  have er : ∀ a j, (a = 3 ∨ a = 4 ∨ (10 ≤ a ∧ a ≤ 14) ∨ (20 ≤ a ∧ a ≤ 25) ∨ a = 32) → W a j = V a j := fun a j z => hA a j (by unfold enp; omega) (by omega)
  refine ⟨⟨?_, ?_, ?_, ?_⟩, ⟨?_, w1, w2, w3⟩, ⟨?_, w4, w5, w6, ?_⟩, ⟨l1.fr fun i _ => by rw [n], l2.fr fun i _ => by rw [n], l3.fr fun i _ => by rw [n]⟩, fun i v hv => ?_, fun i v hv => ?_, fun i v hv => ?_, ⟨fun a b ha hb => ?_, eG⟩, ?_⟩
  · rw [e0 _ (by omega)]; exact n1
  · rw [e0 _ (by omega)]; exact n2
  · rw [e0 _ (by omega)]; exact n3
  · rw [e0 _ (by omega)]; exact n4
  · rw [e0 _ (by omega)]; exact n5
  · rw [e0 _ (by omega)]; exact n9
  · rw [e0 _ (by omega)]; exact n12.2
  · rw [er _ _ (by omega), er _ _ (by omega), er _ _ (by omega)]; exact eM i v hv
  · rw [er _ _ (by omega)]; exact eD i v hv
  · rw [er _ _ (by omega), er _ _ (by omega), er _ _ (by omega), er _ _ (by omega), er _ _ (by omega), er _ _ (by omega), er _ _ (by omega)]; exact eO i v hv
  · rw [er _ _ (by omega)]; exact eF a b ha hb
  · show match g.2.2.1.1 with | none => True | some c => _
    revert eW
    cases g.2.2.1.1 with
    | none => exact id
    | some c =>
      intro eW
      refine ⟨by rw [e0 _ (by omega)]; exact eW.1, fun i s hs => ?_⟩
      rw [er _ _ (by omega), er _ _ (by omega)]; exact eW.2 i s hs
theorem EN_wear (q : EN h m V g) {c : am_S} {u : Nat} (hA : ∀ a j, enp a j → ¬ (a = 3 ∨ a = 4 ∨ (a = 0 ∧ (j = 17 ∨ j = 20 ∨ j = 62))) → W a j = V a j) (w1 : W 0 20 = nI u) (w2 : W 0 62 = 1) (w3 : W 0 17 = nI c.length) (w4 : CS W c) (n : hp_L h' (m + 2) = hp_L h (m + 2)) : EN h' m W (g.1, g.2.1, (some c, u), g.2.2.2) := by
  obtain ⟨⟨n1, n2, n3, n4⟩, ⟨n5, n6, n7, n8⟩, ⟨n9, n10, n11, n12⟩, ⟨l1, l2, l3⟩, eM, eD, eO, ⟨eF, eG⟩, eW⟩ := q
  have e0 : ∀ j, (j = 3 ∨ (49 ≤ j ∧ j ≤ 55) ∨ (63 ≤ j ∧ j ≤ 65)) → W 0 j = V 0 j := fun j z => hA 0 j (by unfold enp; omega) (by omega)
  have er : ∀ a j, ((10 ≤ a ∧ a ≤ 14) ∨ (20 ≤ a ∧ a ≤ 25) ∨ a = 32) → W a j = V a j := fun a j z => hA a j (by unfold enp; omega) (by omega)
  refine ⟨⟨?_, ?_, ?_, ?_⟩, ⟨w1, ?_, ?_, ?_⟩, ⟨w2, ?_, ?_, ?_⟩, ⟨l1.fr fun i _ => by rw [n], l2.fr fun i _ => by rw [n], l3.fr fun i _ => by rw [n]⟩, fun i v hv => ?_, fun i v hv => ?_, fun i v hv => ?_, ⟨fun a b ha hb => ?_, eG⟩, ⟨w3, w4⟩⟩
  · rw [e0 _ (by omega)]; exact n1
  · rw [e0 _ (by omega)]; exact n2
  · rw [e0 _ (by omega)]; exact n3
  · rw [e0 _ (by omega)]; exact n4
  · rw [e0 _ (by omega)]; exact n6
  · rw [e0 _ (by omega)]; exact n7
  · rw [e0 _ (by omega)]; exact n8
  · rw [e0 _ (by omega)]; exact n10
  · rw [e0 _ (by omega)]; exact n11
  · exact ⟨by rw [e0 _ (by omega)]; exact n12.1, by rw [e0 _ (by omega)]; exact n12.2⟩
  · rw [er _ _ (by omega), er _ _ (by omega), er _ _ (by omega)]; exact eM i v hv
  · rw [er _ _ (by omega)]; exact eD i v hv
  · rw [er _ _ (by omega), er _ _ (by omega), er _ _ (by omega), er _ _ (by omega), er _ _ (by omega), er _ _ (by omega), er _ _ (by omega)]; exact eO i v hv
  · rw [er _ _ (by omega)]; exact eF a b ha hb
theorem We.ps (q : We V W) : Ps V W := fun a j e => q a j (fun z => e (by unfold wsc at z; unfold psc; omega))
theorem Wf.ps (q : Wf V W) : Ps V W := fun a j e => q a j (fun z => e (by unfold wsc at z; unfold psc; omega))
theorem pAfter_V {i : Nat} {lo hi : Int32} (e : isV T N p i = true) : pAfter T N i lo hi p = pNum T N lo hi (tkX T N p) := by
  unfold pAfter pMust
  unfold isV at e
  rw [e]; rfl
theorem m_readLine (hW : MW h m) (ok : OK h m V T N p) (en : EN h m V g) (gi : gI g) {k : am_H → Prop} (h1 : ∀ h' W r q, pLine T N g p = .inl r → pMust T N (isSH T N r.2 59) r.2 = .inl q → Lx m h h' → Ps V W → OK h' m W T N q → EN h' m W r.1 → k (mh h' m W)) (h2 : ∀ h' W e, (pLine T N g p = .inr e ∨ ∃ r, pLine T N g p = .inl r ∧ pMust T N (isSH T N r.2 59) r.2 = .inr e) → Lx m h h' → Ps V W → ER W e → k (mh h' m W)) : Rn (d + 6) n_X9_readLine 0 [am_r m] [] (mh h m V) (kV k) := by
  have en0 := en
  obtain ⟨⟨n1, n2, n3, n4⟩, ⟨n5, n6, n7, n8⟩, ⟨n9, n10, n11, n12⟩, -, -⟩ := en
  have gi0 := gi
  obtain ⟨⟨g1, g2, g3, g4⟩, -, -, -, -, gw⟩ := gi
  -- behind the line
  have E256 : ∀ h' W e, MW h' m → ER W e → k (mh h' m W) → Rn (d + 6) n_X9_readLine 256 [am_r m] [] (mh h' m W) (kV k) := by
    intro h' W e hW er hk
    refine rw_aload f_X9_readLine_256 rfl ?_
    refine rm_getI f_X9_readLine_257 hW ?_
    refine rw_ifT f_X9_readLine_260 (decide_eq_true er.ne) ?_
    refine rw_aload f_X9_readLine_277 rfl ?_
    refine rm_getI f_X9_readLine_278 hW ?_
    refine rw_ifT f_X9_readLine_281 (decide_eq_true er.ne) ?_
    refine rw_vret f_X9_readLine_288 ?_
    exact hk
  have E : ∀ h' W e, pLine T N g p = .inr e → Lx m h h' → Ps V W → ER W e → Rn (d + 6) n_X9_readLine 256 [am_r m] [] (mh h' m W) (kV k) := fun h' W e e1 lx ps er => E256 h' W e (lx.mw hW) er (h2 h' W e (Or.inl e1) lx ps er)
  have F : ∀ h' W r, pLine T N g p = .inl r → Lx m h h' → Ps V W → OK h' m W T N r.2 → EN h' m W r.1 → Rn (d + 6) n_X9_readLine 256 [am_r m] [] (mh h' m W) (kV k) := by
    intro h' W r e1 lx ps ok enr
    have hW := lx.mw hW
    have sg := srt_sg (T := T) (N := N) (p := r.2) (c := 59) (by decide)
    have h1' := h1 h' 
    cases cs : isSH T N r.2 59 with
    | true =>
      have nb : ¬ tkD T N r.2 = 4 := fun z => by have := (isSH_3 cs).1; rw [z] at this; exact absurd this (by decide)
      refine rw_aload f_X9_readLine_256 rfl ?_
      refine rm_getI f_X9_readLine_257 hW ?_
      rw [ok.f]
      refine rw_ifF f_X9_readLine_260 (by decide) ?_
      refine rw_aload f_X9_readLine_263 rfl ?_
      refine rm_getI f_X9_readLine_264 hW ?_
      rw [ok.s]
      refine rw_const f_X9_readLine_267 ?_
      refine rw_icmpT f_X9_readLine_269 (decide_eq_true (sg.mpr cs)) ?_
      refine rw_aload f_X9_readLine_277 rfl ?_
      refine rm_getI f_X9_readLine_278 hW ?_
      rw [ok.f]
      refine rw_ifF f_X9_readLine_281 (by decide) ?_
      refine rw_aload f_X9_readLine_284 rfl ?_
      refine rw_callV f_X9_readLine_285 rfl hW.1 hW.2.1 rfl rfl rfl rfl (rn_kv (m_next hW ok nb (fun h3 X lw tk ok3 => ?_)))
      refine rw_vret f_X9_readLine_288 ?_
      exact h1 h3 X r _ e1 (by unfold pMust; rw [cs]; rfl) (lx.tr lw.x) (ps.tr tk.ps) ok3 (enr.fr tk.en lw.nm)
    | false =>
      refine rw_aload f_X9_readLine_256 rfl ?_
      refine rm_getI f_X9_readLine_257 hW ?_
      rw [ok.f]
      refine rw_ifF f_X9_readLine_260 (by decide) ?_
      refine rw_aload f_X9_readLine_263 rfl ?_
      refine rm_getI f_X9_readLine_264 hW ?_
      rw [ok.s]
      refine rw_const f_X9_readLine_267 ?_
      refine rw_icmpF f_X9_readLine_269 (decide_eq_false (fun z => by rw [sg.mp z] at cs; cases cs)) ?_
      refine rw_aload f_X9_readLine_272 rfl ?_
      refine rw_const f_X9_readLine_273 ?_
      refine rw_callV f_X9_readLine_274 rfl hW.1 hW.2.1 rfl rfl rfl rfl (rn_kv (m_wrong2 hW ok (fun X fk er => ?_)))
      refine rw_aload f_X9_readLine_277 rfl ?_
      refine rm_getI f_X9_readLine_278 hW ?_
      refine rw_ifT f_X9_readLine_281 (decide_eq_true er.ne) ?_
      refine rw_vret f_X9_readLine_288 ?_
      exact h2 h' X _ (Or.inr ⟨r, e1, by unfold pMust; rw [cs]; rfl⟩) lx (ps.tr fk.ps) er
  have s0 : ¬ (isV T N p wMAN = true ∧ g.1.1.length < 6) → Rn (d + 6) n_X9_readLine 26 [am_r m] [] (mh h m V) (kV k) → Rn (d + 6) n_X9_readLine 0 [am_r m] [] (mh h m V) (kV k) := by
    intro cn go
    unfold isV at cn
    rw [wc_13] at cn
    cases cv : isW T N p 7168366 with
    | false =>
      refine rw_aload f_X9_readLine_0 rfl ?_
      refine rw_const f_X9_readLine_1 ?_
      refine rw_callV f_X9_readLine_4 rfl hW.1 hW.2.1 rfl rfl rfl rfl (rn_ki (m_isWord hW ok ?_))
      rw [cv]
      refine rw_ifT f_X9_readLine_7 (by decide) ?_
      exact go
    | true =>
      have cf : 6 ≤ g.1.1.length := Nat.not_lt.mp (fun z => cn ⟨cv, z⟩)
      refine rw_aload f_X9_readLine_0 rfl ?_
      refine rw_const f_X9_readLine_1 ?_
      refine rw_callV f_X9_readLine_4 rfl hW.1 hW.2.1 rfl rfl rfl rfl (rn_ki (m_isWord hW ok ?_))
      rw [cv]
      refine rw_ifF f_X9_readLine_7 (by decide) ?_
      refine rw_aload f_X9_readLine_10 rfl ?_
      refine rm_getI f_X9_readLine_11 hW ?_
      rw [n1]
      refine rw_const f_X9_readLine_14 ?_
      refine rw_icmpT f_X9_readLine_16 (decide_eq_true (nI_le (a := 6) cf (by omega))) ?_
      exact go
  have s26 : ¬ (isV T N p wDEED = true ∧ g.1.2.1.length < 6) → Rn (d + 6) n_X9_readLine 52 [am_r m] [] (mh h m V) (kV k) → Rn (d + 6) n_X9_readLine 26 [am_r m] [] (mh h m V) (kV k) := by
    intro cn go
    unfold isV at cn
    rw [wc_6] at cn
    cases cv : isW T N p 1684366692 with
    | false =>
      refine rw_aload f_X9_readLine_26 rfl ?_
      refine rw_const f_X9_readLine_27 ?_
      refine rw_callV f_X9_readLine_30 rfl hW.1 hW.2.1 rfl rfl rfl rfl (rn_ki (m_isWord hW ok ?_))
      rw [cv]
      refine rw_ifT f_X9_readLine_33 (by decide) ?_
      exact go
    | true =>
      have cf : 6 ≤ g.1.2.1.length := Nat.not_lt.mp (fun z => cn ⟨cv, z⟩)
      refine rw_aload f_X9_readLine_26 rfl ?_
      refine rw_const f_X9_readLine_27 ?_
      refine rw_callV f_X9_readLine_30 rfl hW.1 hW.2.1 rfl rfl rfl rfl (rn_ki (m_isWord hW ok ?_))
      rw [cv]
      refine rw_ifF f_X9_readLine_33 (by decide) ?_
      refine rw_aload f_X9_readLine_36 rfl ?_
      refine rm_getI f_X9_readLine_37 hW ?_
      rw [n2]
      refine rw_const f_X9_readLine_40 ?_
      refine rw_icmpT f_X9_readLine_42 (decide_eq_true (nI_le (a := 6) cf (by omega))) ?_
      exact go
  have s52 : ¬ (isV T N p wBUTTON = true ∧ g.1.2.2.length < 10) → Rn (d + 6) n_X9_readLine 78 [am_r m] [] (mh h m V) (kV k) → Rn (d + 6) n_X9_readLine 52 [am_r m] [] (mh h m V) (kV k) := by
    intro cn go
    unfold isV at cn
    rw [wc_2] at cn
    cases cv : isW T N p 108256604483438 with
    | false =>
      refine rw_aload f_X9_readLine_52 rfl ?_
      refine rw_const f_X9_readLine_53 ?_
      refine rw_callV f_X9_readLine_56 rfl hW.1 hW.2.1 rfl rfl rfl rfl (rn_ki (m_isWord hW ok ?_))
      rw [cv]
      refine rw_ifT f_X9_readLine_59 (by decide) ?_
      exact go
    | true =>
      have cf : 10 ≤ g.1.2.2.length := Nat.not_lt.mp (fun z => cn ⟨cv, z⟩)
      refine rw_aload f_X9_readLine_52 rfl ?_
      refine rw_const f_X9_readLine_53 ?_
      refine rw_callV f_X9_readLine_56 rfl hW.1 hW.2.1 rfl rfl rfl rfl (rn_ki (m_isWord hW ok ?_))
      rw [cv]
      refine rw_ifF f_X9_readLine_59 (by decide) ?_
      refine rw_aload f_X9_readLine_62 rfl ?_
      refine rm_getI f_X9_readLine_63 hW ?_
      rw [n3]
      refine rw_const f_X9_readLine_66 ?_
      refine rw_icmpT f_X9_readLine_68 (decide_eq_true (nI_le (a := 10) cf (by omega))) ?_
      exact go
  have s78 : ¬ (isV T N p wFRIEND = true ∧ g.2.1.2 < 15) → Rn (d + 6) n_X9_readLine 104 [am_r m] [] (mh h m V) (kV k) → Rn (d + 6) n_X9_readLine 78 [am_r m] [] (mh h m V) (kV k) := by
    intro cn go
    unfold isV at cn
    rw [wc_9] at cn
    cases cv : isW T N p 112641580559972 with
    | false =>
      refine rw_aload f_X9_readLine_78 rfl ?_
      refine rw_const f_X9_readLine_79 ?_
      refine rw_callV f_X9_readLine_82 rfl hW.1 hW.2.1 rfl rfl rfl rfl (rn_ki (m_isWord hW ok ?_))
      rw [cv]
      refine rw_ifT f_X9_readLine_85 (by decide) ?_
      exact go
    | true =>
      have cf : 15 ≤ g.2.1.2 := Nat.not_lt.mp (fun z => cn ⟨cv, z⟩)
      refine rw_aload f_X9_readLine_78 rfl ?_
      refine rw_const f_X9_readLine_79 ?_
      refine rw_callV f_X9_readLine_82 rfl hW.1 hW.2.1 rfl rfl rfl rfl (rn_ki (m_isWord hW ok ?_))
      rw [cv]
      refine rw_ifF f_X9_readLine_85 (by decide) ?_
      refine rw_aload f_X9_readLine_88 rfl ?_
      refine rm_getI f_X9_readLine_89 hW ?_
      rw [n4]
      refine rw_const f_X9_readLine_92 ?_
      refine rw_icmpT f_X9_readLine_94 (decide_eq_true (nI_le (a := 15) cf (by omega))) ?_
      exact go
  have s104 : ¬ (isV T N p wWEAR = true ∧ g.2.2.1.1.isSome = false) → Rn (d + 6) n_X9_readLine 133 [am_r m] [] (mh h m V) (kV k) → Rn (d + 6) n_X9_readLine 104 [am_r m] [] (mh h m V) (kV k) := by
    intro cn go
    unfold isV at cn
    rw [wc_21] at cn
    cases cv : isW T N p 2003132786 with
    | false =>
      refine rw_aload f_X9_readLine_104 rfl ?_
      refine rw_const f_X9_readLine_105 ?_
      refine rw_callV f_X9_readLine_108 rfl hW.1 hW.2.1 rfl rfl rfl rfl (rn_ki (m_isWord hW ok ?_))
      rw [cv]
      refine rw_ifT f_X9_readLine_111 (by decide) ?_
      exact go
    | true =>
      have cf : g.2.2.1.1.isSome = true := by
        cases e : g.2.2.1.1.isSome with
        | true => rfl
        | false => exact absurd ⟨cv, e⟩ cn
      refine rw_aload f_X9_readLine_104 rfl ?_
      refine rw_const f_X9_readLine_105 ?_
      refine rw_callV f_X9_readLine_108 rfl hW.1 hW.2.1 rfl rfl rfl rfl (rn_ki (m_isWord hW ok ?_))
      rw [cv]
      refine rw_ifF f_X9_readLine_111 (by decide) ?_
      refine rw_aload f_X9_readLine_114 rfl ?_
      refine rm_getI f_X9_readLine_115 hW ?_
      rw [n9, cf]
      refine rw_ifT f_X9_readLine_118 (by decide) ?_
      exact go
  have s133 : ¬ (isV T N p wDAY = true ∧ g.2.2.2.1.isSome = false) → Rn (d + 6) n_X9_readLine 172 [am_r m] [] (mh h m V) (kV k) → Rn (d + 6) n_X9_readLine 133 [am_r m] [] (mh h m V) (kV k) := by
    intro cn go
    unfold isV at cn
    rw [wc_5] at cn
    cases cv : isW T N p 6578553 with
    | false =>
      refine rw_aload f_X9_readLine_133 rfl ?_
      refine rw_const f_X9_readLine_134 ?_
      refine rw_callV f_X9_readLine_137 rfl hW.1 hW.2.1 rfl rfl rfl rfl (rn_ki (m_isWord hW ok ?_))
      rw [cv]
      refine rw_ifT f_X9_readLine_140 (by decide) ?_
      exact go
    | true =>
      have cf : g.2.2.2.1.isSome = true := by
        cases e : g.2.2.2.1.isSome with
        | true => rfl
        | false => exact absurd ⟨cv, e⟩ cn
      refine rw_aload f_X9_readLine_133 rfl ?_
      refine rw_const f_X9_readLine_134 ?_
      refine rw_callV f_X9_readLine_137 rfl hW.1 hW.2.1 rfl rfl rfl rfl (rn_ki (m_isWord hW ok ?_))
      rw [cv]
      refine rw_ifF f_X9_readLine_140 (by decide) ?_
      refine rw_aload f_X9_readLine_143 rfl ?_
      refine rm_getI f_X9_readLine_144 hW ?_
      rw [n10, cf]
      refine rw_ifT f_X9_readLine_147 (by decide) ?_
      exact go
  have s172 : ¬ (isV T N p wSTORM = true ∧ g.2.2.2.2.1.isSome = false) → Rn (d + 6) n_X9_readLine 211 [am_r m] [] (mh h m V) (kV k) → Rn (d + 6) n_X9_readLine 172 [am_r m] [] (mh h m V) (kV k) := by
    intro cn go
    unfold isV at cn
    rw [wc_18] at cn
    cases cv : isW T N p 495874699885 with
    | false =>
      refine rw_aload f_X9_readLine_172 rfl ?_
      refine rw_const f_X9_readLine_173 ?_
      refine rw_callV f_X9_readLine_176 rfl hW.1 hW.2.1 rfl rfl rfl rfl (rn_ki (m_isWord hW ok ?_))
      rw [cv]
      refine rw_ifT f_X9_readLine_179 (by decide) ?_
      exact go
    | true =>
      have cf : g.2.2.2.2.1.isSome = true := by
        cases e : g.2.2.2.2.1.isSome with
        | true => rfl
        | false => exact absurd ⟨cv, e⟩ cn
      refine rw_aload f_X9_readLine_172 rfl ?_
      refine rw_const f_X9_readLine_173 ?_
      refine rw_callV f_X9_readLine_176 rfl hW.1 hW.2.1 rfl rfl rfl rfl (rn_ki (m_isWord hW ok ?_))
      rw [cv]
      refine rw_ifF f_X9_readLine_179 (by decide) ?_
      refine rw_aload f_X9_readLine_182 rfl ?_
      refine rm_getI f_X9_readLine_183 hW ?_
      rw [n11, cf]
      refine rw_ifT f_X9_readLine_186 (by decide) ?_
      exact go
  have s211 : ¬ (isV T N p wDRAW = true ∧ g.2.2.2.2.2.isSome = false) → Rn (d + 6) n_X9_readLine 251 [am_r m] [] (mh h m V) (kV k) → Rn (d + 6) n_X9_readLine 211 [am_r m] [] (mh h m V) (kV k) := by
    intro cn go
    unfold isV at cn
    rw [wc_8] at cn
    cases cv : isW T N p 1685217655 with
    | false =>
      refine rw_aload f_X9_readLine_211 rfl ?_
      refine rw_const f_X9_readLine_212 ?_
      refine rw_callV f_X9_readLine_215 rfl hW.1 hW.2.1 rfl rfl rfl rfl (rn_ki (m_isWord hW ok ?_))
      rw [cv]
      refine rw_ifT f_X9_readLine_218 (by decide) ?_
      exact go
    | true =>
      have cf : g.2.2.2.2.2.isSome = true := by
        cases e : g.2.2.2.2.2.isSome with
        | true => rfl
        | false => exact absurd ⟨cv, e⟩ cn
      refine rw_aload f_X9_readLine_211 rfl ?_
      refine rw_const f_X9_readLine_212 ?_
      refine rw_callV f_X9_readLine_215 rfl hW.1 hW.2.1 rfl rfl rfl rfl (rn_ki (m_isWord hW ok ?_))
      rw [cv]
      refine rw_ifF f_X9_readLine_218 (by decide) ?_
      refine rw_aload f_X9_readLine_221 rfl ?_
      refine rm_getI f_X9_readLine_222 hW ?_
      rw [n12.1, cf]
      refine rw_ifT f_X9_readLine_225 (by decide) ?_
      exact go
  have no : ∀ i j, isV T N p i = true → i < 22 → j < 22 → ¬ i = j → ∀ (c : Prop), ¬ (isV T N p j = true ∧ c) := fun i j e hi hj ne c z => ne (isV_u e z.1 hi hj)
  have h4 : ∀ i, isV T N p i = true → tkD T N p = 1 := fun i e => isV_1 e
  have nE : pLine T N g p = .inr (err1 T N p) → Rn (d + 6) n_X9_readLine 251 [am_r m] [] (mh h m V) (kV k) := by
    intro e1
    refine rw_aload f_X9_readLine_251 rfl ?_
    refine rw_const f_X9_readLine_252 ?_
    refine rw_callV f_X9_readLine_253 rfl hW.1 hW.2.1 rfl rfl rfl rfl (rn_kv (m_wrong2 hW ok (fun X fk er => ?_)))
    exact E h X _ e1 .refl fk.ps er
  by_cases cv : isV T N p wMAN = true
  · have kw := h4 _ cv
    have cv2 := cv
    unfold isV at cv2
    rw [wc_13] at cv2
    by_cases cf : g.1.1.length < 6
    rotate_left
    · refine s0 (fun z => cf z.2) ?_
      refine s26 (no _ _ cv (by decide) (by decide) (by decide) _) ?_
      refine s52 (no _ _ cv (by decide) (by decide) (by decide) _) ?_
      refine s78 (no _ _ cv (by decide) (by decide) (by decide) _) ?_
      refine s104 (no _ _ cv (by decide) (by decide) (by decide) _) ?_
      refine s133 (no _ _ cv (by decide) (by decide) (by decide) _) ?_
      refine s172 (no _ _ cv (by decide) (by decide) (by decide) _) ?_
      refine s211 (no _ _ cv (by decide) (by decide) (by decide) _) ?_
      refine nE ?_
      unfold pLine
      rw [if_pos]
      unfold canL
      rw [if_pos cv]
      exact decide_eq_false cf
    have pl : pLine T N g p = pMan T N g (tkX T N p) := by
      unfold pLine
      rw [if_neg]
      · rw [if_pos cv]
      · unfold canL
        rw [if_pos cv]
        rw [decide_eq_true cf]; decide
    refine rw_aload f_X9_readLine_0 rfl ?_
    refine rw_const f_X9_readLine_1 ?_
    refine rw_callV f_X9_readLine_4 rfl hW.1 hW.2.1 rfl rfl rfl rfl (rn_ki (m_isWord hW ok ?_))
    rw [cv2]
    refine rw_ifF f_X9_readLine_7 (by decide) ?_
    refine rw_aload f_X9_readLine_10 rfl ?_
    refine rm_getI f_X9_readLine_11 hW ?_
    rw [n1]
    refine rw_const f_X9_readLine_14 ?_
    refine rw_icmpF f_X9_readLine_16 (decide_eq_false (nI_ge (b := 6) cf (by decide))) ?_
    refine rw_aload f_X9_readLine_19 rfl ?_
    skip
    refine rw_callV f_X9_readLine_20 rfl hW.1 hW.2.1 rfl rfl rfl rfl (rn_kv (m_readMan hW ok kw en0 cf (fun h3 X v e3 lx3 ps3 ok3 en3 => ?_) (fun h3 X e e3 lx3 ps3 er3 => ?_)))
    · refine rw_goto f_X9_readLine_23 ?_
      exact F h3 X v (pl.trans e3) lx3 ps3 ok3 en3
    · refine rw_goto f_X9_readLine_23 ?_
      exact E h3 X e (pl.trans e3) lx3 ps3 er3
  have cMAN := cv
  clear cv
  by_cases cv : isV T N p wDEED = true
  · have kw := h4 _ cv
    refine s0 (no _ _ cv (by decide) (by decide) (by decide) _) ?_
    have cv2 := cv
    unfold isV at cv2
    rw [wc_6] at cv2
    by_cases cf : g.1.2.1.length < 6
    rotate_left
    · refine s26 (fun z => cf z.2) ?_
      refine s52 (no _ _ cv (by decide) (by decide) (by decide) _) ?_
      refine s78 (no _ _ cv (by decide) (by decide) (by decide) _) ?_
      refine s104 (no _ _ cv (by decide) (by decide) (by decide) _) ?_
      refine s133 (no _ _ cv (by decide) (by decide) (by decide) _) ?_
      refine s172 (no _ _ cv (by decide) (by decide) (by decide) _) ?_
      refine s211 (no _ _ cv (by decide) (by decide) (by decide) _) ?_
      refine nE ?_
      unfold pLine
      rw [if_pos]
      unfold canL
      rw [if_neg cMAN]
      rw [if_pos cv]
      exact decide_eq_false cf
    have pl : pLine T N g p = pDeed T N g (tkX T N p) := by
      unfold pLine
      rw [if_neg]
      · rw [if_neg cMAN]
        rw [if_pos cv]
      · unfold canL
        rw [if_neg cMAN]
        rw [if_pos cv]
        rw [decide_eq_true cf]; decide
    refine rw_aload f_X9_readLine_26 rfl ?_
    refine rw_const f_X9_readLine_27 ?_
    refine rw_callV f_X9_readLine_30 rfl hW.1 hW.2.1 rfl rfl rfl rfl (rn_ki (m_isWord hW ok ?_))
    rw [cv2]
    refine rw_ifF f_X9_readLine_33 (by decide) ?_
    refine rw_aload f_X9_readLine_36 rfl ?_
    refine rm_getI f_X9_readLine_37 hW ?_
    rw [n2]
    refine rw_const f_X9_readLine_40 ?_
    refine rw_icmpF f_X9_readLine_42 (decide_eq_false (nI_ge (b := 6) cf (by decide))) ?_
    refine rw_aload f_X9_readLine_45 rfl ?_
    skip
    refine rw_callV f_X9_readLine_46 rfl hW.1 hW.2.1 rfl rfl rfl rfl (rn_kv (m_readDeed hW ok kw en0 cf g1 (fun h3 X v e3 lx3 ps3 ok3 en3 => ?_) (fun h3 X e e3 lx3 ps3 er3 => ?_)))
    · refine rw_goto f_X9_readLine_49 ?_
      exact F h3 X v (pl.trans e3) lx3 ps3 ok3 en3
    · refine rw_goto f_X9_readLine_49 ?_
      exact E h3 X e (pl.trans e3) lx3 ps3 er3
  have cDEED := cv
  clear cv
  by_cases cv : isV T N p wBUTTON = true
  · have kw := h4 _ cv
    refine s0 (no _ _ cv (by decide) (by decide) (by decide) _) ?_
    refine s26 (no _ _ cv (by decide) (by decide) (by decide) _) ?_
    have cv2 := cv
    unfold isV at cv2
    rw [wc_2] at cv2
    by_cases cf : g.1.2.2.length < 10
    rotate_left
    · refine s52 (fun z => cf z.2) ?_
      refine s78 (no _ _ cv (by decide) (by decide) (by decide) _) ?_
      refine s104 (no _ _ cv (by decide) (by decide) (by decide) _) ?_
      refine s133 (no _ _ cv (by decide) (by decide) (by decide) _) ?_
      refine s172 (no _ _ cv (by decide) (by decide) (by decide) _) ?_
      refine s211 (no _ _ cv (by decide) (by decide) (by decide) _) ?_
      refine nE ?_
      unfold pLine
      rw [if_pos]
      unfold canL
      rw [if_neg cMAN]
      rw [if_neg cDEED]
      rw [if_pos cv]
      exact decide_eq_false cf
    have pl : pLine T N g p = pButton T N g (tkX T N p) := by
      unfold pLine
      rw [if_neg]
      · rw [if_neg cMAN]
        rw [if_neg cDEED]
        rw [if_pos cv]
      · unfold canL
        rw [if_neg cMAN]
        rw [if_neg cDEED]
        rw [if_pos cv]
        rw [decide_eq_true cf]; decide
    refine rw_aload f_X9_readLine_52 rfl ?_
    refine rw_const f_X9_readLine_53 ?_
    refine rw_callV f_X9_readLine_56 rfl hW.1 hW.2.1 rfl rfl rfl rfl (rn_ki (m_isWord hW ok ?_))
    rw [cv2]
    refine rw_ifF f_X9_readLine_59 (by decide) ?_
    refine rw_aload f_X9_readLine_62 rfl ?_
    refine rm_getI f_X9_readLine_63 hW ?_
    rw [n3]
    refine rw_const f_X9_readLine_66 ?_
    refine rw_icmpF f_X9_readLine_68 (decide_eq_false (nI_ge (b := 10) cf (by decide))) ?_
    refine rw_aload f_X9_readLine_71 rfl ?_
    skip
    refine rw_callV f_X9_readLine_72 rfl hW.1 hW.2.1 rfl rfl rfl rfl (rn_kv (m_readButton hW ok kw en0 cf g1 g2 (fun h3 X v e3 lx3 ps3 ok3 en3 => ?_) (fun h3 X e e3 lx3 ps3 er3 => ?_)))
    · refine rw_goto f_X9_readLine_75 ?_
      exact F h3 X v (pl.trans e3) lx3 ps3 ok3 en3
    · refine rw_goto f_X9_readLine_75 ?_
      exact E h3 X e (pl.trans e3) lx3 ps3 er3
  have cBUTTON := cv
  clear cv
  by_cases cv : isV T N p wFRIEND = true
  · have kw := h4 _ cv
    refine s0 (no _ _ cv (by decide) (by decide) (by decide) _) ?_
    refine s26 (no _ _ cv (by decide) (by decide) (by decide) _) ?_
    refine s52 (no _ _ cv (by decide) (by decide) (by decide) _) ?_
    have cv2 := cv
    unfold isV at cv2
    rw [wc_9] at cv2
    by_cases cf : g.2.1.2 < 15
    rotate_left
    · refine s78 (fun z => cf z.2) ?_
      refine s104 (no _ _ cv (by decide) (by decide) (by decide) _) ?_
      refine s133 (no _ _ cv (by decide) (by decide) (by decide) _) ?_
      refine s172 (no _ _ cv (by decide) (by decide) (by decide) _) ?_
      refine s211 (no _ _ cv (by decide) (by decide) (by decide) _) ?_
      refine nE ?_
      unfold pLine
      rw [if_pos]
      unfold canL
      rw [if_neg cMAN]
      rw [if_neg cDEED]
      rw [if_neg cBUTTON]
      rw [if_pos cv]
      exact decide_eq_false cf
    have pl : pLine T N g p = pFriend T N g (tkX T N p) := by
      unfold pLine
      rw [if_neg]
      · rw [if_neg cMAN]
        rw [if_neg cDEED]
        rw [if_neg cBUTTON]
        rw [if_pos cv]
      · unfold canL
        rw [if_neg cMAN]
        rw [if_neg cDEED]
        rw [if_neg cBUTTON]
        rw [if_pos cv]
        rw [decide_eq_true cf]; decide
    refine rw_aload f_X9_readLine_78 rfl ?_
    refine rw_const f_X9_readLine_79 ?_
    refine rw_callV f_X9_readLine_82 rfl hW.1 hW.2.1 rfl rfl rfl rfl (rn_ki (m_isWord hW ok ?_))
    rw [cv2]
    refine rw_ifF f_X9_readLine_85 (by decide) ?_
    refine rw_aload f_X9_readLine_88 rfl ?_
    refine rm_getI f_X9_readLine_89 hW ?_
    rw [n4]
    refine rw_const f_X9_readLine_92 ?_
    refine rw_icmpF f_X9_readLine_94 (decide_eq_false (nI_ge (b := 15) cf (by decide))) ?_
    refine rw_aload f_X9_readLine_97 rfl ?_
    skip
    refine rw_callV f_X9_readLine_98 rfl hW.1 hW.2.1 rfl rfl rfl rfl (rn_kv (m_readFriend hW ok kw en0 cf g1 (fun h3 X v e3 lx3 ps3 ok3 en3 => ?_) (fun h3 X e e3 lx3 ps3 er3 => ?_)))
    · refine rw_goto f_X9_readLine_101 ?_
      exact F h3 X v (pl.trans e3) lx3 ps3 ok3 en3
    · refine rw_goto f_X9_readLine_101 ?_
      exact E h3 X e (pl.trans e3) lx3 ps3 er3
  have cFRIEND := cv
  clear cv
  by_cases cv : isV T N p wWEAR = true
  · have kw := h4 _ cv
    refine s0 (no _ _ cv (by decide) (by decide) (by decide) _) ?_
    refine s26 (no _ _ cv (by decide) (by decide) (by decide) _) ?_
    refine s52 (no _ _ cv (by decide) (by decide) (by decide) _) ?_
    refine s78 (no _ _ cv (by decide) (by decide) (by decide) _) ?_
    have cv2 := cv
    unfold isV at cv2
    rw [wc_21] at cv2
    by_cases cf : g.2.2.1.1.isSome = false
    rotate_left
    · refine s104 (fun z => cf z.2) ?_
      refine s133 (no _ _ cv (by decide) (by decide) (by decide) _) ?_
      refine s172 (no _ _ cv (by decide) (by decide) (by decide) _) ?_
      refine s211 (no _ _ cv (by decide) (by decide) (by decide) _) ?_
      refine nE ?_
      unfold pLine
      rw [if_pos]
      unfold canL
      rw [if_neg cMAN]
      rw [if_neg cDEED]
      rw [if_neg cBUTTON]
      rw [if_neg cFRIEND]
      rw [if_pos cv]
      cases e : g.2.2.1.1 with
      | none => rw [e] at cf; exact absurd rfl cf
      | some v => rfl
    have pl : pLine T N g p = pWear T N g (tkX T N p) := by
      unfold pLine
      rw [if_neg]
      · rw [if_neg cMAN]
        rw [if_neg cDEED]
        rw [if_neg cBUTTON]
        rw [if_neg cFRIEND]
        rw [if_pos cv]
      · unfold canL
        rw [if_neg cMAN]
        rw [if_neg cDEED]
        rw [if_neg cBUTTON]
        rw [if_neg cFRIEND]
        rw [if_pos cv]
        cases e : g.2.2.1.1 with
        | none => exact fun z => by cases z
        | some v => rw [e] at cf; cases cf
    have gn : g.2.2.1.1 = none := by
      cases e : g.2.2.1.1 with
      | none => rfl
      | some v => rw [e] at cf; cases cf
    have gu : g.2.2.1.2 = 0 := by rw [gn] at gw; exact gw
    have ok2 : OK h m (am_up V 0 62 1) T N p := ok.up (by unfold fks tks; omega)
    have u2 : am_up V 0 62 1 0 20 = nI 0 := by rw [up_ne (by omega), n5, gu]
    have wf2 : Ps V (am_up V 0 62 1) := Ps.refl.up (by unfold psc; omega)
    refine rw_aload f_X9_readLine_104 rfl ?_
    refine rw_const f_X9_readLine_105 ?_
    refine rw_callV f_X9_readLine_108 rfl hW.1 hW.2.1 rfl rfl rfl rfl (rn_ki (m_isWord hW ok ?_))
    rw [cv2]
    refine rw_ifF f_X9_readLine_111 (by decide) ?_
    refine rw_aload f_X9_readLine_114 rfl ?_
    refine rm_getI f_X9_readLine_115 hW ?_
    rw [n9, cf]
    refine rw_ifF f_X9_readLine_118 (by decide) ?_
    refine rw_aload f_X9_readLine_121 rfl ?_
    refine rw_const f_X9_readLine_122 ?_
    refine rm_putZ f_X9_readLine_123 hW (by first | exact Or.inl rfl | exact Or.inr rfl | exact bI_01 _ | assumption) ?_
    refine rw_aload f_X9_readLine_126 rfl ?_
    skip
    refine rw_callV f_X9_readLine_127 rfl hW.1 hW.2.1 rfl rfl rfl rfl (rn_kv (m_readWear hW ok2 kw u2 (fun h3 X r e3 lw3 wf3 ok3 ns3 cs3 nu3 => ?_) (fun h3 X e e3 lw3 wf3 er3 => ?_)))
    · have enr : EN h3 m X (g.1, g.2.1, (some r.1, r.2.2), g.2.2.2) := EN_wear en0 (fun a j z z2 => by rw [wf3 a j (fun y => by unfold wsc at y; unfold enp at z; omega), up_ne (by omega)]) nu3 (by rw [wf3 _ _ (by unfold wsc; omega)]; exact up_same) ns3 cs3 lw3.nm
      refine rw_goto f_X9_readLine_130 ?_
      exact F h3 X ((g.1, g.2.1, (some r.1, r.2.2), g.2.2.2), r.2.1) (by rw [pl]; unfold pWear; rw [e3]; rfl) lw3.x (wf2.tr wf3.ps) ok3 enr
    · refine rw_goto f_X9_readLine_130 ?_
      exact E h3 X e (by rw [pl]; unfold pWear; rw [e3]; rfl) lw3.x (wf2.tr wf3.ps) er3
  have cWEAR := cv
  clear cv
  by_cases cv : isV T N p wDAY = true
  · have kw := h4 _ cv
    refine s0 (no _ _ cv (by decide) (by decide) (by decide) _) ?_
    refine s26 (no _ _ cv (by decide) (by decide) (by decide) _) ?_
    refine s52 (no _ _ cv (by decide) (by decide) (by decide) _) ?_
    refine s78 (no _ _ cv (by decide) (by decide) (by decide) _) ?_
    refine s104 (no _ _ cv (by decide) (by decide) (by decide) _) ?_
    have cv2 := cv
    unfold isV at cv2
    rw [wc_5] at cv2
    by_cases cf : g.2.2.2.1.isSome = false
    rotate_left
    · refine s133 (fun z => cf z.2) ?_
      refine s172 (no _ _ cv (by decide) (by decide) (by decide) _) ?_
      refine s211 (no _ _ cv (by decide) (by decide) (by decide) _) ?_
      refine nE ?_
      unfold pLine
      rw [if_pos]
      unfold canL
      rw [if_neg cMAN]
      rw [if_neg cDEED]
      rw [if_neg cBUTTON]
      rw [if_neg cFRIEND]
      rw [if_neg cWEAR]
      rw [if_pos cv]
      cases e : g.2.2.2.1 with
      | none => rw [e] at cf; exact absurd rfl cf
      | some v => rfl
    have pl : pLine T N g p = bnd (pNum T N 1 24 (tkX T N p)) (fun v => .inl ((g.1, g.2.1, g.2.2.1, (some v.1, g.2.2.2.2)), v.2)) := by
      unfold pLine
      rw [if_neg]
      · rw [if_neg cMAN]
        rw [if_neg cDEED]
        rw [if_neg cBUTTON]
        rw [if_neg cFRIEND]
        rw [if_neg cWEAR]
        rw [if_pos cv]
      · unfold canL
        rw [if_neg cMAN]
        rw [if_neg cDEED]
        rw [if_neg cBUTTON]
        rw [if_neg cFRIEND]
        rw [if_neg cWEAR]
        rw [if_pos cv]
        cases e : g.2.2.2.1 with
        | none => exact fun z => by cases z
        | some v => rw [e] at cf; cases cf
    have ok2 : OK h m (am_up V 0 63 1) T N p := ok.up (by unfold fks tks; omega)
    have wf2 : Ps V (am_up V 0 63 1) := Ps.refl.up (by unfold psc; omega)
    rw [← pAfter_V cv] at pl
    refine rw_aload f_X9_readLine_133 rfl ?_
    refine rw_const f_X9_readLine_134 ?_
    refine rw_callV f_X9_readLine_137 rfl hW.1 hW.2.1 rfl rfl rfl rfl (rn_ki (m_isWord hW ok ?_))
    rw [cv2]
    refine rw_ifF f_X9_readLine_140 (by decide) ?_
    refine rw_aload f_X9_readLine_143 rfl ?_
    refine rm_getI f_X9_readLine_144 hW ?_
    rw [n10, cf]
    refine rw_ifF f_X9_readLine_147 (by decide) ?_
    refine rw_aload f_X9_readLine_150 rfl ?_
    refine rw_const f_X9_readLine_151 ?_
    refine rm_putZ f_X9_readLine_152 hW (by first | exact Or.inl rfl | exact Or.inr rfl | exact bI_01 _ | assumption) ?_
    refine rw_aload f_X9_readLine_155 rfl ?_
    refine rw_aload f_X9_readLine_156 rfl ?_
    refine rw_const f_X9_readLine_157 ?_
    refine rw_const f_X9_readLine_160 ?_
    refine rw_const f_X9_readLine_161 ?_
    skip
    refine rw_callV f_X9_readLine_163 rfl hW.1 hW.2.1 rfl rfl rfl rfl (rn_ki (m_told hW ok2 (i := wDAY) (by decide +kernel) (fun h3 X v e3 lw3 tk3 ok3 => ?_) (fun h3 X y e e3 lw3 fk3 er3 => ?_)))
    · have hW := lw3.mw hW
      have xo : ∀ j, enp 0 j → ¬ j = 63 → ¬ j = 53 → am_up X 0 53 v.1 0 j = V 0 j := fun j z z1 z2 => by rw [up_ne (by omega), tk3.en _ _ z, up_ne (by omega)]
      have enr : EN h3 m (am_up X 0 53 v.1) (g.1, g.2.1, g.2.2.1, (some v.1, g.2.2.2.2)) := by
        refine EN_opt en0 (fun a j z z2 => by rw [up_ne (by omega), tk3.en _ _ z, up_ne (by omega)]) ⟨?_, ?_, ?_, ?_, ?_, ?_⟩ lw3.nm
        · exact up_same
        · rw [xo _ (by unfold enp; omega) (by omega) (by omega)]; exact n7
        · rw [xo _ (by unfold enp; omega) (by omega) (by omega)]; exact n8
        · rw [up_ne (by omega), tk3.en _ _ (by unfold enp; omega)]; exact up_same
        · rw [xo _ (by unfold enp; omega) (by omega) (by omega)]; exact n11
        · rw [xo _ (by unfold enp; omega) (by omega) (by omega)]; exact n12.1
      refine rm_putI f_X9_readLine_166 hW ?_
      refine rw_goto f_X9_readLine_169 ?_
      exact F h3 (am_up X 0 53 v.1) ((g.1, g.2.1, g.2.2.1, (some v.1, g.2.2.2.2)), v.2) (by rw [pl, e3]; rfl) lw3.x ((wf2.tr tk3.ps).up (by unfold psc; omega)) (ok3.up (by unfold fks tks; omega)) enr
    · have hW := lw3.mw hW
      refine rm_putI f_X9_readLine_166 hW ?_
      refine rw_goto f_X9_readLine_169 ?_
      exact E h3 (am_up X 0 53 y) e (by rw [pl, e3]; rfl) lw3.x ((wf2.tr fk3.ps).up (by unfold psc; omega)) (er3.up (by omega))
  have cDAY := cv
  clear cv
  by_cases cv : isV T N p wSTORM = true
  · have kw := h4 _ cv
    refine s0 (no _ _ cv (by decide) (by decide) (by decide) _) ?_
    refine s26 (no _ _ cv (by decide) (by decide) (by decide) _) ?_
    refine s52 (no _ _ cv (by decide) (by decide) (by decide) _) ?_
    refine s78 (no _ _ cv (by decide) (by decide) (by decide) _) ?_
    refine s104 (no _ _ cv (by decide) (by decide) (by decide) _) ?_
    refine s133 (no _ _ cv (by decide) (by decide) (by decide) _) ?_
    have cv2 := cv
    unfold isV at cv2
    rw [wc_18] at cv2
    by_cases cf : g.2.2.2.2.1.isSome = false
    rotate_left
    · refine s172 (fun z => cf z.2) ?_
      refine s211 (no _ _ cv (by decide) (by decide) (by decide) _) ?_
      refine nE ?_
      unfold pLine
      rw [if_pos]
      unfold canL
      rw [if_neg cMAN]
      rw [if_neg cDEED]
      rw [if_neg cBUTTON]
      rw [if_neg cFRIEND]
      rw [if_neg cWEAR]
      rw [if_neg cDAY]
      rw [if_pos cv]
      cases e : g.2.2.2.2.1 with
      | none => rw [e] at cf; exact absurd rfl cf
      | some v => rfl
    have pl : pLine T N g p = bnd (pNum T N 0 100 (tkX T N p)) (fun v => .inl ((g.1, g.2.1, g.2.2.1, (g.2.2.2.1, some v.1, g.2.2.2.2.2)), v.2)) := by
      unfold pLine
      rw [if_neg]
      · rw [if_neg cMAN]
        rw [if_neg cDEED]
        rw [if_neg cBUTTON]
        rw [if_neg cFRIEND]
        rw [if_neg cWEAR]
        rw [if_neg cDAY]
        rw [if_pos cv]
      · unfold canL
        rw [if_neg cMAN]
        rw [if_neg cDEED]
        rw [if_neg cBUTTON]
        rw [if_neg cFRIEND]
        rw [if_neg cWEAR]
        rw [if_neg cDAY]
        rw [if_pos cv]
        cases e : g.2.2.2.2.1 with
        | none => exact fun z => by cases z
        | some v => rw [e] at cf; cases cf
    have ok2 : OK h m (am_up V 0 64 1) T N p := ok.up (by unfold fks tks; omega)
    have wf2 : Ps V (am_up V 0 64 1) := Ps.refl.up (by unfold psc; omega)
    rw [← pAfter_V cv] at pl
    refine rw_aload f_X9_readLine_172 rfl ?_
    refine rw_const f_X9_readLine_173 ?_
    refine rw_callV f_X9_readLine_176 rfl hW.1 hW.2.1 rfl rfl rfl rfl (rn_ki (m_isWord hW ok ?_))
    rw [cv2]
    refine rw_ifF f_X9_readLine_179 (by decide) ?_
    refine rw_aload f_X9_readLine_182 rfl ?_
    refine rm_getI f_X9_readLine_183 hW ?_
    rw [n11, cf]
    refine rw_ifF f_X9_readLine_186 (by decide) ?_
    refine rw_aload f_X9_readLine_189 rfl ?_
    refine rw_const f_X9_readLine_190 ?_
    refine rm_putZ f_X9_readLine_191 hW (by first | exact Or.inl rfl | exact Or.inr rfl | exact bI_01 _ | assumption) ?_
    refine rw_aload f_X9_readLine_194 rfl ?_
    refine rw_aload f_X9_readLine_195 rfl ?_
    refine rw_const f_X9_readLine_196 ?_
    refine rw_const f_X9_readLine_199 ?_
    refine rw_const f_X9_readLine_200 ?_
    skip
    refine rw_callV f_X9_readLine_202 rfl hW.1 hW.2.1 rfl rfl rfl rfl (rn_ki (m_told hW ok2 (i := wSTORM) (by decide +kernel) (fun h3 X v e3 lw3 tk3 ok3 => ?_) (fun h3 X y e e3 lw3 fk3 er3 => ?_)))
    · have hW := lw3.mw hW
      have xo : ∀ j, enp 0 j → ¬ j = 64 → ¬ j = 54 → am_up X 0 54 v.1 0 j = V 0 j := fun j z z1 z2 => by rw [up_ne (by omega), tk3.en _ _ z, up_ne (by omega)]
      have enr : EN h3 m (am_up X 0 54 v.1) (g.1, g.2.1, g.2.2.1, (g.2.2.2.1, some v.1, g.2.2.2.2.2)) := by
        refine EN_opt en0 (fun a j z z2 => by rw [up_ne (by omega), tk3.en _ _ z, up_ne (by omega)]) ⟨?_, ?_, ?_, ?_, ?_, ?_⟩ lw3.nm
        · rw [xo _ (by unfold enp; omega) (by omega) (by omega)]; exact n6
        · exact up_same
        · rw [xo _ (by unfold enp; omega) (by omega) (by omega)]; exact n8
        · rw [xo _ (by unfold enp; omega) (by omega) (by omega)]; exact n10
        · rw [up_ne (by omega), tk3.en _ _ (by unfold enp; omega)]; exact up_same
        · rw [xo _ (by unfold enp; omega) (by omega) (by omega)]; exact n12.1
      refine rm_putI f_X9_readLine_205 hW ?_
      refine rw_goto f_X9_readLine_208 ?_
      exact F h3 (am_up X 0 54 v.1) ((g.1, g.2.1, g.2.2.1, (g.2.2.2.1, some v.1, g.2.2.2.2.2)), v.2) (by rw [pl, e3]; rfl) lw3.x ((wf2.tr tk3.ps).up (by unfold psc; omega)) (ok3.up (by unfold fks tks; omega)) enr
    · have hW := lw3.mw hW
      refine rm_putI f_X9_readLine_205 hW ?_
      refine rw_goto f_X9_readLine_208 ?_
      exact E h3 (am_up X 0 54 y) e (by rw [pl, e3]; rfl) lw3.x ((wf2.tr fk3.ps).up (by unfold psc; omega)) (er3.up (by omega))
  have cSTORM := cv
  clear cv
  by_cases cv : isV T N p wDRAW = true
  · have kw := h4 _ cv
    refine s0 (no _ _ cv (by decide) (by decide) (by decide) _) ?_
    refine s26 (no _ _ cv (by decide) (by decide) (by decide) _) ?_
    refine s52 (no _ _ cv (by decide) (by decide) (by decide) _) ?_
    refine s78 (no _ _ cv (by decide) (by decide) (by decide) _) ?_
    refine s104 (no _ _ cv (by decide) (by decide) (by decide) _) ?_
    refine s133 (no _ _ cv (by decide) (by decide) (by decide) _) ?_
    refine s172 (no _ _ cv (by decide) (by decide) (by decide) _) ?_
    have cv2 := cv
    unfold isV at cv2
    rw [wc_8] at cv2
    by_cases cf : g.2.2.2.2.2.isSome = false
    rotate_left
    · refine s211 (fun z => cf z.2) ?_
      refine nE ?_
      unfold pLine
      rw [if_pos]
      unfold canL
      rw [if_neg cMAN]
      rw [if_neg cDEED]
      rw [if_neg cBUTTON]
      rw [if_neg cFRIEND]
      rw [if_neg cWEAR]
      rw [if_neg cDAY]
      rw [if_neg cSTORM]
      rw [cv, Bool.true_and]
      cases e : g.2.2.2.2.2 with
      | none => rw [e] at cf; exact absurd rfl cf
      | some v => rfl
    have pl : pLine T N g p = bnd (pNum T N 0 999 (tkX T N p)) (fun v => .inl ((g.1, g.2.1, g.2.2.1, (g.2.2.2.1, g.2.2.2.2.1, some v.1)), v.2)) := by
      unfold pLine
      rw [if_neg]
      · rw [if_neg cMAN]
        rw [if_neg cDEED]
        rw [if_neg cBUTTON]
        rw [if_neg cFRIEND]
        rw [if_neg cWEAR]
        rw [if_neg cDAY]
        rw [if_neg cSTORM]
      · unfold canL
        rw [if_neg cMAN]
        rw [if_neg cDEED]
        rw [if_neg cBUTTON]
        rw [if_neg cFRIEND]
        rw [if_neg cWEAR]
        rw [if_neg cDAY]
        rw [if_neg cSTORM]
        rw [cv, Bool.true_and]
        cases e : g.2.2.2.2.2 with
        | none => exact fun z => by cases z
        | some v => rw [e] at cf; cases cf
    have ok2 : OK h m (am_up V 0 65 1) T N p := ok.up (by unfold fks tks; omega)
    have wf2 : Ps V (am_up V 0 65 1) := Ps.refl.up (by unfold psc; omega)
    rw [← pAfter_V cv] at pl
    refine rw_aload f_X9_readLine_211 rfl ?_
    refine rw_const f_X9_readLine_212 ?_
    refine rw_callV f_X9_readLine_215 rfl hW.1 hW.2.1 rfl rfl rfl rfl (rn_ki (m_isWord hW ok ?_))
    rw [cv2]
    refine rw_ifF f_X9_readLine_218 (by decide) ?_
    refine rw_aload f_X9_readLine_221 rfl ?_
    refine rm_getI f_X9_readLine_222 hW ?_
    rw [n12.1, cf]
    refine rw_ifF f_X9_readLine_225 (by decide) ?_
    refine rw_aload f_X9_readLine_228 rfl ?_
    refine rw_const f_X9_readLine_229 ?_
    refine rm_putZ f_X9_readLine_230 hW (by first | exact Or.inl rfl | exact Or.inr rfl | exact bI_01 _ | assumption) ?_
    refine rw_aload f_X9_readLine_233 rfl ?_
    refine rw_aload f_X9_readLine_234 rfl ?_
    refine rw_const f_X9_readLine_235 ?_
    refine rw_const f_X9_readLine_238 ?_
    refine rw_const f_X9_readLine_239 ?_
    skip
    refine rw_callV f_X9_readLine_242 rfl hW.1 hW.2.1 rfl rfl rfl rfl (rn_ki (m_told hW ok2 (i := wDRAW) (by decide +kernel) (fun h3 X v e3 lw3 tk3 ok3 => ?_) (fun h3 X y e e3 lw3 fk3 er3 => ?_)))
    · have hW := lw3.mw hW
      have xo : ∀ j, enp 0 j → ¬ j = 65 → ¬ j = 55 → am_up X 0 55 v.1 0 j = V 0 j := fun j z z1 z2 => by rw [up_ne (by omega), tk3.en _ _ z, up_ne (by omega)]
      have enr : EN h3 m (am_up X 0 55 v.1) (g.1, g.2.1, g.2.2.1, (g.2.2.2.1, g.2.2.2.2.1, some v.1)) := by
        refine EN_opt en0 (fun a j z z2 => by rw [up_ne (by omega), tk3.en _ _ z, up_ne (by omega)]) ⟨?_, ?_, ?_, ?_, ?_, ?_⟩ lw3.nm
        · rw [xo _ (by unfold enp; omega) (by omega) (by omega)]; exact n6
        · rw [xo _ (by unfold enp; omega) (by omega) (by omega)]; exact n7
        · exact up_same
        · rw [xo _ (by unfold enp; omega) (by omega) (by omega)]; exact n10
        · rw [xo _ (by unfold enp; omega) (by omega) (by omega)]; exact n11
        · rw [up_ne (by omega), tk3.en _ _ (by unfold enp; omega)]; exact up_same
      refine rm_putI f_X9_readLine_245 hW ?_
      refine rw_goto f_X9_readLine_248 ?_
      exact F h3 (am_up X 0 55 v.1) ((g.1, g.2.1, g.2.2.1, (g.2.2.2.1, g.2.2.2.2.1, some v.1)), v.2) (by rw [pl, e3]; rfl) lw3.x ((wf2.tr tk3.ps).up (by unfold psc; omega)) (ok3.up (by unfold fks tks; omega)) enr
    · have hW := lw3.mw hW
      refine rm_putI f_X9_readLine_245 hW ?_
      refine rw_goto f_X9_readLine_248 ?_
      exact E h3 (am_up X 0 55 y) e (by rw [pl, e3]; rfl) lw3.x ((wf2.tr fk3.ps).up (by unfold psc; omega)) (er3.up (by omega))
  have cDRAW := cv
  clear cv
  refine s0 (fun z => cMAN z.1) ?_
  refine s26 (fun z => cDEED z.1) ?_
  refine s52 (fun z => cBUTTON z.1) ?_
  refine s78 (fun z => cFRIEND z.1) ?_
  refine s104 (fun z => cWEAR z.1) ?_
  refine s133 (fun z => cDAY z.1) ?_
  refine s172 (fun z => cSTORM z.1) ?_
  refine s211 (fun z => cDRAW z.1) ?_
  refine nE ?_
  unfold pLine
  rw [if_pos]
  unfold canL
  rw [if_neg cMAN]
  rw [if_neg cDEED]
  rw [if_neg cBUTTON]
  rw [if_neg cFRIEND]
  rw [if_neg cWEAR]
  rw [if_neg cDAY]
  rw [if_neg cSTORM]
  rw [Bool.eq_false_iff.mpr cDRAW, Bool.false_and]
end MLine
