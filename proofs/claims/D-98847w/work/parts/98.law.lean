/-! THE LAW (written by tools/gen_law.py) -/
section Law
variable {h : am_H} {x b L N U p : Nat} {S : Nat → Int32} {K : am_R → am_H → Prop}
theorem lw_arg {pc1 pc2 pc3 pc4 pc5 pc6 d j : Nat} {c : Int32} {X M : am_V} {st : List am_V} (f1 : am_fetch n_L_law pc1 = some (in_aload 0 pc2)) (f2 : am_fetch n_L_law pc2 = some (in_iload 3 pc3)) (f3 : am_fetch n_L_law pc3 = some (in_const (am_i c) pc4)) (f4 : am_fetch n_L_law pc4 = some (in_bin f_add pc5)) (f5 : am_fetch n_L_law pc5 = some (in_xald [1, 11] pc6)) (hc : c = nI j) (hk : hp_K h b = (11, L)) (hS : hp_I h b = S) (hj : p + j < L) (hL : L ≤ 384) (k : Rn d n_L_law pc6 [am_r b, X, M, am_i (nI p)] (am_i (S (p + j)) :: st) h K) : Rn d n_L_law pc1 [am_r b, X, M, am_i (nI p)] st h K := by
  subst hc
  refine rw_aload f1 rfl ?_
  refine rw_iload f2 rfl ?_
  refine rw_const f3 ?_
  refine rw_iadd f4 ?_
  refine rw_xaldE (j := p + j) f5 hk (nI_addl p j) hj (by omega) ?_
  rw [hS]
  exact k
theorem lw_cmp (hL : L ≤ 384) (hp : p ≤ 384) : nI L - 6 < nI p ↔ L < p + 6 := by
  by_cases c : 6 ≤ L
  · have e : nI L - 6 = nI (L - 6) := by
      have : nI L = nI (L - 6) + 6 := by rw [show (6 : Int32) = nI 6 from rfl, nI_addl]; congr 1; omega
      rw [this, Int32.add_sub_cancel]
    rw [e, nI_ltI (by omega) (by omega)]
    omega
  · refine ⟨fun _ => by omega, fun _ => ?_⟩
    have nn : (0 : Int32) ≤ nI p := nI_nn (by omega)
    have ng : nI L - 6 < 0 := by
      rcases (by omega : L = 0 ∨ L = 1 ∨ L = 2 ∨ L = 3 ∨ L = 4 ∨ L = 5) with e | e | e | e | e | e <;> (rw [e]; decide)
    exact Int32.lt_of_lt_of_le ng nn
theorem SWd_Init (q : Init h b L) : SWd h := by
  obtain ⟨-, -, ⟨e2, a1, a2, -, -, a3⟩, ⟨e3, b1, b2, -, -, b3⟩, st, -⟩ := q
  refine ⟨fun i hi => ?_, ⟨by rw [a1]; exact a2, fun j hj => by rw [a1]; exact a3 j hj⟩, by rw [b1]; exact b2, fun j hj => by rw [b1]; exact b3 j hj⟩
  obtain ⟨c1, v, c2, c3, -, c4, c5⟩ := st i hi
  rw [c2]
  exact ⟨c1, c3, c4, c5⟩
theorem EM_Init (q : Init h b L) : EM h := by
  obtain ⟨-, ⟨e, a1, a2, -⟩, -⟩ := q
  unfold EM
  rw [a1]; exact a2
theorem lw_0 (w : WL b L S x N U h) (hL : L ≤ 384) (hp : p + 6 ≤ L) {Q : Int32 → am_H → Prop} (next : ∀ h2, WL b L S x (N + 4813) (U + 96200) h2 → Rn 1200 n_L_law 1241 [am_r b, am_r x, am_r (x + 33), am_i (nI p)] [] h2 (kI Q)) : Rn 1200 n_L_law 200 [am_r b, am_r x, am_r (x + 33), am_i (nI p)] [] h (kI Q) := by
  obtain ⟨⟨r, nM, nD, nB, nA, nU, nT, nL, hC⟩, hW, -, -, ⟨k0, i0⟩, -⟩ := id w
  have x0 := CR_x0 hC
  have m0 : ¬ x + 33 = 0 := by omega
  refine rw_aload f_L_law_200 rfl ?_
  refine lw_arg (j := 1) f_L_law_201 f_L_law_202 f_L_law_203 f_L_law_204 f_L_law_205 rfl k0 i0 (by omega) hL ?_
  refine lw_arg (j := 2) f_L_law_206 f_L_law_207 f_L_law_208 f_L_law_209 f_L_law_210 rfl k0 i0 (by omega) hL ?_
  refine lw_arg (j := 3) f_L_law_211 f_L_law_212 f_L_law_213 f_L_law_214 f_L_law_215 rfl k0 i0 (by omega) hL ?_
  refine lw_arg (j := 4) f_L_law_216 f_L_law_217 f_L_law_218 f_L_law_219 f_L_law_220 rfl k0 i0 (by omega) hL ?_
  refine lw_arg (j := 5) f_L_law_221 f_L_law_222 f_L_law_223 f_L_law_224 f_L_law_225 rfl k0 i0 (by omega) hL ?_
  refine rw_callV (a := x) f_L_law_226 rfl hC.1.k0 x0 rfl rfl rfl rfl (rn_ki (P_feed w (fun v h1 mc km k1 i1 => ?_)))
  refine rw_aload f_L_law_229 rfl ?_
  refine lw_arg (j := 1) f_L_law_230 f_L_law_231 f_L_law_232 f_L_law_233 f_L_law_234 rfl k1 i1 (by omega) hL ?_
  refine lw_arg (j := 2) f_L_law_235 f_L_law_236 f_L_law_237 f_L_law_238 f_L_law_239 rfl k1 i1 (by omega) hL ?_
  refine lw_arg (j := 3) f_L_law_240 f_L_law_241 f_L_law_242 f_L_law_243 f_L_law_244 rfl k1 i1 (by omega) hL ?_
  refine lw_arg (j := 4) f_L_law_245 f_L_law_246 f_L_law_247 f_L_law_248 f_L_law_249 rfl k1 i1 (by omega) hL ?_
  refine lw_arg (j := 5) f_L_law_250 f_L_law_251 f_L_law_252 f_L_law_253 f_L_law_254 rfl k1 i1 (by omega) hL ?_
  refine rw_callV (a := x + 33) f_L_law_255 rfl km m0 rfl rfl rfl rfl (rn_ki (mc _ (fun h2 w2 => ?_)))
  exact rw_icmpT f_L_law_258 (decide_eq_true rfl) (next h2 w2)
theorem lw_1 (w : WL b L S x N U h) (hL : L ≤ 384) (hp : p + 6 ≤ L) {Q : Int32 → am_H → Prop} (next : ∀ h2, WL b L S x (N + 4813) (U + 96200) h2 → Rn 1200 n_L_law 1241 [am_r b, am_r x, am_r (x + 33), am_i (nI p)] [] h2 (kI Q)) : Rn 1200 n_L_law 263 [am_r b, am_r x, am_r (x + 33), am_i (nI p)] [] h (kI Q) := by
  obtain ⟨⟨r, nM, nD, nB, nA, nU, nT, nL, hC⟩, hW, -, -, ⟨k0, i0⟩, -⟩ := id w
  have x0 := CR_x0 hC
  have m0 : ¬ x + 33 = 0 := by omega
  refine rw_aload f_L_law_263 rfl ?_
  refine lw_arg (j := 1) f_L_law_264 f_L_law_265 f_L_law_266 f_L_law_267 f_L_law_268 rfl k0 i0 (by omega) hL ?_
  refine rw_callV (a := x) f_L_law_269 rfl hC.1.k0 x0 rfl rfl rfl rfl (rn_ki (P_end w (fun v h1 mc km k1 i1 => ?_)))
  refine rw_aload f_L_law_272 rfl ?_
  refine lw_arg (j := 1) f_L_law_273 f_L_law_274 f_L_law_275 f_L_law_276 f_L_law_277 rfl k1 i1 (by omega) hL ?_
  refine rw_callV (a := x + 33) f_L_law_278 rfl km m0 rfl rfl rfl rfl (rn_ki (mc _ (fun h2 w2 => ?_)))
  exact rw_icmpT f_L_law_281 (decide_eq_true rfl) (next h2 w2)
theorem lw_2 (w : WL b L S x N U h) (hL : L ≤ 384) (hp : p + 6 ≤ L) {Q : Int32 → am_H → Prop} (next : ∀ h2, WL b L S x (N + 4813) (U + 96200) h2 → Rn 1200 n_L_law 1241 [am_r b, am_r x, am_r (x + 33), am_i (nI p)] [] h2 (kI Q)) : Rn 1200 n_L_law 286 [am_r b, am_r x, am_r (x + 33), am_i (nI p)] [] h (kI Q) := by
  obtain ⟨⟨r, nM, nD, nB, nA, nU, nT, nL, hC⟩, hW, -, -, ⟨k0, i0⟩, -⟩ := id w
  have x0 := CR_x0 hC
  have m0 : ¬ x + 33 = 0 := by omega
  refine rw_aload f_L_law_286 rfl ?_
  refine rw_callV (a := x) f_L_law_287 rfl hC.1.k0 x0 rfl rfl rfl rfl (rn_ki (P_regiment w (fun v h1 mc km k1 i1 => ?_)))
  refine rw_aload f_L_law_290 rfl ?_
  refine rw_callV (a := x + 33) f_L_law_291 rfl km m0 rfl rfl rfl rfl (rn_ki (mc _ (fun h2 w2 => ?_)))
  exact rw_icmpT f_L_law_294 (decide_eq_true rfl) (next h2 w2)
theorem lw_3 (w : WL b L S x N U h) (hL : L ≤ 384) (hp : p + 6 ≤ L) {Q : Int32 → am_H → Prop} (next : ∀ h2, WL b L S x (N + 4813) (U + 96200) h2 → Rn 1200 n_L_law 1241 [am_r b, am_r x, am_r (x + 33), am_i (nI p)] [] h2 (kI Q)) : Rn 1200 n_L_law 299 [am_r b, am_r x, am_r (x + 33), am_i (nI p)] [] h (kI Q) := by
  obtain ⟨⟨r, nM, nD, nB, nA, nU, nT, nL, hC⟩, hW, -, -, ⟨k0, i0⟩, -⟩ := id w
  have x0 := CR_x0 hC
  have m0 : ¬ x + 33 = 0 := by omega
  refine rw_aload f_L_law_299 rfl ?_
  refine lw_arg (j := 1) f_L_law_300 f_L_law_301 f_L_law_302 f_L_law_303 f_L_law_304 rfl k0 i0 (by omega) hL ?_
  refine rw_callV (a := x) f_L_law_305 rfl hC.1.k0 x0 rfl rfl rfl rfl (rn_ki (P_fault w (fun v h1 mc km k1 i1 => ?_)))
  refine rw_aload f_L_law_308 rfl ?_
  refine lw_arg (j := 1) f_L_law_309 f_L_law_310 f_L_law_311 f_L_law_312 f_L_law_313 rfl k1 i1 (by omega) hL ?_
  refine rw_callV (a := x + 33) f_L_law_314 rfl km m0 rfl rfl rfl rfl (rn_ki (mc _ (fun h2 w2 => ?_)))
  exact rw_icmpT f_L_law_317 (decide_eq_true rfl) (next h2 w2)
theorem lw_4 (w : WL b L S x N U h) (hL : L ≤ 384) (hp : p + 6 ≤ L) {Q : Int32 → am_H → Prop} (next : ∀ h2, WL b L S x (N + 4813) (U + 96200) h2 → Rn 1200 n_L_law 1241 [am_r b, am_r x, am_r (x + 33), am_i (nI p)] [] h2 (kI Q)) : Rn 1200 n_L_law 322 [am_r b, am_r x, am_r (x + 33), am_i (nI p)] [] h (kI Q) := by
  obtain ⟨⟨r, nM, nD, nB, nA, nU, nT, nL, hC⟩, hW, -, -, ⟨k0, i0⟩, -⟩ := id w
  have x0 := CR_x0 hC
  have m0 : ¬ x + 33 = 0 := by omega
  refine rw_aload f_L_law_322 rfl ?_
  refine lw_arg (j := 1) f_L_law_323 f_L_law_324 f_L_law_325 f_L_law_326 f_L_law_327 rfl k0 i0 (by omega) hL ?_
  refine lw_arg (j := 2) f_L_law_328 f_L_law_329 f_L_law_330 f_L_law_331 f_L_law_332 rfl k0 i0 (by omega) hL ?_
  refine rw_callV (a := x) f_L_law_333 rfl hC.1.k0 x0 rfl rfl rfl rfl (rn_ki (P_button w (fun v h1 mc km k1 i1 => ?_)))
  refine rw_aload f_L_law_336 rfl ?_
  refine lw_arg (j := 1) f_L_law_337 f_L_law_338 f_L_law_339 f_L_law_340 f_L_law_341 rfl k1 i1 (by omega) hL ?_
  refine lw_arg (j := 2) f_L_law_342 f_L_law_343 f_L_law_344 f_L_law_345 f_L_law_346 rfl k1 i1 (by omega) hL ?_
  refine rw_callV (a := x + 33) f_L_law_347 rfl km m0 rfl rfl rfl rfl (rn_ki (mc _ (fun h2 w2 => ?_)))
  exact rw_icmpT f_L_law_350 (decide_eq_true rfl) (next h2 w2)
theorem lw_5 (w : WL b L S x N U h) (hL : L ≤ 384) (hp : p + 6 ≤ L) {Q : Int32 → am_H → Prop} (next : ∀ h2, WL b L S x (N + 4813) (U + 96200) h2 → Rn 1200 n_L_law 1241 [am_r b, am_r x, am_r (x + 33), am_i (nI p)] [] h2 (kI Q)) : Rn 1200 n_L_law 355 [am_r b, am_r x, am_r (x + 33), am_i (nI p)] [] h (kI Q) := by
  obtain ⟨⟨r, nM, nD, nB, nA, nU, nT, nL, hC⟩, hW, -, -, ⟨k0, i0⟩, -⟩ := id w
  have x0 := CR_x0 hC
  have m0 : ¬ x + 33 = 0 := by omega
  refine rw_aload f_L_law_355 rfl ?_
  refine lw_arg (j := 1) f_L_law_356 f_L_law_357 f_L_law_358 f_L_law_359 f_L_law_360 rfl k0 i0 (by omega) hL ?_
  refine lw_arg (j := 2) f_L_law_361 f_L_law_362 f_L_law_363 f_L_law_364 f_L_law_365 rfl k0 i0 (by omega) hL ?_
  refine rw_callV (a := x) f_L_law_366 rfl hC.1.k0 x0 rfl rfl rfl rfl (rn_ki (P_coat w (fun v h1 mc km k1 i1 => ?_)))
  refine rw_aload f_L_law_369 rfl ?_
  refine lw_arg (j := 1) f_L_law_370 f_L_law_371 f_L_law_372 f_L_law_373 f_L_law_374 rfl k1 i1 (by omega) hL ?_
  refine lw_arg (j := 2) f_L_law_375 f_L_law_376 f_L_law_377 f_L_law_378 f_L_law_379 rfl k1 i1 (by omega) hL ?_
  refine rw_callV (a := x + 33) f_L_law_380 rfl km m0 rfl rfl rfl rfl (rn_ki (mc _ (fun h2 w2 => ?_)))
  exact rw_icmpT f_L_law_383 (decide_eq_true rfl) (next h2 w2)
theorem lw_6 (w : WL b L S x N U h) (hL : L ≤ 384) (hp : p + 6 ≤ L) {Q : Int32 → am_H → Prop} (next : ∀ h2, WL b L S x (N + 4813) (U + 96200) h2 → Rn 1200 n_L_law 1241 [am_r b, am_r x, am_r (x + 33), am_i (nI p)] [] h2 (kI Q)) : Rn 1200 n_L_law 388 [am_r b, am_r x, am_r (x + 33), am_i (nI p)] [] h (kI Q) := by
  obtain ⟨⟨r, nM, nD, nB, nA, nU, nT, nL, hC⟩, hW, -, -, ⟨k0, i0⟩, -⟩ := id w
  have x0 := CR_x0 hC
  have m0 : ¬ x + 33 = 0 := by omega
  refine rw_aload f_L_law_388 rfl ?_
  refine rw_callV (a := x) f_L_law_389 rfl hC.1.k0 x0 rfl rfl rfl rfl (rn_ki (P_free w (fun v h1 mc km k1 i1 => ?_)))
  refine rw_aload f_L_law_392 rfl ?_
  refine rw_callV (a := x + 33) f_L_law_393 rfl km m0 rfl rfl rfl rfl (rn_ki (mc _ (fun h2 w2 => ?_)))
  exact rw_icmpT f_L_law_396 (decide_eq_true rfl) (next h2 w2)
theorem lw_7 (w : WL b L S x N U h) (hL : L ≤ 384) (hp : p + 6 ≤ L) {Q : Int32 → am_H → Prop} (next : ∀ h2, WL b L S x (N + 4813) (U + 96200) h2 → Rn 1200 n_L_law 1241 [am_r b, am_r x, am_r (x + 33), am_i (nI p)] [] h2 (kI Q)) : Rn 1200 n_L_law 401 [am_r b, am_r x, am_r (x + 33), am_i (nI p)] [] h (kI Q) := by
  obtain ⟨⟨r, nM, nD, nB, nA, nU, nT, nL, hC⟩, hW, -, -, ⟨k0, i0⟩, -⟩ := id w
  have x0 := CR_x0 hC
  have m0 : ¬ x + 33 = 0 := by omega
  refine rw_aload f_L_law_401 rfl ?_
  refine lw_arg (j := 1) f_L_law_402 f_L_law_403 f_L_law_404 f_L_law_405 f_L_law_406 rfl k0 i0 (by omega) hL ?_
  refine lw_arg (j := 2) f_L_law_407 f_L_law_408 f_L_law_409 f_L_law_410 f_L_law_411 rfl k0 i0 (by omega) hL ?_
  refine rw_callV (a := x) f_L_law_412 rfl hC.1.k0 x0 rfl rfl rfl rfl (rn_ki (P_sworn w (fun v h1 mc km k1 i1 => ?_)))
  refine rw_aload f_L_law_415 rfl ?_
  refine lw_arg (j := 1) f_L_law_416 f_L_law_417 f_L_law_418 f_L_law_419 f_L_law_420 rfl k1 i1 (by omega) hL ?_
  refine lw_arg (j := 2) f_L_law_421 f_L_law_422 f_L_law_423 f_L_law_424 f_L_law_425 rfl k1 i1 (by omega) hL ?_
  refine rw_callV (a := x + 33) f_L_law_426 rfl km m0 rfl rfl rfl rfl (rn_ki (mc _ (fun h2 w2 => ?_)))
  exact rw_icmpT f_L_law_429 (decide_eq_true rfl) (next h2 w2)
theorem lw_8 (w : WL b L S x N U h) (hL : L ≤ 384) (hp : p + 6 ≤ L) {Q : Int32 → am_H → Prop} (next : ∀ h2, WL b L S x (N + 4813) (U + 96200) h2 → Rn 1200 n_L_law 1241 [am_r b, am_r x, am_r (x + 33), am_i (nI p)] [] h2 (kI Q)) : Rn 1200 n_L_law 434 [am_r b, am_r x, am_r (x + 33), am_i (nI p)] [] h (kI Q) := by
  obtain ⟨⟨r, nM, nD, nB, nA, nU, nT, nL, hC⟩, hW, -, -, ⟨k0, i0⟩, -⟩ := id w
  have x0 := CR_x0 hC
  have m0 : ¬ x + 33 = 0 := by omega
  refine rw_aload f_L_law_434 rfl ?_
  refine lw_arg (j := 1) f_L_law_435 f_L_law_436 f_L_law_437 f_L_law_438 f_L_law_439 rfl k0 i0 (by omega) hL ?_
  refine rw_callV (a := x) f_L_law_440 rfl hC.1.k0 x0 rfl rfl rfl rfl (rn_ki (P_many w (fun v h1 mc km k1 i1 => ?_)))
  refine rw_aload f_L_law_443 rfl ?_
  refine lw_arg (j := 1) f_L_law_444 f_L_law_445 f_L_law_446 f_L_law_447 f_L_law_448 rfl k1 i1 (by omega) hL ?_
  refine rw_callV (a := x + 33) f_L_law_449 rfl km m0 rfl rfl rfl rfl (rn_ki (mc _ (fun h2 w2 => ?_)))
  exact rw_icmpT f_L_law_452 (decide_eq_true rfl) (next h2 w2)
theorem lw_9 (w : WL b L S x N U h) (hL : L ≤ 384) (hp : p + 6 ≤ L) {Q : Int32 → am_H → Prop} (next : ∀ h2, WL b L S x (N + 4813) (U + 96200) h2 → Rn 1200 n_L_law 1241 [am_r b, am_r x, am_r (x + 33), am_i (nI p)] [] h2 (kI Q)) : Rn 1200 n_L_law 457 [am_r b, am_r x, am_r (x + 33), am_i (nI p)] [] h (kI Q) := by
  obtain ⟨⟨r, nM, nD, nB, nA, nU, nT, nL, hC⟩, hW, -, -, ⟨k0, i0⟩, -⟩ := id w
  have x0 := CR_x0 hC
  have m0 : ¬ x + 33 = 0 := by omega
  refine rw_aload f_L_law_457 rfl ?_
  refine lw_arg (j := 1) f_L_law_458 f_L_law_459 f_L_law_460 f_L_law_461 f_L_law_462 rfl k0 i0 (by omega) hL ?_
  refine lw_arg (j := 2) f_L_law_463 f_L_law_464 f_L_law_465 f_L_law_466 f_L_law_467 rfl k0 i0 (by omega) hL ?_
  refine rw_callV (a := x) f_L_law_468 rfl hC.1.k0 x0 rfl rfl rfl rfl (rn_ki (P_does w (fun v h1 mc km k1 i1 => ?_)))
  refine rw_aload f_L_law_471 rfl ?_
  refine lw_arg (j := 1) f_L_law_472 f_L_law_473 f_L_law_474 f_L_law_475 f_L_law_476 rfl k1 i1 (by omega) hL ?_
  refine lw_arg (j := 2) f_L_law_477 f_L_law_478 f_L_law_479 f_L_law_480 f_L_law_481 rfl k1 i1 (by omega) hL ?_
  refine rw_callV (a := x + 33) f_L_law_482 rfl km m0 rfl rfl rfl rfl (rn_ki (mc _ (fun h2 w2 => ?_)))
  exact rw_icmpT f_L_law_485 (decide_eq_true rfl) (next h2 w2)
theorem lw_10 (w : WL b L S x N U h) (hL : L ≤ 384) (hp : p + 6 ≤ L) {Q : Int32 → am_H → Prop} (next : ∀ h2, WL b L S x (N + 4813) (U + 96200) h2 → Rn 1200 n_L_law 1241 [am_r b, am_r x, am_r (x + 33), am_i (nI p)] [] h2 (kI Q)) : Rn 1200 n_L_law 490 [am_r b, am_r x, am_r (x + 33), am_i (nI p)] [] h (kI Q) := by
  obtain ⟨⟨r, nM, nD, nB, nA, nU, nT, nL, hC⟩, hW, -, -, ⟨k0, i0⟩, -⟩ := id w
  have x0 := CR_x0 hC
  have m0 : ¬ x + 33 = 0 := by omega
  refine rw_aload f_L_law_490 rfl ?_
  refine lw_arg (j := 1) f_L_law_491 f_L_law_492 f_L_law_493 f_L_law_494 f_L_law_495 rfl k0 i0 (by omega) hL ?_
  refine rw_callV (a := x) f_L_law_496 rfl hC.1.k0 x0 rfl rfl rfl rfl (rn_ki (P_undoes w (fun v h1 mc km k1 i1 => ?_)))
  refine rw_aload f_L_law_499 rfl ?_
  refine lw_arg (j := 1) f_L_law_500 f_L_law_501 f_L_law_502 f_L_law_503 f_L_law_504 rfl k1 i1 (by omega) hL ?_
  refine rw_callV (a := x + 33) f_L_law_505 rfl km m0 rfl rfl rfl rfl (rn_ki (mc _ (fun h2 w2 => ?_)))
  exact rw_icmpT f_L_law_508 (decide_eq_true rfl) (next h2 w2)
theorem lw_11 (w : WL b L S x N U h) (hL : L ≤ 384) (hp : p + 6 ≤ L) {Q : Int32 → am_H → Prop} (next : ∀ h2, WL b L S x (N + 4813) (U + 96200) h2 → Rn 1200 n_L_law 1241 [am_r b, am_r x, am_r (x + 33), am_i (nI p)] [] h2 (kI Q)) : Rn 1200 n_L_law 513 [am_r b, am_r x, am_r (x + 33), am_i (nI p)] [] h (kI Q) := by
  obtain ⟨⟨r, nM, nD, nB, nA, nU, nT, nL, hC⟩, hW, -, -, ⟨k0, i0⟩, -⟩ := id w
  have x0 := CR_x0 hC
  have m0 : ¬ x + 33 = 0 := by omega
  refine rw_aload f_L_law_513 rfl ?_
  refine lw_arg (j := 1) f_L_law_514 f_L_law_515 f_L_law_516 f_L_law_517 f_L_law_518 rfl k0 i0 (by omega) hL ?_
  refine rw_callV (a := x) f_L_law_519 rfl hC.1.k0 x0 rfl rfl rfl rfl (rn_ki (P_cut w (fun v h1 mc km k1 i1 => ?_)))
  refine rw_aload f_L_law_522 rfl ?_
  refine lw_arg (j := 1) f_L_law_523 f_L_law_524 f_L_law_525 f_L_law_526 f_L_law_527 rfl k1 i1 (by omega) hL ?_
  refine rw_callV (a := x + 33) f_L_law_528 rfl km m0 rfl rfl rfl rfl (rn_ki (mc _ (fun h2 w2 => ?_)))
  exact rw_icmpT f_L_law_531 (decide_eq_true rfl) (next h2 w2)
theorem lw_12 (w : WL b L S x N U h) (hL : L ≤ 384) (hp : p + 6 ≤ L) {Q : Int32 → am_H → Prop} (next : ∀ h2, WL b L S x (N + 4813) (U + 96200) h2 → Rn 1200 n_L_law 1241 [am_r b, am_r x, am_r (x + 33), am_i (nI p)] [] h2 (kI Q)) : Rn 1200 n_L_law 536 [am_r b, am_r x, am_r (x + 33), am_i (nI p)] [] h (kI Q) := by
  obtain ⟨⟨r, nM, nD, nB, nA, nU, nT, nL, hC⟩, hW, -, -, ⟨k0, i0⟩, -⟩ := id w
  have x0 := CR_x0 hC
  have m0 : ¬ x + 33 = 0 := by omega
  refine rw_aload f_L_law_536 rfl ?_
  refine lw_arg (j := 1) f_L_law_537 f_L_law_538 f_L_law_539 f_L_law_540 f_L_law_541 rfl k0 i0 (by omega) hL ?_
  refine rw_callV (a := x) f_L_law_542 rfl hC.1.k0 x0 rfl rfl rfl rfl (rn_ki (P_sew w (fun v h1 mc km k1 i1 => ?_)))
  refine rw_aload f_L_law_545 rfl ?_
  refine lw_arg (j := 1) f_L_law_546 f_L_law_547 f_L_law_548 f_L_law_549 f_L_law_550 rfl k1 i1 (by omega) hL ?_
  refine rw_callV (a := x + 33) f_L_law_551 rfl km m0 rfl rfl rfl rfl (rn_ki (mc _ (fun h2 w2 => ?_)))
  exact rw_icmpT f_L_law_554 (decide_eq_true rfl) (next h2 w2)
theorem lw_13 (w : WL b L S x N U h) (hL : L ≤ 384) (hp : p + 6 ≤ L) {Q : Int32 → am_H → Prop} (next : ∀ h2, WL b L S x (N + 4813) (U + 96200) h2 → Rn 1200 n_L_law 1241 [am_r b, am_r x, am_r (x + 33), am_i (nI p)] [] h2 (kI Q)) : Rn 1200 n_L_law 559 [am_r b, am_r x, am_r (x + 33), am_i (nI p)] [] h (kI Q) := by
  obtain ⟨⟨r, nM, nD, nB, nA, nU, nT, nL, hC⟩, hW, -, -, ⟨k0, i0⟩, -⟩ := id w
  have x0 := CR_x0 hC
  have m0 : ¬ x + 33 = 0 := by omega
  refine rw_aload f_L_law_559 rfl ?_
  refine rw_callV (a := x) f_L_law_560 rfl hC.1.k0 x0 rfl rfl rfl rfl (rn_ki (P_day w (fun v h1 mc km k1 i1 => ?_)))
  refine rw_aload f_L_law_563 rfl ?_
  refine rw_callV (a := x + 33) f_L_law_564 rfl km m0 rfl rfl rfl rfl (rn_ki (mc _ (fun h2 w2 => ?_)))
  exact rw_icmpT f_L_law_567 (decide_eq_true rfl) (next h2 w2)
theorem lw_14 (w : WL b L S x N U h) (hL : L ≤ 384) (hp : p + 6 ≤ L) {Q : Int32 → am_H → Prop} (next : ∀ h2, WL b L S x (N + 4813) (U + 96200) h2 → Rn 1200 n_L_law 1241 [am_r b, am_r x, am_r (x + 33), am_i (nI p)] [] h2 (kI Q)) : Rn 1200 n_L_law 572 [am_r b, am_r x, am_r (x + 33), am_i (nI p)] [] h (kI Q) := by
  obtain ⟨⟨r, nM, nD, nB, nA, nU, nT, nL, hC⟩, hW, -, -, ⟨k0, i0⟩, -⟩ := id w
  have x0 := CR_x0 hC
  have m0 : ¬ x + 33 = 0 := by omega
  refine rw_aload f_L_law_572 rfl ?_
  refine rw_callV (a := x) f_L_law_573 rfl hC.1.k0 x0 rfl rfl rfl rfl (rn_ki (P_undo w (fun v h1 mc km k1 i1 => ?_)))
  refine rw_aload f_L_law_576 rfl ?_
  refine rw_callV (a := x + 33) f_L_law_577 rfl km m0 rfl rfl rfl rfl (rn_ki (mc _ (fun h2 w2 => ?_)))
  exact rw_icmpT f_L_law_580 (decide_eq_true rfl) (next h2 w2)
theorem lw_15 (w : WL b L S x N U h) (hL : L ≤ 384) (hp : p + 6 ≤ L) {Q : Int32 → am_H → Prop} (next : ∀ h2, WL b L S x (N + 4813) (U + 96200) h2 → Rn 1200 n_L_law 1241 [am_r b, am_r x, am_r (x + 33), am_i (nI p)] [] h2 (kI Q)) : Rn 1200 n_L_law 585 [am_r b, am_r x, am_r (x + 33), am_i (nI p)] [] h (kI Q) := by
  obtain ⟨⟨r, nM, nD, nB, nA, nU, nT, nL, hC⟩, hW, -, -, ⟨k0, i0⟩, -⟩ := id w
  have x0 := CR_x0 hC
  have m0 : ¬ x + 33 = 0 := by omega
  refine rw_aload f_L_law_585 rfl ?_
  refine rw_callV (a := x) f_L_law_586 rfl hC.1.k0 x0 rfl rfl rfl rfl (rn_ki (P_redo w (fun v h1 mc km k1 i1 => ?_)))
  refine rw_aload f_L_law_589 rfl ?_
  refine rw_callV (a := x + 33) f_L_law_590 rfl km m0 rfl rfl rfl rfl (rn_ki (mc _ (fun h2 w2 => ?_)))
  exact rw_icmpT f_L_law_593 (decide_eq_true rfl) (next h2 w2)
theorem lw_16 (w : WL b L S x N U h) (hL : L ≤ 384) (hp : p + 6 ≤ L) {Q : Int32 → am_H → Prop} (next : ∀ h2, WL b L S x (N + 4813) (U + 96200) h2 → Rn 1200 n_L_law 1241 [am_r b, am_r x, am_r (x + 33), am_i (nI p)] [] h2 (kI Q)) : Rn 1200 n_L_law 598 [am_r b, am_r x, am_r (x + 33), am_i (nI p)] [] h (kI Q) := by
  obtain ⟨⟨r, nM, nD, nB, nA, nU, nT, nL, hC⟩, hW, -, -, ⟨k0, i0⟩, -⟩ := id w
  have x0 := CR_x0 hC
  have m0 : ¬ x + 33 = 0 := by omega
  refine rw_aload f_L_law_598 rfl ?_
  refine lw_arg (j := 1) f_L_law_599 f_L_law_600 f_L_law_601 f_L_law_602 f_L_law_603 rfl k0 i0 (by omega) hL ?_
  refine lw_arg (j := 2) f_L_law_604 f_L_law_605 f_L_law_606 f_L_law_607 f_L_law_608 rfl k0 i0 (by omega) hL ?_
  refine rw_callV (a := x) f_L_law_609 rfl hC.1.k0 x0 rfl rfl rfl rfl (rn_ki (P_keep w (fun v h1 mc km k1 i1 => ?_)))
  refine rw_aload f_L_law_612 rfl ?_
  refine lw_arg (j := 1) f_L_law_613 f_L_law_614 f_L_law_615 f_L_law_616 f_L_law_617 rfl k1 i1 (by omega) hL ?_
  refine lw_arg (j := 2) f_L_law_618 f_L_law_619 f_L_law_620 f_L_law_621 f_L_law_622 rfl k1 i1 (by omega) hL ?_
  refine rw_callV (a := x + 33) f_L_law_623 rfl km m0 rfl rfl rfl rfl (rn_ki (mc _ (fun h2 w2 => ?_)))
  exact rw_icmpT f_L_law_626 (decide_eq_true rfl) (next h2 w2)
theorem lw_17 (w : WL b L S x N U h) (hL : L ≤ 384) (hp : p + 6 ≤ L) {Q : Int32 → am_H → Prop} (next : ∀ h2, WL b L S x (N + 4813) (U + 96200) h2 → Rn 1200 n_L_law 1241 [am_r b, am_r x, am_r (x + 33), am_i (nI p)] [] h2 (kI Q)) : Rn 1200 n_L_law 631 [am_r b, am_r x, am_r (x + 33), am_i (nI p)] [] h (kI Q) := by
  obtain ⟨⟨r, nM, nD, nB, nA, nU, nT, nL, hC⟩, hW, -, -, ⟨k0, i0⟩, -⟩ := id w
  have x0 := CR_x0 hC
  have m0 : ¬ x + 33 = 0 := by omega
  refine rw_aload f_L_law_631 rfl ?_
  refine lw_arg (j := 1) f_L_law_632 f_L_law_633 f_L_law_634 f_L_law_635 f_L_law_636 rfl k0 i0 (by omega) hL ?_
  refine rw_callV (a := x) f_L_law_637 rfl hC.1.k0 x0 rfl rfl rfl rfl (rn_ki (P_rest w (fun v h1 mc km k1 i1 => ?_)))
  refine rw_aload f_L_law_640 rfl ?_
  refine lw_arg (j := 1) f_L_law_641 f_L_law_642 f_L_law_643 f_L_law_644 f_L_law_645 rfl k1 i1 (by omega) hL ?_
  refine rw_callV (a := x + 33) f_L_law_646 rfl km m0 rfl rfl rfl rfl (rn_ki (mc _ (fun h2 w2 => ?_)))
  exact rw_icmpT f_L_law_649 (decide_eq_true rfl) (next h2 w2)
theorem lw_18 (w : WL b L S x N U h) (hL : L ≤ 384) (hp : p + 6 ≤ L) {Q : Int32 → am_H → Prop} (next : ∀ h2, WL b L S x (N + 4813) (U + 96200) h2 → Rn 1200 n_L_law 1241 [am_r b, am_r x, am_r (x + 33), am_i (nI p)] [] h2 (kI Q)) : Rn 1200 n_L_law 654 [am_r b, am_r x, am_r (x + 33), am_i (nI p)] [] h (kI Q) := by
  obtain ⟨⟨r, nM, nD, nB, nA, nU, nT, nL, hC⟩, hW, -, -, ⟨k0, i0⟩, -⟩ := id w
  have x0 := CR_x0 hC
  have m0 : ¬ x + 33 = 0 := by omega
  refine rw_aload f_L_law_654 rfl ?_
  refine lw_arg (j := 1) f_L_law_655 f_L_law_656 f_L_law_657 f_L_law_658 f_L_law_659 rfl k0 i0 (by omega) hL ?_
  refine lw_arg (j := 2) f_L_law_660 f_L_law_661 f_L_law_662 f_L_law_663 f_L_law_664 rfl k0 i0 (by omega) hL ?_
  refine rw_callV (a := x) f_L_law_665 rfl hC.1.k0 x0 rfl rfl rfl rfl (rn_ki (P_ties w (fun v h1 mc km k1 i1 => ?_)))
  refine rw_aload f_L_law_668 rfl ?_
  refine lw_arg (j := 1) f_L_law_669 f_L_law_670 f_L_law_671 f_L_law_672 f_L_law_673 rfl k1 i1 (by omega) hL ?_
  refine lw_arg (j := 2) f_L_law_674 f_L_law_675 f_L_law_676 f_L_law_677 f_L_law_678 rfl k1 i1 (by omega) hL ?_
  refine rw_callV (a := x + 33) f_L_law_679 rfl km m0 rfl rfl rfl rfl (rn_ki (mc _ (fun h2 w2 => ?_)))
  exact rw_icmpT f_L_law_682 (decide_eq_true rfl) (next h2 w2)
theorem lw_19 (w : WL b L S x N U h) (hL : L ≤ 384) (hp : p + 6 ≤ L) {Q : Int32 → am_H → Prop} (next : ∀ h2, WL b L S x (N + 4813) (U + 96200) h2 → Rn 1200 n_L_law 1241 [am_r b, am_r x, am_r (x + 33), am_i (nI p)] [] h2 (kI Q)) : Rn 1200 n_L_law 687 [am_r b, am_r x, am_r (x + 33), am_i (nI p)] [] h (kI Q) := by
  obtain ⟨⟨r, nM, nD, nB, nA, nU, nT, nL, hC⟩, hW, -, -, ⟨k0, i0⟩, -⟩ := id w
  have x0 := CR_x0 hC
  have m0 : ¬ x + 33 = 0 := by omega
  refine rw_aload f_L_law_687 rfl ?_
  refine lw_arg (j := 1) f_L_law_688 f_L_law_689 f_L_law_690 f_L_law_691 f_L_law_692 rfl k0 i0 (by omega) hL ?_
  refine lw_arg (j := 2) f_L_law_693 f_L_law_694 f_L_law_695 f_L_law_696 f_L_law_697 rfl k0 i0 (by omega) hL ?_
  refine rw_callV (a := x) f_L_law_698 rfl hC.1.k0 x0 rfl rfl rfl rfl (rn_ki (P_clash w (fun v h1 mc km k1 i1 => ?_)))
  refine rw_aload f_L_law_701 rfl ?_
  refine lw_arg (j := 1) f_L_law_702 f_L_law_703 f_L_law_704 f_L_law_705 f_L_law_706 rfl k1 i1 (by omega) hL ?_
  refine lw_arg (j := 2) f_L_law_707 f_L_law_708 f_L_law_709 f_L_law_710 f_L_law_711 rfl k1 i1 (by omega) hL ?_
  refine rw_callV (a := x + 33) f_L_law_712 rfl km m0 rfl rfl rfl rfl (rn_ki (mc _ (fun h2 w2 => ?_)))
  exact rw_icmpT f_L_law_715 (decide_eq_true rfl) (next h2 w2)
theorem lw_20 (w : WL b L S x N U h) (hL : L ≤ 384) (hp : p + 6 ≤ L) {Q : Int32 → am_H → Prop} (next : ∀ h2, WL b L S x (N + 4813) (U + 96200) h2 → Rn 1200 n_L_law 1241 [am_r b, am_r x, am_r (x + 33), am_i (nI p)] [] h2 (kI Q)) : Rn 1200 n_L_law 720 [am_r b, am_r x, am_r (x + 33), am_i (nI p)] [] h (kI Q) := by
  obtain ⟨⟨r, nM, nD, nB, nA, nU, nT, nL, hC⟩, hW, -, -, ⟨k0, i0⟩, -⟩ := id w
  have x0 := CR_x0 hC
  have m0 : ¬ x + 33 = 0 := by omega
  refine rw_aload f_L_law_720 rfl ?_
  refine lw_arg (j := 1) f_L_law_721 f_L_law_722 f_L_law_723 f_L_law_724 f_L_law_725 rfl k0 i0 (by omega) hL ?_
  refine lw_arg (j := 2) f_L_law_726 f_L_law_727 f_L_law_728 f_L_law_729 f_L_law_730 rfl k0 i0 (by omega) hL ?_
  refine rw_callV (a := x) f_L_law_731 rfl hC.1.k0 x0 rfl rfl rfl rfl (rn_ki (P_leave w (fun v h1 mc km k1 i1 => ?_)))
  refine rw_aload f_L_law_734 rfl ?_
  refine lw_arg (j := 1) f_L_law_735 f_L_law_736 f_L_law_737 f_L_law_738 f_L_law_739 rfl k1 i1 (by omega) hL ?_
  refine lw_arg (j := 2) f_L_law_740 f_L_law_741 f_L_law_742 f_L_law_743 f_L_law_744 rfl k1 i1 (by omega) hL ?_
  refine rw_callV (a := x + 33) f_L_law_745 rfl km m0 rfl rfl rfl rfl (rn_ki (mc _ (fun h2 w2 => ?_)))
  exact rw_icmpT f_L_law_748 (decide_eq_true rfl) (next h2 w2)
theorem lw_21 (w : WL b L S x N U h) (hL : L ≤ 384) (hp : p + 6 ≤ L) {Q : Int32 → am_H → Prop} (next : ∀ h2, WL b L S x (N + 4813) (U + 96200) h2 → Rn 1200 n_L_law 1241 [am_r b, am_r x, am_r (x + 33), am_i (nI p)] [] h2 (kI Q)) : Rn 1200 n_L_law 753 [am_r b, am_r x, am_r (x + 33), am_i (nI p)] [] h (kI Q) := by
  obtain ⟨⟨r, nM, nD, nB, nA, nU, nT, nL, hC⟩, hW, -, -, ⟨k0, i0⟩, -⟩ := id w
  have x0 := CR_x0 hC
  have m0 : ¬ x + 33 = 0 := by omega
  refine rw_aload f_L_law_753 rfl ?_
  refine lw_arg (j := 1) f_L_law_754 f_L_law_755 f_L_law_756 f_L_law_757 f_L_law_758 rfl k0 i0 (by omega) hL ?_
  refine lw_arg (j := 2) f_L_law_759 f_L_law_760 f_L_law_761 f_L_law_762 f_L_law_763 rfl k0 i0 (by omega) hL ?_
  refine rw_callV (a := x) f_L_law_764 rfl hC.1.k0 x0 rfl rfl rfl rfl (rn_ki (P_asked w (fun v h1 mc km k1 i1 => ?_)))
  refine rw_aload f_L_law_767 rfl ?_
  refine lw_arg (j := 1) f_L_law_768 f_L_law_769 f_L_law_770 f_L_law_771 f_L_law_772 rfl k1 i1 (by omega) hL ?_
  refine lw_arg (j := 2) f_L_law_773 f_L_law_774 f_L_law_775 f_L_law_776 f_L_law_777 rfl k1 i1 (by omega) hL ?_
  refine rw_callV (a := x + 33) f_L_law_778 rfl km m0 rfl rfl rfl rfl (rn_ki (mc _ (fun h2 w2 => ?_)))
  exact rw_icmpT f_L_law_781 (decide_eq_true rfl) (next h2 w2)
theorem lw_22 (w : WL b L S x N U h) (hL : L ≤ 384) (hp : p + 6 ≤ L) {Q : Int32 → am_H → Prop} (next : ∀ h2, WL b L S x (N + 4813) (U + 96200) h2 → Rn 1200 n_L_law 1241 [am_r b, am_r x, am_r (x + 33), am_i (nI p)] [] h2 (kI Q)) : Rn 1200 n_L_law 786 [am_r b, am_r x, am_r (x + 33), am_i (nI p)] [] h (kI Q) := by
  obtain ⟨⟨r, nM, nD, nB, nA, nU, nT, nL, hC⟩, hW, -, -, ⟨k0, i0⟩, -⟩ := id w
  have x0 := CR_x0 hC
  have m0 : ¬ x + 33 = 0 := by omega
  refine rw_aload f_L_law_786 rfl ?_
  refine lw_arg (j := 1) f_L_law_787 f_L_law_788 f_L_law_789 f_L_law_790 f_L_law_791 rfl k0 i0 (by omega) hL ?_
  refine lw_arg (j := 2) f_L_law_792 f_L_law_793 f_L_law_794 f_L_law_795 f_L_law_796 rfl k0 i0 (by omega) hL ?_
  refine lw_arg (j := 3) f_L_law_797 f_L_law_798 f_L_law_799 f_L_law_800 f_L_law_801 rfl k0 i0 (by omega) hL ?_
  refine rw_callV (a := x) f_L_law_802 rfl hC.1.k0 x0 rfl rfl rfl rfl (rn_ki (P_holds w (fun v h1 mc km k1 i1 => ?_)))
  refine rw_aload f_L_law_805 rfl ?_
  refine lw_arg (j := 1) f_L_law_806 f_L_law_807 f_L_law_808 f_L_law_809 f_L_law_810 rfl k1 i1 (by omega) hL ?_
  refine lw_arg (j := 2) f_L_law_811 f_L_law_812 f_L_law_813 f_L_law_814 f_L_law_815 rfl k1 i1 (by omega) hL ?_
  refine lw_arg (j := 3) f_L_law_816 f_L_law_817 f_L_law_818 f_L_law_819 f_L_law_820 rfl k1 i1 (by omega) hL ?_
  refine rw_callV (a := x + 33) f_L_law_821 rfl km m0 rfl rfl rfl rfl (rn_ki (mc _ (fun h2 w2 => ?_)))
  exact rw_icmpT f_L_law_824 (decide_eq_true rfl) (next h2 w2)
theorem lw_23 (w : WL b L S x N U h) (hL : L ≤ 384) (hp : p + 6 ≤ L) {Q : Int32 → am_H → Prop} (next : ∀ h2, WL b L S x (N + 4813) (U + 96200) h2 → Rn 1200 n_L_law 1241 [am_r b, am_r x, am_r (x + 33), am_i (nI p)] [] h2 (kI Q)) : Rn 1200 n_L_law 829 [am_r b, am_r x, am_r (x + 33), am_i (nI p)] [] h (kI Q) := by
  obtain ⟨⟨r, nM, nD, nB, nA, nU, nT, nL, hC⟩, hW, -, -, ⟨k0, i0⟩, -⟩ := id w
  have x0 := CR_x0 hC
  have m0 : ¬ x + 33 = 0 := by omega
  refine rw_aload f_L_law_829 rfl ?_
  refine lw_arg (j := 1) f_L_law_830 f_L_law_831 f_L_law_832 f_L_law_833 f_L_law_834 rfl k0 i0 (by omega) hL ?_
  refine lw_arg (j := 2) f_L_law_835 f_L_law_836 f_L_law_837 f_L_law_838 f_L_law_839 rfl k0 i0 (by omega) hL ?_
  refine lw_arg (j := 3) f_L_law_840 f_L_law_841 f_L_law_842 f_L_law_843 f_L_law_844 rfl k0 i0 (by omega) hL ?_
  refine rw_callV (a := x) f_L_law_845 rfl hC.1.k0 x0 rfl rfl rfl rfl (rn_kl (P_odds w (fun v h1 mc km k1 i1 => ?_)))
  refine rw_aload f_L_law_848 rfl ?_
  refine lw_arg (j := 1) f_L_law_849 f_L_law_850 f_L_law_851 f_L_law_852 f_L_law_853 rfl k1 i1 (by omega) hL ?_
  refine lw_arg (j := 2) f_L_law_854 f_L_law_855 f_L_law_856 f_L_law_857 f_L_law_858 rfl k1 i1 (by omega) hL ?_
  refine lw_arg (j := 3) f_L_law_859 f_L_law_860 f_L_law_861 f_L_law_862 f_L_law_863 rfl k1 i1 (by omega) hL ?_
  refine rw_callV (a := x + 33) f_L_law_864 rfl km m0 rfl rfl rfl rfl (rn_kl (mc _ (fun h2 w2 => ?_)))
  refine rw_lcmp f_L_law_867 ?_
  exact rw_ifT f_L_law_868 (decide_eq_true (lgc.mpr rfl)) (next h2 w2)
theorem lw_24 (w : WL b L S x N U h) (hL : L ≤ 384) (hp : p + 6 ≤ L) {Q : Int32 → am_H → Prop} (next : ∀ h2, WL b L S x (N + 4813) (U + 96200) h2 → Rn 1200 n_L_law 1241 [am_r b, am_r x, am_r (x + 33), am_i (nI p)] [] h2 (kI Q)) : Rn 1200 n_L_law 873 [am_r b, am_r x, am_r (x + 33), am_i (nI p)] [] h (kI Q) := by
  obtain ⟨⟨r, nM, nD, nB, nA, nU, nT, nL, hC⟩, hW, -, -, ⟨k0, i0⟩, -⟩ := id w
  have x0 := CR_x0 hC
  have m0 : ¬ x + 33 = 0 := by omega
  refine rw_aload f_L_law_873 rfl ?_
  refine lw_arg (j := 1) f_L_law_874 f_L_law_875 f_L_law_876 f_L_law_877 f_L_law_878 rfl k0 i0 (by omega) hL ?_
  refine rw_callV (a := x) f_L_law_879 rfl hC.1.k0 x0 rfl rfl rfl rfl (rn_ki (P_first w (fun v h1 mc km k1 i1 => ?_)))
  refine rw_aload f_L_law_882 rfl ?_
  refine lw_arg (j := 1) f_L_law_883 f_L_law_884 f_L_law_885 f_L_law_886 f_L_law_887 rfl k1 i1 (by omega) hL ?_
  refine rw_callV (a := x + 33) f_L_law_888 rfl km m0 rfl rfl rfl rfl (rn_ki (mc _ (fun h2 w2 => ?_)))
  exact rw_icmpT f_L_law_891 (decide_eq_true rfl) (next h2 w2)
theorem lw_25 (w : WL b L S x N U h) (hL : L ≤ 384) (hp : p + 6 ≤ L) {Q : Int32 → am_H → Prop} (next : ∀ h2, WL b L S x (N + 4813) (U + 96200) h2 → Rn 1200 n_L_law 1241 [am_r b, am_r x, am_r (x + 33), am_i (nI p)] [] h2 (kI Q)) : Rn 1200 n_L_law 896 [am_r b, am_r x, am_r (x + 33), am_i (nI p)] [] h (kI Q) := by
  obtain ⟨⟨r, nM, nD, nB, nA, nU, nT, nL, hC⟩, hW, -, -, ⟨k0, i0⟩, -⟩ := id w
  have x0 := CR_x0 hC
  have m0 : ¬ x + 33 = 0 := by omega
  refine rw_aload f_L_law_896 rfl ?_
  refine lw_arg (j := 1) f_L_law_897 f_L_law_898 f_L_law_899 f_L_law_900 f_L_law_901 rfl k0 i0 (by omega) hL ?_
  refine lw_arg (j := 2) f_L_law_902 f_L_law_903 f_L_law_904 f_L_law_905 f_L_law_906 rfl k0 i0 (by omega) hL ?_
  refine rw_callV (a := x) f_L_law_907 rfl hC.1.k0 x0 rfl rfl rfl rfl (rn_ki (P_will w (fun v h1 mc km k1 i1 => ?_)))
  refine rw_aload f_L_law_910 rfl ?_
  refine lw_arg (j := 1) f_L_law_911 f_L_law_912 f_L_law_913 f_L_law_914 f_L_law_915 rfl k1 i1 (by omega) hL ?_
  refine lw_arg (j := 2) f_L_law_916 f_L_law_917 f_L_law_918 f_L_law_919 f_L_law_920 rfl k1 i1 (by omega) hL ?_
  refine rw_callV (a := x + 33) f_L_law_921 rfl km m0 rfl rfl rfl rfl (rn_ki (mc _ (fun h2 w2 => ?_)))
  exact rw_icmpT f_L_law_924 (decide_eq_true rfl) (next h2 w2)
theorem lw_26 (w : WL b L S x N U h) (hL : L ≤ 384) (hp : p + 6 ≤ L) {Q : Int32 → am_H → Prop} (next : ∀ h2, WL b L S x (N + 4813) (U + 96200) h2 → Rn 1200 n_L_law 1241 [am_r b, am_r x, am_r (x + 33), am_i (nI p)] [] h2 (kI Q)) : Rn 1200 n_L_law 929 [am_r b, am_r x, am_r (x + 33), am_i (nI p)] [] h (kI Q) := by
  obtain ⟨⟨r, nM, nD, nB, nA, nU, nT, nL, hC⟩, hW, -, -, ⟨k0, i0⟩, -⟩ := id w
  have x0 := CR_x0 hC
  have m0 : ¬ x + 33 = 0 := by omega
  refine rw_aload f_L_law_929 rfl ?_
  refine rw_callV (a := x) f_L_law_930 rfl hC.1.k0 x0 rfl rfl rfl rfl (rn_ki (P_truce w (fun v h1 mc km k1 i1 => ?_)))
  refine rw_aload f_L_law_933 rfl ?_
  refine rw_callV (a := x + 33) f_L_law_934 rfl km m0 rfl rfl rfl rfl (rn_ki (mc _ (fun h2 w2 => ?_)))
  exact rw_icmpT f_L_law_937 (decide_eq_true rfl) (next h2 w2)
theorem lw_27 (w : WL b L S x N U h) (hL : L ≤ 384) (hp : p + 6 ≤ L) {Q : Int32 → am_H → Prop} (next : ∀ h2, WL b L S x (N + 4813) (U + 96200) h2 → Rn 1200 n_L_law 1241 [am_r b, am_r x, am_r (x + 33), am_i (nI p)] [] h2 (kI Q)) : Rn 1200 n_L_law 942 [am_r b, am_r x, am_r (x + 33), am_i (nI p)] [] h (kI Q) := by
  obtain ⟨⟨r, nM, nD, nB, nA, nU, nT, nL, hC⟩, hW, -, -, ⟨k0, i0⟩, -⟩ := id w
  have x0 := CR_x0 hC
  have m0 : ¬ x + 33 = 0 := by omega
  refine rw_aload f_L_law_942 rfl ?_
  refine rw_callV (a := x) f_L_law_943 rfl hC.1.k0 x0 rfl rfl rfl rfl (rn_ki (P_calm w (fun v h1 mc km k1 i1 => ?_)))
  refine rw_aload f_L_law_946 rfl ?_
  refine rw_callV (a := x + 33) f_L_law_947 rfl km m0 rfl rfl rfl rfl (rn_ki (mc _ (fun h2 w2 => ?_)))
  exact rw_icmpT f_L_law_950 (decide_eq_true rfl) (next h2 w2)
theorem lw_28 (w : WL b L S x N U h) (hL : L ≤ 384) (hp : p + 6 ≤ L) {Q : Int32 → am_H → Prop} (next : ∀ h2, WL b L S x (N + 4813) (U + 96200) h2 → Rn 1200 n_L_law 1241 [am_r b, am_r x, am_r (x + 33), am_i (nI p)] [] h2 (kI Q)) : Rn 1200 n_L_law 955 [am_r b, am_r x, am_r (x + 33), am_i (nI p)] [] h (kI Q) := by
  obtain ⟨⟨r, nM, nD, nB, nA, nU, nT, nL, hC⟩, hW, -, -, ⟨k0, i0⟩, -⟩ := id w
  have x0 := CR_x0 hC
  have m0 : ¬ x + 33 = 0 := by omega
  refine rw_aload f_L_law_955 rfl ?_
  refine lw_arg (j := 1) f_L_law_956 f_L_law_957 f_L_law_958 f_L_law_959 f_L_law_960 rfl k0 i0 (by omega) hL ?_
  refine lw_arg (j := 2) f_L_law_961 f_L_law_962 f_L_law_963 f_L_law_964 f_L_law_965 rfl k0 i0 (by omega) hL ?_
  refine rw_callV (a := x) f_L_law_966 rfl hC.1.k0 x0 rfl rfl rfl rfl (rn_ki (P_likes w (fun v h1 mc km k1 i1 => ?_)))
  refine rw_aload f_L_law_969 rfl ?_
  refine lw_arg (j := 1) f_L_law_970 f_L_law_971 f_L_law_972 f_L_law_973 f_L_law_974 rfl k1 i1 (by omega) hL ?_
  refine lw_arg (j := 2) f_L_law_975 f_L_law_976 f_L_law_977 f_L_law_978 f_L_law_979 rfl k1 i1 (by omega) hL ?_
  refine rw_callV (a := x + 33) f_L_law_980 rfl km m0 rfl rfl rfl rfl (rn_ki (mc _ (fun h2 w2 => ?_)))
  exact rw_icmpT f_L_law_983 (decide_eq_true rfl) (next h2 w2)
theorem lw_29 (w : WL b L S x N U h) (hL : L ≤ 384) (hp : p + 6 ≤ L) {Q : Int32 → am_H → Prop} (next : ∀ h2, WL b L S x (N + 4813) (U + 96200) h2 → Rn 1200 n_L_law 1241 [am_r b, am_r x, am_r (x + 33), am_i (nI p)] [] h2 (kI Q)) : Rn 1200 n_L_law 988 [am_r b, am_r x, am_r (x + 33), am_i (nI p)] [] h (kI Q) := by
  obtain ⟨⟨r, nM, nD, nB, nA, nU, nT, nL, hC⟩, hW, -, -, ⟨k0, i0⟩, -⟩ := id w
  have x0 := CR_x0 hC
  have m0 : ¬ x + 33 = 0 := by omega
  refine rw_aload f_L_law_988 rfl ?_
  refine lw_arg (j := 1) f_L_law_989 f_L_law_990 f_L_law_991 f_L_law_992 f_L_law_993 rfl k0 i0 (by omega) hL ?_
  refine rw_callV (a := x) f_L_law_994 rfl hC.1.k0 x0 rfl rfl rfl rfl (rn_ki (P_lies w (fun v h1 mc km k1 i1 => ?_)))
  refine rw_aload f_L_law_997 rfl ?_
  refine lw_arg (j := 1) f_L_law_998 f_L_law_999 f_L_law_1000 f_L_law_1001 f_L_law_1002 rfl k1 i1 (by omega) hL ?_
  refine rw_callV (a := x + 33) f_L_law_1003 rfl km m0 rfl rfl rfl rfl (rn_ki (mc _ (fun h2 w2 => ?_)))
  exact rw_icmpT f_L_law_1006 (decide_eq_true rfl) (next h2 w2)
theorem lw_30 (w : WL b L S x N U h) (hL : L ≤ 384) (hp : p + 6 ≤ L) {Q : Int32 → am_H → Prop} (next : ∀ h2, WL b L S x (N + 4813) (U + 96200) h2 → Rn 1200 n_L_law 1241 [am_r b, am_r x, am_r (x + 33), am_i (nI p)] [] h2 (kI Q)) : Rn 1200 n_L_law 1011 [am_r b, am_r x, am_r (x + 33), am_i (nI p)] [] h (kI Q) := by
  obtain ⟨⟨r, nM, nD, nB, nA, nU, nT, nL, hC⟩, hW, -, -, ⟨k0, i0⟩, -⟩ := id w
  have x0 := CR_x0 hC
  have m0 : ¬ x + 33 = 0 := by omega
  by_cases z : S (p + 3) = 0
  · refine rw_aload f_L_law_1011 rfl ?_
    refine lw_arg (j := 1) f_L_law_1012 f_L_law_1013 f_L_law_1014 f_L_law_1015 f_L_law_1016 rfl k0 i0 (by omega) hL ?_
    refine lw_arg (j := 2) f_L_law_1017 f_L_law_1018 f_L_law_1019 f_L_law_1020 f_L_law_1021 rfl k0 i0 (by omega) hL ?_
    refine lw_arg (j := 3) f_L_law_1022 f_L_law_1023 f_L_law_1024 f_L_law_1025 f_L_law_1026 rfl k0 i0 (by omega) hL ?_
    refine rw_ifT f_L_law_1027 (decide_eq_true z) ?_
    refine rw_const f_L_law_1034 ?_
    refine rw_callV (a := x) f_L_law_1035 rfl hC.1.k0 x0 rfl rfl rfl rfl (rn_ki (P_tug w (Or.inl rfl) (fun v h1 mc km k1 i1 => ?_)))
    refine rw_aload f_L_law_1038 rfl ?_
    refine lw_arg (j := 1) f_L_law_1039 f_L_law_1040 f_L_law_1041 f_L_law_1042 f_L_law_1043 rfl k1 i1 (by omega) hL ?_
    refine lw_arg (j := 2) f_L_law_1044 f_L_law_1045 f_L_law_1046 f_L_law_1047 f_L_law_1048 rfl k1 i1 (by omega) hL ?_
    refine lw_arg (j := 3) f_L_law_1049 f_L_law_1050 f_L_law_1051 f_L_law_1052 f_L_law_1053 rfl k1 i1 (by omega) hL ?_
    refine rw_ifT f_L_law_1054 (decide_eq_true z) ?_
    refine rw_const f_L_law_1061 ?_
    refine rw_callV (a := x + 33) f_L_law_1062 rfl km m0 rfl rfl rfl rfl (rn_ki (mc _ (fun h2 w2 => ?_)))
    exact rw_icmpT f_L_law_1065 (decide_eq_true rfl) (next h2 w2)
  · refine rw_aload f_L_law_1011 rfl ?_
    refine lw_arg (j := 1) f_L_law_1012 f_L_law_1013 f_L_law_1014 f_L_law_1015 f_L_law_1016 rfl k0 i0 (by omega) hL ?_
    refine lw_arg (j := 2) f_L_law_1017 f_L_law_1018 f_L_law_1019 f_L_law_1020 f_L_law_1021 rfl k0 i0 (by omega) hL ?_
    refine lw_arg (j := 3) f_L_law_1022 f_L_law_1023 f_L_law_1024 f_L_law_1025 f_L_law_1026 rfl k0 i0 (by omega) hL ?_
    refine rw_ifF f_L_law_1027 (decide_eq_false z) ?_
    refine rw_const f_L_law_1030 ?_
    refine rw_goto f_L_law_1031 ?_
    refine rw_callV (a := x) f_L_law_1035 rfl hC.1.k0 x0 rfl rfl rfl rfl (rn_ki (P_tug w (Or.inr rfl) (fun v h1 mc km k1 i1 => ?_)))
    refine rw_aload f_L_law_1038 rfl ?_
    refine lw_arg (j := 1) f_L_law_1039 f_L_law_1040 f_L_law_1041 f_L_law_1042 f_L_law_1043 rfl k1 i1 (by omega) hL ?_
    refine lw_arg (j := 2) f_L_law_1044 f_L_law_1045 f_L_law_1046 f_L_law_1047 f_L_law_1048 rfl k1 i1 (by omega) hL ?_
    refine lw_arg (j := 3) f_L_law_1049 f_L_law_1050 f_L_law_1051 f_L_law_1052 f_L_law_1053 rfl k1 i1 (by omega) hL ?_
    refine rw_ifF f_L_law_1054 (decide_eq_false z) ?_
    refine rw_const f_L_law_1057 ?_
    refine rw_goto f_L_law_1058 ?_
    refine rw_callV (a := x + 33) f_L_law_1062 rfl km m0 rfl rfl rfl rfl (rn_ki (mc _ (fun h2 w2 => ?_)))
    exact rw_icmpT f_L_law_1065 (decide_eq_true rfl) (next h2 w2)
theorem lw_31 (w : WL b L S x N U h) (hL : L ≤ 384) (hp : p + 6 ≤ L) {Q : Int32 → am_H → Prop} (next : ∀ h2, WL b L S x (N + 4813) (U + 96200) h2 → Rn 1200 n_L_law 1241 [am_r b, am_r x, am_r (x + 33), am_i (nI p)] [] h2 (kI Q)) : Rn 1200 n_L_law 1070 [am_r b, am_r x, am_r (x + 33), am_i (nI p)] [] h (kI Q) := by
  obtain ⟨⟨r, nM, nD, nB, nA, nU, nT, nL, hC⟩, hW, -, -, ⟨k0, i0⟩, -⟩ := id w
  have x0 := CR_x0 hC
  have m0 : ¬ x + 33 = 0 := by omega
  refine rw_aload f_L_law_1070 rfl ?_
  refine lw_arg (j := 1) f_L_law_1071 f_L_law_1072 f_L_law_1073 f_L_law_1074 f_L_law_1075 rfl k0 i0 (by omega) hL ?_
  refine rw_callV (a := x) f_L_law_1076 rfl hC.1.k0 x0 rfl rfl rfl rfl (rn_ki (P_untell w (fun v h1 mc km k1 i1 => ?_)))
  refine rw_aload f_L_law_1079 rfl ?_
  refine lw_arg (j := 1) f_L_law_1080 f_L_law_1081 f_L_law_1082 f_L_law_1083 f_L_law_1084 rfl k1 i1 (by omega) hL ?_
  refine rw_callV (a := x + 33) f_L_law_1085 rfl km m0 rfl rfl rfl rfl (rn_ki (mc _ (fun h2 w2 => ?_)))
  exact rw_icmpT f_L_law_1088 (decide_eq_true rfl) (next h2 w2)
theorem lw_32 (w : WL b L S x N U h) (hL : L ≤ 384) (hp : p + 6 ≤ L) {Q : Int32 → am_H → Prop} (next : ∀ h2, WL b L S x (N + 4813) (U + 96200) h2 → Rn 1200 n_L_law 1241 [am_r b, am_r x, am_r (x + 33), am_i (nI p)] [] h2 (kI Q)) : Rn 1200 n_L_law 1093 [am_r b, am_r x, am_r (x + 33), am_i (nI p)] [] h (kI Q) := by
  obtain ⟨⟨r, nM, nD, nB, nA, nU, nT, nL, hC⟩, hW, -, -, ⟨k0, i0⟩, -⟩ := id w
  have x0 := CR_x0 hC
  have m0 : ¬ x + 33 = 0 := by omega
  refine rw_aload f_L_law_1093 rfl ?_
  refine lw_arg (j := 1) f_L_law_1094 f_L_law_1095 f_L_law_1096 f_L_law_1097 f_L_law_1098 rfl k0 i0 (by omega) hL ?_
  refine rw_callV (a := x) f_L_law_1099 rfl hC.1.k0 x0 rfl rfl rfl rfl (rn_ki (P_later w (fun v h1 mc km k1 i1 => ?_)))
  refine rw_aload f_L_law_1102 rfl ?_
  refine lw_arg (j := 1) f_L_law_1103 f_L_law_1104 f_L_law_1105 f_L_law_1106 f_L_law_1107 rfl k1 i1 (by omega) hL ?_
  refine rw_callV (a := x + 33) f_L_law_1108 rfl km m0 rfl rfl rfl rfl (rn_ki (mc _ (fun h2 w2 => ?_)))
  exact rw_icmpT f_L_law_1111 (decide_eq_true rfl) (next h2 w2)
theorem lw_33 (w : WL b L S x N U h) (hL : L ≤ 384) (hp : p + 6 ≤ L) {Q : Int32 → am_H → Prop} (next : ∀ h2, WL b L S x (N + 4813) (U + 96200) h2 → Rn 1200 n_L_law 1241 [am_r b, am_r x, am_r (x + 33), am_i (nI p)] [] h2 (kI Q)) : Rn 1200 n_L_law 1116 [am_r b, am_r x, am_r (x + 33), am_i (nI p)] [] h (kI Q) := by
  obtain ⟨⟨r, nM, nD, nB, nA, nU, nT, nL, hC⟩, hW, -, -, ⟨k0, i0⟩, -⟩ := id w
  have x0 := CR_x0 hC
  have m0 : ¬ x + 33 = 0 := by omega
  refine rw_aload f_L_law_1116 rfl ?_
  refine lw_arg (j := 1) f_L_law_1117 f_L_law_1118 f_L_law_1119 f_L_law_1120 f_L_law_1121 rfl k0 i0 (by omega) hL ?_
  refine rw_callV (a := x) f_L_law_1122 rfl hC.1.k0 x0 rfl rfl rfl rfl (rn_ki (P_swore w (fun v h1 mc km k1 i1 => ?_)))
  refine rw_aload f_L_law_1125 rfl ?_
  refine lw_arg (j := 1) f_L_law_1126 f_L_law_1127 f_L_law_1128 f_L_law_1129 f_L_law_1130 rfl k1 i1 (by omega) hL ?_
  refine rw_callV (a := x + 33) f_L_law_1131 rfl km m0 rfl rfl rfl rfl (rn_ki (mc _ (fun h2 w2 => ?_)))
  exact rw_icmpT f_L_law_1134 (decide_eq_true rfl) (next h2 w2)
theorem lw_34 (w : WL b L S x N U h) (hL : L ≤ 384) (hp : p + 6 ≤ L) {Q : Int32 → am_H → Prop} (next : ∀ h2, WL b L S x (N + 4813) (U + 96200) h2 → Rn 1200 n_L_law 1241 [am_r b, am_r x, am_r (x + 33), am_i (nI p)] [] h2 (kI Q)) : Rn 1200 n_L_law 1139 [am_r b, am_r x, am_r (x + 33), am_i (nI p)] [] h (kI Q) := by
  obtain ⟨⟨r, nM, nD, nB, nA, nU, nT, nL, hC⟩, hW, -, -, ⟨k0, i0⟩, -⟩ := id w
  have x0 := CR_x0 hC
  have m0 : ¬ x + 33 = 0 := by omega
  refine rw_aload f_L_law_1139 rfl ?_
  refine lw_arg (j := 1) f_L_law_1140 f_L_law_1141 f_L_law_1142 f_L_law_1143 f_L_law_1144 rfl k0 i0 (by omega) hL ?_
  refine lw_arg (j := 2) f_L_law_1145 f_L_law_1146 f_L_law_1147 f_L_law_1148 f_L_law_1149 rfl k0 i0 (by omega) hL ?_
  refine rw_callV (a := x) f_L_law_1150 rfl hC.1.k0 x0 rfl rfl rfl rfl (rn_ki (P_ask w (fun v h1 mc km k1 i1 => ?_)))
  refine rw_aload f_L_law_1153 rfl ?_
  refine lw_arg (j := 1) f_L_law_1154 f_L_law_1155 f_L_law_1156 f_L_law_1157 f_L_law_1158 rfl k1 i1 (by omega) hL ?_
  refine lw_arg (j := 2) f_L_law_1159 f_L_law_1160 f_L_law_1161 f_L_law_1162 f_L_law_1163 rfl k1 i1 (by omega) hL ?_
  refine rw_callV (a := x + 33) f_L_law_1164 rfl km m0 rfl rfl rfl rfl (rn_ki (mc _ (fun h2 w2 => ?_)))
  exact rw_icmpT f_L_law_1167 (decide_eq_true rfl) (next h2 w2)
theorem lw_35 (w : WL b L S x N U h) (hL : L ≤ 384) (hp : p + 6 ≤ L) {Q : Int32 → am_H → Prop} (next : ∀ h2, WL b L S x (N + 4813) (U + 96200) h2 → Rn 1200 n_L_law 1241 [am_r b, am_r x, am_r (x + 33), am_i (nI p)] [] h2 (kI Q)) : Rn 1200 n_L_law 1172 [am_r b, am_r x, am_r (x + 33), am_i (nI p)] [] h (kI Q) := by
  obtain ⟨⟨r, nM, nD, nB, nA, nU, nT, nL, hC⟩, hW, -, -, ⟨k0, i0⟩, -⟩ := id w
  have x0 := CR_x0 hC
  have m0 : ¬ x + 33 = 0 := by omega
  refine rw_aload f_L_law_1172 rfl ?_
  refine lw_arg (j := 1) f_L_law_1173 f_L_law_1174 f_L_law_1175 f_L_law_1176 f_L_law_1177 rfl k0 i0 (by omega) hL ?_
  refine rw_callV (a := x) f_L_law_1178 rfl hC.1.k0 x0 rfl rfl rfl rfl (rn_ki (P_image w (fun v h1 mc km k1 i1 => ?_)))
  refine rw_aload f_L_law_1181 rfl ?_
  refine lw_arg (j := 1) f_L_law_1182 f_L_law_1183 f_L_law_1184 f_L_law_1185 f_L_law_1186 rfl k1 i1 (by omega) hL ?_
  refine rw_callV (a := x + 33) f_L_law_1187 rfl km m0 rfl rfl rfl rfl (rn_ki (mc _ (fun h2 w2 => ?_)))
  exact rw_icmpT f_L_law_1190 (decide_eq_true rfl) (next h2 w2)
theorem lw_36 (w : WL b L S x N U h) (hL : L ≤ 384) (hp : p + 6 ≤ L) {Q : Int32 → am_H → Prop} (next : ∀ h2, WL b L S x (N + 4813) (U + 96200) h2 → Rn 1200 n_L_law 1241 [am_r b, am_r x, am_r (x + 33), am_i (nI p)] [] h2 (kI Q)) : Rn 1200 n_L_law 1195 [am_r b, am_r x, am_r (x + 33), am_i (nI p)] [] h (kI Q) := by
  obtain ⟨⟨r, nM, nD, nB, nA, nU, nT, nL, hC⟩, hW, -, -, ⟨k0, i0⟩, -⟩ := id w
  have x0 := CR_x0 hC
  have m0 : ¬ x + 33 = 0 := by omega
  refine rw_aload f_L_law_1195 rfl ?_
  refine lw_arg (j := 1) f_L_law_1196 f_L_law_1197 f_L_law_1198 f_L_law_1199 f_L_law_1200 rfl k0 i0 (by omega) hL ?_
  refine rw_callV (a := x) f_L_law_1201 rfl hC.1.k0 x0 rfl rfl rfl rfl (rn_ki (P_back w (fun v h1 mc km k1 i1 => ?_)))
  refine rw_aload f_L_law_1204 rfl ?_
  refine lw_arg (j := 1) f_L_law_1205 f_L_law_1206 f_L_law_1207 f_L_law_1208 f_L_law_1209 rfl k1 i1 (by omega) hL ?_
  refine rw_callV (a := x + 33) f_L_law_1210 rfl km m0 rfl rfl rfl rfl (rn_ki (mc _ (fun h2 w2 => ?_)))
  exact rw_icmpT f_L_law_1213 (decide_eq_true rfl) (next h2 w2)
theorem lw_37 (w : WL b L S x N U h) (hL : L ≤ 384) (hp : p + 6 ≤ L) {Q : Int32 → am_H → Prop} (next : ∀ h2, WL b L S x (N + 4813) (U + 96200) h2 → Rn 1200 n_L_law 1241 [am_r b, am_r x, am_r (x + 33), am_i (nI p)] [] h2 (kI Q)) : Rn 1200 n_L_law 1218 [am_r b, am_r x, am_r (x + 33), am_i (nI p)] [] h (kI Q) := by
  obtain ⟨⟨r, nM, nD, nB, nA, nU, nT, nL, hC⟩, hW, -, -, ⟨k0, i0⟩, -⟩ := id w
  have x0 := CR_x0 hC
  have m0 : ¬ x + 33 = 0 := by omega
  refine rw_aload f_L_law_1218 rfl ?_
  refine lw_arg (j := 1) f_L_law_1219 f_L_law_1220 f_L_law_1221 f_L_law_1222 f_L_law_1223 rfl k0 i0 (by omega) hL ?_
  refine rw_callV (a := x) f_L_law_1224 rfl hC.1.k0 x0 rfl rfl rfl rfl (rn_ki (P_about w (fun v h1 mc km k1 i1 => ?_)))
  refine rw_aload f_L_law_1227 rfl ?_
  refine lw_arg (j := 1) f_L_law_1228 f_L_law_1229 f_L_law_1230 f_L_law_1231 f_L_law_1232 rfl k1 i1 (by omega) hL ?_
  refine rw_callV (a := x + 33) f_L_law_1233 rfl km m0 rfl rfl rfl rfl (rn_ki (mc _ (fun h2 w2 => ?_)))
  exact rw_icmpT f_L_law_1236 (decide_eq_true rfl) (next h2 w2)
theorem lw_loop (hL : L ≤ 384) {N0 U0 : Nat} {Q : Int32 → am_H → Prop} (done : ∀ i h, 6 * i ≤ L → WL b L S x (N0 + 4813 * i) (U0 + 96200 * i) h → Q 1 h) : ∀ q i h, 6 * i + q = L → WL b L S x (N0 + 4813 * i) (U0 + 96200 * i) h → Rn 1200 n_L_law 18 [am_r b, am_r x, am_r (x + 33), am_i (nI (6 * i))] [] h (kI Q) := by
  intro q
  induction q using Nat.strongRecOn with
  | ind q ih =>
  intro i h hq w
  obtain ⟨-, -, -, -, ⟨k0, i0⟩, -⟩ := id w
  have cmp := lw_cmp (p := 6 * i) hL (by omega)
  refine rw_iload f_L_law_18 rfl ?_
  refine rw_aload f_L_law_19 rfl ?_
  refine rw_alen f_L_law_20 k0 ?_
  refine rw_const f_L_law_21 ?_
  refine rw_isub f_L_law_23 ?_
  by_cases c : L < 6 * i + 6
  · refine rw_icmpT f_L_law_24 (decide_eq_true (cmp.mpr c)) ?_
    refine rw_const f_L_law_1247 ?_
    exact rw_zret f_L_law_1248 (Or.inr rfl) (done i h (by omega) w)
  · refine rw_icmpF f_L_law_24 (decide_eq_false (fun z => c (cmp.mp z))) ?_
    have next : ∀ h2, WL b L S x (N0 + 4813 * i + 4813) (U0 + 96200 * i + 96200) h2 → Rn 1200 n_L_law 1241 [am_r b, am_r x, am_r (x + 33), am_i (nI (6 * i))] [] h2 (kI Q) := by
      intro h2 w2
      refine rw_iinc f_L_law_1241 rfl rfl ?_
      refine rw_goto f_L_law_1244 ?_
      rw [show nI (6 * i) + 6 = nI (6 * (i + 1)) from nI_addl (6 * i) 6]
      exact ih (q - 6) (by omega) (i + 1) h2 (by omega) (by rw [show N0 + 4813 * (i + 1) = N0 + 4813 * i + 4813 by omega, show U0 + 96200 * (i + 1) = U0 + 96200 * i + 96200 by omega]; exact w2)
    have hp : 6 * i + 6 ≤ L := by omega
    refine rw_aload f_L_law_27 rfl ?_
    refine rw_iload f_L_law_28 rfl ?_
    refine rw_xaldE (j := 6 * i) f_L_law_29 k0 rfl (by omega) (by omega) ?_
    refine rw_const f_L_law_30 ?_
    refine rw_iand f_L_law_32 ?_
    refine rw_switch f_L_law_33 ?_
    refine rw_sw1 (fun _ => lw_0 w hL hp next) (fun _ => ?_)
    refine rw_sw1 (fun _ => lw_1 w hL hp next) (fun _ => ?_)
    refine rw_sw1 (fun _ => lw_2 w hL hp next) (fun _ => ?_)
    refine rw_sw1 (fun _ => lw_3 w hL hp next) (fun _ => ?_)
    refine rw_sw1 (fun _ => lw_4 w hL hp next) (fun _ => ?_)
    refine rw_sw1 (fun _ => lw_5 w hL hp next) (fun _ => ?_)
    refine rw_sw1 (fun _ => lw_6 w hL hp next) (fun _ => ?_)
    refine rw_sw1 (fun _ => lw_7 w hL hp next) (fun _ => ?_)
    refine rw_sw1 (fun _ => lw_8 w hL hp next) (fun _ => ?_)
    refine rw_sw1 (fun _ => lw_9 w hL hp next) (fun _ => ?_)
    refine rw_sw1 (fun _ => lw_10 w hL hp next) (fun _ => ?_)
    refine rw_sw1 (fun _ => lw_11 w hL hp next) (fun _ => ?_)
    refine rw_sw1 (fun _ => lw_12 w hL hp next) (fun _ => ?_)
    refine rw_sw1 (fun _ => lw_13 w hL hp next) (fun _ => ?_)
    refine rw_sw1 (fun _ => lw_14 w hL hp next) (fun _ => ?_)
    refine rw_sw1 (fun _ => lw_15 w hL hp next) (fun _ => ?_)
    refine rw_sw1 (fun _ => lw_16 w hL hp next) (fun _ => ?_)
    refine rw_sw1 (fun _ => lw_17 w hL hp next) (fun _ => ?_)
    refine rw_sw1 (fun _ => lw_18 w hL hp next) (fun _ => ?_)
    refine rw_sw1 (fun _ => lw_19 w hL hp next) (fun _ => ?_)
    refine rw_sw1 (fun _ => lw_20 w hL hp next) (fun _ => ?_)
    refine rw_sw1 (fun _ => lw_21 w hL hp next) (fun _ => ?_)
    refine rw_sw1 (fun _ => lw_22 w hL hp next) (fun _ => ?_)
    refine rw_sw1 (fun _ => lw_23 w hL hp next) (fun _ => ?_)
    refine rw_sw1 (fun _ => lw_24 w hL hp next) (fun _ => ?_)
    refine rw_sw1 (fun _ => lw_25 w hL hp next) (fun _ => ?_)
    refine rw_sw1 (fun _ => lw_26 w hL hp next) (fun _ => ?_)
    refine rw_sw1 (fun _ => lw_27 w hL hp next) (fun _ => ?_)
    refine rw_sw1 (fun _ => lw_28 w hL hp next) (fun _ => ?_)
    refine rw_sw1 (fun _ => lw_29 w hL hp next) (fun _ => ?_)
    refine rw_sw1 (fun _ => lw_30 w hL hp next) (fun _ => ?_)
    refine rw_sw1 (fun _ => lw_31 w hL hp next) (fun _ => ?_)
    refine rw_sw1 (fun _ => lw_32 w hL hp next) (fun _ => ?_)
    refine rw_sw1 (fun _ => lw_33 w hL hp next) (fun _ => ?_)
    refine rw_sw1 (fun _ => lw_34 w hL hp next) (fun _ => ?_)
    refine rw_sw1 (fun _ => lw_35 w hL hp next) (fun _ => ?_)
    refine rw_sw1 (fun _ => lw_36 w hL hp next) (fun _ => ?_)
    refine rw_sw1 (fun _ => lw_37 w hL hp next) (fun _ => ?_)
    exact rw_sw0 (next h w.mono)
theorem pure_goal : PureGoal := by
  intro h b L hi hL
  have em := EM_Init hi
  have sw := SWd_Init hi
  obtain ⟨⟨kb, b0, bn⟩, -, -, -, -, al⟩ := id hi
  have al : Al h := al
  have hz : ¬ hp_n h = 0 := by have := al.1; omega
  have main : Rn 1200 n_L_law 0 [am_r b, am_u, am_u, am_u] [] h (kI (fun v h' => v = 1 ∧ hp_n h' ≤ hp_n h + 601024 ∧ hp_u h' ≤ hp_u h + 7293034)) := by
    generalize hx : hp_n h = x at hz
    have g : Rn 1200 n_L_law 0 [am_r b, am_u, am_u, am_u] [] (nh h x 0 0 cnK (fun _ _ => 0) (fun _ _ => 0)) (kI (fun v h' => v = 1 ∧ hp_n h' ≤ x + 601024 ∧ hp_u h' ≤ hp_u h + 7293034)) := by
      refine no_new (n := 0) (n' := 1) (u' := 20) f_L_law_0 rfl (fun _ => rfl) (fun _ => rfl) rfl rfl ?_
      refine rw_dupr f_L_law_3 ?_
      refine rw_callI (a := x + 0) f_L_law_4 rfl (by omega) rfl rfl rfl (rn_kv (C_init hx.symm hz al em (fun h1 st l1 l2 l3 dp i12 io bx => ?_)))
      obtain ⟨n1, cr, mw, fr⟩ := both_start hx.symm hz al em st l1 l2 l3 dp i12 io bx
      refine rw_astore f_L_law_7 rfl rfl ?_
      have g2 : Rn 1200 n_L_law 8 [am_r b, am_r x, am_u, am_u] [] (nh h1 (x + 33) 0 0 mnK (fun _ _ => 0) (fun _ _ => 0)) (kI (fun v h' => v = 1 ∧ hp_n h' ≤ x + 601024 ∧ hp_u h' ≤ hp_u h + 7293034)) := by
        refine no_new (n := 0) (n' := 1) (u' := 97) f_L_law_8 rfl (fun _ => rfl) (fun _ => rfl) rfl rfl ?_
        refine rw_dupr f_L_law_11 ?_
        refine rw_callI (a := x + 33 + 0) f_L_law_12 rfl (by omega) rfl rfl rfl (rn_kv (M_init (by omega) ?_))
        refine rw_astore f_L_law_15 rfl rfl ?_
        refine rw_const f_L_law_16 ?_
        refine rw_istore f_L_law_17 rfl rfl ?_
        have em2 : EM (hM h1 (x + 33)) := em.fr al fr id
        have sw2 : SWd (hM h1 (x + 33)) := sw.fr al fr (fun _ w => absurd w id) (fun _ w => absurd w id)
        have bl : b < hp_n h := bn
        have w0 : WL b L (hp_I h b) x (x + 85 + 4813 * 0) (hp_u h + 8817 + 96200 * 0) (hM h1 (x + 33)) := ⟨⟨_, _, _, _, _, _, _, _, cr⟩, mw, sw2, em2, ⟨by rw [fr.K bl]; exact kb, fr.I bl id⟩, by have := fr.1.2; omega, by have := fr.2.1; omega⟩
        refine lw_loop (N0 := x + 85) (U0 := hp_u h + 8817) hL (fun i h2 hi2 w2 => ⟨rfl, ?_, ?_⟩) L 0 (hM h1 (x + 33)) (by omega) w0
        · have := w2.2.2.2.2.2.1; omega
        · have := w2.2.2.2.2.2.2; omega
      rw [nh_0 n1.symm] at g2
      exact g2
    rw [nh_0 hx.symm] at g
    exact g
  exact rn_mono main (fun r h' ⟨v, e, q1, q2, q3⟩ => ⟨by rw [e, q1], q2, q3⟩)
end Law
theorem whole_start {p : Program} {e : Env} {s : State} {m : MethodId} {below : List Frame} {meth : Method} {c : Code} (l : Launch) (hflags : l.flags = flags0) {b L : Nat} {xs : Nat → Int32} (hL : L ≤ 384) (C0 : lw_At p s m meth c b L xs) : W p l e room_1 s m #[Value.ref b] below meth c s.heap [] 0 0 (lw_Z below #[Value.ref b] s) (entryFrame m ([Value.ref b] : List Value).toArray 4) :=
  st_whole pure_goal l hflags hL C0
