/-! THE MODEL: its constructor (written by tools/gen_init.py) -/
def mnK (a : Nat) : Nat × Nat := match a with
  | 0 => (109, 0)
  | 1 => (1, 1600)
  | 2 => (4, 22)
  | 3 => (1, 320)
  | 4 => (1, 320)
  | 5 => (1, 320)
  | 6 => (1, 320)
  | 7 => (1, 160)
  | 8 => (1, 64)
  | 9 => (1, 4)
  | 10 => (1, 6)
  | 11 => (1, 6)
  | 12 => (1, 6)
  | 13 => (1, 6)
  | 14 => (1, 36)
  | 15 => (1, 6)
  | 16 => (1, 6)
  | 17 => (1, 6)
  | 18 => (1, 6)
  | 19 => (1, 36)
  | 20 => (1, 10)
  | 21 => (1, 10)
  | 22 => (1, 10)
  | 23 => (1, 10)
  | 24 => (1, 10)
  | 25 => (1, 10)
  | 26 => (1, 10)
  | 27 => (1, 10)
  | 28 => (1, 10)
  | 29 => (1, 10)
  | 30 => (1, 10)
  | 31 => (1, 10)
  | 32 => (3, 10)
  | 33 => (3, 10)
  | 34 => (1, 24)
  | 35 => (1, 960)
  | 36 => (1, 10)
  | 37 => (1, 10)
  | 38 => (1, 7)
  | 39 => (1, 7)
  | 40 => (1, 7)
  | 41 => (1, 7)
  | 42 => (1, 10)
  | 43 => (3, 1024)
  | 44 => (1, 6)
  | 45 => (1, 30)
  | 46 => (1, 30)
  | 47 => (1, 30)
  | 48 => (1, 30)
  | 49 => (3, 30)
  | 50 => (3, 3)
  | 51 => (1, 72)
  | _ => (0, 0)
def mnR : Nat → Nat → Nat := am_up (am_up (am_up (am_up (am_up (am_up (am_up (am_up (am_up (am_up (am_up (am_up (am_up (am_up (am_up (am_up (am_up (am_up (am_up (am_up (am_up (am_up (am_up (am_up (am_up (am_up (am_up (am_up (am_up (am_up (am_up (am_up (am_up (am_up (am_up (am_up (am_up (am_up (am_up (am_up (am_up (am_up (am_up (am_up (am_up (am_up (am_up (am_up (am_up (am_up (am_up ((fun _ _ => 0)) 0 0 3) 0 10 4) 0 11 5) 0 12 6) 0 13 7) 0 14 8) 0 15 9) 0 16 10) 0 24 11) 0 25 12) 0 26 13) 0 27 14) 0 28 15) 0 29 16) 0 30 17) 0 31 18) 0 32 19) 0 33 20) 0 34 21) 0 35 22) 0 36 23) 0 37 24) 0 38 25) 0 39 26) 0 40 27) 0 41 28) 0 42 29) 0 43 30) 0 44 31) 0 45 32) 0 46 33) 0 47 34) 0 48 35) 0 67 36) 0 68 37) 0 71 38) 0 72 39) 0 75 40) 0 76 41) 0 77 42) 0 78 43) 0 84 44) 0 86 45) 0 87 46) 0 88 47) 0 89 48) 0 90 49) 0 91 50) 0 92 51) 0 95 52) 0 96 53
def mnI : am_M := am_up (am_up ((fun _ _ => 0)) 0 3 (-1)) 0 60 (8)
theorem M_init {d : Nat} {h : am_H} {x : Nat} (hz : ¬ x = 0) {k : am_H → Prop} (hk : k (nh h x 52 5784 mnK mnI mnR)) : Rn d n_X9_init 0 [am_r (x + 0)] [] (nh h x 1 97 mnK (fun _ _ => 0) (fun _ _ => 0)) (kV k) := by
  refine rw_aload f_X9_init_0 rfl ?_
  refine rw_obj f_X9_init_1 (by omega) rfl ?_
  refine rw_aload f_X9_init_4 rfl ?_
  refine rw_const f_X9_init_5 ?_
  refine no_newa (n := 1) (n' := 2) (u' := 1697) (l := 1600) f_X9_init_8 rfl (by decide) rfl (fun _ => rfl) (fun _ => rfl) rfl rfl ?_
  refine no_putR (a := 0) (c := 3) f_X9_init_10 (by decide) rfl rfl ?_
  refine rw_aload f_X9_init_13 rfl ?_
  refine rw_const f_X9_init_14 ?_
  refine no_putI (a := 0) f_X9_init_15 (by decide) rfl ?_
  refine rw_aload f_X9_init_18 rfl ?_
  refine rw_const f_X9_init_19 ?_
  refine no_newa (n := 2) (n' := 3) (u' := 1719) (l := 22) f_X9_init_21 rfl (by decide) rfl (fun _ => rfl) (fun _ => rfl) rfl rfl ?_
  refine no_putR (a := 0) (c := 4) f_X9_init_23 (by decide) rfl rfl ?_
  refine rw_aload f_X9_init_26 rfl ?_
  refine rw_const f_X9_init_27 ?_
  refine no_newa (n := 3) (n' := 4) (u' := 2039) (l := 320) f_X9_init_30 rfl (by decide) rfl (fun _ => rfl) (fun _ => rfl) rfl rfl ?_
  refine no_putR (a := 0) (c := 5) f_X9_init_32 (by decide) rfl rfl ?_
  refine rw_aload f_X9_init_35 rfl ?_
  refine rw_const f_X9_init_36 ?_
  refine no_newa (n := 4) (n' := 5) (u' := 2359) (l := 320) f_X9_init_39 rfl (by decide) rfl (fun _ => rfl) (fun _ => rfl) rfl rfl ?_
  refine no_putR (a := 0) (c := 6) f_X9_init_41 (by decide) rfl rfl ?_
  refine rw_aload f_X9_init_44 rfl ?_
  refine rw_const f_X9_init_45 ?_
  refine no_newa (n := 5) (n' := 6) (u' := 2679) (l := 320) f_X9_init_48 rfl (by decide) rfl (fun _ => rfl) (fun _ => rfl) rfl rfl ?_
  refine no_putR (a := 0) (c := 7) f_X9_init_50 (by decide) rfl rfl ?_
  refine rw_aload f_X9_init_53 rfl ?_
  refine rw_const f_X9_init_54 ?_
  refine no_newa (n := 6) (n' := 7) (u' := 2999) (l := 320) f_X9_init_57 rfl (by decide) rfl (fun _ => rfl) (fun _ => rfl) rfl rfl ?_
  refine no_putR (a := 0) (c := 8) f_X9_init_59 (by decide) rfl rfl ?_
  refine rw_aload f_X9_init_62 rfl ?_
  refine rw_const f_X9_init_63 ?_
  refine no_newa (n := 7) (n' := 8) (u' := 3159) (l := 160) f_X9_init_66 rfl (by decide) rfl (fun _ => rfl) (fun _ => rfl) rfl rfl ?_
  refine no_putR (a := 0) (c := 9) f_X9_init_68 (by decide) rfl rfl ?_
  refine rw_aload f_X9_init_71 rfl ?_
  refine rw_const f_X9_init_72 ?_
  refine no_newa (n := 8) (n' := 9) (u' := 3223) (l := 64) f_X9_init_74 rfl (by decide) rfl (fun _ => rfl) (fun _ => rfl) rfl rfl ?_
  refine no_putR (a := 0) (c := 10) f_X9_init_76 (by decide) rfl rfl ?_
  refine rw_aload f_X9_init_79 rfl ?_
  refine rw_const f_X9_init_80 ?_
  refine no_newa (n := 9) (n' := 10) (u' := 3227) (l := 4) f_X9_init_81 rfl (by decide) rfl (fun _ => rfl) (fun _ => rfl) rfl rfl ?_
  refine no_putR (a := 0) (c := 11) f_X9_init_83 (by decide) rfl rfl ?_
  refine rw_aload f_X9_init_86 rfl ?_
  refine rw_const f_X9_init_87 ?_
  refine no_newa (n := 10) (n' := 11) (u' := 3233) (l := 6) f_X9_init_89 rfl (by decide) rfl (fun _ => rfl) (fun _ => rfl) rfl rfl ?_
  refine no_putR (a := 0) (c := 12) f_X9_init_91 (by decide) rfl rfl ?_
  refine rw_aload f_X9_init_94 rfl ?_
  refine rw_const f_X9_init_95 ?_
  refine no_newa (n := 11) (n' := 12) (u' := 3239) (l := 6) f_X9_init_97 rfl (by decide) rfl (fun _ => rfl) (fun _ => rfl) rfl rfl ?_
  refine no_putR (a := 0) (c := 13) f_X9_init_99 (by decide) rfl rfl ?_
  refine rw_aload f_X9_init_102 rfl ?_
  refine rw_const f_X9_init_103 ?_
  refine no_newa (n := 12) (n' := 13) (u' := 3245) (l := 6) f_X9_init_105 rfl (by decide) rfl (fun _ => rfl) (fun _ => rfl) rfl rfl ?_
  refine no_putR (a := 0) (c := 14) f_X9_init_107 (by decide) rfl rfl ?_
  refine rw_aload f_X9_init_110 rfl ?_
  refine rw_const f_X9_init_111 ?_
  refine no_newa (n := 13) (n' := 14) (u' := 3251) (l := 6) f_X9_init_113 rfl (by decide) rfl (fun _ => rfl) (fun _ => rfl) rfl rfl ?_
  refine no_putR (a := 0) (c := 15) f_X9_init_115 (by decide) rfl rfl ?_
  refine rw_aload f_X9_init_118 rfl ?_
  refine rw_const f_X9_init_119 ?_
  refine no_newa (n := 14) (n' := 15) (u' := 3287) (l := 36) f_X9_init_121 rfl (by decide) rfl (fun _ => rfl) (fun _ => rfl) rfl rfl ?_
  refine no_putR (a := 0) (c := 16) f_X9_init_123 (by decide) rfl rfl ?_
  refine rw_aload f_X9_init_126 rfl ?_
  refine rw_const f_X9_init_127 ?_
  refine no_newa (n := 15) (n' := 16) (u' := 3293) (l := 6) f_X9_init_129 rfl (by decide) rfl (fun _ => rfl) (fun _ => rfl) rfl rfl ?_
  refine no_putR (a := 0) (c := 17) f_X9_init_131 (by decide) rfl rfl ?_
  refine rw_aload f_X9_init_134 rfl ?_
  refine rw_const f_X9_init_135 ?_
  refine no_newa (n := 16) (n' := 17) (u' := 3299) (l := 6) f_X9_init_137 rfl (by decide) rfl (fun _ => rfl) (fun _ => rfl) rfl rfl ?_
  refine no_putR (a := 0) (c := 18) f_X9_init_139 (by decide) rfl rfl ?_
  refine rw_aload f_X9_init_142 rfl ?_
  refine rw_const f_X9_init_143 ?_
  refine no_newa (n := 17) (n' := 18) (u' := 3305) (l := 6) f_X9_init_145 rfl (by decide) rfl (fun _ => rfl) (fun _ => rfl) rfl rfl ?_
  refine no_putR (a := 0) (c := 19) f_X9_init_147 (by decide) rfl rfl ?_
  refine rw_aload f_X9_init_150 rfl ?_
  refine rw_const f_X9_init_151 ?_
  refine no_newa (n := 18) (n' := 19) (u' := 3311) (l := 6) f_X9_init_153 rfl (by decide) rfl (fun _ => rfl) (fun _ => rfl) rfl rfl ?_
  refine no_putR (a := 0) (c := 20) f_X9_init_155 (by decide) rfl rfl ?_
  refine rw_aload f_X9_init_158 rfl ?_
  refine rw_const f_X9_init_159 ?_
  refine no_newa (n := 19) (n' := 20) (u' := 3347) (l := 36) f_X9_init_161 rfl (by decide) rfl (fun _ => rfl) (fun _ => rfl) rfl rfl ?_
  refine no_putR (a := 0) (c := 21) f_X9_init_163 (by decide) rfl rfl ?_
  refine rw_aload f_X9_init_166 rfl ?_
  refine rw_const f_X9_init_167 ?_
  refine no_newa (n := 20) (n' := 21) (u' := 3357) (l := 10) f_X9_init_169 rfl (by decide) rfl (fun _ => rfl) (fun _ => rfl) rfl rfl ?_
  refine no_putR (a := 0) (c := 22) f_X9_init_171 (by decide) rfl rfl ?_
  refine rw_aload f_X9_init_174 rfl ?_
  refine rw_const f_X9_init_175 ?_
  refine no_newa (n := 21) (n' := 22) (u' := 3367) (l := 10) f_X9_init_177 rfl (by decide) rfl (fun _ => rfl) (fun _ => rfl) rfl rfl ?_
  refine no_putR (a := 0) (c := 23) f_X9_init_179 (by decide) rfl rfl ?_
  refine rw_aload f_X9_init_182 rfl ?_
  refine rw_const f_X9_init_183 ?_
  refine no_newa (n := 22) (n' := 23) (u' := 3377) (l := 10) f_X9_init_185 rfl (by decide) rfl (fun _ => rfl) (fun _ => rfl) rfl rfl ?_
  refine no_putR (a := 0) (c := 24) f_X9_init_187 (by decide) rfl rfl ?_
  refine rw_aload f_X9_init_190 rfl ?_
  refine rw_const f_X9_init_191 ?_
  refine no_newa (n := 23) (n' := 24) (u' := 3387) (l := 10) f_X9_init_193 rfl (by decide) rfl (fun _ => rfl) (fun _ => rfl) rfl rfl ?_
  refine no_putR (a := 0) (c := 25) f_X9_init_195 (by decide) rfl rfl ?_
  refine rw_aload f_X9_init_198 rfl ?_
  refine rw_const f_X9_init_199 ?_
  refine no_newa (n := 24) (n' := 25) (u' := 3397) (l := 10) f_X9_init_201 rfl (by decide) rfl (fun _ => rfl) (fun _ => rfl) rfl rfl ?_
  refine no_putR (a := 0) (c := 26) f_X9_init_203 (by decide) rfl rfl ?_
  refine rw_aload f_X9_init_206 rfl ?_
  refine rw_const f_X9_init_207 ?_
  refine no_newa (n := 25) (n' := 26) (u' := 3407) (l := 10) f_X9_init_209 rfl (by decide) rfl (fun _ => rfl) (fun _ => rfl) rfl rfl ?_
  refine no_putR (a := 0) (c := 27) f_X9_init_211 (by decide) rfl rfl ?_
  refine rw_aload f_X9_init_214 rfl ?_
  refine rw_const f_X9_init_215 ?_
  refine no_newa (n := 26) (n' := 27) (u' := 3417) (l := 10) f_X9_init_217 rfl (by decide) rfl (fun _ => rfl) (fun _ => rfl) rfl rfl ?_
  refine no_putR (a := 0) (c := 28) f_X9_init_219 (by decide) rfl rfl ?_
  refine rw_aload f_X9_init_222 rfl ?_
  refine rw_const f_X9_init_223 ?_
  refine no_newa (n := 27) (n' := 28) (u' := 3427) (l := 10) f_X9_init_225 rfl (by decide) rfl (fun _ => rfl) (fun _ => rfl) rfl rfl ?_
  refine no_putR (a := 0) (c := 29) f_X9_init_227 (by decide) rfl rfl ?_
  refine rw_aload f_X9_init_230 rfl ?_
  refine rw_const f_X9_init_231 ?_
  refine no_newa (n := 28) (n' := 29) (u' := 3437) (l := 10) f_X9_init_233 rfl (by decide) rfl (fun _ => rfl) (fun _ => rfl) rfl rfl ?_
  refine no_putR (a := 0) (c := 30) f_X9_init_235 (by decide) rfl rfl ?_
  refine rw_aload f_X9_init_238 rfl ?_
  refine rw_const f_X9_init_239 ?_
  refine no_newa (n := 29) (n' := 30) (u' := 3447) (l := 10) f_X9_init_241 rfl (by decide) rfl (fun _ => rfl) (fun _ => rfl) rfl rfl ?_
  refine no_putR (a := 0) (c := 31) f_X9_init_243 (by decide) rfl rfl ?_
  refine rw_aload f_X9_init_246 rfl ?_
  refine rw_const f_X9_init_247 ?_
  refine no_newa (n := 30) (n' := 31) (u' := 3457) (l := 10) f_X9_init_249 rfl (by decide) rfl (fun _ => rfl) (fun _ => rfl) rfl rfl ?_
  refine no_putR (a := 0) (c := 32) f_X9_init_251 (by decide) rfl rfl ?_
  refine rw_aload f_X9_init_254 rfl ?_
  refine rw_const f_X9_init_255 ?_
  refine no_newa (n := 31) (n' := 32) (u' := 3467) (l := 10) f_X9_init_257 rfl (by decide) rfl (fun _ => rfl) (fun _ => rfl) rfl rfl ?_
  refine no_putR (a := 0) (c := 33) f_X9_init_259 (by decide) rfl rfl ?_
  refine rw_aload f_X9_init_262 rfl ?_
  refine rw_const f_X9_init_263 ?_
  refine no_newa (n := 32) (n' := 33) (u' := 3477) (l := 10) f_X9_init_265 rfl (by decide) rfl (fun _ => rfl) (fun _ => rfl) rfl rfl ?_
  refine no_putR (a := 0) (c := 34) f_X9_init_267 (by decide) rfl rfl ?_
  refine rw_aload f_X9_init_270 rfl ?_
  refine rw_const f_X9_init_271 ?_
  refine no_newa (n := 33) (n' := 34) (u' := 3487) (l := 10) f_X9_init_273 rfl (by decide) rfl (fun _ => rfl) (fun _ => rfl) rfl rfl ?_
  refine no_putR (a := 0) (c := 35) f_X9_init_275 (by decide) rfl rfl ?_
  refine rw_aload f_X9_init_278 rfl ?_
  refine rw_const f_X9_init_279 ?_
  refine no_putI (a := 0) f_X9_init_281 (by decide) rfl ?_
  refine rw_aload f_X9_init_284 rfl ?_
  refine rw_const f_X9_init_285 ?_
  refine no_newa (n := 34) (n' := 35) (u' := 3511) (l := 24) f_X9_init_287 rfl (by decide) rfl (fun _ => rfl) (fun _ => rfl) rfl rfl ?_
  refine no_putR (a := 0) (c := 36) f_X9_init_289 (by decide) rfl rfl ?_
  refine rw_aload f_X9_init_292 rfl ?_
  refine rw_const f_X9_init_293 ?_
  refine no_newa (n := 35) (n' := 36) (u' := 4471) (l := 960) f_X9_init_296 rfl (by decide) rfl (fun _ => rfl) (fun _ => rfl) rfl rfl ?_
  refine no_putR (a := 0) (c := 37) f_X9_init_298 (by decide) rfl rfl ?_
  refine rw_aload f_X9_init_301 rfl ?_
  refine rw_const f_X9_init_302 ?_
  refine no_newa (n := 36) (n' := 37) (u' := 4481) (l := 10) f_X9_init_304 rfl (by decide) rfl (fun _ => rfl) (fun _ => rfl) rfl rfl ?_
  refine no_putR (a := 0) (c := 38) f_X9_init_306 (by decide) rfl rfl ?_
  refine rw_aload f_X9_init_309 rfl ?_
  refine rw_const f_X9_init_310 ?_
  refine no_newa (n := 37) (n' := 38) (u' := 4491) (l := 10) f_X9_init_312 rfl (by decide) rfl (fun _ => rfl) (fun _ => rfl) rfl rfl ?_
  refine no_putR (a := 0) (c := 39) f_X9_init_314 (by decide) rfl rfl ?_
  refine rw_aload f_X9_init_317 rfl ?_
  refine rw_const f_X9_init_318 ?_
  refine no_newa (n := 38) (n' := 39) (u' := 4498) (l := 7) f_X9_init_320 rfl (by decide) rfl (fun _ => rfl) (fun _ => rfl) rfl rfl ?_
  refine no_putR (a := 0) (c := 40) f_X9_init_322 (by decide) rfl rfl ?_
  refine rw_aload f_X9_init_325 rfl ?_
  refine rw_const f_X9_init_326 ?_
  refine no_newa (n := 39) (n' := 40) (u' := 4505) (l := 7) f_X9_init_328 rfl (by decide) rfl (fun _ => rfl) (fun _ => rfl) rfl rfl ?_
  refine no_putR (a := 0) (c := 41) f_X9_init_330 (by decide) rfl rfl ?_
  refine rw_aload f_X9_init_333 rfl ?_
  refine rw_const f_X9_init_334 ?_
  refine no_newa (n := 40) (n' := 41) (u' := 4512) (l := 7) f_X9_init_336 rfl (by decide) rfl (fun _ => rfl) (fun _ => rfl) rfl rfl ?_
  refine no_putR (a := 0) (c := 42) f_X9_init_338 (by decide) rfl rfl ?_
  refine rw_aload f_X9_init_341 rfl ?_
  refine rw_const f_X9_init_342 ?_
  refine no_newa (n := 41) (n' := 42) (u' := 4519) (l := 7) f_X9_init_344 rfl (by decide) rfl (fun _ => rfl) (fun _ => rfl) rfl rfl ?_
  refine no_putR (a := 0) (c := 43) f_X9_init_346 (by decide) rfl rfl ?_
  refine rw_aload f_X9_init_349 rfl ?_
  refine rw_const f_X9_init_350 ?_
  refine no_newa (n := 42) (n' := 43) (u' := 4529) (l := 10) f_X9_init_352 rfl (by decide) rfl (fun _ => rfl) (fun _ => rfl) rfl rfl ?_
  refine no_putR (a := 0) (c := 44) f_X9_init_354 (by decide) rfl rfl ?_
  refine rw_aload f_X9_init_357 rfl ?_
  refine rw_const f_X9_init_358 ?_
  refine no_newa (n := 43) (n' := 44) (u' := 5553) (l := 1024) f_X9_init_361 rfl (by decide) rfl (fun _ => rfl) (fun _ => rfl) rfl rfl ?_
  refine no_putR (a := 0) (c := 45) f_X9_init_363 (by decide) rfl rfl ?_
  refine rw_aload f_X9_init_366 rfl ?_
  refine rw_const f_X9_init_367 ?_
  refine no_newa (n := 44) (n' := 45) (u' := 5559) (l := 6) f_X9_init_369 rfl (by decide) rfl (fun _ => rfl) (fun _ => rfl) rfl rfl ?_
  refine no_putR (a := 0) (c := 46) f_X9_init_371 (by decide) rfl rfl ?_
  refine rw_aload f_X9_init_374 rfl ?_
  refine rw_const f_X9_init_375 ?_
  refine no_newa (n := 45) (n' := 46) (u' := 5589) (l := 30) f_X9_init_377 rfl (by decide) rfl (fun _ => rfl) (fun _ => rfl) rfl rfl ?_
  refine no_putR (a := 0) (c := 47) f_X9_init_379 (by decide) rfl rfl ?_
  refine rw_aload f_X9_init_382 rfl ?_
  refine rw_const f_X9_init_383 ?_
  refine no_newa (n := 46) (n' := 47) (u' := 5619) (l := 30) f_X9_init_385 rfl (by decide) rfl (fun _ => rfl) (fun _ => rfl) rfl rfl ?_
  refine no_putR (a := 0) (c := 48) f_X9_init_387 (by decide) rfl rfl ?_
  refine rw_aload f_X9_init_390 rfl ?_
  refine rw_const f_X9_init_391 ?_
  refine no_newa (n := 47) (n' := 48) (u' := 5649) (l := 30) f_X9_init_393 rfl (by decide) rfl (fun _ => rfl) (fun _ => rfl) rfl rfl ?_
  refine no_putR (a := 0) (c := 49) f_X9_init_395 (by decide) rfl rfl ?_
  refine rw_aload f_X9_init_398 rfl ?_
  refine rw_const f_X9_init_399 ?_
  refine no_newa (n := 48) (n' := 49) (u' := 5679) (l := 30) f_X9_init_401 rfl (by decide) rfl (fun _ => rfl) (fun _ => rfl) rfl rfl ?_
  refine no_putR (a := 0) (c := 50) f_X9_init_403 (by decide) rfl rfl ?_
  refine rw_aload f_X9_init_406 rfl ?_
  refine rw_const f_X9_init_407 ?_
  refine no_newa (n := 49) (n' := 50) (u' := 5709) (l := 30) f_X9_init_409 rfl (by decide) rfl (fun _ => rfl) (fun _ => rfl) rfl rfl ?_
  refine no_putR (a := 0) (c := 51) f_X9_init_411 (by decide) rfl rfl ?_
  refine rw_aload f_X9_init_414 rfl ?_
  refine rw_const f_X9_init_415 ?_
  refine no_newa (n := 50) (n' := 51) (u' := 5712) (l := 3) f_X9_init_416 rfl (by decide) rfl (fun _ => rfl) (fun _ => rfl) rfl rfl ?_
  refine no_putR (a := 0) (c := 52) f_X9_init_418 (by decide) rfl rfl ?_
  refine rw_aload f_X9_init_421 rfl ?_
  refine rw_const f_X9_init_422 ?_
  refine no_newa (n := 51) (n' := 52) (u' := 5784) (l := 72) f_X9_init_424 rfl (by decide) rfl (fun _ => rfl) (fun _ => rfl) rfl rfl ?_
  refine no_putR (a := 0) (c := 53) f_X9_init_426 (by decide) rfl rfl ?_
  refine rw_vret f_X9_init_429 ?_
  exact hk
