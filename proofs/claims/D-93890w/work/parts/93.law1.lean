/-! THE LAW'S CASES (printed by gen/mk_x93.py) -/
set_option maxRecDepth 100000
abbrev YL : YT := (x, Cond.code x code 4 ret, code, 4, ret, [])
abbrev GL : GT := (YL, (2048, 94400, 603072, 7262314), qi (fun r _ => r = 1), noX)
theorem lg_same (x : Int64) : lg_cmp x x = 0 := by
  unfold lg_cmp
  simp
theorem law_0 {Ω : OM} {l : Launch} {p : Program} {e : Env} {s : State} {m : MethodId} {args : Array Value} {below : List Frame} {meth : Method} {c : Code} (F : Fx Ω GL l p s m args meth c) {M : PM} {xo mo j n : Nat} (hL : Ω.2.2.2.2 7 ≤ 384) (hj6 : 6 * j + 5 < Ω.2.2.2.2 7) (hl : LI M xo mo)
    (hnx : ∀ M', LI M' xo mo → WL Ω l p e s m args below meth c GL (2773 * n) (19897 * n) M' 1747 [some (.ref (Ω.2.2.2.2 6)), some (.ref xo), some (.ref mo), some (.int (nI (6 * j)))] []) : WL Ω l p e s m args below meth c GL (2773 * (n + 1)) (19897 * (n + 1)) M 224 [some (.ref (Ω.2.2.2.2 6)), some (.ref xo), some (.ref mo), some (.int (nI (6 * j)))] [] := by
  obtain ⟨hm, hS, wa, hx⟩ := hl
  refine l_aload_n F (pc := 224) dL_law_224 rfl ?_
  refine l_aload_n F (pc := 225) dL_law_225 rfl ?_
  refine l_iload_n F (pc := 226) dL_law_226 rfl ?_
  refine l_iconst F (pc := 227) (v := 1) dL_law_227 (by decide) ?_
  refine l_iadd F (pc := 228) dL_law_228 ?_
  refine l_scr F (pc := 229) dL_law_229 (scr_in hj6 hL (by decide)) ?_
  refine l_aload_n F (pc := 230) dL_law_230 rfl ?_
  refine l_iload_n F (pc := 231) dL_law_231 rfl ?_
  refine l_iconst F (pc := 232) (v := 2) dL_law_232 (by decide) ?_
  refine l_iadd F (pc := 233) dL_law_233 ?_
  refine l_scr F (pc := 234) dL_law_234 (scr_in hj6 hL (by decide)) ?_
  refine l_aload_n F (pc := 235) dL_law_235 rfl ?_
  refine l_iload_n F (pc := 236) dL_law_236 rfl ?_
  refine l_iconst F (pc := 237) (v := 3) dL_law_237 (by decide) ?_
  refine l_iadd F (pc := 238) dL_law_238 ?_
  refine l_scr F (pc := 239) dL_law_239 (scr_in hj6 hL (by decide)) ?_
  refine l_call F (pc := 240) (bc' := 2773 * n) (bs' := 19897 * n) (vs := [.ref xo, .int _, .int _, .int _]) (ct_X0_row hx _ _ _ hS) k_L_13_0 dL_law_240 rfl rfl (fun _ h => by cases h; exact ⟨xo, _, rfl, hx.1.2.1⟩) (Nat.le_of_ble_eq_true rfl) ⟨Nat.le_of_ble_eq_true rfl, Nat.le_of_ble_eq_true rfl⟩ ⟨by show 2773 * n + 9 ≤ 2773 * (n + 1); omega, by show 19897 * n + 411 ≤ 19897 * (n + 1); omega⟩ (fun _ _ _ h => h) (l_ci fun r1 M1 p1 => ?_)
  obtain ⟨rfl, hX⟩ := li_x hm p1
  have hS' : OkS (sS (mI M1) (mL M1) mo).1 := by rw [hX.2.1]; exact hS
  refine l_aload_n F (pc := 243) dL_law_243 rfl ?_
  refine l_aload_n F (pc := 244) dL_law_244 rfl ?_
  refine l_iload_n F (pc := 245) dL_law_245 rfl ?_
  refine l_iconst F (pc := 246) (v := 1) dL_law_246 (by decide) ?_
  refine l_iadd F (pc := 247) dL_law_247 ?_
  refine l_scr F (pc := 248) dL_law_248 (scr_in hj6 hL (by decide)) ?_
  refine l_aload_n F (pc := 249) dL_law_249 rfl ?_
  refine l_iload_n F (pc := 250) dL_law_250 rfl ?_
  refine l_iconst F (pc := 251) (v := 2) dL_law_251 (by decide) ?_
  refine l_iadd F (pc := 252) dL_law_252 ?_
  refine l_scr F (pc := 253) dL_law_253 (scr_in hj6 hL (by decide)) ?_
  refine l_aload_n F (pc := 254) dL_law_254 rfl ?_
  refine l_iload_n F (pc := 255) dL_law_255 rfl ?_
  refine l_iconst F (pc := 256) (v := 3) dL_law_256 (by decide) ?_
  refine l_iadd F (pc := 257) dL_law_257 ?_
  refine l_scr F (pc := 258) dL_law_258 (scr_in hj6 hL (by decide)) ?_
  refine l_call F (pc := 259) (bc' := 2773 * n) (bs' := 19897 * n) (vs := [.ref mo, .int _, .int _, .int _]) (ct_X5_row (M0 := M1) (I := mI M1) (L := mL M1) hX.1 _ _ _ hS') k_L_17_5 dL_law_259 rfl rfl (fun _ h => by cases h; exact ⟨mo, _, rfl, MR_k hX.1⟩) (Nat.le_of_ble_eq_true rfl) ⟨Nat.le_of_ble_eq_true rfl, Nat.le_of_ble_eq_true rfl⟩ ⟨Nat.le_refl _, Nat.le_refl _⟩ (fun _ _ _ h => h) (l_ci fun r2 M2 p2 => ?_)
  obtain ⟨rfl, hl2⟩ := li_m hX (ok_row hS _ _ _) (by have p3 := p2; rw [hX.2.1] at p3; exact p3)
  refine l_icmp_eq F (pc := 262) 1747 dL_law_262 rfl (fun _ => ?_) (fun hno => False.elim (hno (by first | rfl | (rw [hX.2.1]) | (show _ = _; rw [hX.2.1]))))
  exact hnx M2 hl2
theorem law_1 {Ω : OM} {l : Launch} {p : Program} {e : Env} {s : State} {m : MethodId} {args : Array Value} {below : List Frame} {meth : Method} {c : Code} (F : Fx Ω GL l p s m args meth c) {M : PM} {xo mo j n : Nat} (hL : Ω.2.2.2.2 7 ≤ 384) (hj6 : 6 * j + 5 < Ω.2.2.2.2 7) (hl : LI M xo mo)
    (hnx : ∀ M', LI M' xo mo → WL Ω l p e s m args below meth c GL (2773 * n) (19897 * n) M' 1747 [some (.ref (Ω.2.2.2.2 6)), some (.ref xo), some (.ref mo), some (.int (nI (6 * j)))] []) : WL Ω l p e s m args below meth c GL (2773 * (n + 1)) (19897 * (n + 1)) M 267 [some (.ref (Ω.2.2.2.2 6)), some (.ref xo), some (.ref mo), some (.int (nI (6 * j)))] [] := by
  obtain ⟨hm, hS, wa, hx⟩ := hl
  refine l_aload_n F (pc := 267) dL_law_267 rfl ?_
  refine l_aload_n F (pc := 268) dL_law_268 rfl ?_
  refine l_iload_n F (pc := 269) dL_law_269 rfl ?_
  refine l_iconst F (pc := 270) (v := 1) dL_law_270 (by decide) ?_
  refine l_iadd F (pc := 271) dL_law_271 ?_
  refine l_scr F (pc := 272) dL_law_272 (scr_in hj6 hL (by decide)) ?_
  refine l_aload_n F (pc := 273) dL_law_273 rfl ?_
  refine l_iload_n F (pc := 274) dL_law_274 rfl ?_
  refine l_iconst F (pc := 275) (v := 2) dL_law_275 (by decide) ?_
  refine l_iadd F (pc := 276) dL_law_276 ?_
  refine l_scr F (pc := 277) dL_law_277 (scr_in hj6 hL (by decide)) ?_
  refine l_aload_n F (pc := 278) dL_law_278 rfl ?_
  refine l_iload_n F (pc := 279) dL_law_279 rfl ?_
  refine l_iconst F (pc := 280) (v := 3) dL_law_280 (by decide) ?_
  refine l_iadd F (pc := 281) dL_law_281 ?_
  refine l_scr F (pc := 282) dL_law_282 (scr_in hj6 hL (by decide)) ?_
  refine l_i2l F (pc := 283) dL_law_283 ?_
  refine l_bipush F (pc := 284) (v := 32) dL_law_284 (by decide) ?_
  refine l_lshl F (pc := 286) dL_law_286 ?_
  refine l_aload_n F (pc := 287) dL_law_287 rfl ?_
  refine l_iload_n F (pc := 288) dL_law_288 rfl ?_
  refine l_iconst F (pc := 289) (v := 4) dL_law_289 (by decide) ?_
  refine l_iadd F (pc := 290) dL_law_290 ?_
  refine l_scr F (pc := 291) dL_law_291 (scr_in hj6 hL (by decide)) ?_
  refine l_i2l F (pc := 292) dL_law_292 ?_
  refine l_ldc2 F (pc := 293) dL_law_293 q1930 ?_
  refine l_land F (pc := 296) dL_law_296 ?_
  refine l_lor F (pc := 297) dL_law_297 ?_
  refine l_call F (pc := 298) (bc' := 2773 * n) (bs' := 19897 * n) (vs := [.ref xo, .int _, .int _, .long _]) (ct_X0_set hx _ _ _ hS) k_L_20_0 dL_law_298 rfl rfl (fun _ h => by cases h; exact ⟨xo, _, rfl, hx.1.2.1⟩) (Nat.le_of_ble_eq_true rfl) ⟨Nat.le_of_ble_eq_true rfl, Nat.le_of_ble_eq_true rfl⟩ ⟨by show 2773 * n + 12 ≤ 2773 * (n + 1); omega, by show 19897 * n + 1415 ≤ 19897 * (n + 1); omega⟩ (fun _ _ _ h => h) (l_ci fun r1 M1 p1 => ?_)
  obtain ⟨rfl, hX⟩ := li_x hm p1
  have hS' : OkS (sS (mI M1) (mL M1) mo).1 := by rw [hX.2.1]; exact hS
  refine l_aload_n F (pc := 301) dL_law_301 rfl ?_
  refine l_aload_n F (pc := 302) dL_law_302 rfl ?_
  refine l_iload_n F (pc := 303) dL_law_303 rfl ?_
  refine l_iconst F (pc := 304) (v := 1) dL_law_304 (by decide) ?_
  refine l_iadd F (pc := 305) dL_law_305 ?_
  refine l_scr F (pc := 306) dL_law_306 (scr_in hj6 hL (by decide)) ?_
  refine l_aload_n F (pc := 307) dL_law_307 rfl ?_
  refine l_iload_n F (pc := 308) dL_law_308 rfl ?_
  refine l_iconst F (pc := 309) (v := 2) dL_law_309 (by decide) ?_
  refine l_iadd F (pc := 310) dL_law_310 ?_
  refine l_scr F (pc := 311) dL_law_311 (scr_in hj6 hL (by decide)) ?_
  refine l_aload_n F (pc := 312) dL_law_312 rfl ?_
  refine l_iload_n F (pc := 313) dL_law_313 rfl ?_
  refine l_iconst F (pc := 314) (v := 3) dL_law_314 (by decide) ?_
  refine l_iadd F (pc := 315) dL_law_315 ?_
  refine l_scr F (pc := 316) dL_law_316 (scr_in hj6 hL (by decide)) ?_
  refine l_i2l F (pc := 317) dL_law_317 ?_
  refine l_bipush F (pc := 318) (v := 32) dL_law_318 (by decide) ?_
  refine l_lshl F (pc := 320) dL_law_320 ?_
  refine l_aload_n F (pc := 321) dL_law_321 rfl ?_
  refine l_iload_n F (pc := 322) dL_law_322 rfl ?_
  refine l_iconst F (pc := 323) (v := 4) dL_law_323 (by decide) ?_
  refine l_iadd F (pc := 324) dL_law_324 ?_
  refine l_scr F (pc := 325) dL_law_325 (scr_in hj6 hL (by decide)) ?_
  refine l_i2l F (pc := 326) dL_law_326 ?_
  refine l_ldc2 F (pc := 327) dL_law_327 q1930 ?_
  refine l_land F (pc := 330) dL_law_330 ?_
  refine l_lor F (pc := 331) dL_law_331 ?_
  refine l_call F (pc := 332) (bc' := 2773 * n) (bs' := 19897 * n) (vs := [.ref mo, .int _, .int _, .long _]) (ct_X5_set (M0 := M1) (I := mI M1) (L := mL M1) hX.1 _ _ _ hS') k_L_24_5 dL_law_332 rfl rfl (fun _ h => by cases h; exact ⟨mo, _, rfl, MR_k hX.1⟩) (Nat.le_of_ble_eq_true rfl) ⟨Nat.le_of_ble_eq_true rfl, Nat.le_of_ble_eq_true rfl⟩ ⟨Nat.le_refl _, Nat.le_refl _⟩ (fun _ _ _ h => h) (l_ci fun r2 M2 p2 => ?_)
  obtain ⟨rfl, hl2⟩ := li_m hX (ok_set hS _ _ _) (by have p3 := p2; rw [hX.2.1] at p3; exact p3)
  refine l_icmp_eq F (pc := 335) 1747 dL_law_335 rfl (fun _ => ?_) (fun hno => False.elim (hno (by first | rfl | (rw [hX.2.1]) | (show _ = _; rw [hX.2.1]))))
  exact hnx M2 hl2
theorem law_3 {Ω : OM} {l : Launch} {p : Program} {e : Env} {s : State} {m : MethodId} {args : Array Value} {below : List Frame} {meth : Method} {c : Code} (F : Fx Ω GL l p s m args meth c) {M : PM} {xo mo j n : Nat} (hL : Ω.2.2.2.2 7 ≤ 384) (hj6 : 6 * j + 5 < Ω.2.2.2.2 7) (hl : LI M xo mo)
    (hnx : ∀ M', LI M' xo mo → WL Ω l p e s m args below meth c GL (2773 * n) (19897 * n) M' 1747 [some (.ref (Ω.2.2.2.2 6)), some (.ref xo), some (.ref mo), some (.int (nI (6 * j)))] []) : WL Ω l p e s m args below meth c GL (2773 * (n + 1)) (19897 * (n + 1)) M 403 [some (.ref (Ω.2.2.2.2 6)), some (.ref xo), some (.ref mo), some (.int (nI (6 * j)))] [] := by
  obtain ⟨hm, hS, wa, hx⟩ := hl
  refine l_aload_n F (pc := 403) dL_law_403 rfl ?_
  refine l_aload_n F (pc := 404) dL_law_404 rfl ?_
  refine l_iload_n F (pc := 405) dL_law_405 rfl ?_
  refine l_iconst F (pc := 406) (v := 1) dL_law_406 (by decide) ?_
  refine l_iadd F (pc := 407) dL_law_407 ?_
  refine l_scr F (pc := 408) dL_law_408 (scr_in hj6 hL (by decide)) ?_
  refine l_aload_n F (pc := 409) dL_law_409 rfl ?_
  refine l_iload_n F (pc := 410) dL_law_410 rfl ?_
  refine l_iconst F (pc := 411) (v := 2) dL_law_411 (by decide) ?_
  refine l_iadd F (pc := 412) dL_law_412 ?_
  refine l_scr F (pc := 413) dL_law_413 (scr_in hj6 hL (by decide)) ?_
  refine l_call F (pc := 414) (bc' := 2773 * n) (bs' := 19897 * n) (vs := [.ref xo, .int _, .int _]) (ct_X0_element hx _ _ hS) k_L_30_0 dL_law_414 rfl rfl (fun _ h => by cases h; exact ⟨xo, _, rfl, hx.1.2.1⟩) (Nat.le_of_ble_eq_true rfl) ⟨Nat.le_of_ble_eq_true rfl, Nat.le_of_ble_eq_true rfl⟩ ⟨by show 2773 * n + 11 ≤ 2773 * (n + 1); omega, by show 19897 * n + 1408 ≤ 19897 * (n + 1); omega⟩ (fun _ _ _ h => h) (l_cl fun r1 M1 p1 => ?_)
  obtain ⟨rfl, wa1, hx1⟩ := p1
  have hX : LX M M1 xo mo (sS (mI M) (mL M) mo) := ⟨hm.z hx1.z, hx1.z.s, wa1, hx1⟩
  have hS' : OkS (sS (mI M1) (mL M1) mo).1 := by rw [hX.2.1]; exact hS
  refine l_aload_n F (pc := 417) dL_law_417 rfl ?_
  refine l_aload_n F (pc := 418) dL_law_418 rfl ?_
  refine l_iload_n F (pc := 419) dL_law_419 rfl ?_
  refine l_iconst F (pc := 420) (v := 1) dL_law_420 (by decide) ?_
  refine l_iadd F (pc := 421) dL_law_421 ?_
  refine l_scr F (pc := 422) dL_law_422 (scr_in hj6 hL (by decide)) ?_
  refine l_aload_n F (pc := 423) dL_law_423 rfl ?_
  refine l_iload_n F (pc := 424) dL_law_424 rfl ?_
  refine l_iconst F (pc := 425) (v := 2) dL_law_425 (by decide) ?_
  refine l_iadd F (pc := 426) dL_law_426 ?_
  refine l_scr F (pc := 427) dL_law_427 (scr_in hj6 hL (by decide)) ?_
  refine l_call F (pc := 428) (bc' := 2773 * n) (bs' := 19897 * n) (vs := [.ref mo, .int _, .int _]) (ct_X5_element (M0 := M1) (I := mI M1) (L := mL M1) hX.1 _ _ hS') k_L_34_5 dL_law_428 rfl rfl (fun _ h => by cases h; exact ⟨mo, _, rfl, MR_k hX.1⟩) (Nat.le_of_ble_eq_true rfl) ⟨Nat.le_of_ble_eq_true rfl, Nat.le_of_ble_eq_true rfl⟩ ⟨Nat.le_refl _, Nat.le_refl _⟩ (fun _ _ _ h => h) (l_cl fun r2 M2 p2 => ?_)
  obtain ⟨rfl, e2⟩ := p2
  have e2 : M2 = M1 := e2
  subst e2
  have hl2 := li_u hX hS
  refine l_lcmp F (pc := 431) dL_law_431 ?_
  refine l_if_eq F (pc := 432) 1747 dL_law_432 rfl (fun _ => ?_) (fun hno => False.elim (hno (by rw [hX.2.1]; exact lg_same _)))
  exact hnx M2 hl2
theorem law_4 {Ω : OM} {l : Launch} {p : Program} {e : Env} {s : State} {m : MethodId} {args : Array Value} {below : List Frame} {meth : Method} {c : Code} (F : Fx Ω GL l p s m args meth c) {M : PM} {xo mo j n : Nat} (hL : Ω.2.2.2.2 7 ≤ 384) (hj6 : 6 * j + 5 < Ω.2.2.2.2 7) (hl : LI M xo mo)
    (hnx : ∀ M', LI M' xo mo → WL Ω l p e s m args below meth c GL (2773 * n) (19897 * n) M' 1747 [some (.ref (Ω.2.2.2.2 6)), some (.ref xo), some (.ref mo), some (.int (nI (6 * j)))] []) : WL Ω l p e s m args below meth c GL (2773 * (n + 1)) (19897 * (n + 1)) M 437 [some (.ref (Ω.2.2.2.2 6)), some (.ref xo), some (.ref mo), some (.int (nI (6 * j)))] [] := by
  obtain ⟨hm, hS, wa, hx⟩ := hl
  refine l_aload_n F (pc := 437) dL_law_437 rfl ?_
  refine l_aload_n F (pc := 438) dL_law_438 rfl ?_
  refine l_iload_n F (pc := 439) dL_law_439 rfl ?_
  refine l_iconst F (pc := 440) (v := 1) dL_law_440 (by decide) ?_
  refine l_iadd F (pc := 441) dL_law_441 ?_
  refine l_scr F (pc := 442) dL_law_442 (scr_in hj6 hL (by decide)) ?_
  refine l_aload_n F (pc := 443) dL_law_443 rfl ?_
  refine l_iload_n F (pc := 444) dL_law_444 rfl ?_
  refine l_iconst F (pc := 445) (v := 2) dL_law_445 (by decide) ?_
  refine l_iadd F (pc := 446) dL_law_446 ?_
  refine l_scr F (pc := 447) dL_law_447 (scr_in hj6 hL (by decide)) ?_
  refine l_call F (pc := 448) (bc' := 2773 * n) (bs' := 19897 * n) (vs := [.ref xo, .int _, .int _]) (ct_X0_show hx _ _ hS) k_L_35_0 dL_law_448 rfl rfl (fun _ h => by cases h; exact ⟨xo, _, rfl, hx.1.2.1⟩) (Nat.le_of_ble_eq_true rfl) ⟨Nat.le_of_ble_eq_true rfl, Nat.le_of_ble_eq_true rfl⟩ ⟨by show 2773 * n + 5 ≤ 2773 * (n + 1); omega, by show 19897 * n + 236 ≤ 19897 * (n + 1); omega⟩ (fun _ _ _ h => h) (l_ci fun r1 M1 p1 => ?_)
  obtain ⟨rfl, hX⟩ := li_x hm p1
  have hS' : OkS (sS (mI M1) (mL M1) mo).1 := by rw [hX.2.1]; exact hS
  refine l_aload_n F (pc := 451) dL_law_451 rfl ?_
  refine l_aload_n F (pc := 452) dL_law_452 rfl ?_
  refine l_iload_n F (pc := 453) dL_law_453 rfl ?_
  refine l_iconst F (pc := 454) (v := 1) dL_law_454 (by decide) ?_
  refine l_iadd F (pc := 455) dL_law_455 ?_
  refine l_scr F (pc := 456) dL_law_456 (scr_in hj6 hL (by decide)) ?_
  refine l_aload_n F (pc := 457) dL_law_457 rfl ?_
  refine l_iload_n F (pc := 458) dL_law_458 rfl ?_
  refine l_iconst F (pc := 459) (v := 2) dL_law_459 (by decide) ?_
  refine l_iadd F (pc := 460) dL_law_460 ?_
  refine l_scr F (pc := 461) dL_law_461 (scr_in hj6 hL (by decide)) ?_
  refine l_call F (pc := 462) (bc' := 2773 * n) (bs' := 19897 * n) (vs := [.ref mo, .int _, .int _]) (ct_X5_show (M0 := M1) (I := mI M1) (L := mL M1) hX.1 _ _ hS') k_L_39_5 dL_law_462 rfl rfl (fun _ h => by cases h; exact ⟨mo, _, rfl, MR_k hX.1⟩) (Nat.le_of_ble_eq_true rfl) ⟨Nat.le_of_ble_eq_true rfl, Nat.le_of_ble_eq_true rfl⟩ ⟨Nat.le_refl _, Nat.le_refl _⟩ (fun _ _ _ h => h) (l_ci fun r2 M2 p2 => ?_)
  obtain ⟨rfl, hl2⟩ := li_m hX (ok_show hS _ _) (by have p3 := p2; rw [hX.2.1] at p3; exact p3)
  refine l_icmp_eq F (pc := 465) 1747 dL_law_465 rfl (fun _ => ?_) (fun hno => False.elim (hno (by first | rfl | (rw [hX.2.1]) | (show _ = _; rw [hX.2.1]))))
  exact hnx M2 hl2
theorem law_5 {Ω : OM} {l : Launch} {p : Program} {e : Env} {s : State} {m : MethodId} {args : Array Value} {below : List Frame} {meth : Method} {c : Code} (F : Fx Ω GL l p s m args meth c) {M : PM} {xo mo j n : Nat} (hL : Ω.2.2.2.2 7 ≤ 384) (hj6 : 6 * j + 5 < Ω.2.2.2.2 7) (hl : LI M xo mo)
    (hnx : ∀ M', LI M' xo mo → WL Ω l p e s m args below meth c GL (2773 * n) (19897 * n) M' 1747 [some (.ref (Ω.2.2.2.2 6)), some (.ref xo), some (.ref mo), some (.int (nI (6 * j)))] []) : WL Ω l p e s m args below meth c GL (2773 * (n + 1)) (19897 * (n + 1)) M 470 [some (.ref (Ω.2.2.2.2 6)), some (.ref xo), some (.ref mo), some (.int (nI (6 * j)))] [] := by
  obtain ⟨hm, hS, wa, hx⟩ := hl
  refine l_aload_n F (pc := 470) dL_law_470 rfl ?_
  refine l_aload_n F (pc := 471) dL_law_471 rfl ?_
  refine l_iload_n F (pc := 472) dL_law_472 rfl ?_
  refine l_iconst F (pc := 473) (v := 1) dL_law_473 (by decide) ?_
  refine l_iadd F (pc := 474) dL_law_474 ?_
  refine l_scr F (pc := 475) dL_law_475 (scr_in hj6 hL (by decide)) ?_
  refine l_call F (pc := 476) (bc' := 2773 * n) (bs' := 19897 * n) (vs := [.ref xo, .int _]) (ct_X0_holds hx _ hS) k_L_40_0 dL_law_476 rfl rfl (fun _ h => by cases h; exact ⟨xo, _, rfl, hx.1.2.1⟩) (Nat.le_of_ble_eq_true rfl) ⟨Nat.le_of_ble_eq_true rfl, Nat.le_of_ble_eq_true rfl⟩ ⟨by show 2773 * n + 0 ≤ 2773 * (n + 1); omega, by show 19897 * n + 0 ≤ 19897 * (n + 1); omega⟩ (fun _ _ _ h => h) (l_ci fun r1 M1 p1 => ?_)
  obtain ⟨rfl, hX⟩ := li_x hm p1
  have hS' : OkS (sS (mI M1) (mL M1) mo).1 := by rw [hX.2.1]; exact hS
  refine l_aload_n F (pc := 479) dL_law_479 rfl ?_
  refine l_aload_n F (pc := 480) dL_law_480 rfl ?_
  refine l_iload_n F (pc := 481) dL_law_481 rfl ?_
  refine l_iconst F (pc := 482) (v := 1) dL_law_482 (by decide) ?_
  refine l_iadd F (pc := 483) dL_law_483 ?_
  refine l_scr F (pc := 484) dL_law_484 (scr_in hj6 hL (by decide)) ?_
  refine l_call F (pc := 485) (bc' := 2773 * n) (bs' := 19897 * n) (vs := [.ref mo, .int _]) (ct_X5_holds (M0 := M1) (I := mI M1) (L := mL M1) hX.1 _ hS') k_L_44_5 dL_law_485 rfl rfl (fun _ h => by cases h; exact ⟨mo, _, rfl, MR_k hX.1⟩) (Nat.le_of_ble_eq_true rfl) ⟨Nat.le_of_ble_eq_true rfl, Nat.le_of_ble_eq_true rfl⟩ ⟨Nat.le_refl _, Nat.le_refl _⟩ (fun _ _ _ h => h) (l_ci fun r2 M2 p2 => ?_)
  obtain ⟨rfl, e2⟩ := p2
  have e2 : M2 = M1 := e2
  subst e2
  have hl2 := li_u hX hS
  refine l_icmp_eq F (pc := 488) 1747 dL_law_488 rfl (fun _ => ?_) (fun hno => False.elim (hno (by first | rfl | (rw [hX.2.1]) | (show _ = _; rw [hX.2.1]))))
  exact hnx M2 hl2
theorem law_6 {Ω : OM} {l : Launch} {p : Program} {e : Env} {s : State} {m : MethodId} {args : Array Value} {below : List Frame} {meth : Method} {c : Code} (F : Fx Ω GL l p s m args meth c) {M : PM} {xo mo j n : Nat} (hL : Ω.2.2.2.2 7 ≤ 384) (hj6 : 6 * j + 5 < Ω.2.2.2.2 7) (hl : LI M xo mo)
    (hnx : ∀ M', LI M' xo mo → WL Ω l p e s m args below meth c GL (2773 * n) (19897 * n) M' 1747 [some (.ref (Ω.2.2.2.2 6)), some (.ref xo), some (.ref mo), some (.int (nI (6 * j)))] []) : WL Ω l p e s m args below meth c GL (2773 * (n + 1)) (19897 * (n + 1)) M 493 [some (.ref (Ω.2.2.2.2 6)), some (.ref xo), some (.ref mo), some (.int (nI (6 * j)))] [] := by
  obtain ⟨hm, hS, wa, hx⟩ := hl
  refine l_aload_n F (pc := 493) dL_law_493 rfl ?_
  refine l_aload_n F (pc := 494) dL_law_494 rfl ?_
  refine l_iload_n F (pc := 495) dL_law_495 rfl ?_
  refine l_iconst F (pc := 496) (v := 1) dL_law_496 (by decide) ?_
  refine l_iadd F (pc := 497) dL_law_497 ?_
  refine l_scr F (pc := 498) dL_law_498 (scr_in hj6 hL (by decide)) ?_
  refine l_aload_n F (pc := 499) dL_law_499 rfl ?_
  refine l_iload_n F (pc := 500) dL_law_500 rfl ?_
  refine l_iconst F (pc := 501) (v := 2) dL_law_501 (by decide) ?_
  refine l_iadd F (pc := 502) dL_law_502 ?_
  refine l_scr F (pc := 503) dL_law_503 (scr_in hj6 hL (by decide)) ?_
  refine l_call F (pc := 504) (bc' := 2773 * n) (bs' := 19897 * n) (vs := [.ref xo, .int _, .int _]) (ct_X0_says hx _ _ hS) k_L_45_0 dL_law_504 rfl rfl (fun _ h => by cases h; exact ⟨xo, _, rfl, hx.1.2.1⟩) (Nat.le_of_ble_eq_true rfl) ⟨Nat.le_of_ble_eq_true rfl, Nat.le_of_ble_eq_true rfl⟩ ⟨by show 2773 * n + 9 ≤ 2773 * (n + 1); omega, by show 19897 * n + 1193 ≤ 19897 * (n + 1); omega⟩ (fun _ _ _ h => h) (l_ci fun r1 M1 p1 => ?_)
  obtain ⟨rfl, hX⟩ := li_x hm p1
  have hS' : OkS (sS (mI M1) (mL M1) mo).1 := by rw [hX.2.1]; exact hS
  refine l_aload_n F (pc := 507) dL_law_507 rfl ?_
  refine l_aload_n F (pc := 508) dL_law_508 rfl ?_
  refine l_iload_n F (pc := 509) dL_law_509 rfl ?_
  refine l_iconst F (pc := 510) (v := 1) dL_law_510 (by decide) ?_
  refine l_iadd F (pc := 511) dL_law_511 ?_
  refine l_scr F (pc := 512) dL_law_512 (scr_in hj6 hL (by decide)) ?_
  refine l_aload_n F (pc := 513) dL_law_513 rfl ?_
  refine l_iload_n F (pc := 514) dL_law_514 rfl ?_
  refine l_iconst F (pc := 515) (v := 2) dL_law_515 (by decide) ?_
  refine l_iadd F (pc := 516) dL_law_516 ?_
  refine l_scr F (pc := 517) dL_law_517 (scr_in hj6 hL (by decide)) ?_
  refine l_call F (pc := 518) (bc' := 2773 * n) (bs' := 19897 * n) (vs := [.ref mo, .int _, .int _]) (ct_X5_says (M0 := M1) (I := mI M1) (L := mL M1) hX.1 _ _ hS') k_L_48_5 dL_law_518 rfl rfl (fun _ h => by cases h; exact ⟨mo, _, rfl, MR_k hX.1⟩) (Nat.le_of_ble_eq_true rfl) ⟨Nat.le_of_ble_eq_true rfl, Nat.le_of_ble_eq_true rfl⟩ ⟨Nat.le_refl _, Nat.le_refl _⟩ (fun _ _ _ h => h) (l_ci fun r2 M2 p2 => ?_)
  obtain ⟨rfl, hl2⟩ := li_m hX (ok_says hS _ _) (by have p3 := p2; rw [hX.2.1] at p3; exact p3)
  refine l_icmp_eq F (pc := 521) 1747 dL_law_521 rfl (fun _ => ?_) (fun hno => False.elim (hno (by first | rfl | (rw [hX.2.1]) | (show _ = _; rw [hX.2.1]))))
  exact hnx M2 hl2
theorem law_7 {Ω : OM} {l : Launch} {p : Program} {e : Env} {s : State} {m : MethodId} {args : Array Value} {below : List Frame} {meth : Method} {c : Code} (F : Fx Ω GL l p s m args meth c) {M : PM} {xo mo j n : Nat} (hL : Ω.2.2.2.2 7 ≤ 384) (hj6 : 6 * j + 5 < Ω.2.2.2.2 7) (hl : LI M xo mo)
    (hnx : ∀ M', LI M' xo mo → WL Ω l p e s m args below meth c GL (2773 * n) (19897 * n) M' 1747 [some (.ref (Ω.2.2.2.2 6)), some (.ref xo), some (.ref mo), some (.int (nI (6 * j)))] []) : WL Ω l p e s m args below meth c GL (2773 * (n + 1)) (19897 * (n + 1)) M 526 [some (.ref (Ω.2.2.2.2 6)), some (.ref xo), some (.ref mo), some (.int (nI (6 * j)))] [] := by
  obtain ⟨hm, hS, wa, hx⟩ := hl
  refine l_aload_n F (pc := 526) dL_law_526 rfl ?_
  refine l_aload_n F (pc := 527) dL_law_527 rfl ?_
  refine l_iload_n F (pc := 528) dL_law_528 rfl ?_
  refine l_iconst F (pc := 529) (v := 1) dL_law_529 (by decide) ?_
  refine l_iadd F (pc := 530) dL_law_530 ?_
  refine l_scr F (pc := 531) dL_law_531 (scr_in hj6 hL (by decide)) ?_
  refine l_aload_n F (pc := 532) dL_law_532 rfl ?_
  refine l_iload_n F (pc := 533) dL_law_533 rfl ?_
  refine l_iconst F (pc := 534) (v := 2) dL_law_534 (by decide) ?_
  refine l_iadd F (pc := 535) dL_law_535 ?_
  refine l_scr F (pc := 536) dL_law_536 (scr_in hj6 hL (by decide)) ?_
  refine l_aload_n F (pc := 537) dL_law_537 rfl ?_
  refine l_iload_n F (pc := 538) dL_law_538 rfl ?_
  refine l_iconst F (pc := 539) (v := 3) dL_law_539 (by decide) ?_
  refine l_iadd F (pc := 540) dL_law_540 ?_
  refine l_scr F (pc := 541) dL_law_541 (scr_in hj6 hL (by decide)) ?_
  refine l_aload_n F (pc := 542) dL_law_542 rfl ?_
  refine l_iload_n F (pc := 543) dL_law_543 rfl ?_
  refine l_iconst F (pc := 544) (v := 4) dL_law_544 (by decide) ?_
  refine l_iadd F (pc := 545) dL_law_545 ?_
  refine l_scr F (pc := 546) dL_law_546 (scr_in hj6 hL (by decide)) ?_
  refine l_call F (pc := 547) (bc' := 2773 * n) (bs' := 19897 * n) (vs := [.ref xo, .int _, .int _, .int _, .int _]) (ct_X0_thing hx _ _ _ _ hS) k_L_49_0 dL_law_547 rfl rfl (fun _ h => by cases h; exact ⟨xo, _, rfl, hx.1.2.1⟩) (Nat.le_of_ble_eq_true rfl) ⟨Nat.le_of_ble_eq_true rfl, Nat.le_of_ble_eq_true rfl⟩ ⟨by show 2773 * n + 4 ≤ 2773 * (n + 1); omega, by show 19897 * n + 24 ≤ 19897 * (n + 1); omega⟩ (fun _ _ _ h => h) (l_ci fun r1 M1 p1 => ?_)
  obtain ⟨rfl, hX⟩ := li_x hm p1
  have hS' : OkS (sS (mI M1) (mL M1) mo).1 := by rw [hX.2.1]; exact hS
  refine l_aload_n F (pc := 550) dL_law_550 rfl ?_
  refine l_aload_n F (pc := 551) dL_law_551 rfl ?_
  refine l_iload_n F (pc := 552) dL_law_552 rfl ?_
  refine l_iconst F (pc := 553) (v := 1) dL_law_553 (by decide) ?_
  refine l_iadd F (pc := 554) dL_law_554 ?_
  refine l_scr F (pc := 555) dL_law_555 (scr_in hj6 hL (by decide)) ?_
  refine l_aload_n F (pc := 556) dL_law_556 rfl ?_
  refine l_iload_n F (pc := 557) dL_law_557 rfl ?_
  refine l_iconst F (pc := 558) (v := 2) dL_law_558 (by decide) ?_
  refine l_iadd F (pc := 559) dL_law_559 ?_
  refine l_scr F (pc := 560) dL_law_560 (scr_in hj6 hL (by decide)) ?_
  refine l_aload_n F (pc := 561) dL_law_561 rfl ?_
  refine l_iload_n F (pc := 562) dL_law_562 rfl ?_
  refine l_iconst F (pc := 563) (v := 3) dL_law_563 (by decide) ?_
  refine l_iadd F (pc := 564) dL_law_564 ?_
  refine l_scr F (pc := 565) dL_law_565 (scr_in hj6 hL (by decide)) ?_
  refine l_aload_n F (pc := 566) dL_law_566 rfl ?_
  refine l_iload_n F (pc := 567) dL_law_567 rfl ?_
  refine l_iconst F (pc := 568) (v := 4) dL_law_568 (by decide) ?_
  refine l_iadd F (pc := 569) dL_law_569 ?_
  refine l_scr F (pc := 570) dL_law_570 (scr_in hj6 hL (by decide)) ?_
  refine l_call F (pc := 571) (bc' := 2773 * n) (bs' := 19897 * n) (vs := [.ref mo, .int _, .int _, .int _, .int _]) (ct_X5_thing (M0 := M1) (I := mI M1) (L := mL M1) hX.1 _ _ _ _ hS') k_L_53_5 dL_law_571 rfl rfl (fun _ h => by cases h; exact ⟨mo, _, rfl, MR_k hX.1⟩) (Nat.le_of_ble_eq_true rfl) ⟨Nat.le_of_ble_eq_true rfl, Nat.le_of_ble_eq_true rfl⟩ ⟨Nat.le_refl _, Nat.le_refl _⟩ (fun _ _ _ h => h) (l_ci fun r2 M2 p2 => ?_)
  obtain ⟨rfl, hl2⟩ := li_m hX (ok_thing hS _ _ _ _) (by have p3 := p2; rw [hX.2.1] at p3; exact p3)
  refine l_icmp_eq F (pc := 574) 1747 dL_law_574 rfl (fun _ => ?_) (fun hno => False.elim (hno (by first | rfl | (rw [hX.2.1]) | (show _ = _; rw [hX.2.1]))))
  exact hnx M2 hl2
theorem law_8 {Ω : OM} {l : Launch} {p : Program} {e : Env} {s : State} {m : MethodId} {args : Array Value} {below : List Frame} {meth : Method} {c : Code} (F : Fx Ω GL l p s m args meth c) {M : PM} {xo mo j n : Nat} (hL : Ω.2.2.2.2 7 ≤ 384) (hj6 : 6 * j + 5 < Ω.2.2.2.2 7) (hl : LI M xo mo)
    (hnx : ∀ M', LI M' xo mo → WL Ω l p e s m args below meth c GL (2773 * n) (19897 * n) M' 1747 [some (.ref (Ω.2.2.2.2 6)), some (.ref xo), some (.ref mo), some (.int (nI (6 * j)))] []) : WL Ω l p e s m args below meth c GL (2773 * (n + 1)) (19897 * (n + 1)) M 579 [some (.ref (Ω.2.2.2.2 6)), some (.ref xo), some (.ref mo), some (.int (nI (6 * j)))] [] := by
  obtain ⟨hm, hS, wa, hx⟩ := hl
  refine l_aload_n F (pc := 579) dL_law_579 rfl ?_
  refine l_aload_n F (pc := 580) dL_law_580 rfl ?_
  refine l_iload_n F (pc := 581) dL_law_581 rfl ?_
  refine l_iconst F (pc := 582) (v := 1) dL_law_582 (by decide) ?_
  refine l_iadd F (pc := 583) dL_law_583 ?_
  refine l_scr F (pc := 584) dL_law_584 (scr_in hj6 hL (by decide)) ?_
  refine l_call F (pc := 585) (bc' := 2773 * n) (bs' := 19897 * n) (vs := [.ref xo, .int _]) (ct_X0_man hx _ hS) k_L_54_0 dL_law_585 rfl rfl (fun _ h => by cases h; exact ⟨xo, _, rfl, hx.1.2.1⟩) (Nat.le_of_ble_eq_true rfl) ⟨Nat.le_of_ble_eq_true rfl, Nat.le_of_ble_eq_true rfl⟩ ⟨by show 2773 * n + 2 ≤ 2773 * (n + 1); omega, by show 19897 * n + 14 ≤ 19897 * (n + 1); omega⟩ (fun _ _ _ h => h) (l_ci fun r1 M1 p1 => ?_)
  obtain ⟨rfl, hX⟩ := li_x hm p1
  have hS' : OkS (sS (mI M1) (mL M1) mo).1 := by rw [hX.2.1]; exact hS
  refine l_aload_n F (pc := 588) dL_law_588 rfl ?_
  refine l_aload_n F (pc := 589) dL_law_589 rfl ?_
  refine l_iload_n F (pc := 590) dL_law_590 rfl ?_
  refine l_iconst F (pc := 591) (v := 1) dL_law_591 (by decide) ?_
  refine l_iadd F (pc := 592) dL_law_592 ?_
  refine l_scr F (pc := 593) dL_law_593 (scr_in hj6 hL (by decide)) ?_
  refine l_call F (pc := 594) (bc' := 2773 * n) (bs' := 19897 * n) (vs := [.ref mo, .int _]) (ct_X5_man (M0 := M1) (I := mI M1) (L := mL M1) hX.1 _ hS') k_L_57_5 dL_law_594 rfl rfl (fun _ h => by cases h; exact ⟨mo, _, rfl, MR_k hX.1⟩) (Nat.le_of_ble_eq_true rfl) ⟨Nat.le_of_ble_eq_true rfl, Nat.le_of_ble_eq_true rfl⟩ ⟨Nat.le_refl _, Nat.le_refl _⟩ (fun _ _ _ h => h) (l_ci fun r2 M2 p2 => ?_)
  obtain ⟨rfl, hl2⟩ := li_m hX (ok_man hS _) (by have p3 := p2; rw [hX.2.1] at p3; exact p3)
  refine l_icmp_eq F (pc := 597) 1747 dL_law_597 rfl (fun _ => ?_) (fun hno => False.elim (hno (by first | rfl | (rw [hX.2.1]) | (show _ = _; rw [hX.2.1]))))
  exact hnx M2 hl2
theorem law_9 {Ω : OM} {l : Launch} {p : Program} {e : Env} {s : State} {m : MethodId} {args : Array Value} {below : List Frame} {meth : Method} {c : Code} (F : Fx Ω GL l p s m args meth c) {M : PM} {xo mo j n : Nat} (hL : Ω.2.2.2.2 7 ≤ 384) (hj6 : 6 * j + 5 < Ω.2.2.2.2 7) (hl : LI M xo mo)
    (hnx : ∀ M', LI M' xo mo → WL Ω l p e s m args below meth c GL (2773 * n) (19897 * n) M' 1747 [some (.ref (Ω.2.2.2.2 6)), some (.ref xo), some (.ref mo), some (.int (nI (6 * j)))] []) : WL Ω l p e s m args below meth c GL (2773 * (n + 1)) (19897 * (n + 1)) M 602 [some (.ref (Ω.2.2.2.2 6)), some (.ref xo), some (.ref mo), some (.int (nI (6 * j)))] [] := by
  obtain ⟨hm, hS, wa, hx⟩ := hl
  refine l_aload_n F (pc := 602) dL_law_602 rfl ?_
  refine l_aload_n F (pc := 603) dL_law_603 rfl ?_
  refine l_iload_n F (pc := 604) dL_law_604 rfl ?_
  refine l_iconst F (pc := 605) (v := 1) dL_law_605 (by decide) ?_
  refine l_iadd F (pc := 606) dL_law_606 ?_
  refine l_scr F (pc := 607) dL_law_607 (scr_in hj6 hL (by decide)) ?_
  refine l_aload_n F (pc := 608) dL_law_608 rfl ?_
  refine l_iload_n F (pc := 609) dL_law_609 rfl ?_
  refine l_iconst F (pc := 610) (v := 2) dL_law_610 (by decide) ?_
  refine l_iadd F (pc := 611) dL_law_611 ?_
  refine l_scr F (pc := 612) dL_law_612 (scr_in hj6 hL (by decide)) ?_
  refine l_aload_n F (pc := 613) dL_law_613 rfl ?_
  refine l_iload_n F (pc := 614) dL_law_614 rfl ?_
  refine l_iconst F (pc := 615) (v := 3) dL_law_615 (by decide) ?_
  refine l_iadd F (pc := 616) dL_law_616 ?_
  refine l_scr F (pc := 617) dL_law_617 (scr_in hj6 hL (by decide)) ?_
  refine l_call F (pc := 618) (bc' := 2773 * n) (bs' := 19897 * n) (vs := [.ref xo, .int _, .int _, .int _]) (ct_X0_men hx _ _ _ hS) k_L_58_0 dL_law_618 rfl rfl (fun _ h => by cases h; exact ⟨xo, _, rfl, hx.1.2.1⟩) (Nat.le_of_ble_eq_true rfl) ⟨Nat.le_of_ble_eq_true rfl, Nat.le_of_ble_eq_true rfl⟩ ⟨by show 2773 * n + 330 ≤ 2773 * (n + 1); omega, by show 19897 * n + 3450 ≤ 19897 * (n + 1); omega⟩ (fun _ _ _ h => h) (l_ci fun r1 M1 p1 => ?_)
  obtain ⟨rfl, hX⟩ := li_x hm p1
  have hS' : OkS (sS (mI M1) (mL M1) mo).1 := by rw [hX.2.1]; exact hS
  refine l_aload_n F (pc := 621) dL_law_621 rfl ?_
  refine l_aload_n F (pc := 622) dL_law_622 rfl ?_
  refine l_iload_n F (pc := 623) dL_law_623 rfl ?_
  refine l_iconst F (pc := 624) (v := 1) dL_law_624 (by decide) ?_
  refine l_iadd F (pc := 625) dL_law_625 ?_
  refine l_scr F (pc := 626) dL_law_626 (scr_in hj6 hL (by decide)) ?_
  refine l_aload_n F (pc := 627) dL_law_627 rfl ?_
  refine l_iload_n F (pc := 628) dL_law_628 rfl ?_
  refine l_iconst F (pc := 629) (v := 2) dL_law_629 (by decide) ?_
  refine l_iadd F (pc := 630) dL_law_630 ?_
  refine l_scr F (pc := 631) dL_law_631 (scr_in hj6 hL (by decide)) ?_
  refine l_aload_n F (pc := 632) dL_law_632 rfl ?_
  refine l_iload_n F (pc := 633) dL_law_633 rfl ?_
  refine l_iconst F (pc := 634) (v := 3) dL_law_634 (by decide) ?_
  refine l_iadd F (pc := 635) dL_law_635 ?_
  refine l_scr F (pc := 636) dL_law_636 (scr_in hj6 hL (by decide)) ?_
  refine l_call F (pc := 637) (bc' := 2773 * n) (bs' := 19897 * n) (vs := [.ref mo, .int _, .int _, .int _]) (ct_X5_men_2 (M0 := M1) (I := mI M1) (L := mL M1) hX.1 _ _ _ hS') k_L_61_5 dL_law_637 rfl rfl (fun _ h => by cases h; exact ⟨mo, _, rfl, MR_k hX.1⟩) (Nat.le_of_ble_eq_true rfl) ⟨Nat.le_of_ble_eq_true rfl, Nat.le_of_ble_eq_true rfl⟩ ⟨Nat.le_refl _, Nat.le_refl _⟩ (fun _ _ _ h => h) (l_ci fun r2 M2 p2 => ?_)
  obtain ⟨rfl, hl2⟩ := li_m hX (ok_men hS _ _ _) (by have p3 := p2; rw [hX.2.1] at p3; exact p3)
  refine l_icmp_eq F (pc := 640) 1747 dL_law_640 rfl (fun _ => ?_) (fun hno => False.elim (hno (by first | rfl | (rw [hX.2.1]) | (show _ = _; rw [hX.2.1]))))
  exact hnx M2 hl2
theorem law_10 {Ω : OM} {l : Launch} {p : Program} {e : Env} {s : State} {m : MethodId} {args : Array Value} {below : List Frame} {meth : Method} {c : Code} (F : Fx Ω GL l p s m args meth c) {M : PM} {xo mo j n : Nat} (hL : Ω.2.2.2.2 7 ≤ 384) (hj6 : 6 * j + 5 < Ω.2.2.2.2 7) (hl : LI M xo mo)
    (hnx : ∀ M', LI M' xo mo → WL Ω l p e s m args below meth c GL (2773 * n) (19897 * n) M' 1747 [some (.ref (Ω.2.2.2.2 6)), some (.ref xo), some (.ref mo), some (.int (nI (6 * j)))] []) : WL Ω l p e s m args below meth c GL (2773 * (n + 1)) (19897 * (n + 1)) M 645 [some (.ref (Ω.2.2.2.2 6)), some (.ref xo), some (.ref mo), some (.int (nI (6 * j)))] [] := by
  obtain ⟨hm, hS, wa, hx⟩ := hl
  refine l_aload_n F (pc := 645) dL_law_645 rfl ?_
  refine l_aload_n F (pc := 646) dL_law_646 rfl ?_
  refine l_iload_n F (pc := 647) dL_law_647 rfl ?_
  refine l_iconst F (pc := 648) (v := 1) dL_law_648 (by decide) ?_
  refine l_iadd F (pc := 649) dL_law_649 ?_
  refine l_scr F (pc := 650) dL_law_650 (scr_in hj6 hL (by decide)) ?_
  refine l_aload_n F (pc := 651) dL_law_651 rfl ?_
  refine l_iload_n F (pc := 652) dL_law_652 rfl ?_
  refine l_iconst F (pc := 653) (v := 2) dL_law_653 (by decide) ?_
  refine l_iadd F (pc := 654) dL_law_654 ?_
  refine l_scr F (pc := 655) dL_law_655 (scr_in hj6 hL (by decide)) ?_
  refine l_aload_n F (pc := 656) dL_law_656 rfl ?_
  refine l_iload_n F (pc := 657) dL_law_657 rfl ?_
  refine l_iconst F (pc := 658) (v := 3) dL_law_658 (by decide) ?_
  refine l_iadd F (pc := 659) dL_law_659 ?_
  refine l_scr F (pc := 660) dL_law_660 (scr_in hj6 hL (by decide)) ?_
  refine l_call F (pc := 661) (bc' := 2773 * n) (bs' := 19897 * n) (vs := [.ref xo, .int _, .int _, .int _]) (ct_X0_want hx _ _ _ hS) k_L_62_0 dL_law_661 rfl rfl (fun _ h => by cases h; exact ⟨xo, _, rfl, hx.1.2.1⟩) (Nat.le_of_ble_eq_true rfl) ⟨Nat.le_of_ble_eq_true rfl, Nat.le_of_ble_eq_true rfl⟩ ⟨by show 2773 * n + 3 ≤ 2773 * (n + 1); omega, by show 19897 * n + 21 ≤ 19897 * (n + 1); omega⟩ (fun _ _ _ h => h) (l_ci fun r1 M1 p1 => ?_)
  obtain ⟨rfl, hX⟩ := li_x hm p1
  have hS' : OkS (sS (mI M1) (mL M1) mo).1 := by rw [hX.2.1]; exact hS
  refine l_aload_n F (pc := 664) dL_law_664 rfl ?_
  refine l_aload_n F (pc := 665) dL_law_665 rfl ?_
  refine l_iload_n F (pc := 666) dL_law_666 rfl ?_
  refine l_iconst F (pc := 667) (v := 1) dL_law_667 (by decide) ?_
  refine l_iadd F (pc := 668) dL_law_668 ?_
  refine l_scr F (pc := 669) dL_law_669 (scr_in hj6 hL (by decide)) ?_
  refine l_aload_n F (pc := 670) dL_law_670 rfl ?_
  refine l_iload_n F (pc := 671) dL_law_671 rfl ?_
  refine l_iconst F (pc := 672) (v := 2) dL_law_672 (by decide) ?_
  refine l_iadd F (pc := 673) dL_law_673 ?_
  refine l_scr F (pc := 674) dL_law_674 (scr_in hj6 hL (by decide)) ?_
  refine l_aload_n F (pc := 675) dL_law_675 rfl ?_
  refine l_iload_n F (pc := 676) dL_law_676 rfl ?_
  refine l_iconst F (pc := 677) (v := 3) dL_law_677 (by decide) ?_
  refine l_iadd F (pc := 678) dL_law_678 ?_
  refine l_scr F (pc := 679) dL_law_679 (scr_in hj6 hL (by decide)) ?_
  refine l_call F (pc := 680) (bc' := 2773 * n) (bs' := 19897 * n) (vs := [.ref mo, .int _, .int _, .int _]) (ct_X5_want (M0 := M1) (I := mI M1) (L := mL M1) hX.1 _ _ _ hS') k_L_65_5 dL_law_680 rfl rfl (fun _ h => by cases h; exact ⟨mo, _, rfl, MR_k hX.1⟩) (Nat.le_of_ble_eq_true rfl) ⟨Nat.le_of_ble_eq_true rfl, Nat.le_of_ble_eq_true rfl⟩ ⟨Nat.le_refl _, Nat.le_refl _⟩ (fun _ _ _ h => h) (l_ci fun r2 M2 p2 => ?_)
  obtain ⟨rfl, hl2⟩ := li_m hX (ok_want hS _ _ _) (by have p3 := p2; rw [hX.2.1] at p3; exact p3)
  refine l_icmp_eq F (pc := 683) 1747 dL_law_683 rfl (fun _ => ?_) (fun hno => False.elim (hno (by first | rfl | (rw [hX.2.1]) | (show _ = _; rw [hX.2.1]))))
  exact hnx M2 hl2
