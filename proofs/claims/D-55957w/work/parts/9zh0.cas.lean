/-! THE LAW: its cases (printed by mk9zh.py) -/
section
set_option maxRecDepth 100000
variable {G : zG} {h : zH} {Q : zR → zH → Prop} {x o b i R r : Nat} {a : tA} {w : sW} {S : tS} {xs : List Value} {lv : Int64}
theorem y_add {y1 : Int32} {y2 : Int32} {y3 : Int32} {y4 : Int32} {q : Nat × Int32 × sW} (hb : zg_k G b = some (1100, xs)) (hy1 : xs[i + 1]? = some (.int y1)) (hy2 : xs[i + 2]? = some (.int y2)) (hy3 : xs[i + 3]? = some (.int y3)) (hy4 : xs[i + 4]? = some (.int y4)) (hi : i < 200) (M0 : lwM G x o a w w (fun _ => True) S h) (hcl : ∀ U, cReg x 0 [] w h U → zK G mX1_add 40 R [.ref x, .int y1, .int y2, .int y3, .int y4] h (cOut x U h [eArg, eSta] q)) (hml : ∀ h0, zK G mX3_add 9 0 [.ref a.1, .int y1, .int y2, .int y3, .int y4] (tH h0 a S) (tO h0 a q.1 (.int q.2.1) q.2.2)) (kont : ∀ (h' : zH) (S' : tS) (v5 v6 : Value), lwM G x o a q.2.2 q.2.2 (fun _ => True) S' h' → zW G mL_law 42 r 3347 [.ref b, .ref x, .ref a.1, .ref o, .int (nI i), v5, v6] [] h' Q) {v5 v6 : Value} : zW G mL_law 42 (r + R) 308 [.ref b, .ref x, .ref a.1, .ref o, .int (nI i), v5, v6] [] h Q := by
  obtain ⟨U, v, ⟨hG, hl⟩, hd, hT, ⟨ho, -⟩, hk⟩ := id M0
  obtain ⟨fs, hx⟩ := hG.cell
  have hbh := M0.scr hb
  refine zW.aload_n (pc' := 309) dL_law_308 rfl rfl (zgS (zg0)) rfl ?_
  refine zW.aload_n (pc' := 310) dL_law_309 rfl rfl zg0 rfl ?_
  refine zW.iload (pc' := 312) dL_law_310 rfl (zgS (zgS (zgS (zgS (zg0))))) ?_
  refine zW.iconst (pc' := 313) (nI 1) dL_law_312 rfl (by decide) ?_
  refine zW.iaddN (pc' := 314) dL_law_313 rfl ?_
  refine zW.scr (pc' := 315) dL_law_314 rfl hbh hy1 (by omega) ?_
  refine zW.aload_n (pc' := 316) dL_law_315 rfl rfl zg0 rfl ?_
  refine zW.iload (pc' := 318) dL_law_316 rfl (zgS (zgS (zgS (zgS (zg0))))) ?_
  refine zW.iconst (pc' := 319) (nI 2) dL_law_318 rfl (by decide) ?_
  refine zW.iaddN (pc' := 320) dL_law_319 rfl ?_
  refine zW.scr (pc' := 321) dL_law_320 rfl hbh hy2 (by omega) ?_
  refine zW.aload_n (pc' := 322) dL_law_321 rfl rfl zg0 rfl ?_
  refine zW.iload (pc' := 324) dL_law_322 rfl (zgS (zgS (zgS (zgS (zg0))))) ?_
  refine zW.iconst (pc' := 325) (nI 3) dL_law_324 rfl (by decide) ?_
  refine zW.iaddN (pc' := 326) dL_law_325 rfl ?_
  refine zW.scr (pc' := 327) dL_law_326 rfl hbh hy3 (by omega) ?_
  refine zW.aload_n (pc' := 328) dL_law_327 rfl rfl zg0 rfl ?_
  refine zW.iload (pc' := 330) dL_law_328 rfl (zgS (zgS (zgS (zgS (zg0))))) ?_
  refine zW.iconst (pc' := 331) (nI 4) dL_law_330 rfl (by decide) ?_
  refine zW.iaddN (pc' := 332) dL_law_331 rfl ?_
  refine zW.scr (pc' := 333) dL_law_332 rfl hbh hy4 (by omega) ?_
  refine zW.aload_n (pc' := 334) dL_law_333 rfl rfl (zgS (zgS (zgS (zg0)))) rfl ?_
  refine zW.callSH (r' := R) (pc' := 337) dL_law_334 rfl l_X0_176 rfl (x_add hx ho hd.1 (hcl U hG)) (zcc rfl (zcc rfl (zcc rfl (zcc rfl (zcc rfl (zcc rfl zc0)))))) rfl (Nat.le_of_ble_eq_true rfl) (Nat.le_of_ble_eq_true rfl) (Nat.le_of_ble_eq_true rfl) ?_ ?_
  rotate_left
  · intro E h9 q9
    cases q9.1
  intro v9 h9 q9
  obtain ⟨e1, q3, g1, g2, v1, ho1, hv1⟩ := q9
  cases e1
  have M1 : lwM G x o a q.2.2 w (fun v => q.1 = 0 → v = q.2.1.toInt64) S h9 := lwM.step hd hT ho hk g1 g2 ⟨ho1, hv1⟩
  have hbh := M1.scr hb
  refine zW.istore (pc' := 339) dL_law_337 rfl (Nat.le_of_ble_eq_true rfl) (zsS (zsS (zsS (zsS (zsS (zs0)))))) ?_
  refine zW.aload_n (pc' := 340) dL_law_339 rfl rfl (zgS (zgS (zg0))) rfl ?_
  refine zW.aload_n (pc' := 341) dL_law_340 rfl rfl zg0 rfl ?_
  refine zW.iload (pc' := 343) dL_law_341 rfl (zgS (zgS (zgS (zgS (zg0))))) ?_
  refine zW.iconst (pc' := 344) (nI 1) dL_law_343 rfl (by decide) ?_
  refine zW.iaddN (pc' := 345) dL_law_344 rfl ?_
  refine zW.scr (pc' := 346) dL_law_345 rfl hbh hy1 (by omega) ?_
  refine zW.aload_n (pc' := 347) dL_law_346 rfl rfl zg0 rfl ?_
  refine zW.iload (pc' := 349) dL_law_347 rfl (zgS (zgS (zgS (zgS (zg0))))) ?_
  refine zW.iconst (pc' := 350) (nI 2) dL_law_349 rfl (by decide) ?_
  refine zW.iaddN (pc' := 351) dL_law_350 rfl ?_
  refine zW.scr (pc' := 352) dL_law_351 rfl hbh hy2 (by omega) ?_
  refine zW.aload_n (pc' := 353) dL_law_352 rfl rfl zg0 rfl ?_
  refine zW.iload (pc' := 355) dL_law_353 rfl (zgS (zgS (zgS (zgS (zg0))))) ?_
  refine zW.iconst (pc' := 356) (nI 3) dL_law_355 rfl (by decide) ?_
  refine zW.iaddN (pc' := 357) dL_law_356 rfl ?_
  refine zW.scr (pc' := 358) dL_law_357 rfl hbh hy3 (by omega) ?_
  refine zW.aload_n (pc' := 359) dL_law_358 rfl rfl zg0 rfl ?_
  refine zW.iload (pc' := 361) dL_law_359 rfl (zgS (zgS (zgS (zgS (zg0))))) ?_
  refine zW.iconst (pc' := 362) (nI 4) dL_law_361 rfl (by decide) ?_
  refine zW.iaddN (pc' := 363) dL_law_362 rfl ?_
  refine zW.scr (pc' := 364) dL_law_363 rfl hbh hy4 (by omega) ?_
  refine zW.congr ?_ rfl rfl M1.eq
  refine zT.call (pc' := 367) dL_law_364 rfl l_X0_181 rfl rfl (hml _) (zcc rfl (zcc rfl (zcc rfl (zcc rfl zc0)))) rfl (Nat.le_of_ble_eq_true rfl) (Nat.le_of_ble_eq_true rfl) (Nat.le_of_ble_eq_true rfl) (fun _ T2 ⟨e1, e2, e3⟩ => ?_)
  subst e1
  have M2 := M1.mdl e3
  obtain ⟨v2, ho2, hv2⟩ := M2.out
  refine zW.istore (pc' := 369) dL_law_367 rfl (Nat.le_of_ble_eq_true rfl) (zsS (zsS (zsS (zsS (zsS (zsS (zs0))))))) ?_
  refine zW.aload_n (pc' := 370) dL_law_369 rfl rfl (zgS (zgS (zg0))) rfl ?_
  refine zT.call (pc' := 373) dL_law_370 rfl l_X0_182 rfl rfl w_thrown zc0 rfl (Nat.le_of_ble_eq_true rfl) (Nat.le_of_ble_eq_true rfl) (Nat.le_of_ble_eq_true rfl) (fun _ T3 ⟨e1, e4⟩ => ?_)
  subst e1
  subst e4
  rw [e2]
  refine zW.iload (pc' := 375) dL_law_373 rfl (zgS (zgS (zgS (zgS (zgS (zg0)))))) ?_
  refine zW.icmp_eq (pc' := 378) 380 dL_law_375 rfl (by decide) (fun b1 => ?_) (fun b1 => ?_)
  rotate_left
  · exact absurd rfl b1
  by_cases z : q.1 = 0
  · rw [z]
    refine zW.iload (pc' := 382) dL_law_380 rfl (zgS (zgS (zgS (zgS (zgS (zg0)))))) ?_
    refine zW.if_neN (pc' := 385) 397 dL_law_382 rfl (by decide) (by omega) (fun b9 => absurd b9 (by omega)) (fun b9 => ?_)
    refine zW.aload_n (pc' := 386) dL_law_385 rfl rfl (zgS (zgS (zgS (zg0)))) rfl ?_
    refine zW.iconst (pc' := 387) (nI 0) dL_law_386 rfl (by decide) ?_
    refine zW.lald (pc' := 388) dL_law_387 rfl ho2 rfl (by decide) rfl ?_
    rw [hv2 z]
    refine zW.iload (pc' := 390) dL_law_388 rfl (zgS (zgS (zgS (zgS (zgS (zgS (zg0))))))) ?_
    refine zW.i2l (pc' := 391) dL_law_390 rfl ?_
    refine zW.lcmp (pc' := 392) dL_law_391 rfl ?_
    rw [zlc]
    refine zW.if_eq (pc' := 395) 397 dL_law_392 rfl (by decide) (fun b1 => ?_) (fun b1 => ?_)
    rotate_left
    · exact absurd rfl b1
    refine zW.goto 3347 dL_law_397 (by decide) ?_
    exact kont _ _ _ _ (M2.wk fun _ _ => trivial)
  · refine zW.iload (pc' := 382) dL_law_380 rfl (zgS (zgS (zgS (zgS (zgS (zg0)))))) ?_
    refine zW.if_neN (pc' := 385) 397 dL_law_382 rfl (by decide) (by omega) (fun b9 => ?_) (fun b9 => absurd b9 (by omega))
    refine zW.goto 3347 dL_law_397 (by decide) ?_
    exact kont _ _ _ _ (M2.wk fun _ _ => trivial)
theorem y_sign {y1 : Int32} {y2 : Int32} {q : Nat × Int32 × sW} (hb : zg_k G b = some (1100, xs)) (hy1 : xs[i + 1]? = some (.int y1)) (hy2 : xs[i + 2]? = some (.int y2)) (hi : i < 200) (M0 : lwM G x o a w w (fun _ => True) S h) (hcl : ∀ U, cReg x 0 [] w h U → zK G mX1_sign 40 R [.ref x, .int y1, .int y2] h (cOut x U h [eElt, eArg, eSta] q)) (hml : ∀ h0, zK G mX3_sign 9 0 [.ref a.1, .int y1, .int y2] (tH h0 a S) (tO h0 a q.1 (.int q.2.1) q.2.2)) (kont : ∀ (h' : zH) (S' : tS) (v5 v6 : Value), lwM G x o a q.2.2 q.2.2 (fun _ => True) S' h' → zW G mL_law 42 r 3347 [.ref b, .ref x, .ref a.1, .ref o, .int (nI i), v5, v6] [] h' Q) {v5 v6 : Value} : zW G mL_law 42 (r + R) 400 [.ref b, .ref x, .ref a.1, .ref o, .int (nI i), v5, v6] [] h Q := by
  obtain ⟨U, v, ⟨hG, hl⟩, hd, hT, ⟨ho, -⟩, hk⟩ := id M0
  obtain ⟨fs, hx⟩ := hG.cell
  have hbh := M0.scr hb
  refine zW.aload_n (pc' := 401) dL_law_400 rfl rfl (zgS (zg0)) rfl ?_
  refine zW.aload_n (pc' := 402) dL_law_401 rfl rfl zg0 rfl ?_
  refine zW.iload (pc' := 404) dL_law_402 rfl (zgS (zgS (zgS (zgS (zg0))))) ?_
  refine zW.iconst (pc' := 405) (nI 1) dL_law_404 rfl (by decide) ?_
  refine zW.iaddN (pc' := 406) dL_law_405 rfl ?_
  refine zW.scr (pc' := 407) dL_law_406 rfl hbh hy1 (by omega) ?_
  refine zW.aload_n (pc' := 408) dL_law_407 rfl rfl zg0 rfl ?_
  refine zW.iload (pc' := 410) dL_law_408 rfl (zgS (zgS (zgS (zgS (zg0))))) ?_
  refine zW.iconst (pc' := 411) (nI 2) dL_law_410 rfl (by decide) ?_
  refine zW.iaddN (pc' := 412) dL_law_411 rfl ?_
  refine zW.scr (pc' := 413) dL_law_412 rfl hbh hy2 (by omega) ?_
  refine zW.aload_n (pc' := 414) dL_law_413 rfl rfl (zgS (zgS (zgS (zg0)))) rfl ?_
  refine zW.callSH (r' := R) (pc' := 417) dL_law_414 rfl l_X0_185 rfl (x_sign hx ho hd.1 (hcl U hG)) (zcc rfl (zcc rfl (zcc rfl (zcc rfl zc0)))) rfl (Nat.le_of_ble_eq_true rfl) (Nat.le_of_ble_eq_true rfl) (Nat.le_of_ble_eq_true rfl) ?_ ?_
  rotate_left
  · intro E h9 q9
    cases q9.1
  intro v9 h9 q9
  obtain ⟨e1, q3, g1, g2, v1, ho1, hv1⟩ := q9
  cases e1
  have M1 : lwM G x o a q.2.2 w (fun v => q.1 = 0 → v = q.2.1.toInt64) S h9 := lwM.step hd hT ho hk g1 g2 ⟨ho1, hv1⟩
  have hbh := M1.scr hb
  refine zW.istore (pc' := 419) dL_law_417 rfl (Nat.le_of_ble_eq_true rfl) (zsS (zsS (zsS (zsS (zsS (zs0)))))) ?_
  refine zW.aload_n (pc' := 420) dL_law_419 rfl rfl (zgS (zgS (zg0))) rfl ?_
  refine zW.aload_n (pc' := 421) dL_law_420 rfl rfl zg0 rfl ?_
  refine zW.iload (pc' := 423) dL_law_421 rfl (zgS (zgS (zgS (zgS (zg0))))) ?_
  refine zW.iconst (pc' := 424) (nI 1) dL_law_423 rfl (by decide) ?_
  refine zW.iaddN (pc' := 425) dL_law_424 rfl ?_
  refine zW.scr (pc' := 426) dL_law_425 rfl hbh hy1 (by omega) ?_
  refine zW.aload_n (pc' := 427) dL_law_426 rfl rfl zg0 rfl ?_
  refine zW.iload (pc' := 429) dL_law_427 rfl (zgS (zgS (zgS (zgS (zg0))))) ?_
  refine zW.iconst (pc' := 430) (nI 2) dL_law_429 rfl (by decide) ?_
  refine zW.iaddN (pc' := 431) dL_law_430 rfl ?_
  refine zW.scr (pc' := 432) dL_law_431 rfl hbh hy2 (by omega) ?_
  refine zW.congr ?_ rfl rfl M1.eq
  refine zT.call (pc' := 435) dL_law_432 rfl l_X0_188 rfl rfl (hml _) (zcc rfl (zcc rfl zc0)) rfl (Nat.le_of_ble_eq_true rfl) (Nat.le_of_ble_eq_true rfl) (Nat.le_of_ble_eq_true rfl) (fun _ T2 ⟨e1, e2, e3⟩ => ?_)
  subst e1
  have M2 := M1.mdl e3
  obtain ⟨v2, ho2, hv2⟩ := M2.out
  refine zW.istore (pc' := 437) dL_law_435 rfl (Nat.le_of_ble_eq_true rfl) (zsS (zsS (zsS (zsS (zsS (zsS (zs0))))))) ?_
  refine zW.aload_n (pc' := 438) dL_law_437 rfl rfl (zgS (zgS (zg0))) rfl ?_
  refine zT.call (pc' := 441) dL_law_438 rfl l_X0_182 rfl rfl w_thrown zc0 rfl (Nat.le_of_ble_eq_true rfl) (Nat.le_of_ble_eq_true rfl) (Nat.le_of_ble_eq_true rfl) (fun _ T3 ⟨e1, e4⟩ => ?_)
  subst e1
  subst e4
  rw [e2]
  refine zW.iload (pc' := 443) dL_law_441 rfl (zgS (zgS (zgS (zgS (zgS (zg0)))))) ?_
  refine zW.icmp_eq (pc' := 446) 448 dL_law_443 rfl (by decide) (fun b1 => ?_) (fun b1 => ?_)
  rotate_left
  · exact absurd rfl b1
  by_cases z : q.1 = 0
  · rw [z]
    refine zW.iload (pc' := 450) dL_law_448 rfl (zgS (zgS (zgS (zgS (zgS (zg0)))))) ?_
    refine zW.if_neN (pc' := 453) 465 dL_law_450 rfl (by decide) (by omega) (fun b9 => absurd b9 (by omega)) (fun b9 => ?_)
    refine zW.aload_n (pc' := 454) dL_law_453 rfl rfl (zgS (zgS (zgS (zg0)))) rfl ?_
    refine zW.iconst (pc' := 455) (nI 0) dL_law_454 rfl (by decide) ?_
    refine zW.lald (pc' := 456) dL_law_455 rfl ho2 rfl (by decide) rfl ?_
    rw [hv2 z]
    refine zW.iload (pc' := 458) dL_law_456 rfl (zgS (zgS (zgS (zgS (zgS (zgS (zg0))))))) ?_
    refine zW.i2l (pc' := 459) dL_law_458 rfl ?_
    refine zW.lcmp (pc' := 460) dL_law_459 rfl ?_
    rw [zlc]
    refine zW.if_eq (pc' := 463) 465 dL_law_460 rfl (by decide) (fun b1 => ?_) (fun b1 => ?_)
    rotate_left
    · exact absurd rfl b1
    refine zW.goto 3347 dL_law_465 (by decide) ?_
    exact kont _ _ _ _ (M2.wk fun _ _ => trivial)
  · refine zW.iload (pc' := 450) dL_law_448 rfl (zgS (zgS (zgS (zgS (zgS (zg0)))))) ?_
    refine zW.if_neN (pc' := 453) 465 dL_law_450 rfl (by decide) (by omega) (fun b9 => ?_) (fun b9 => absurd b9 (by omega))
    refine zW.goto 3347 dL_law_465 (by decide) ?_
    exact kont _ _ _ _ (M2.wk fun _ _ => trivial)
theorem y_countersign {y1 : Int32} {y2 : Int32} {q : Nat × Int32 × sW} (hb : zg_k G b = some (1100, xs)) (hy1 : xs[i + 1]? = some (.int y1)) (hy2 : xs[i + 2]? = some (.int y2)) (hi : i < 200) (M0 : lwM G x o a w w (fun _ => True) S h) (hcl : ∀ U, cReg x 0 [] w h U → zK G mX1_countersign 40 R [.ref x, .int y1, .int y2] h (cOut x U h [eElt, eArg, eSta] q)) (hml : ∀ h0, zK G mX3_countersign 9 0 [.ref a.1, .int y1, .int y2] (tH h0 a S) (tO h0 a q.1 (.int q.2.1) q.2.2)) (kont : ∀ (h' : zH) (S' : tS) (v5 v6 : Value), lwM G x o a q.2.2 q.2.2 (fun _ => True) S' h' → zW G mL_law 42 r 3347 [.ref b, .ref x, .ref a.1, .ref o, .int (nI i), v5, v6] [] h' Q) {v5 v6 : Value} : zW G mL_law 42 (r + R) 468 [.ref b, .ref x, .ref a.1, .ref o, .int (nI i), v5, v6] [] h Q := by
  obtain ⟨U, v, ⟨hG, hl⟩, hd, hT, ⟨ho, -⟩, hk⟩ := id M0
  obtain ⟨fs, hx⟩ := hG.cell
  have hbh := M0.scr hb
  refine zW.aload_n (pc' := 469) dL_law_468 rfl rfl (zgS (zg0)) rfl ?_
  refine zW.aload_n (pc' := 470) dL_law_469 rfl rfl zg0 rfl ?_
  refine zW.iload (pc' := 472) dL_law_470 rfl (zgS (zgS (zgS (zgS (zg0))))) ?_
  refine zW.iconst (pc' := 473) (nI 1) dL_law_472 rfl (by decide) ?_
  refine zW.iaddN (pc' := 474) dL_law_473 rfl ?_
  refine zW.scr (pc' := 475) dL_law_474 rfl hbh hy1 (by omega) ?_
  refine zW.aload_n (pc' := 476) dL_law_475 rfl rfl zg0 rfl ?_
  refine zW.iload (pc' := 478) dL_law_476 rfl (zgS (zgS (zgS (zgS (zg0))))) ?_
  refine zW.iconst (pc' := 479) (nI 2) dL_law_478 rfl (by decide) ?_
  refine zW.iaddN (pc' := 480) dL_law_479 rfl ?_
  refine zW.scr (pc' := 481) dL_law_480 rfl hbh hy2 (by omega) ?_
  refine zW.aload_n (pc' := 482) dL_law_481 rfl rfl (zgS (zgS (zgS (zg0)))) rfl ?_
  refine zW.callSH (r' := R) (pc' := 485) dL_law_482 rfl l_X0_189 rfl (x_countersign hx ho hd.1 (hcl U hG)) (zcc rfl (zcc rfl (zcc rfl (zcc rfl zc0)))) rfl (Nat.le_of_ble_eq_true rfl) (Nat.le_of_ble_eq_true rfl) (Nat.le_of_ble_eq_true rfl) ?_ ?_
  rotate_left
  · intro E h9 q9
    cases q9.1
  intro v9 h9 q9
  obtain ⟨e1, q3, g1, g2, v1, ho1, hv1⟩ := q9
  cases e1
  have M1 : lwM G x o a q.2.2 w (fun v => q.1 = 0 → v = q.2.1.toInt64) S h9 := lwM.step hd hT ho hk g1 g2 ⟨ho1, hv1⟩
  have hbh := M1.scr hb
  refine zW.istore (pc' := 487) dL_law_485 rfl (Nat.le_of_ble_eq_true rfl) (zsS (zsS (zsS (zsS (zsS (zs0)))))) ?_
  refine zW.aload_n (pc' := 488) dL_law_487 rfl rfl (zgS (zgS (zg0))) rfl ?_
  refine zW.aload_n (pc' := 489) dL_law_488 rfl rfl zg0 rfl ?_
  refine zW.iload (pc' := 491) dL_law_489 rfl (zgS (zgS (zgS (zgS (zg0))))) ?_
  refine zW.iconst (pc' := 492) (nI 1) dL_law_491 rfl (by decide) ?_
  refine zW.iaddN (pc' := 493) dL_law_492 rfl ?_
  refine zW.scr (pc' := 494) dL_law_493 rfl hbh hy1 (by omega) ?_
  refine zW.aload_n (pc' := 495) dL_law_494 rfl rfl zg0 rfl ?_
  refine zW.iload (pc' := 497) dL_law_495 rfl (zgS (zgS (zgS (zgS (zg0))))) ?_
  refine zW.iconst (pc' := 498) (nI 2) dL_law_497 rfl (by decide) ?_
  refine zW.iaddN (pc' := 499) dL_law_498 rfl ?_
  refine zW.scr (pc' := 500) dL_law_499 rfl hbh hy2 (by omega) ?_
  refine zW.congr ?_ rfl rfl M1.eq
  refine zT.call (pc' := 503) dL_law_500 rfl l_X0_191 rfl rfl (hml _) (zcc rfl (zcc rfl zc0)) rfl (Nat.le_of_ble_eq_true rfl) (Nat.le_of_ble_eq_true rfl) (Nat.le_of_ble_eq_true rfl) (fun _ T2 ⟨e1, e2, e3⟩ => ?_)
  subst e1
  have M2 := M1.mdl e3
  obtain ⟨v2, ho2, hv2⟩ := M2.out
  refine zW.istore (pc' := 505) dL_law_503 rfl (Nat.le_of_ble_eq_true rfl) (zsS (zsS (zsS (zsS (zsS (zsS (zs0))))))) ?_
  refine zW.aload_n (pc' := 506) dL_law_505 rfl rfl (zgS (zgS (zg0))) rfl ?_
  refine zT.call (pc' := 509) dL_law_506 rfl l_X0_182 rfl rfl w_thrown zc0 rfl (Nat.le_of_ble_eq_true rfl) (Nat.le_of_ble_eq_true rfl) (Nat.le_of_ble_eq_true rfl) (fun _ T3 ⟨e1, e4⟩ => ?_)
  subst e1
  subst e4
  rw [e2]
  refine zW.iload (pc' := 511) dL_law_509 rfl (zgS (zgS (zgS (zgS (zgS (zg0)))))) ?_
  refine zW.icmp_eq (pc' := 514) 516 dL_law_511 rfl (by decide) (fun b1 => ?_) (fun b1 => ?_)
  rotate_left
  · exact absurd rfl b1
  by_cases z : q.1 = 0
  · rw [z]
    refine zW.iload (pc' := 518) dL_law_516 rfl (zgS (zgS (zgS (zgS (zgS (zg0)))))) ?_
    refine zW.if_neN (pc' := 521) 533 dL_law_518 rfl (by decide) (by omega) (fun b9 => absurd b9 (by omega)) (fun b9 => ?_)
    refine zW.aload_n (pc' := 522) dL_law_521 rfl rfl (zgS (zgS (zgS (zg0)))) rfl ?_
    refine zW.iconst (pc' := 523) (nI 0) dL_law_522 rfl (by decide) ?_
    refine zW.lald (pc' := 524) dL_law_523 rfl ho2 rfl (by decide) rfl ?_
    rw [hv2 z]
    refine zW.iload (pc' := 526) dL_law_524 rfl (zgS (zgS (zgS (zgS (zgS (zgS (zg0))))))) ?_
    refine zW.i2l (pc' := 527) dL_law_526 rfl ?_
    refine zW.lcmp (pc' := 528) dL_law_527 rfl ?_
    rw [zlc]
    refine zW.if_eq (pc' := 531) 533 dL_law_528 rfl (by decide) (fun b1 => ?_) (fun b1 => ?_)
    rotate_left
    · exact absurd rfl b1
    refine zW.goto 3347 dL_law_533 (by decide) ?_
    exact kont _ _ _ _ (M2.wk fun _ _ => trivial)
  · refine zW.iload (pc' := 518) dL_law_516 rfl (zgS (zgS (zgS (zgS (zgS (zg0)))))) ?_
    refine zW.if_neN (pc' := 521) 533 dL_law_518 rfl (by decide) (by omega) (fun b9 => ?_) (fun b9 => absurd b9 (by omega))
    refine zW.goto 3347 dL_law_533 (by decide) ?_
    exact kont _ _ _ _ (M2.wk fun _ _ => trivial)
theorem y_settle {y1 : Int32} {q : Nat × Int32 × sW} (hb : zg_k G b = some (1100, xs)) (hy1 : xs[i + 1]? = some (.int y1)) (hi : i < 200) (M0 : lwM G x o a w w (fun _ => True) S h) (hcl : ∀ U, cReg x 0 [] w h U → zK G mX1_settle 40 R [.ref x, .int y1] h (cOut x U h [eElt, eSta] q)) (hml : ∀ h0, zK G mX3_settle 9 0 [.ref a.1, .int y1] (tH h0 a S) (tO h0 a q.1 (.int q.2.1) q.2.2)) (kont : ∀ (h' : zH) (S' : tS) (v5 v6 : Value), lwM G x o a q.2.2 q.2.2 (fun _ => True) S' h' → zW G mL_law 42 r 3347 [.ref b, .ref x, .ref a.1, .ref o, .int (nI i), v5, v6] [] h' Q) {v5 v6 : Value} : zW G mL_law 42 (r + R) 536 [.ref b, .ref x, .ref a.1, .ref o, .int (nI i), v5, v6] [] h Q := by
  obtain ⟨U, v, ⟨hG, hl⟩, hd, hT, ⟨ho, -⟩, hk⟩ := id M0
  obtain ⟨fs, hx⟩ := hG.cell
  have hbh := M0.scr hb
  refine zW.aload_n (pc' := 537) dL_law_536 rfl rfl (zgS (zg0)) rfl ?_
  refine zW.aload_n (pc' := 538) dL_law_537 rfl rfl zg0 rfl ?_
  refine zW.iload (pc' := 540) dL_law_538 rfl (zgS (zgS (zgS (zgS (zg0))))) ?_
  refine zW.iconst (pc' := 541) (nI 1) dL_law_540 rfl (by decide) ?_
  refine zW.iaddN (pc' := 542) dL_law_541 rfl ?_
  refine zW.scr (pc' := 543) dL_law_542 rfl hbh hy1 (by omega) ?_
  refine zW.aload_n (pc' := 544) dL_law_543 rfl rfl (zgS (zgS (zgS (zg0)))) rfl ?_
  refine zW.callSH (r' := R) (pc' := 547) dL_law_544 rfl l_X0_192 rfl (x_settle hx ho hd.1 (hcl U hG)) (zcc rfl (zcc rfl (zcc rfl zc0))) rfl (Nat.le_of_ble_eq_true rfl) (Nat.le_of_ble_eq_true rfl) (Nat.le_of_ble_eq_true rfl) ?_ ?_
  rotate_left
  · intro E h9 q9
    cases q9.1
  intro v9 h9 q9
  obtain ⟨e1, q3, g1, g2, v1, ho1, hv1⟩ := q9
  cases e1
  have M1 : lwM G x o a q.2.2 w (fun v => q.1 = 0 → v = q.2.1.toInt64) S h9 := lwM.step hd hT ho hk g1 g2 ⟨ho1, hv1⟩
  have hbh := M1.scr hb
  refine zW.istore (pc' := 549) dL_law_547 rfl (Nat.le_of_ble_eq_true rfl) (zsS (zsS (zsS (zsS (zsS (zs0)))))) ?_
  refine zW.aload_n (pc' := 550) dL_law_549 rfl rfl (zgS (zgS (zg0))) rfl ?_
  refine zW.aload_n (pc' := 551) dL_law_550 rfl rfl zg0 rfl ?_
  refine zW.iload (pc' := 553) dL_law_551 rfl (zgS (zgS (zgS (zgS (zg0))))) ?_
  refine zW.iconst (pc' := 554) (nI 1) dL_law_553 rfl (by decide) ?_
  refine zW.iaddN (pc' := 555) dL_law_554 rfl ?_
  refine zW.scr (pc' := 556) dL_law_555 rfl hbh hy1 (by omega) ?_
  refine zW.congr ?_ rfl rfl M1.eq
  refine zT.call (pc' := 559) dL_law_556 rfl l_X0_195 rfl rfl (hml _) (zcc rfl zc0) rfl (Nat.le_of_ble_eq_true rfl) (Nat.le_of_ble_eq_true rfl) (Nat.le_of_ble_eq_true rfl) (fun _ T2 ⟨e1, e2, e3⟩ => ?_)
  subst e1
  have M2 := M1.mdl e3
  obtain ⟨v2, ho2, hv2⟩ := M2.out
  refine zW.istore (pc' := 561) dL_law_559 rfl (Nat.le_of_ble_eq_true rfl) (zsS (zsS (zsS (zsS (zsS (zsS (zs0))))))) ?_
  refine zW.aload_n (pc' := 562) dL_law_561 rfl rfl (zgS (zgS (zg0))) rfl ?_
  refine zT.call (pc' := 565) dL_law_562 rfl l_X0_182 rfl rfl w_thrown zc0 rfl (Nat.le_of_ble_eq_true rfl) (Nat.le_of_ble_eq_true rfl) (Nat.le_of_ble_eq_true rfl) (fun _ T3 ⟨e1, e4⟩ => ?_)
  subst e1
  subst e4
  rw [e2]
  refine zW.iload (pc' := 567) dL_law_565 rfl (zgS (zgS (zgS (zgS (zgS (zg0)))))) ?_
  refine zW.icmp_eq (pc' := 570) 572 dL_law_567 rfl (by decide) (fun b1 => ?_) (fun b1 => ?_)
  rotate_left
  · exact absurd rfl b1
  by_cases z : q.1 = 0
  · rw [z]
    refine zW.iload (pc' := 574) dL_law_572 rfl (zgS (zgS (zgS (zgS (zgS (zg0)))))) ?_
    refine zW.if_neN (pc' := 577) 589 dL_law_574 rfl (by decide) (by omega) (fun b9 => absurd b9 (by omega)) (fun b9 => ?_)
    refine zW.aload_n (pc' := 578) dL_law_577 rfl rfl (zgS (zgS (zgS (zg0)))) rfl ?_
    refine zW.iconst (pc' := 579) (nI 0) dL_law_578 rfl (by decide) ?_
    refine zW.lald (pc' := 580) dL_law_579 rfl ho2 rfl (by decide) rfl ?_
    rw [hv2 z]
    refine zW.iload (pc' := 582) dL_law_580 rfl (zgS (zgS (zgS (zgS (zgS (zgS (zg0))))))) ?_
    refine zW.i2l (pc' := 583) dL_law_582 rfl ?_
    refine zW.lcmp (pc' := 584) dL_law_583 rfl ?_
    rw [zlc]
    refine zW.if_eq (pc' := 587) 589 dL_law_584 rfl (by decide) (fun b1 => ?_) (fun b1 => ?_)
    rotate_left
    · exact absurd rfl b1
    refine zW.goto 3347 dL_law_589 (by decide) ?_
    exact kont _ _ _ _ (M2.wk fun _ _ => trivial)
  · refine zW.iload (pc' := 574) dL_law_572 rfl (zgS (zgS (zgS (zgS (zgS (zg0)))))) ?_
    refine zW.if_neN (pc' := 577) 589 dL_law_574 rfl (by decide) (by omega) (fun b9 => ?_) (fun b9 => absurd b9 (by omega))
    refine zW.goto 3347 dL_law_589 (by decide) ?_
    exact kont _ _ _ _ (M2.wk fun _ _ => trivial)
theorem y_tick {q : Nat × Int32 × sW} (hb : zg_k G b = some (1100, xs)) (hi : i < 200) (M0 : lwM G x o a w w (fun _ => True) S h) (hcl : ∀ U, cReg x 0 [] w h U → zK G mX1_tick 40 R [.ref x] h (cOut x U h [] q)) (hml : ∀ h0, zK G mX3_tick 9 0 [.ref a.1] (tH h0 a S) (tO h0 a q.1 (.int q.2.1) q.2.2)) (kont : ∀ (h' : zH) (S' : tS) (v5 v6 : Value), lwM G x o a q.2.2 q.2.2 (fun _ => True) S' h' → zW G mL_law 42 r 3347 [.ref b, .ref x, .ref a.1, .ref o, .int (nI i), v5, v6] [] h' Q) {v5 v6 : Value} : zW G mL_law 42 (r + R) 592 [.ref b, .ref x, .ref a.1, .ref o, .int (nI i), v5, v6] [] h Q := by
  obtain ⟨U, v, ⟨hG, hl⟩, hd, hT, ⟨ho, -⟩, hk⟩ := id M0
  obtain ⟨fs, hx⟩ := hG.cell
  refine zW.aload_n (pc' := 593) dL_law_592 rfl rfl (zgS (zg0)) rfl ?_
  refine zW.callV (r' := R) (pc' := 596) dL_law_593 rfl l_X0_196 rfl hx ⟨rfl, (Nat.le_of_ble_eq_true rfl)⟩ rfl ((hcl U hG)) zc0 rfl (Nat.le_of_ble_eq_true rfl) (Nat.le_of_ble_eq_true rfl) (Nat.le_of_ble_eq_true rfl) ?_ ?_
  rotate_left
  · intro E h9 q9
    obtain ⟨-, n, -, e1⟩ := q9.r
    cases e1
  intro v9 h9 q9
  obtain ⟨⟨g1, g2⟩, e0, e1⟩ := q9.l
  subst e1
  have M1 : lwM G x o a q.2.2 w (fun _ => True) S h9 := lwM.step hd hT ho hk g1 (g2.mono fun b hb => Or.inl (Or.inl hb)) ⟨g2.at ho hd.1, trivial⟩
  refine zW.aload_n (pc' := 597) dL_law_596 rfl rfl (zgS (zgS (zg0))) rfl ?_
  refine zW.congr ?_ rfl rfl M1.eq
  refine zT.call (pc' := 600) dL_law_597 rfl l_X0_199 rfl rfl (hml _) zc0 rfl (Nat.le_of_ble_eq_true rfl) (Nat.le_of_ble_eq_true rfl) (Nat.le_of_ble_eq_true rfl) (fun _ T2 ⟨e1, e2, e3⟩ => ?_)
  subst e1
  have M2 := M1.mdl e3
  refine zW.icmp_eq (pc' := 603) 3347 dL_law_600 rfl (by decide) (fun b1 => ?_) (fun b1 => ?_)
  rotate_left
  · exact absurd rfl b1
  exact kont _ _ _ _ (M2.wk fun _ _ => trivial)
theorem y_advance {y1 : Int32} {q : Nat × Int32 × sW} (hb : zg_k G b = some (1100, xs)) (hy1 : xs[i + 1]? = some (.int y1)) (hi : i < 200) (M0 : lwM G x o a w w (fun _ => True) S h) (hcl : ∀ U, cReg x 0 [] w h U → zK G mX1_advance 40 R [.ref x, .int y1] h (cOut x U h [eArg] q)) (hml : ∀ h0, zK G mX3_advance 9 0 [.ref a.1, .int y1] (tH h0 a S) (tO h0 a q.1 (.int q.2.1) q.2.2)) (kont : ∀ (h' : zH) (S' : tS) (v5 v6 : Value), lwM G x o a q.2.2 q.2.2 (fun _ => True) S' h' → zW G mL_law 42 r 3347 [.ref b, .ref x, .ref a.1, .ref o, .int (nI i), v5, v6] [] h' Q) {v5 v6 : Value} : zW G mL_law 42 (r + R) 605 [.ref b, .ref x, .ref a.1, .ref o, .int (nI i), v5, v6] [] h Q := by
  obtain ⟨U, v, ⟨hG, hl⟩, hd, hT, ⟨ho, -⟩, hk⟩ := id M0
  obtain ⟨fs, hx⟩ := hG.cell
  have hbh := M0.scr hb
  refine zW.aload_n (pc' := 606) dL_law_605 rfl rfl (zgS (zg0)) rfl ?_
  refine zW.aload_n (pc' := 607) dL_law_606 rfl rfl zg0 rfl ?_
  refine zW.iload (pc' := 609) dL_law_607 rfl (zgS (zgS (zgS (zgS (zg0))))) ?_
  refine zW.iconst (pc' := 610) (nI 1) dL_law_609 rfl (by decide) ?_
  refine zW.iaddN (pc' := 611) dL_law_610 rfl ?_
  refine zW.scr (pc' := 612) dL_law_611 rfl hbh hy1 (by omega) ?_
  refine zW.aload_n (pc' := 613) dL_law_612 rfl rfl (zgS (zgS (zgS (zg0)))) rfl ?_
  refine zW.callSH (r' := R) (pc' := 616) dL_law_613 rfl l_X0_200 rfl (x_advance hx ho hd.1 (hcl U hG)) (zcc rfl (zcc rfl (zcc rfl zc0))) rfl (Nat.le_of_ble_eq_true rfl) (Nat.le_of_ble_eq_true rfl) (Nat.le_of_ble_eq_true rfl) ?_ ?_
  rotate_left
  · intro E h9 q9
    cases q9.1
  intro v9 h9 q9
  obtain ⟨e1, q3, g1, g2, v1, ho1, hv1⟩ := q9
  cases e1
  have M1 : lwM G x o a q.2.2 w (fun v => q.1 = 0 → v = q.2.1.toInt64) S h9 := lwM.step hd hT ho hk g1 g2 ⟨ho1, hv1⟩
  have hbh := M1.scr hb
  refine zW.istore (pc' := 618) dL_law_616 rfl (Nat.le_of_ble_eq_true rfl) (zsS (zsS (zsS (zsS (zsS (zs0)))))) ?_
  refine zW.aload_n (pc' := 619) dL_law_618 rfl rfl (zgS (zgS (zg0))) rfl ?_
  refine zW.aload_n (pc' := 620) dL_law_619 rfl rfl zg0 rfl ?_
  refine zW.iload (pc' := 622) dL_law_620 rfl (zgS (zgS (zgS (zgS (zg0))))) ?_
  refine zW.iconst (pc' := 623) (nI 1) dL_law_622 rfl (by decide) ?_
  refine zW.iaddN (pc' := 624) dL_law_623 rfl ?_
  refine zW.scr (pc' := 625) dL_law_624 rfl hbh hy1 (by omega) ?_
  refine zW.congr ?_ rfl rfl M1.eq
  refine zT.call (pc' := 628) dL_law_625 rfl l_X0_202 rfl rfl (hml _) (zcc rfl zc0) rfl (Nat.le_of_ble_eq_true rfl) (Nat.le_of_ble_eq_true rfl) (Nat.le_of_ble_eq_true rfl) (fun _ T2 ⟨e1, e2, e3⟩ => ?_)
  subst e1
  have M2 := M1.mdl e3
  obtain ⟨v2, ho2, hv2⟩ := M2.out
  refine zW.istore (pc' := 630) dL_law_628 rfl (Nat.le_of_ble_eq_true rfl) (zsS (zsS (zsS (zsS (zsS (zsS (zs0))))))) ?_
  refine zW.aload_n (pc' := 631) dL_law_630 rfl rfl (zgS (zgS (zg0))) rfl ?_
  refine zT.call (pc' := 634) dL_law_631 rfl l_X0_182 rfl rfl w_thrown zc0 rfl (Nat.le_of_ble_eq_true rfl) (Nat.le_of_ble_eq_true rfl) (Nat.le_of_ble_eq_true rfl) (fun _ T3 ⟨e1, e4⟩ => ?_)
  subst e1
  subst e4
  rw [e2]
  refine zW.iload (pc' := 636) dL_law_634 rfl (zgS (zgS (zgS (zgS (zgS (zg0)))))) ?_
  refine zW.icmp_eq (pc' := 639) 641 dL_law_636 rfl (by decide) (fun b1 => ?_) (fun b1 => ?_)
  rotate_left
  · exact absurd rfl b1
  by_cases z : q.1 = 0
  · rw [z]
    refine zW.iload (pc' := 643) dL_law_641 rfl (zgS (zgS (zgS (zgS (zgS (zg0)))))) ?_
    refine zW.if_neN (pc' := 646) 658 dL_law_643 rfl (by decide) (by omega) (fun b9 => absurd b9 (by omega)) (fun b9 => ?_)
    refine zW.aload_n (pc' := 647) dL_law_646 rfl rfl (zgS (zgS (zgS (zg0)))) rfl ?_
    refine zW.iconst (pc' := 648) (nI 0) dL_law_647 rfl (by decide) ?_
    refine zW.lald (pc' := 649) dL_law_648 rfl ho2 rfl (by decide) rfl ?_
    rw [hv2 z]
    refine zW.iload (pc' := 651) dL_law_649 rfl (zgS (zgS (zgS (zgS (zgS (zgS (zg0))))))) ?_
    refine zW.i2l (pc' := 652) dL_law_651 rfl ?_
    refine zW.lcmp (pc' := 653) dL_law_652 rfl ?_
    rw [zlc]
    refine zW.if_eq (pc' := 656) 658 dL_law_653 rfl (by decide) (fun b1 => ?_) (fun b1 => ?_)
    rotate_left
    · exact absurd rfl b1
    refine zW.goto 3347 dL_law_658 (by decide) ?_
    exact kont _ _ _ _ (M2.wk fun _ _ => trivial)
  · refine zW.iload (pc' := 643) dL_law_641 rfl (zgS (zgS (zgS (zgS (zgS (zg0)))))) ?_
    refine zW.if_neN (pc' := 646) 658 dL_law_643 rfl (by decide) (by omega) (fun b9 => ?_) (fun b9 => absurd b9 (by omega))
    refine zW.goto 3347 dL_law_658 (by decide) ?_
    exact kont _ _ _ _ (M2.wk fun _ _ => trivial)
theorem y_audit {y1 : Int32} {q : Nat × Int32 × sW} (hb : zg_k G b = some (1100, xs)) (hy1 : xs[i + 1]? = some (.int y1)) (hi : i < 200) (M0 : lwM G x o a w w (fun _ => True) S h) (hcl : ∀ U, cReg x 0 [] w h U → zK G mX1_audit 40 R [.ref x, .int y1] h (cOut x U h [eArg] q)) (hml : ∀ h0, zK G mX3_audit 9 0 [.ref a.1, .int y1] (tH h0 a S) (tO h0 a q.1 (.int q.2.1) q.2.2)) (kont : ∀ (h' : zH) (S' : tS) (v5 v6 : Value), lwM G x o a q.2.2 q.2.2 (fun _ => True) S' h' → zW G mL_law 42 r 3347 [.ref b, .ref x, .ref a.1, .ref o, .int (nI i), v5, v6] [] h' Q) {v5 v6 : Value} : zW G mL_law 42 (r + R) 661 [.ref b, .ref x, .ref a.1, .ref o, .int (nI i), v5, v6] [] h Q := by
  obtain ⟨U, v, ⟨hG, hl⟩, hd, hT, ⟨ho, -⟩, hk⟩ := id M0
  obtain ⟨fs, hx⟩ := hG.cell
  have hbh := M0.scr hb
  refine zW.aload_n (pc' := 662) dL_law_661 rfl rfl (zgS (zg0)) rfl ?_
  refine zW.aload_n (pc' := 663) dL_law_662 rfl rfl zg0 rfl ?_
  refine zW.iload (pc' := 665) dL_law_663 rfl (zgS (zgS (zgS (zgS (zg0))))) ?_
  refine zW.iconst (pc' := 666) (nI 1) dL_law_665 rfl (by decide) ?_
  refine zW.iaddN (pc' := 667) dL_law_666 rfl ?_
  refine zW.scr (pc' := 668) dL_law_667 rfl hbh hy1 (by omega) ?_
  refine zW.aload_n (pc' := 669) dL_law_668 rfl rfl (zgS (zgS (zgS (zg0)))) rfl ?_
  refine zW.callSH (r' := R) (pc' := 672) dL_law_669 rfl l_X0_203 rfl (x_audit hx ho hd.1 (hcl U hG)) (zcc rfl (zcc rfl (zcc rfl zc0))) rfl (Nat.le_of_ble_eq_true rfl) (Nat.le_of_ble_eq_true rfl) (Nat.le_of_ble_eq_true rfl) ?_ ?_
  rotate_left
  · intro E h9 q9
    cases q9.1
  intro v9 h9 q9
  obtain ⟨e1, q3, g1, g2, v1, ho1, hv1⟩ := q9
  cases e1
  have M1 : lwM G x o a q.2.2 w (fun v => q.1 = 0 → v = q.2.1.toInt64) S h9 := lwM.step hd hT ho hk g1 g2 ⟨ho1, hv1⟩
  have hbh := M1.scr hb
  refine zW.istore (pc' := 674) dL_law_672 rfl (Nat.le_of_ble_eq_true rfl) (zsS (zsS (zsS (zsS (zsS (zs0)))))) ?_
  refine zW.aload_n (pc' := 675) dL_law_674 rfl rfl (zgS (zgS (zg0))) rfl ?_
  refine zW.aload_n (pc' := 676) dL_law_675 rfl rfl zg0 rfl ?_
  refine zW.iload (pc' := 678) dL_law_676 rfl (zgS (zgS (zgS (zgS (zg0))))) ?_
  refine zW.iconst (pc' := 679) (nI 1) dL_law_678 rfl (by decide) ?_
  refine zW.iaddN (pc' := 680) dL_law_679 rfl ?_
  refine zW.scr (pc' := 681) dL_law_680 rfl hbh hy1 (by omega) ?_
  refine zW.congr ?_ rfl rfl M1.eq
  refine zT.call (pc' := 684) dL_law_681 rfl l_X0_205 rfl rfl (hml _) (zcc rfl zc0) rfl (Nat.le_of_ble_eq_true rfl) (Nat.le_of_ble_eq_true rfl) (Nat.le_of_ble_eq_true rfl) (fun _ T2 ⟨e1, e2, e3⟩ => ?_)
  subst e1
  have M2 := M1.mdl e3
  obtain ⟨v2, ho2, hv2⟩ := M2.out
  refine zW.istore (pc' := 686) dL_law_684 rfl (Nat.le_of_ble_eq_true rfl) (zsS (zsS (zsS (zsS (zsS (zsS (zs0))))))) ?_
  refine zW.aload_n (pc' := 687) dL_law_686 rfl rfl (zgS (zgS (zg0))) rfl ?_
  refine zT.call (pc' := 690) dL_law_687 rfl l_X0_182 rfl rfl w_thrown zc0 rfl (Nat.le_of_ble_eq_true rfl) (Nat.le_of_ble_eq_true rfl) (Nat.le_of_ble_eq_true rfl) (fun _ T3 ⟨e1, e4⟩ => ?_)
  subst e1
  subst e4
  rw [e2]
  refine zW.iload (pc' := 692) dL_law_690 rfl (zgS (zgS (zgS (zgS (zgS (zg0)))))) ?_
  refine zW.icmp_eq (pc' := 695) 697 dL_law_692 rfl (by decide) (fun b1 => ?_) (fun b1 => ?_)
  rotate_left
  · exact absurd rfl b1
  by_cases z : q.1 = 0
  · rw [z]
    refine zW.iload (pc' := 699) dL_law_697 rfl (zgS (zgS (zgS (zgS (zgS (zg0)))))) ?_
    refine zW.if_neN (pc' := 702) 714 dL_law_699 rfl (by decide) (by omega) (fun b9 => absurd b9 (by omega)) (fun b9 => ?_)
    refine zW.aload_n (pc' := 703) dL_law_702 rfl rfl (zgS (zgS (zgS (zg0)))) rfl ?_
    refine zW.iconst (pc' := 704) (nI 0) dL_law_703 rfl (by decide) ?_
    refine zW.lald (pc' := 705) dL_law_704 rfl ho2 rfl (by decide) rfl ?_
    rw [hv2 z]
    refine zW.iload (pc' := 707) dL_law_705 rfl (zgS (zgS (zgS (zgS (zgS (zgS (zg0))))))) ?_
    refine zW.i2l (pc' := 708) dL_law_707 rfl ?_
    refine zW.lcmp (pc' := 709) dL_law_708 rfl ?_
    rw [zlc]
    refine zW.if_eq (pc' := 712) 714 dL_law_709 rfl (by decide) (fun b1 => ?_) (fun b1 => ?_)
    rotate_left
    · exact absurd rfl b1
    refine zW.goto 3347 dL_law_714 (by decide) ?_
    exact kont _ _ _ _ (M2.wk fun _ _ => trivial)
  · refine zW.iload (pc' := 699) dL_law_697 rfl (zgS (zgS (zgS (zgS (zgS (zg0)))))) ?_
    refine zW.if_neN (pc' := 702) 714 dL_law_699 rfl (by decide) (by omega) (fun b9 => ?_) (fun b9 => absurd b9 (by omega))
    refine zW.goto 3347 dL_law_714 (by decide) ?_
    exact kont _ _ _ _ (M2.wk fun _ _ => trivial)
theorem y_setRate {y1 : Int32} {y2 : Int32} {q : Nat × Int32 × sW} (hb : zg_k G b = some (1100, xs)) (hy1 : xs[i + 1]? = some (.int y1)) (hy2 : xs[i + 2]? = some (.int y2)) (hi : i < 200) (M0 : lwM G x o a w w (fun _ => True) S h) (hcl : ∀ U, cReg x 0 [] w h U → zK G mX1_setRate 40 R [.ref x, .int y1, .int y2] h (cOut x U h [eArg] q)) (hml : ∀ h0, zK G mX3_setRate 9 0 [.ref a.1, .int y1, .int y2] (tH h0 a S) (tO h0 a q.1 (.int q.2.1) q.2.2)) (kont : ∀ (h' : zH) (S' : tS) (v5 v6 : Value), lwM G x o a q.2.2 q.2.2 (fun _ => True) S' h' → zW G mL_law 42 r 3347 [.ref b, .ref x, .ref a.1, .ref o, .int (nI i), v5, v6] [] h' Q) {v5 v6 : Value} : zW G mL_law 42 (r + R) 717 [.ref b, .ref x, .ref a.1, .ref o, .int (nI i), v5, v6] [] h Q := by
  obtain ⟨U, v, ⟨hG, hl⟩, hd, hT, ⟨ho, -⟩, hk⟩ := id M0
  obtain ⟨fs, hx⟩ := hG.cell
  have hbh := M0.scr hb
  refine zW.aload_n (pc' := 718) dL_law_717 rfl rfl (zgS (zg0)) rfl ?_
  refine zW.aload_n (pc' := 719) dL_law_718 rfl rfl zg0 rfl ?_
  refine zW.iload (pc' := 721) dL_law_719 rfl (zgS (zgS (zgS (zgS (zg0))))) ?_
  refine zW.iconst (pc' := 722) (nI 1) dL_law_721 rfl (by decide) ?_
  refine zW.iaddN (pc' := 723) dL_law_722 rfl ?_
  refine zW.scr (pc' := 724) dL_law_723 rfl hbh hy1 (by omega) ?_
  refine zW.aload_n (pc' := 725) dL_law_724 rfl rfl zg0 rfl ?_
  refine zW.iload (pc' := 727) dL_law_725 rfl (zgS (zgS (zgS (zgS (zg0))))) ?_
  refine zW.iconst (pc' := 728) (nI 2) dL_law_727 rfl (by decide) ?_
  refine zW.iaddN (pc' := 729) dL_law_728 rfl ?_
  refine zW.scr (pc' := 730) dL_law_729 rfl hbh hy2 (by omega) ?_
  refine zW.aload_n (pc' := 731) dL_law_730 rfl rfl (zgS (zgS (zgS (zg0)))) rfl ?_
  refine zW.callSH (r' := R) (pc' := 734) dL_law_731 rfl l_X0_206 rfl (x_setRate hx ho hd.1 (hcl U hG)) (zcc rfl (zcc rfl (zcc rfl (zcc rfl zc0)))) rfl (Nat.le_of_ble_eq_true rfl) (Nat.le_of_ble_eq_true rfl) (Nat.le_of_ble_eq_true rfl) ?_ ?_
  rotate_left
  · intro E h9 q9
    cases q9.1
  intro v9 h9 q9
  obtain ⟨e1, q3, g1, g2, v1, ho1, hv1⟩ := q9
  cases e1
  have M1 : lwM G x o a q.2.2 w (fun v => q.1 = 0 → v = q.2.1.toInt64) S h9 := lwM.step hd hT ho hk g1 g2 ⟨ho1, hv1⟩
  have hbh := M1.scr hb
  refine zW.istore (pc' := 736) dL_law_734 rfl (Nat.le_of_ble_eq_true rfl) (zsS (zsS (zsS (zsS (zsS (zs0)))))) ?_
  refine zW.aload_n (pc' := 737) dL_law_736 rfl rfl (zgS (zgS (zg0))) rfl ?_
  refine zW.aload_n (pc' := 738) dL_law_737 rfl rfl zg0 rfl ?_
  refine zW.iload (pc' := 740) dL_law_738 rfl (zgS (zgS (zgS (zgS (zg0))))) ?_
  refine zW.iconst (pc' := 741) (nI 1) dL_law_740 rfl (by decide) ?_
  refine zW.iaddN (pc' := 742) dL_law_741 rfl ?_
  refine zW.scr (pc' := 743) dL_law_742 rfl hbh hy1 (by omega) ?_
  refine zW.aload_n (pc' := 744) dL_law_743 rfl rfl zg0 rfl ?_
  refine zW.iload (pc' := 746) dL_law_744 rfl (zgS (zgS (zgS (zgS (zg0))))) ?_
  refine zW.iconst (pc' := 747) (nI 2) dL_law_746 rfl (by decide) ?_
  refine zW.iaddN (pc' := 748) dL_law_747 rfl ?_
  refine zW.scr (pc' := 749) dL_law_748 rfl hbh hy2 (by omega) ?_
  refine zW.congr ?_ rfl rfl M1.eq
  refine zT.call (pc' := 752) dL_law_749 rfl l_X0_208 rfl rfl (hml _) (zcc rfl (zcc rfl zc0)) rfl (Nat.le_of_ble_eq_true rfl) (Nat.le_of_ble_eq_true rfl) (Nat.le_of_ble_eq_true rfl) (fun _ T2 ⟨e1, e2, e3⟩ => ?_)
  subst e1
  have M2 := M1.mdl e3
  obtain ⟨v2, ho2, hv2⟩ := M2.out
  refine zW.istore (pc' := 754) dL_law_752 rfl (Nat.le_of_ble_eq_true rfl) (zsS (zsS (zsS (zsS (zsS (zsS (zs0))))))) ?_
  refine zW.aload_n (pc' := 755) dL_law_754 rfl rfl (zgS (zgS (zg0))) rfl ?_
  refine zT.call (pc' := 758) dL_law_755 rfl l_X0_182 rfl rfl w_thrown zc0 rfl (Nat.le_of_ble_eq_true rfl) (Nat.le_of_ble_eq_true rfl) (Nat.le_of_ble_eq_true rfl) (fun _ T3 ⟨e1, e4⟩ => ?_)
  subst e1
  subst e4
  rw [e2]
  refine zW.iload (pc' := 760) dL_law_758 rfl (zgS (zgS (zgS (zgS (zgS (zg0)))))) ?_
  refine zW.icmp_eq (pc' := 763) 765 dL_law_760 rfl (by decide) (fun b1 => ?_) (fun b1 => ?_)
  rotate_left
  · exact absurd rfl b1
  by_cases z : q.1 = 0
  · rw [z]
    refine zW.iload (pc' := 767) dL_law_765 rfl (zgS (zgS (zgS (zgS (zgS (zg0)))))) ?_
    refine zW.if_neN (pc' := 770) 782 dL_law_767 rfl (by decide) (by omega) (fun b9 => absurd b9 (by omega)) (fun b9 => ?_)
    refine zW.aload_n (pc' := 771) dL_law_770 rfl rfl (zgS (zgS (zgS (zg0)))) rfl ?_
    refine zW.iconst (pc' := 772) (nI 0) dL_law_771 rfl (by decide) ?_
    refine zW.lald (pc' := 773) dL_law_772 rfl ho2 rfl (by decide) rfl ?_
    rw [hv2 z]
    refine zW.iload (pc' := 775) dL_law_773 rfl (zgS (zgS (zgS (zgS (zgS (zgS (zg0))))))) ?_
    refine zW.i2l (pc' := 776) dL_law_775 rfl ?_
    refine zW.lcmp (pc' := 777) dL_law_776 rfl ?_
    rw [zlc]
    refine zW.if_eq (pc' := 780) 782 dL_law_777 rfl (by decide) (fun b1 => ?_) (fun b1 => ?_)
    rotate_left
    · exact absurd rfl b1
    refine zW.goto 3347 dL_law_782 (by decide) ?_
    exact kont _ _ _ _ (M2.wk fun _ _ => trivial)
  · refine zW.iload (pc' := 767) dL_law_765 rfl (zgS (zgS (zgS (zgS (zgS (zg0)))))) ?_
    refine zW.if_neN (pc' := 770) 782 dL_law_767 rfl (by decide) (by omega) (fun b9 => ?_) (fun b9 => absurd b9 (by omega))
    refine zW.goto 3347 dL_law_782 (by decide) ?_
    exact kont _ _ _ _ (M2.wk fun _ _ => trivial)
end
