/-! THE LAW: its cases (printed by mk9zh.py) -/
section
set_option maxRecDepth 100000
variable {G : zG} {h : zH} {Q : zR → zH → Prop} {x o b i R r : Nat} {a : tA} {w : sW} {S : tS} {xs : List Value} {lv : Int64}
theorem y_expiryRank {y1 : Int32} {q : Nat × Int32 × sW} (hb : zg_k G b = some (1100, xs)) (hy1 : xs[i + 1]? = some (.int y1)) (hi : i < 200) (M0 : lwM G x o a w w (fun _ => True) S h) (hcl : ∀ U, cReg x 0 [] w h U → zK G mX1_expiryRank 40 R [.ref x, .int y1] h (cOut x U h [eElt] q)) (hml : ∀ h0, zK G mX3_expiryRank 9 0 [.ref a.1, .int y1] (tH h0 a S) (tO h0 a q.1 (.int q.2.1) q.2.2)) (kont : ∀ (h' : zH) (S' : tS) (v5 v6 : Value), lwM G x o a q.2.2 q.2.2 (fun _ => True) S' h' → zW G mL_law 42 r 3347 [.ref b, .ref x, .ref a.1, .ref o, .int (nI i), v5, v6] [] h' Q) {v5 v6 : Value} : zW G mL_law 42 (r + R) 2395 [.ref b, .ref x, .ref a.1, .ref o, .int (nI i), v5, v6] [] h Q := by
  obtain ⟨U, v, ⟨hG, hl⟩, hd, hT, ⟨ho, -⟩, hk⟩ := id M0
  obtain ⟨fs, hx⟩ := hG.cell
  have hbh := M0.scr hb
  refine zW.aload_n (pc' := 2396) dL_law_2395 rfl rfl (zgS (zg0)) rfl ?_
  refine zW.aload_n (pc' := 2397) dL_law_2396 rfl rfl zg0 rfl ?_
  refine zW.iload (pc' := 2399) dL_law_2397 rfl (zgS (zgS (zgS (zgS (zg0))))) ?_
  refine zW.iconst (pc' := 2400) (nI 1) dL_law_2399 rfl (by decide) ?_
  refine zW.iaddN (pc' := 2401) dL_law_2400 rfl ?_
  refine zW.scr (pc' := 2402) dL_law_2401 rfl hbh hy1 (by omega) ?_
  refine zW.aload_n (pc' := 2403) dL_law_2402 rfl rfl (zgS (zgS (zgS (zg0)))) rfl ?_
  refine zW.callSH (r' := R) (pc' := 2406) dL_law_2403 rfl l_X0_312 rfl (x_expiryRank hx ho hd.1 (hcl U hG)) (zcc rfl (zcc rfl (zcc rfl zc0))) rfl (Nat.le_of_ble_eq_true rfl) (Nat.le_of_ble_eq_true rfl) (Nat.le_of_ble_eq_true rfl) ?_ ?_
  rotate_left
  · intro E h9 q9
    cases q9.1
  intro v9 h9 q9
  obtain ⟨e1, q3, g1, g2, v1, ho1, hv1⟩ := q9
  cases e1
  have M1 : lwM G x o a q.2.2 w (fun v => q.1 = 0 → v = q.2.1.toInt64) S h9 := lwM.step hd hT ho hk g1 g2 ⟨ho1, hv1⟩
  have hbh := M1.scr hb
  refine zW.istore (pc' := 2408) dL_law_2406 rfl (Nat.le_of_ble_eq_true rfl) (zsS (zsS (zsS (zsS (zsS (zs0)))))) ?_
  refine zW.aload_n (pc' := 2409) dL_law_2408 rfl rfl (zgS (zgS (zg0))) rfl ?_
  refine zW.aload_n (pc' := 2410) dL_law_2409 rfl rfl zg0 rfl ?_
  refine zW.iload (pc' := 2412) dL_law_2410 rfl (zgS (zgS (zgS (zgS (zg0))))) ?_
  refine zW.iconst (pc' := 2413) (nI 1) dL_law_2412 rfl (by decide) ?_
  refine zW.iaddN (pc' := 2414) dL_law_2413 rfl ?_
  refine zW.scr (pc' := 2415) dL_law_2414 rfl hbh hy1 (by omega) ?_
  refine zW.congr ?_ rfl rfl M1.eq
  refine zT.call (pc' := 2418) dL_law_2415 rfl l_X0_314 rfl rfl (hml _) (zcc rfl zc0) rfl (Nat.le_of_ble_eq_true rfl) (Nat.le_of_ble_eq_true rfl) (Nat.le_of_ble_eq_true rfl) (fun _ T2 ⟨e1, e2, e3⟩ => ?_)
  subst e1
  have M2 := M1.mdl e3
  obtain ⟨v2, ho2, hv2⟩ := M2.out
  refine zW.istore (pc' := 2420) dL_law_2418 rfl (Nat.le_of_ble_eq_true rfl) (zsS (zsS (zsS (zsS (zsS (zsS (zs0))))))) ?_
  refine zW.aload_n (pc' := 2421) dL_law_2420 rfl rfl (zgS (zgS (zg0))) rfl ?_
  refine zT.call (pc' := 2424) dL_law_2421 rfl l_X0_182 rfl rfl w_thrown zc0 rfl (Nat.le_of_ble_eq_true rfl) (Nat.le_of_ble_eq_true rfl) (Nat.le_of_ble_eq_true rfl) (fun _ T3 ⟨e1, e4⟩ => ?_)
  subst e1
  subst e4
  rw [e2]
  refine zW.iload (pc' := 2426) dL_law_2424 rfl (zgS (zgS (zgS (zgS (zgS (zg0)))))) ?_
  refine zW.icmp_eq (pc' := 2429) 2431 dL_law_2426 rfl (by decide) (fun b1 => ?_) (fun b1 => ?_)
  rotate_left
  · exact absurd rfl b1
  by_cases z : q.1 = 0
  · rw [z]
    refine zW.iload (pc' := 2433) dL_law_2431 rfl (zgS (zgS (zgS (zgS (zgS (zg0)))))) ?_
    refine zW.if_neN (pc' := 2436) 2448 dL_law_2433 rfl (by decide) (by omega) (fun b9 => absurd b9 (by omega)) (fun b9 => ?_)
    refine zW.aload_n (pc' := 2437) dL_law_2436 rfl rfl (zgS (zgS (zgS (zg0)))) rfl ?_
    refine zW.iconst (pc' := 2438) (nI 0) dL_law_2437 rfl (by decide) ?_
    refine zW.lald (pc' := 2439) dL_law_2438 rfl ho2 rfl (by decide) rfl ?_
    rw [hv2 z]
    refine zW.iload (pc' := 2441) dL_law_2439 rfl (zgS (zgS (zgS (zgS (zgS (zgS (zg0))))))) ?_
    refine zW.i2l (pc' := 2442) dL_law_2441 rfl ?_
    refine zW.lcmp (pc' := 2443) dL_law_2442 rfl ?_
    rw [zlc]
    refine zW.if_eq (pc' := 2446) 2448 dL_law_2443 rfl (by decide) (fun b1 => ?_) (fun b1 => ?_)
    rotate_left
    · exact absurd rfl b1
    refine zW.goto 3347 dL_law_2448 (by decide) ?_
    exact kont _ _ _ _ (M2.wk fun _ _ => trivial)
  · refine zW.iload (pc' := 2433) dL_law_2431 rfl (zgS (zgS (zgS (zgS (zgS (zg0)))))) ?_
    refine zW.if_neN (pc' := 2436) 2448 dL_law_2433 rfl (by decide) (by omega) (fun b9 => ?_) (fun b9 => absurd b9 (by omega))
    refine zW.goto 3347 dL_law_2448 (by decide) ?_
    exact kont _ _ _ _ (M2.wk fun _ _ => trivial)
theorem y_expiringWithin {y1 : Int32} {q : Nat × Int32 × sW} (hb : zg_k G b = some (1100, xs)) (hy1 : xs[i + 1]? = some (.int y1)) (hi : i < 200) (M0 : lwM G x o a w w (fun _ => True) S h) (hcl : ∀ U, cReg x 0 [] w h U → zK G mX1_expiringWithin 40 R [.ref x, .int y1] h (cOut x U h [eArg] q)) (hml : ∀ h0, zK G mX3_expiringWithin 9 0 [.ref a.1, .int y1] (tH h0 a S) (tO h0 a q.1 (.int q.2.1) q.2.2)) (kont : ∀ (h' : zH) (S' : tS) (v5 v6 : Value), lwM G x o a q.2.2 q.2.2 (fun _ => True) S' h' → zW G mL_law 42 r 3347 [.ref b, .ref x, .ref a.1, .ref o, .int (nI i), v5, v6] [] h' Q) {v5 v6 : Value} : zW G mL_law 42 (r + R) 2451 [.ref b, .ref x, .ref a.1, .ref o, .int (nI i), v5, v6] [] h Q := by
  obtain ⟨U, v, ⟨hG, hl⟩, hd, hT, ⟨ho, -⟩, hk⟩ := id M0
  obtain ⟨fs, hx⟩ := hG.cell
  have hbh := M0.scr hb
  refine zW.aload_n (pc' := 2452) dL_law_2451 rfl rfl (zgS (zg0)) rfl ?_
  refine zW.aload_n (pc' := 2453) dL_law_2452 rfl rfl zg0 rfl ?_
  refine zW.iload (pc' := 2455) dL_law_2453 rfl (zgS (zgS (zgS (zgS (zg0))))) ?_
  refine zW.iconst (pc' := 2456) (nI 1) dL_law_2455 rfl (by decide) ?_
  refine zW.iaddN (pc' := 2457) dL_law_2456 rfl ?_
  refine zW.scr (pc' := 2458) dL_law_2457 rfl hbh hy1 (by omega) ?_
  refine zW.aload_n (pc' := 2459) dL_law_2458 rfl rfl (zgS (zgS (zgS (zg0)))) rfl ?_
  refine zW.callSH (r' := R) (pc' := 2462) dL_law_2459 rfl l_X0_315 rfl (x_expiringWithin hx ho hd.1 (hcl U hG)) (zcc rfl (zcc rfl (zcc rfl zc0))) rfl (Nat.le_of_ble_eq_true rfl) (Nat.le_of_ble_eq_true rfl) (Nat.le_of_ble_eq_true rfl) ?_ ?_
  rotate_left
  · intro E h9 q9
    cases q9.1
  intro v9 h9 q9
  obtain ⟨e1, q3, g1, g2, v1, ho1, hv1⟩ := q9
  cases e1
  have M1 : lwM G x o a q.2.2 w (fun v => q.1 = 0 → v = q.2.1.toInt64) S h9 := lwM.step hd hT ho hk g1 g2 ⟨ho1, hv1⟩
  have hbh := M1.scr hb
  refine zW.istore (pc' := 2464) dL_law_2462 rfl (Nat.le_of_ble_eq_true rfl) (zsS (zsS (zsS (zsS (zsS (zs0)))))) ?_
  refine zW.aload_n (pc' := 2465) dL_law_2464 rfl rfl (zgS (zgS (zg0))) rfl ?_
  refine zW.aload_n (pc' := 2466) dL_law_2465 rfl rfl zg0 rfl ?_
  refine zW.iload (pc' := 2468) dL_law_2466 rfl (zgS (zgS (zgS (zgS (zg0))))) ?_
  refine zW.iconst (pc' := 2469) (nI 1) dL_law_2468 rfl (by decide) ?_
  refine zW.iaddN (pc' := 2470) dL_law_2469 rfl ?_
  refine zW.scr (pc' := 2471) dL_law_2470 rfl hbh hy1 (by omega) ?_
  refine zW.congr ?_ rfl rfl M1.eq
  refine zT.call (pc' := 2474) dL_law_2471 rfl l_X0_317 rfl rfl (hml _) (zcc rfl zc0) rfl (Nat.le_of_ble_eq_true rfl) (Nat.le_of_ble_eq_true rfl) (Nat.le_of_ble_eq_true rfl) (fun _ T2 ⟨e1, e2, e3⟩ => ?_)
  subst e1
  have M2 := M1.mdl e3
  obtain ⟨v2, ho2, hv2⟩ := M2.out
  refine zW.istore (pc' := 2476) dL_law_2474 rfl (Nat.le_of_ble_eq_true rfl) (zsS (zsS (zsS (zsS (zsS (zsS (zs0))))))) ?_
  refine zW.aload_n (pc' := 2477) dL_law_2476 rfl rfl (zgS (zgS (zg0))) rfl ?_
  refine zT.call (pc' := 2480) dL_law_2477 rfl l_X0_182 rfl rfl w_thrown zc0 rfl (Nat.le_of_ble_eq_true rfl) (Nat.le_of_ble_eq_true rfl) (Nat.le_of_ble_eq_true rfl) (fun _ T3 ⟨e1, e4⟩ => ?_)
  subst e1
  subst e4
  rw [e2]
  refine zW.iload (pc' := 2482) dL_law_2480 rfl (zgS (zgS (zgS (zgS (zgS (zg0)))))) ?_
  refine zW.icmp_eq (pc' := 2485) 2487 dL_law_2482 rfl (by decide) (fun b1 => ?_) (fun b1 => ?_)
  rotate_left
  · exact absurd rfl b1
  by_cases z : q.1 = 0
  · rw [z]
    refine zW.iload (pc' := 2489) dL_law_2487 rfl (zgS (zgS (zgS (zgS (zgS (zg0)))))) ?_
    refine zW.if_neN (pc' := 2492) 2504 dL_law_2489 rfl (by decide) (by omega) (fun b9 => absurd b9 (by omega)) (fun b9 => ?_)
    refine zW.aload_n (pc' := 2493) dL_law_2492 rfl rfl (zgS (zgS (zgS (zg0)))) rfl ?_
    refine zW.iconst (pc' := 2494) (nI 0) dL_law_2493 rfl (by decide) ?_
    refine zW.lald (pc' := 2495) dL_law_2494 rfl ho2 rfl (by decide) rfl ?_
    rw [hv2 z]
    refine zW.iload (pc' := 2497) dL_law_2495 rfl (zgS (zgS (zgS (zgS (zgS (zgS (zg0))))))) ?_
    refine zW.i2l (pc' := 2498) dL_law_2497 rfl ?_
    refine zW.lcmp (pc' := 2499) dL_law_2498 rfl ?_
    rw [zlc]
    refine zW.if_eq (pc' := 2502) 2504 dL_law_2499 rfl (by decide) (fun b1 => ?_) (fun b1 => ?_)
    rotate_left
    · exact absurd rfl b1
    refine zW.goto 3347 dL_law_2504 (by decide) ?_
    exact kont _ _ _ _ (M2.wk fun _ _ => trivial)
  · refine zW.iload (pc' := 2489) dL_law_2487 rfl (zgS (zgS (zgS (zgS (zgS (zg0)))))) ?_
    refine zW.if_neN (pc' := 2492) 2504 dL_law_2489 rfl (by decide) (by omega) (fun b9 => ?_) (fun b9 => absurd b9 (by omega))
    refine zW.goto 3347 dL_law_2504 (by decide) ?_
    exact kont _ _ _ _ (M2.wk fun _ _ => trivial)
theorem y_expiringBySimulation {y1 : Int32} {q : Nat × Int32 × sW} (hb : zg_k G b = some (1100, xs)) (hy1 : xs[i + 1]? = some (.int y1)) (hi : i < 200) (M0 : lwM G x o a w w (fun _ => True) S h) (hcl : ∀ U, cReg x 0 [] w h U → zK G mX1_expiringBySimulation 40 R [.ref x, .int y1] h (cOut x U h [eArg] q)) (hml : ∀ h0, zK G mX3_expiringBySimulation 9 0 [.ref a.1, .int y1] (tH h0 a S) (tO h0 a q.1 (.int q.2.1) q.2.2)) (kont : ∀ (h' : zH) (S' : tS) (v5 v6 : Value), lwM G x o a q.2.2 q.2.2 (fun _ => True) S' h' → zW G mL_law 42 r 3347 [.ref b, .ref x, .ref a.1, .ref o, .int (nI i), v5, v6] [] h' Q) {v5 v6 : Value} : zW G mL_law 42 (r + R) 2507 [.ref b, .ref x, .ref a.1, .ref o, .int (nI i), v5, v6] [] h Q := by
  obtain ⟨U, v, ⟨hG, hl⟩, hd, hT, ⟨ho, -⟩, hk⟩ := id M0
  obtain ⟨fs, hx⟩ := hG.cell
  have hbh := M0.scr hb
  refine zW.aload_n (pc' := 2508) dL_law_2507 rfl rfl (zgS (zg0)) rfl ?_
  refine zW.aload_n (pc' := 2509) dL_law_2508 rfl rfl zg0 rfl ?_
  refine zW.iload (pc' := 2511) dL_law_2509 rfl (zgS (zgS (zgS (zgS (zg0))))) ?_
  refine zW.iconst (pc' := 2512) (nI 1) dL_law_2511 rfl (by decide) ?_
  refine zW.iaddN (pc' := 2513) dL_law_2512 rfl ?_
  refine zW.scr (pc' := 2514) dL_law_2513 rfl hbh hy1 (by omega) ?_
  refine zW.aload_n (pc' := 2515) dL_law_2514 rfl rfl (zgS (zgS (zgS (zg0)))) rfl ?_
  refine zW.callSH (r' := R) (pc' := 2518) dL_law_2515 rfl l_X0_318 rfl (x_expiringBySimulation hx ho hd.1 (hcl U hG)) (zcc rfl (zcc rfl (zcc rfl zc0))) rfl (Nat.le_of_ble_eq_true rfl) (Nat.le_of_ble_eq_true rfl) (Nat.le_of_ble_eq_true rfl) ?_ ?_
  rotate_left
  · intro E h9 q9
    cases q9.1
  intro v9 h9 q9
  obtain ⟨e1, q3, g1, g2, v1, ho1, hv1⟩ := q9
  cases e1
  have M1 : lwM G x o a q.2.2 w (fun v => q.1 = 0 → v = q.2.1.toInt64) S h9 := lwM.step hd hT ho hk g1 g2 ⟨ho1, hv1⟩
  have hbh := M1.scr hb
  refine zW.istore (pc' := 2520) dL_law_2518 rfl (Nat.le_of_ble_eq_true rfl) (zsS (zsS (zsS (zsS (zsS (zs0)))))) ?_
  refine zW.aload_n (pc' := 2521) dL_law_2520 rfl rfl (zgS (zgS (zg0))) rfl ?_
  refine zW.aload_n (pc' := 2522) dL_law_2521 rfl rfl zg0 rfl ?_
  refine zW.iload (pc' := 2524) dL_law_2522 rfl (zgS (zgS (zgS (zgS (zg0))))) ?_
  refine zW.iconst (pc' := 2525) (nI 1) dL_law_2524 rfl (by decide) ?_
  refine zW.iaddN (pc' := 2526) dL_law_2525 rfl ?_
  refine zW.scr (pc' := 2527) dL_law_2526 rfl hbh hy1 (by omega) ?_
  refine zW.congr ?_ rfl rfl M1.eq
  refine zT.call (pc' := 2530) dL_law_2527 rfl l_X0_320 rfl rfl (hml _) (zcc rfl zc0) rfl (Nat.le_of_ble_eq_true rfl) (Nat.le_of_ble_eq_true rfl) (Nat.le_of_ble_eq_true rfl) (fun _ T2 ⟨e1, e2, e3⟩ => ?_)
  subst e1
  have M2 := M1.mdl e3
  obtain ⟨v2, ho2, hv2⟩ := M2.out
  refine zW.istore (pc' := 2532) dL_law_2530 rfl (Nat.le_of_ble_eq_true rfl) (zsS (zsS (zsS (zsS (zsS (zsS (zs0))))))) ?_
  refine zW.aload_n (pc' := 2533) dL_law_2532 rfl rfl (zgS (zgS (zg0))) rfl ?_
  refine zT.call (pc' := 2536) dL_law_2533 rfl l_X0_182 rfl rfl w_thrown zc0 rfl (Nat.le_of_ble_eq_true rfl) (Nat.le_of_ble_eq_true rfl) (Nat.le_of_ble_eq_true rfl) (fun _ T3 ⟨e1, e4⟩ => ?_)
  subst e1
  subst e4
  rw [e2]
  refine zW.iload (pc' := 2538) dL_law_2536 rfl (zgS (zgS (zgS (zgS (zgS (zg0)))))) ?_
  refine zW.icmp_eq (pc' := 2541) 2543 dL_law_2538 rfl (by decide) (fun b1 => ?_) (fun b1 => ?_)
  rotate_left
  · exact absurd rfl b1
  by_cases z : q.1 = 0
  · rw [z]
    refine zW.iload (pc' := 2545) dL_law_2543 rfl (zgS (zgS (zgS (zgS (zgS (zg0)))))) ?_
    refine zW.if_neN (pc' := 2548) 2560 dL_law_2545 rfl (by decide) (by omega) (fun b9 => absurd b9 (by omega)) (fun b9 => ?_)
    refine zW.aload_n (pc' := 2549) dL_law_2548 rfl rfl (zgS (zgS (zgS (zg0)))) rfl ?_
    refine zW.iconst (pc' := 2550) (nI 0) dL_law_2549 rfl (by decide) ?_
    refine zW.lald (pc' := 2551) dL_law_2550 rfl ho2 rfl (by decide) rfl ?_
    rw [hv2 z]
    refine zW.iload (pc' := 2553) dL_law_2551 rfl (zgS (zgS (zgS (zgS (zgS (zgS (zg0))))))) ?_
    refine zW.i2l (pc' := 2554) dL_law_2553 rfl ?_
    refine zW.lcmp (pc' := 2555) dL_law_2554 rfl ?_
    rw [zlc]
    refine zW.if_eq (pc' := 2558) 2560 dL_law_2555 rfl (by decide) (fun b1 => ?_) (fun b1 => ?_)
    rotate_left
    · exact absurd rfl b1
    refine zW.goto 3347 dL_law_2560 (by decide) ?_
    exact kont _ _ _ _ (M2.wk fun _ _ => trivial)
  · refine zW.iload (pc' := 2545) dL_law_2543 rfl (zgS (zgS (zgS (zgS (zgS (zg0)))))) ?_
    refine zW.if_neN (pc' := 2548) 2560 dL_law_2545 rfl (by decide) (by omega) (fun b9 => ?_) (fun b9 => absurd b9 (by omega))
    refine zW.goto 3347 dL_law_2560 (by decide) ?_
    exact kont _ _ _ _ (M2.wk fun _ _ => trivial)
theorem y_weightAfter {y1 : Int32} {y2 : Int32} {q : Nat × Int32 × sW} (hb : zg_k G b = some (1100, xs)) (hy1 : xs[i + 1]? = some (.int y1)) (hy2 : xs[i + 2]? = some (.int y2)) (hi : i < 200) (M0 : lwM G x o a w w (fun _ => True) S h) (hcl : ∀ U, cReg x 0 [] w h U → zK G mX1_weightAfter 40 R [.ref x, .int y1, .int y2] h (cOut x U h [eElt, eArg] q)) (hml : ∀ h0, zK G mX3_weightAfter 9 0 [.ref a.1, .int y1, .int y2] (tH h0 a S) (tO h0 a q.1 (.int q.2.1) q.2.2)) (kont : ∀ (h' : zH) (S' : tS) (v5 v6 : Value), lwM G x o a q.2.2 q.2.2 (fun _ => True) S' h' → zW G mL_law 42 r 3347 [.ref b, .ref x, .ref a.1, .ref o, .int (nI i), v5, v6] [] h' Q) {v5 v6 : Value} : zW G mL_law 42 (r + R) 2563 [.ref b, .ref x, .ref a.1, .ref o, .int (nI i), v5, v6] [] h Q := by
  obtain ⟨U, v, ⟨hG, hl⟩, hd, hT, ⟨ho, -⟩, hk⟩ := id M0
  obtain ⟨fs, hx⟩ := hG.cell
  have hbh := M0.scr hb
  refine zW.aload_n (pc' := 2564) dL_law_2563 rfl rfl (zgS (zg0)) rfl ?_
  refine zW.aload_n (pc' := 2565) dL_law_2564 rfl rfl zg0 rfl ?_
  refine zW.iload (pc' := 2567) dL_law_2565 rfl (zgS (zgS (zgS (zgS (zg0))))) ?_
  refine zW.iconst (pc' := 2568) (nI 1) dL_law_2567 rfl (by decide) ?_
  refine zW.iaddN (pc' := 2569) dL_law_2568 rfl ?_
  refine zW.scr (pc' := 2570) dL_law_2569 rfl hbh hy1 (by omega) ?_
  refine zW.aload_n (pc' := 2571) dL_law_2570 rfl rfl zg0 rfl ?_
  refine zW.iload (pc' := 2573) dL_law_2571 rfl (zgS (zgS (zgS (zgS (zg0))))) ?_
  refine zW.iconst (pc' := 2574) (nI 2) dL_law_2573 rfl (by decide) ?_
  refine zW.iaddN (pc' := 2575) dL_law_2574 rfl ?_
  refine zW.scr (pc' := 2576) dL_law_2575 rfl hbh hy2 (by omega) ?_
  refine zW.aload_n (pc' := 2577) dL_law_2576 rfl rfl (zgS (zgS (zgS (zg0)))) rfl ?_
  refine zW.callSH (r' := R) (pc' := 2580) dL_law_2577 rfl l_X0_321 rfl (x_weightAfter hx ho hd.1 (hcl U hG)) (zcc rfl (zcc rfl (zcc rfl (zcc rfl zc0)))) rfl (Nat.le_of_ble_eq_true rfl) (Nat.le_of_ble_eq_true rfl) (Nat.le_of_ble_eq_true rfl) ?_ ?_
  rotate_left
  · intro E h9 q9
    cases q9.1
  intro v9 h9 q9
  obtain ⟨e1, q3, g1, g2, v1, ho1, hv1⟩ := q9
  cases e1
  have M1 : lwM G x o a q.2.2 w (fun v => q.1 = 0 → v = q.2.1.toInt64) S h9 := lwM.step hd hT ho hk g1 g2 ⟨ho1, hv1⟩
  have hbh := M1.scr hb
  refine zW.istore (pc' := 2582) dL_law_2580 rfl (Nat.le_of_ble_eq_true rfl) (zsS (zsS (zsS (zsS (zsS (zs0)))))) ?_
  refine zW.aload_n (pc' := 2583) dL_law_2582 rfl rfl (zgS (zgS (zg0))) rfl ?_
  refine zW.aload_n (pc' := 2584) dL_law_2583 rfl rfl zg0 rfl ?_
  refine zW.iload (pc' := 2586) dL_law_2584 rfl (zgS (zgS (zgS (zgS (zg0))))) ?_
  refine zW.iconst (pc' := 2587) (nI 1) dL_law_2586 rfl (by decide) ?_
  refine zW.iaddN (pc' := 2588) dL_law_2587 rfl ?_
  refine zW.scr (pc' := 2589) dL_law_2588 rfl hbh hy1 (by omega) ?_
  refine zW.aload_n (pc' := 2590) dL_law_2589 rfl rfl zg0 rfl ?_
  refine zW.iload (pc' := 2592) dL_law_2590 rfl (zgS (zgS (zgS (zgS (zg0))))) ?_
  refine zW.iconst (pc' := 2593) (nI 2) dL_law_2592 rfl (by decide) ?_
  refine zW.iaddN (pc' := 2594) dL_law_2593 rfl ?_
  refine zW.scr (pc' := 2595) dL_law_2594 rfl hbh hy2 (by omega) ?_
  refine zW.congr ?_ rfl rfl M1.eq
  refine zT.call (pc' := 2598) dL_law_2595 rfl l_X0_323 rfl rfl (hml _) (zcc rfl (zcc rfl zc0)) rfl (Nat.le_of_ble_eq_true rfl) (Nat.le_of_ble_eq_true rfl) (Nat.le_of_ble_eq_true rfl) (fun _ T2 ⟨e1, e2, e3⟩ => ?_)
  subst e1
  have M2 := M1.mdl e3
  obtain ⟨v2, ho2, hv2⟩ := M2.out
  refine zW.istore (pc' := 2600) dL_law_2598 rfl (Nat.le_of_ble_eq_true rfl) (zsS (zsS (zsS (zsS (zsS (zsS (zs0))))))) ?_
  refine zW.aload_n (pc' := 2601) dL_law_2600 rfl rfl (zgS (zgS (zg0))) rfl ?_
  refine zT.call (pc' := 2604) dL_law_2601 rfl l_X0_182 rfl rfl w_thrown zc0 rfl (Nat.le_of_ble_eq_true rfl) (Nat.le_of_ble_eq_true rfl) (Nat.le_of_ble_eq_true rfl) (fun _ T3 ⟨e1, e4⟩ => ?_)
  subst e1
  subst e4
  rw [e2]
  refine zW.iload (pc' := 2606) dL_law_2604 rfl (zgS (zgS (zgS (zgS (zgS (zg0)))))) ?_
  refine zW.icmp_eq (pc' := 2609) 2611 dL_law_2606 rfl (by decide) (fun b1 => ?_) (fun b1 => ?_)
  rotate_left
  · exact absurd rfl b1
  by_cases z : q.1 = 0
  · rw [z]
    refine zW.iload (pc' := 2613) dL_law_2611 rfl (zgS (zgS (zgS (zgS (zgS (zg0)))))) ?_
    refine zW.if_neN (pc' := 2616) 2628 dL_law_2613 rfl (by decide) (by omega) (fun b9 => absurd b9 (by omega)) (fun b9 => ?_)
    refine zW.aload_n (pc' := 2617) dL_law_2616 rfl rfl (zgS (zgS (zgS (zg0)))) rfl ?_
    refine zW.iconst (pc' := 2618) (nI 0) dL_law_2617 rfl (by decide) ?_
    refine zW.lald (pc' := 2619) dL_law_2618 rfl ho2 rfl (by decide) rfl ?_
    rw [hv2 z]
    refine zW.iload (pc' := 2621) dL_law_2619 rfl (zgS (zgS (zgS (zgS (zgS (zgS (zg0))))))) ?_
    refine zW.i2l (pc' := 2622) dL_law_2621 rfl ?_
    refine zW.lcmp (pc' := 2623) dL_law_2622 rfl ?_
    rw [zlc]
    refine zW.if_eq (pc' := 2626) 2628 dL_law_2623 rfl (by decide) (fun b1 => ?_) (fun b1 => ?_)
    rotate_left
    · exact absurd rfl b1
    refine zW.goto 3347 dL_law_2628 (by decide) ?_
    exact kont _ _ _ _ (M2.wk fun _ _ => trivial)
  · refine zW.iload (pc' := 2613) dL_law_2611 rfl (zgS (zgS (zgS (zgS (zgS (zg0)))))) ?_
    refine zW.if_neN (pc' := 2616) 2628 dL_law_2613 rfl (by decide) (by omega) (fun b9 => ?_) (fun b9 => absurd b9 (by omega))
    refine zW.goto 3347 dL_law_2628 (by decide) ?_
    exact kont _ _ _ _ (M2.wk fun _ _ => trivial)
theorem y_canSign {y1 : Int32} {y2 : Int32} {q : Nat × Int32 × sW} (hb : zg_k G b = some (1100, xs)) (hy1 : xs[i + 1]? = some (.int y1)) (hy2 : xs[i + 2]? = some (.int y2)) (hi : i < 200) (M0 : lwM G x o a w w (fun _ => True) S h) (hcl : ∀ U, cReg x 0 [] w h U → zK G mX1_canSign 40 R [.ref x, .int y1, .int y2] h (cOut x U h [eElt, eArg] q)) (hml : ∀ h0, zK G mX3_canSign 9 0 [.ref a.1, .int y1, .int y2] (tH h0 a S) (tO h0 a q.1 (.int q.2.1) q.2.2)) (h01 : q.1 = 0 → q.2.1 = nI 0 ∨ q.2.1 = nI 1) (kont : ∀ (h' : zH) (S' : tS) (v5 v6 : Value), lwM G x o a q.2.2 q.2.2 (fun _ => True) S' h' → zW G mL_law 42 r 3347 [.ref b, .ref x, .ref a.1, .ref o, .int (nI i), v5, v6] [] h' Q) {v5 v6 : Value} : zW G mL_law 42 (r + R) 2631 [.ref b, .ref x, .ref a.1, .ref o, .int (nI i), v5, v6] [] h Q := by
  obtain ⟨U, v, ⟨hG, hl⟩, hd, hT, ⟨ho, -⟩, hk⟩ := id M0
  obtain ⟨fs, hx⟩ := hG.cell
  have hbh := M0.scr hb
  refine zW.aload_n (pc' := 2632) dL_law_2631 rfl rfl (zgS (zg0)) rfl ?_
  refine zW.aload_n (pc' := 2633) dL_law_2632 rfl rfl zg0 rfl ?_
  refine zW.iload (pc' := 2635) dL_law_2633 rfl (zgS (zgS (zgS (zgS (zg0))))) ?_
  refine zW.iconst (pc' := 2636) (nI 1) dL_law_2635 rfl (by decide) ?_
  refine zW.iaddN (pc' := 2637) dL_law_2636 rfl ?_
  refine zW.scr (pc' := 2638) dL_law_2637 rfl hbh hy1 (by omega) ?_
  refine zW.aload_n (pc' := 2639) dL_law_2638 rfl rfl zg0 rfl ?_
  refine zW.iload (pc' := 2641) dL_law_2639 rfl (zgS (zgS (zgS (zgS (zg0))))) ?_
  refine zW.iconst (pc' := 2642) (nI 2) dL_law_2641 rfl (by decide) ?_
  refine zW.iaddN (pc' := 2643) dL_law_2642 rfl ?_
  refine zW.scr (pc' := 2644) dL_law_2643 rfl hbh hy2 (by omega) ?_
  refine zW.aload_n (pc' := 2645) dL_law_2644 rfl rfl (zgS (zgS (zgS (zg0)))) rfl ?_
  refine zW.callSH (r' := R) (pc' := 2648) dL_law_2645 rfl l_X0_324 rfl (x_canSign hx ho hd.1 h01 (hcl U hG)) (zcc rfl (zcc rfl (zcc rfl (zcc rfl zc0)))) rfl (Nat.le_of_ble_eq_true rfl) (Nat.le_of_ble_eq_true rfl) (Nat.le_of_ble_eq_true rfl) ?_ ?_
  rotate_left
  · intro E h9 q9
    cases q9.1
  intro v9 h9 q9
  obtain ⟨e1, q3, g1, g2, v1, ho1, hv1⟩ := q9
  cases e1
  have M1 : lwM G x o a q.2.2 w (fun v => q.1 = 0 → v = q.2.1.toInt64) S h9 := lwM.step hd hT ho hk g1 g2 ⟨ho1, hv1⟩
  have hbh := M1.scr hb
  refine zW.istore (pc' := 2650) dL_law_2648 rfl (Nat.le_of_ble_eq_true rfl) (zsS (zsS (zsS (zsS (zsS (zs0)))))) ?_
  refine zW.aload_n (pc' := 2651) dL_law_2650 rfl rfl (zgS (zgS (zg0))) rfl ?_
  refine zW.aload_n (pc' := 2652) dL_law_2651 rfl rfl zg0 rfl ?_
  refine zW.iload (pc' := 2654) dL_law_2652 rfl (zgS (zgS (zgS (zgS (zg0))))) ?_
  refine zW.iconst (pc' := 2655) (nI 1) dL_law_2654 rfl (by decide) ?_
  refine zW.iaddN (pc' := 2656) dL_law_2655 rfl ?_
  refine zW.scr (pc' := 2657) dL_law_2656 rfl hbh hy1 (by omega) ?_
  refine zW.aload_n (pc' := 2658) dL_law_2657 rfl rfl zg0 rfl ?_
  refine zW.iload (pc' := 2660) dL_law_2658 rfl (zgS (zgS (zgS (zgS (zg0))))) ?_
  refine zW.iconst (pc' := 2661) (nI 2) dL_law_2660 rfl (by decide) ?_
  refine zW.iaddN (pc' := 2662) dL_law_2661 rfl ?_
  refine zW.scr (pc' := 2663) dL_law_2662 rfl hbh hy2 (by omega) ?_
  refine zW.congr ?_ rfl rfl M1.eq
  refine zT.call (pc' := 2666) dL_law_2663 rfl l_X0_326 rfl rfl (hml _) (zcc rfl (zcc rfl zc0)) rfl (Nat.le_of_ble_eq_true rfl) (Nat.le_of_ble_eq_true rfl) (Nat.le_of_ble_eq_true rfl) (fun _ T2 ⟨e1, e2, e3⟩ => ?_)
  subst e1
  have M2 := M1.mdl e3
  obtain ⟨v2, ho2, hv2⟩ := M2.out
  refine zW.istore (pc' := 2668) dL_law_2666 rfl (Nat.le_of_ble_eq_true rfl) (zsS (zsS (zsS (zsS (zsS (zsS (zs0))))))) ?_
  refine zW.aload_n (pc' := 2669) dL_law_2668 rfl rfl (zgS (zgS (zg0))) rfl ?_
  refine zT.call (pc' := 2672) dL_law_2669 rfl l_X0_182 rfl rfl w_thrown zc0 rfl (Nat.le_of_ble_eq_true rfl) (Nat.le_of_ble_eq_true rfl) (Nat.le_of_ble_eq_true rfl) (fun _ T3 ⟨e1, e4⟩ => ?_)
  subst e1
  subst e4
  rw [e2]
  refine zW.iload (pc' := 2674) dL_law_2672 rfl (zgS (zgS (zgS (zgS (zgS (zg0)))))) ?_
  refine zW.icmp_eq (pc' := 2677) 2679 dL_law_2674 rfl (by decide) (fun b1 => ?_) (fun b1 => ?_)
  rotate_left
  · exact absurd rfl b1
  by_cases z : q.1 = 0
  · rw [z]
    refine zW.iload (pc' := 2681) dL_law_2679 rfl (zgS (zgS (zgS (zgS (zgS (zg0)))))) ?_
    refine zW.if_neN (pc' := 2684) 2703 dL_law_2681 rfl (by decide) (by omega) (fun b9 => absurd b9 (by omega)) (fun b9 => ?_)
    refine zW.aload_n (pc' := 2685) dL_law_2684 rfl rfl (zgS (zgS (zgS (zg0)))) rfl ?_
    refine zW.iconst (pc' := 2686) (nI 0) dL_law_2685 rfl (by decide) ?_
    refine zW.lald (pc' := 2687) dL_law_2686 rfl ho2 rfl (by decide) rfl ?_
    rcases h01 z with e5 | e5
    · rw [hv2 z, e5, show (nI 0).toInt64 = 0 by decide]
      refine zW.iload (pc' := 2689) dL_law_2687 rfl (zgS (zgS (zgS (zgS (zgS (zgS (zg0))))))) ?_
      refine zW.if_eqN (pc' := 2692) 2696 dL_law_2689 rfl (by decide) (by omega) (fun b9 => ?_) (fun b9 => absurd b9 (by omega))
      refine zW.lconst (pc' := 2697) 0 dL_law_2696 rfl (by decide) ?_
      refine zW.lcmp (pc' := 2698) dL_law_2697 rfl ?_
      rw [zlc]
      refine zW.if_eq (pc' := 2701) 2703 dL_law_2698 rfl (by decide) (fun b1 => ?_) (fun b1 => ?_)
      rotate_left
      · exact absurd rfl b1
      refine zW.goto 3347 dL_law_2703 (by decide) ?_
      exact kont _ _ _ _ (M2.wk fun _ _ => trivial)
    · rw [hv2 z, e5, show (nI 1).toInt64 = 1 by decide]
      refine zW.iload (pc' := 2689) dL_law_2687 rfl (zgS (zgS (zgS (zgS (zgS (zgS (zg0))))))) ?_
      refine zW.if_eqN (pc' := 2692) 2696 dL_law_2689 rfl (by decide) (by omega) (fun b9 => absurd b9 (by omega)) (fun b9 => ?_)
      refine zW.lconst (pc' := 2693) 1 dL_law_2692 rfl (by decide) ?_
      refine zW.goto 2697 dL_law_2693 (by decide) ?_
      refine zW.lcmp (pc' := 2698) dL_law_2697 rfl ?_
      rw [zlc]
      refine zW.if_eq (pc' := 2701) 2703 dL_law_2698 rfl (by decide) (fun b1 => ?_) (fun b1 => ?_)
      rotate_left
      · exact absurd rfl b1
      refine zW.goto 3347 dL_law_2703 (by decide) ?_
      exact kont _ _ _ _ (M2.wk fun _ _ => trivial)
  · refine zW.iload (pc' := 2681) dL_law_2679 rfl (zgS (zgS (zgS (zgS (zgS (zg0)))))) ?_
    refine zW.if_neN (pc' := 2684) 2703 dL_law_2681 rfl (by decide) (by omega) (fun b9 => ?_) (fun b9 => absurd b9 (by omega))
    refine zW.goto 3347 dL_law_2703 (by decide) ?_
    exact kont _ _ _ _ (M2.wk fun _ _ => trivial)
theorem y_canCountersign {y1 : Int32} {y2 : Int32} {q : Nat × Int32 × sW} (hb : zg_k G b = some (1100, xs)) (hy1 : xs[i + 1]? = some (.int y1)) (hy2 : xs[i + 2]? = some (.int y2)) (hi : i < 200) (M0 : lwM G x o a w w (fun _ => True) S h) (hcl : ∀ U, cReg x 0 [] w h U → zK G mX1_canCountersign 40 R [.ref x, .int y1, .int y2] h (cOut x U h [eElt, eArg] q)) (hml : ∀ h0, zK G mX3_canCountersign 9 0 [.ref a.1, .int y1, .int y2] (tH h0 a S) (tO h0 a q.1 (.int q.2.1) q.2.2)) (h01 : q.1 = 0 → q.2.1 = nI 0 ∨ q.2.1 = nI 1) (kont : ∀ (h' : zH) (S' : tS) (v5 v6 : Value), lwM G x o a q.2.2 q.2.2 (fun _ => True) S' h' → zW G mL_law 42 r 3347 [.ref b, .ref x, .ref a.1, .ref o, .int (nI i), v5, v6] [] h' Q) {v5 v6 : Value} : zW G mL_law 42 (r + R) 2706 [.ref b, .ref x, .ref a.1, .ref o, .int (nI i), v5, v6] [] h Q := by
  obtain ⟨U, v, ⟨hG, hl⟩, hd, hT, ⟨ho, -⟩, hk⟩ := id M0
  obtain ⟨fs, hx⟩ := hG.cell
  have hbh := M0.scr hb
  refine zW.aload_n (pc' := 2707) dL_law_2706 rfl rfl (zgS (zg0)) rfl ?_
  refine zW.aload_n (pc' := 2708) dL_law_2707 rfl rfl zg0 rfl ?_
  refine zW.iload (pc' := 2710) dL_law_2708 rfl (zgS (zgS (zgS (zgS (zg0))))) ?_
  refine zW.iconst (pc' := 2711) (nI 1) dL_law_2710 rfl (by decide) ?_
  refine zW.iaddN (pc' := 2712) dL_law_2711 rfl ?_
  refine zW.scr (pc' := 2713) dL_law_2712 rfl hbh hy1 (by omega) ?_
  refine zW.aload_n (pc' := 2714) dL_law_2713 rfl rfl zg0 rfl ?_
  refine zW.iload (pc' := 2716) dL_law_2714 rfl (zgS (zgS (zgS (zgS (zg0))))) ?_
  refine zW.iconst (pc' := 2717) (nI 2) dL_law_2716 rfl (by decide) ?_
  refine zW.iaddN (pc' := 2718) dL_law_2717 rfl ?_
  refine zW.scr (pc' := 2719) dL_law_2718 rfl hbh hy2 (by omega) ?_
  refine zW.aload_n (pc' := 2720) dL_law_2719 rfl rfl (zgS (zgS (zgS (zg0)))) rfl ?_
  refine zW.callSH (r' := R) (pc' := 2723) dL_law_2720 rfl l_X0_327 rfl (x_canCountersign hx ho hd.1 h01 (hcl U hG)) (zcc rfl (zcc rfl (zcc rfl (zcc rfl zc0)))) rfl (Nat.le_of_ble_eq_true rfl) (Nat.le_of_ble_eq_true rfl) (Nat.le_of_ble_eq_true rfl) ?_ ?_
  rotate_left
  · intro E h9 q9
    cases q9.1
  intro v9 h9 q9
  obtain ⟨e1, q3, g1, g2, v1, ho1, hv1⟩ := q9
  cases e1
  have M1 : lwM G x o a q.2.2 w (fun v => q.1 = 0 → v = q.2.1.toInt64) S h9 := lwM.step hd hT ho hk g1 g2 ⟨ho1, hv1⟩
  have hbh := M1.scr hb
  refine zW.istore (pc' := 2725) dL_law_2723 rfl (Nat.le_of_ble_eq_true rfl) (zsS (zsS (zsS (zsS (zsS (zs0)))))) ?_
  refine zW.aload_n (pc' := 2726) dL_law_2725 rfl rfl (zgS (zgS (zg0))) rfl ?_
  refine zW.aload_n (pc' := 2727) dL_law_2726 rfl rfl zg0 rfl ?_
  refine zW.iload (pc' := 2729) dL_law_2727 rfl (zgS (zgS (zgS (zgS (zg0))))) ?_
  refine zW.iconst (pc' := 2730) (nI 1) dL_law_2729 rfl (by decide) ?_
  refine zW.iaddN (pc' := 2731) dL_law_2730 rfl ?_
  refine zW.scr (pc' := 2732) dL_law_2731 rfl hbh hy1 (by omega) ?_
  refine zW.aload_n (pc' := 2733) dL_law_2732 rfl rfl zg0 rfl ?_
  refine zW.iload (pc' := 2735) dL_law_2733 rfl (zgS (zgS (zgS (zgS (zg0))))) ?_
  refine zW.iconst (pc' := 2736) (nI 2) dL_law_2735 rfl (by decide) ?_
  refine zW.iaddN (pc' := 2737) dL_law_2736 rfl ?_
  refine zW.scr (pc' := 2738) dL_law_2737 rfl hbh hy2 (by omega) ?_
  refine zW.congr ?_ rfl rfl M1.eq
  refine zT.call (pc' := 2741) dL_law_2738 rfl l_X0_329 rfl rfl (hml _) (zcc rfl (zcc rfl zc0)) rfl (Nat.le_of_ble_eq_true rfl) (Nat.le_of_ble_eq_true rfl) (Nat.le_of_ble_eq_true rfl) (fun _ T2 ⟨e1, e2, e3⟩ => ?_)
  subst e1
  have M2 := M1.mdl e3
  obtain ⟨v2, ho2, hv2⟩ := M2.out
  refine zW.istore (pc' := 2743) dL_law_2741 rfl (Nat.le_of_ble_eq_true rfl) (zsS (zsS (zsS (zsS (zsS (zsS (zs0))))))) ?_
  refine zW.aload_n (pc' := 2744) dL_law_2743 rfl rfl (zgS (zgS (zg0))) rfl ?_
  refine zT.call (pc' := 2747) dL_law_2744 rfl l_X0_182 rfl rfl w_thrown zc0 rfl (Nat.le_of_ble_eq_true rfl) (Nat.le_of_ble_eq_true rfl) (Nat.le_of_ble_eq_true rfl) (fun _ T3 ⟨e1, e4⟩ => ?_)
  subst e1
  subst e4
  rw [e2]
  refine zW.iload (pc' := 2749) dL_law_2747 rfl (zgS (zgS (zgS (zgS (zgS (zg0)))))) ?_
  refine zW.icmp_eq (pc' := 2752) 2754 dL_law_2749 rfl (by decide) (fun b1 => ?_) (fun b1 => ?_)
  rotate_left
  · exact absurd rfl b1
  by_cases z : q.1 = 0
  · rw [z]
    refine zW.iload (pc' := 2756) dL_law_2754 rfl (zgS (zgS (zgS (zgS (zgS (zg0)))))) ?_
    refine zW.if_neN (pc' := 2759) 2778 dL_law_2756 rfl (by decide) (by omega) (fun b9 => absurd b9 (by omega)) (fun b9 => ?_)
    refine zW.aload_n (pc' := 2760) dL_law_2759 rfl rfl (zgS (zgS (zgS (zg0)))) rfl ?_
    refine zW.iconst (pc' := 2761) (nI 0) dL_law_2760 rfl (by decide) ?_
    refine zW.lald (pc' := 2762) dL_law_2761 rfl ho2 rfl (by decide) rfl ?_
    rcases h01 z with e5 | e5
    · rw [hv2 z, e5, show (nI 0).toInt64 = 0 by decide]
      refine zW.iload (pc' := 2764) dL_law_2762 rfl (zgS (zgS (zgS (zgS (zgS (zgS (zg0))))))) ?_
      refine zW.if_eqN (pc' := 2767) 2771 dL_law_2764 rfl (by decide) (by omega) (fun b9 => ?_) (fun b9 => absurd b9 (by omega))
      refine zW.lconst (pc' := 2772) 0 dL_law_2771 rfl (by decide) ?_
      refine zW.lcmp (pc' := 2773) dL_law_2772 rfl ?_
      rw [zlc]
      refine zW.if_eq (pc' := 2776) 2778 dL_law_2773 rfl (by decide) (fun b1 => ?_) (fun b1 => ?_)
      rotate_left
      · exact absurd rfl b1
      refine zW.goto 3347 dL_law_2778 (by decide) ?_
      exact kont _ _ _ _ (M2.wk fun _ _ => trivial)
    · rw [hv2 z, e5, show (nI 1).toInt64 = 1 by decide]
      refine zW.iload (pc' := 2764) dL_law_2762 rfl (zgS (zgS (zgS (zgS (zgS (zgS (zg0))))))) ?_
      refine zW.if_eqN (pc' := 2767) 2771 dL_law_2764 rfl (by decide) (by omega) (fun b9 => absurd b9 (by omega)) (fun b9 => ?_)
      refine zW.lconst (pc' := 2768) 1 dL_law_2767 rfl (by decide) ?_
      refine zW.goto 2772 dL_law_2768 (by decide) ?_
      refine zW.lcmp (pc' := 2773) dL_law_2772 rfl ?_
      rw [zlc]
      refine zW.if_eq (pc' := 2776) 2778 dL_law_2773 rfl (by decide) (fun b1 => ?_) (fun b1 => ?_)
      rotate_left
      · exact absurd rfl b1
      refine zW.goto 3347 dL_law_2778 (by decide) ?_
      exact kont _ _ _ _ (M2.wk fun _ _ => trivial)
  · refine zW.iload (pc' := 2756) dL_law_2754 rfl (zgS (zgS (zgS (zgS (zgS (zg0)))))) ?_
    refine zW.if_neN (pc' := 2759) 2778 dL_law_2756 rfl (by decide) (by omega) (fun b9 => ?_) (fun b9 => absurd b9 (by omega))
    refine zW.goto 3347 dL_law_2778 (by decide) ?_
    exact kont _ _ _ _ (M2.wk fun _ _ => trivial)
theorem y_recentlyExpired {y1 : Int32} {q : Nat × Int32 × sW} (hb : zg_k G b = some (1100, xs)) (hy1 : xs[i + 1]? = some (.int y1)) (hi : i < 200) (M0 : lwM G x o a w w (fun _ => True) S h) (hcl : ∀ U, cReg x 0 [] w h U → zK G mX1_recentlyExpired 40 R [.ref x, .int y1] h (cOut x U h [eElt] q)) (hml : ∀ h0, zK G mX3_recentlyExpired 9 0 [.ref a.1, .int y1] (tH h0 a S) (tO h0 a q.1 (.int q.2.1) q.2.2)) (kont : ∀ (h' : zH) (S' : tS) (v5 v6 : Value), lwM G x o a q.2.2 q.2.2 (fun _ => True) S' h' → zW G mL_law 42 r 3347 [.ref b, .ref x, .ref a.1, .ref o, .int (nI i), v5, v6] [] h' Q) {v5 v6 : Value} : zW G mL_law 42 (r + R) 2781 [.ref b, .ref x, .ref a.1, .ref o, .int (nI i), v5, v6] [] h Q := by
  obtain ⟨U, v, ⟨hG, hl⟩, hd, hT, ⟨ho, -⟩, hk⟩ := id M0
  obtain ⟨fs, hx⟩ := hG.cell
  have hbh := M0.scr hb
  refine zW.aload_n (pc' := 2782) dL_law_2781 rfl rfl (zgS (zg0)) rfl ?_
  refine zW.aload_n (pc' := 2783) dL_law_2782 rfl rfl zg0 rfl ?_
  refine zW.iload (pc' := 2785) dL_law_2783 rfl (zgS (zgS (zgS (zgS (zg0))))) ?_
  refine zW.iconst (pc' := 2786) (nI 1) dL_law_2785 rfl (by decide) ?_
  refine zW.iaddN (pc' := 2787) dL_law_2786 rfl ?_
  refine zW.scr (pc' := 2788) dL_law_2787 rfl hbh hy1 (by omega) ?_
  refine zW.aload_n (pc' := 2789) dL_law_2788 rfl rfl (zgS (zgS (zgS (zg0)))) rfl ?_
  refine zW.callSH (r' := R) (pc' := 2792) dL_law_2789 rfl l_X0_330 rfl (x_recentlyExpired hx ho hd.1 (hcl U hG)) (zcc rfl (zcc rfl (zcc rfl zc0))) rfl (Nat.le_of_ble_eq_true rfl) (Nat.le_of_ble_eq_true rfl) (Nat.le_of_ble_eq_true rfl) ?_ ?_
  rotate_left
  · intro E h9 q9
    cases q9.1
  intro v9 h9 q9
  obtain ⟨e1, q3, g1, g2, v1, ho1, hv1⟩ := q9
  cases e1
  have M1 : lwM G x o a q.2.2 w (fun v => q.1 = 0 → v = q.2.1.toInt64) S h9 := lwM.step hd hT ho hk g1 g2 ⟨ho1, hv1⟩
  have hbh := M1.scr hb
  refine zW.istore (pc' := 2794) dL_law_2792 rfl (Nat.le_of_ble_eq_true rfl) (zsS (zsS (zsS (zsS (zsS (zs0)))))) ?_
  refine zW.aload_n (pc' := 2795) dL_law_2794 rfl rfl (zgS (zgS (zg0))) rfl ?_
  refine zW.aload_n (pc' := 2796) dL_law_2795 rfl rfl zg0 rfl ?_
  refine zW.iload (pc' := 2798) dL_law_2796 rfl (zgS (zgS (zgS (zgS (zg0))))) ?_
  refine zW.iconst (pc' := 2799) (nI 1) dL_law_2798 rfl (by decide) ?_
  refine zW.iaddN (pc' := 2800) dL_law_2799 rfl ?_
  refine zW.scr (pc' := 2801) dL_law_2800 rfl hbh hy1 (by omega) ?_
  refine zW.congr ?_ rfl rfl M1.eq
  refine zT.call (pc' := 2804) dL_law_2801 rfl l_X0_332 rfl rfl (hml _) (zcc rfl zc0) rfl (Nat.le_of_ble_eq_true rfl) (Nat.le_of_ble_eq_true rfl) (Nat.le_of_ble_eq_true rfl) (fun _ T2 ⟨e1, e2, e3⟩ => ?_)
  subst e1
  have M2 := M1.mdl e3
  obtain ⟨v2, ho2, hv2⟩ := M2.out
  refine zW.istore (pc' := 2806) dL_law_2804 rfl (Nat.le_of_ble_eq_true rfl) (zsS (zsS (zsS (zsS (zsS (zsS (zs0))))))) ?_
  refine zW.aload_n (pc' := 2807) dL_law_2806 rfl rfl (zgS (zgS (zg0))) rfl ?_
  refine zT.call (pc' := 2810) dL_law_2807 rfl l_X0_182 rfl rfl w_thrown zc0 rfl (Nat.le_of_ble_eq_true rfl) (Nat.le_of_ble_eq_true rfl) (Nat.le_of_ble_eq_true rfl) (fun _ T3 ⟨e1, e4⟩ => ?_)
  subst e1
  subst e4
  rw [e2]
  refine zW.iload (pc' := 2812) dL_law_2810 rfl (zgS (zgS (zgS (zgS (zgS (zg0)))))) ?_
  refine zW.icmp_eq (pc' := 2815) 2817 dL_law_2812 rfl (by decide) (fun b1 => ?_) (fun b1 => ?_)
  rotate_left
  · exact absurd rfl b1
  by_cases z : q.1 = 0
  · rw [z]
    refine zW.iload (pc' := 2819) dL_law_2817 rfl (zgS (zgS (zgS (zgS (zgS (zg0)))))) ?_
    refine zW.if_neN (pc' := 2822) 2834 dL_law_2819 rfl (by decide) (by omega) (fun b9 => absurd b9 (by omega)) (fun b9 => ?_)
    refine zW.aload_n (pc' := 2823) dL_law_2822 rfl rfl (zgS (zgS (zgS (zg0)))) rfl ?_
    refine zW.iconst (pc' := 2824) (nI 0) dL_law_2823 rfl (by decide) ?_
    refine zW.lald (pc' := 2825) dL_law_2824 rfl ho2 rfl (by decide) rfl ?_
    rw [hv2 z]
    refine zW.iload (pc' := 2827) dL_law_2825 rfl (zgS (zgS (zgS (zgS (zgS (zgS (zg0))))))) ?_
    refine zW.i2l (pc' := 2828) dL_law_2827 rfl ?_
    refine zW.lcmp (pc' := 2829) dL_law_2828 rfl ?_
    rw [zlc]
    refine zW.if_eq (pc' := 2832) 2834 dL_law_2829 rfl (by decide) (fun b1 => ?_) (fun b1 => ?_)
    rotate_left
    · exact absurd rfl b1
    refine zW.goto 3347 dL_law_2834 (by decide) ?_
    exact kont _ _ _ _ (M2.wk fun _ _ => trivial)
  · refine zW.iload (pc' := 2819) dL_law_2817 rfl (zgS (zgS (zgS (zgS (zgS (zg0)))))) ?_
    refine zW.if_neN (pc' := 2822) 2834 dL_law_2819 rfl (by decide) (by omega) (fun b9 => ?_) (fun b9 => absurd b9 (by omega))
    refine zW.goto 3347 dL_law_2834 (by decide) ?_
    exact kont _ _ _ _ (M2.wk fun _ _ => trivial)
theorem y_expiredCount {q : Nat × Int32 × sW} (hb : zg_k G b = some (1100, xs)) (hi : i < 200) (M0 : lwM G x o a w w (fun _ => True) S h) (hcl : ∀ U, cReg x 0 [] w h U → zK G mX1_expiredCount 40 R [.ref x] h (cOut x U h [] q)) (hml : ∀ h0, zK G mX3_expiredCount 9 0 [.ref a.1] (tH h0 a S) (tO h0 a q.1 (.int q.2.1) q.2.2)) (kont : ∀ (h' : zH) (S' : tS) (v5 v6 : Value), lwM G x o a q.2.2 q.2.2 (fun _ => True) S' h' → zW G mL_law 42 r 3347 [.ref b, .ref x, .ref a.1, .ref o, .int (nI i), v5, v6] [] h' Q) {v5 v6 : Value} : zW G mL_law 42 (r + R) 2837 [.ref b, .ref x, .ref a.1, .ref o, .int (nI i), v5, v6] [] h Q := by
  obtain ⟨U, v, ⟨hG, hl⟩, hd, hT, ⟨ho, -⟩, hk⟩ := id M0
  obtain ⟨fs, hx⟩ := hG.cell
  refine zW.aload_n (pc' := 2838) dL_law_2837 rfl rfl (zgS (zg0)) rfl ?_
  refine zW.callV (r' := R) (pc' := 2841) dL_law_2838 rfl l_X0_333 rfl hx ⟨rfl, (Nat.le_of_ble_eq_true rfl)⟩ rfl ((hcl U hG)) zc0 rfl (Nat.le_of_ble_eq_true rfl) (Nat.le_of_ble_eq_true rfl) (Nat.le_of_ble_eq_true rfl) ?_ ?_
  rotate_left
  · intro E h9 q9
    obtain ⟨-, n, -, e1⟩ := q9.r
    cases e1
  intro v9 h9 q9
  obtain ⟨⟨g1, g2⟩, e0, e1⟩ := q9.l
  subst e1
  have M1 : lwM G x o a q.2.2 w (fun _ => True) S h9 := lwM.step hd hT ho hk g1 (g2.mono fun b hb => Or.inl (Or.inl hb)) ⟨g2.at ho hd.1, trivial⟩
  refine zW.aload_n (pc' := 2842) dL_law_2841 rfl rfl (zgS (zgS (zg0))) rfl ?_
  refine zW.congr ?_ rfl rfl M1.eq
  refine zT.call (pc' := 2845) dL_law_2842 rfl l_X0_336 rfl rfl (hml _) zc0 rfl (Nat.le_of_ble_eq_true rfl) (Nat.le_of_ble_eq_true rfl) (Nat.le_of_ble_eq_true rfl) (fun _ T2 ⟨e1, e2, e3⟩ => ?_)
  subst e1
  have M2 := M1.mdl e3
  refine zW.icmp_eq (pc' := 2848) 3347 dL_law_2845 rfl (by decide) (fun b1 => ?_) (fun b1 => ?_)
  rotate_left
  · exact absurd rfl b1
  exact kont _ _ _ _ (M2.wk fun _ _ => trivial)
end
