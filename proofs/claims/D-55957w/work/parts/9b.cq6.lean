/-! THE CLASS's questions on chains; is it consistent -/
section
set_option maxRecDepth 100000
variable {G : zG} {h : zH} {O : Nat → Prop} {x st ll aq re rt ea ha er hr tt nn n i : Nat} {mc : Int32} {xs : List (Nat × Nat)} {qs rs : List Nat} {s : sS} {fs : List Value} {id y z : Int32} {Q9 : zR → zH → Prop}
theorem nI_nm1 {l : Nat} (hl : l < 2 ^ 30) : ¬ nI l = -1 := fun e => nI_nn (j := l) (by omega) (by rw [e]; decide)
theorem cLenV_0 {a b : Nat} (q : bLen s a b = 0) : cLenV s a b = -1 := if_pos q
theorem cLenV_1 {a b : Nat} (q : ¬ bLen s a b = 0) : cLenV s a b = nI (bLen s a b) := if_neg q
theorem c_chainLength (hk : zkn G h) (hZ : zkI G) (hx : h x = some (0, .ref st :: fs)) (hP : cP h O st ll aq re rt ea ha er hr mc xs qs rs s) (hJ : sJ tt nn s) (hN : nn ≤ 10000) (hT : tt ≤ 100000) : zK G mX1_chainLength 40 137 [.ref x, .int y, .int z] h (cAns [eArg, eElt] h (qChain s y z)) := by
  show zW G mX1_chainLength 40 137 0 [.ref x, .int y, .int z, zho] [] h _
  refine zW.iload_n (pc' := 1) dX1_chainLength_0 rfl rfl (zgS (zg0)) ?_
  refine zW.iload_n (pc' := 2) dX1_chainLength_1 rfl rfl (zgS (zgS (zg0))) ?_
  by_cases q : sIn y (nI 0) (nI 7) = true ∧ sIn z (nI 0) (nI 7) = true
  · refine zW.callS (r' := 0) (pc' := 5) dX1_chainLength_2 rfl l_X1_258 rfl (c_checkPersons1 q) (zcc rfl (zcc rfl zc0)) rfl (Nat.le_of_ble_eq_true rfl) (Nat.le_of_ble_eq_true rfl) (Nat.le_of_ble_eq_true rfl) (fun _ _ q9 => ?_) (fun _ _ q9 => by cases q9.1)
    obtain ⟨q8, e9⟩ := q9
    cases q8
    replace e9 := e9.symm
    subst e9
    obtain ⟨a, h1, -, h3, e⟩ := sIn_nat q.1 (by decide) (by decide)
    obtain ⟨b, h4, -, h6, e'⟩ := sIn_nat q.2 (by decide) (by decide)
    have hl8 := (bLen_spec hJ.1 (x := a)).2.2 b
    have hs := bLen_seek hJ.1 (x := a) (t := b)
    rw [h1, h4]
    refine zW.aload_n (pc' := 6) dX1_chainLength_5 rfl rfl zg0 rfl ?_
    refine zW.iload_n (pc' := 7) dX1_chainLength_6 rfl rfl (zgS (zg0)) ?_
    refine zW.iload_n (pc' := 8) dX1_chainLength_7 rfl rfl (zgS (zgS (zg0))) ?_
    refine zW.callV (r' := 135) (pc' := 11) dX1_chainLength_8 rfl l_X1_278 rfl hx ⟨rfl, (Nat.le_of_ble_eq_true rfl)⟩ rfl (c_shortestChain hk hZ hx hP hJ.1 (a := a) (b := b) (by omega) (by omega)) (zcc rfl (zcc rfl zc0)) rfl (Nat.le_of_ble_eq_true rfl) (Nat.le_of_ble_eq_true rfl) (Nat.le_of_ble_eq_true rfl) (fun _ _ q9 => ?_) (fun _ _ q9 => by cases q9.1)
    obtain ⟨q8, e9⟩ := q9
    cases q8
    replace e9 := e9.symm
    subst e9
    refine zW.istore_n (pc' := 12) dX1_chainLength_11 rfl rfl (Nat.le_of_ble_eq_true rfl) (zsS (zsS (zsS (zs0)))) ?_
    refine zW.iload_n (pc' := 13) dX1_chainLength_12 rfl rfl (zgS (zgS (zgS (zg0)))) ?_
    refine zW.iconst (pc' := 14) (-1) dX1_chainLength_13 rfl (by decide) ?_
    by_cases q0 : bLen s a b = 0
    · rw [cLenV_0 q0]
      rw [if_pos q0] at hs
      refine zW.icmp_eq (pc' := 17) 21 dX1_chainLength_14 rfl (by decide) (fun b1 => ?_) (fun b1 => ?_)
      rotate_left
      · exact absurd rfl b1
      refine zW.iconst (pc' := 22) (nI 0) dX1_chainLength_21 rfl (by decide) ?_
      refine zW.callS (r' := 2) (pc' := 25) dX1_chainLength_22 rfl l_X1_80 rfl (w_chkElement0) (zcc rfl zc0) rfl (Nat.le_of_ble_eq_true rfl) (Nat.le_of_ble_eq_true rfl) (Nat.le_of_ble_eq_true rfl) (fun _ _ q9 => by cases q9.1) (fun _ _ q9 => ?_)
      obtain ⟨q8, e9⟩ := q9
      cases q8
      replace e9 := e9.symm
      subst e9
      refine zX.out0 rfl ?_
      exact cAns.no (by unfold qChain; rw [← h1, ← h4, if_pos q, e, e', hs]) rfl
    · rw [cLenV_1 q0]
      rw [if_neg q0] at hs
      refine zW.icmp_eq (pc' := 17) 21 dX1_chainLength_14 rfl (by decide) (fun b1 => ?_) (fun b1 => ?_)
      · exact absurd b1 (nI_nm1 (by omega))
      refine zW.iconst (pc' := 18) (nI 1) dX1_chainLength_17 rfl (by decide) ?_
      refine zW.goto 22 dX1_chainLength_18 (by decide) ?_
      refine zW.callS (r' := 0) (pc' := 25) dX1_chainLength_22 rfl l_X1_80 rfl (w_chkElement1) (zcc rfl zc0) rfl (Nat.le_of_ble_eq_true rfl) (Nat.le_of_ble_eq_true rfl) (Nat.le_of_ble_eq_true rfl) (fun _ _ q9 => ?_) (fun _ _ q9 => by cases q9.1)
      obtain ⟨q8, e9⟩ := q9
      cases q8
      replace e9 := e9.symm
      subst e9
      refine zW.iload_n (pc' := 26) dX1_chainLength_25 rfl rfl (zgS (zgS (zgS (zg0)))) ?_
      refine zW.iret dX1_chainLength_26 rfl (rfl) ?_
      exact cAns.ok (by unfold qChain; rw [← h1, ← h4, if_pos q, e, e', hs])
  · refine zW.callS (r' := 2) (pc' := 5) dX1_chainLength_2 rfl l_X1_258 rfl (c_checkPersons0 q) (zcc rfl (zcc rfl zc0)) rfl (Nat.le_of_ble_eq_true rfl) (Nat.le_of_ble_eq_true rfl) (Nat.le_of_ble_eq_true rfl) (fun _ _ q9 => by cases q9.1) (fun _ _ q9 => ?_)
    obtain ⟨q8, e9⟩ := q9
    cases q8
    replace e9 := e9.symm
    subst e9
    refine zX.out0 rfl ?_
    exact cAns.no (by unfold qChain; rw [if_neg q]) rfl
theorem c_chainLengthByRounds (hk : zkn G h) (hZ : zkI G) (hx : h x = some (0, .ref st :: fs)) (hP : cP h O st ll aq re rt ea ha er hr mc xs qs rs s) (hJ : sJ tt nn s) (hN : nn ≤ 10000) (hT : tt ≤ 100000) : zK G mX1_chainLengthByRounds 40 18 [.ref x, .int y, .int z] h (cAns [eArg, eElt] h (qChain s y z)) := by
  show zW G mX1_chainLengthByRounds 40 18 0 [.ref x, .int y, .int z, zho] [] h _
  refine zW.iload_n (pc' := 1) dX1_chainLengthByRounds_0 rfl rfl (zgS (zg0)) ?_
  refine zW.iload_n (pc' := 2) dX1_chainLengthByRounds_1 rfl rfl (zgS (zgS (zg0))) ?_
  by_cases q : sIn y (nI 0) (nI 7) = true ∧ sIn z (nI 0) (nI 7) = true
  · refine zW.callS (r' := 0) (pc' := 5) dX1_chainLengthByRounds_2 rfl l_X1_258 rfl (c_checkPersons1 q) (zcc rfl (zcc rfl zc0)) rfl (Nat.le_of_ble_eq_true rfl) (Nat.le_of_ble_eq_true rfl) (Nat.le_of_ble_eq_true rfl) (fun _ _ q9 => ?_) (fun _ _ q9 => by cases q9.1)
    obtain ⟨q8, e9⟩ := q9
    cases q8
    replace e9 := e9.symm
    subst e9
    obtain ⟨a, h1, -, h3, e⟩ := sIn_nat q.1 (by decide) (by decide)
    obtain ⟨b, h4, -, h6, e'⟩ := sIn_nat q.2 (by decide) (by decide)
    have hl8 := (bLen_spec hJ.1 (x := a)).2.2 b
    have hs := bLen_seek hJ.1 (x := a) (t := b)
    rw [h1, h4]
    refine zW.aload_n (pc' := 6) dX1_chainLengthByRounds_5 rfl rfl zg0 rfl ?_
    refine zW.iload_n (pc' := 7) dX1_chainLengthByRounds_6 rfl rfl (zgS (zg0)) ?_
    refine zW.iload_n (pc' := 8) dX1_chainLengthByRounds_7 rfl rfl (zgS (zgS (zg0))) ?_
    refine zW.callV (r' := 16) (pc' := 11) dX1_chainLengthByRounds_8 rfl l_X1_282 rfl hx ⟨rfl, (Nat.le_of_ble_eq_true rfl)⟩ rfl (c_byRounds hx hP hJ.1 (a := a) (b := b) (by omega) (by omega)) (zcc rfl (zcc rfl zc0)) rfl (Nat.le_of_ble_eq_true rfl) (Nat.le_of_ble_eq_true rfl) (Nat.le_of_ble_eq_true rfl) (fun _ _ q9 => ?_) (fun _ _ q9 => by cases q9.1)
    obtain ⟨q8, e9⟩ := q9
    cases q8
    replace e9 := e9.symm
    subst e9
    refine zW.istore_n (pc' := 12) dX1_chainLengthByRounds_11 rfl rfl (Nat.le_of_ble_eq_true rfl) (zsS (zsS (zsS (zs0)))) ?_
    refine zW.iload_n (pc' := 13) dX1_chainLengthByRounds_12 rfl rfl (zgS (zgS (zgS (zg0)))) ?_
    refine zW.iconst (pc' := 14) (-1) dX1_chainLengthByRounds_13 rfl (by decide) ?_
    by_cases q0 : bLen s a b = 0
    · rw [cLenV_0 q0]
      rw [if_pos q0] at hs
      refine zW.icmp_eq (pc' := 17) 21 dX1_chainLengthByRounds_14 rfl (by decide) (fun b1 => ?_) (fun b1 => ?_)
      rotate_left
      · exact absurd rfl b1
      refine zW.iconst (pc' := 22) (nI 0) dX1_chainLengthByRounds_21 rfl (by decide) ?_
      refine zW.callS (r' := 2) (pc' := 25) dX1_chainLengthByRounds_22 rfl l_X1_80 rfl (w_chkElement0) (zcc rfl zc0) rfl (Nat.le_of_ble_eq_true rfl) (Nat.le_of_ble_eq_true rfl) (Nat.le_of_ble_eq_true rfl) (fun _ _ q9 => by cases q9.1) (fun _ _ q9 => ?_)
      obtain ⟨q8, e9⟩ := q9
      cases q8
      replace e9 := e9.symm
      subst e9
      refine zX.out0 rfl ?_
      exact cAns.no (by unfold qChain; rw [← h1, ← h4, if_pos q, e, e', hs]) rfl
    · rw [cLenV_1 q0]
      rw [if_neg q0] at hs
      refine zW.icmp_eq (pc' := 17) 21 dX1_chainLengthByRounds_14 rfl (by decide) (fun b1 => ?_) (fun b1 => ?_)
      · exact absurd b1 (nI_nm1 (by omega))
      refine zW.iconst (pc' := 18) (nI 1) dX1_chainLengthByRounds_17 rfl (by decide) ?_
      refine zW.goto 22 dX1_chainLengthByRounds_18 (by decide) ?_
      refine zW.callS (r' := 0) (pc' := 25) dX1_chainLengthByRounds_22 rfl l_X1_80 rfl (w_chkElement1) (zcc rfl zc0) rfl (Nat.le_of_ble_eq_true rfl) (Nat.le_of_ble_eq_true rfl) (Nat.le_of_ble_eq_true rfl) (fun _ _ q9 => ?_) (fun _ _ q9 => by cases q9.1)
      obtain ⟨q8, e9⟩ := q9
      cases q8
      replace e9 := e9.symm
      subst e9
      refine zW.iload_n (pc' := 26) dX1_chainLengthByRounds_25 rfl rfl (zgS (zgS (zgS (zg0)))) ?_
      refine zW.iret dX1_chainLengthByRounds_26 rfl (rfl) ?_
      exact cAns.ok (by unfold qChain; rw [← h1, ← h4, if_pos q, e, e', hs])
  · refine zW.callS (r' := 2) (pc' := 5) dX1_chainLengthByRounds_2 rfl l_X1_258 rfl (c_checkPersons0 q) (zcc rfl (zcc rfl zc0)) rfl (Nat.le_of_ble_eq_true rfl) (Nat.le_of_ble_eq_true rfl) (Nat.le_of_ble_eq_true rfl) (fun _ _ q9 => by cases q9.1) (fun _ _ q9 => ?_)
    obtain ⟨q8, e9⟩ := q9
    cases q8
    replace e9 := e9.symm
    subst e9
    refine zX.out0 rfl ?_
    exact cAns.no (by unfold qChain; rw [if_neg q]) rfl
theorem c_reachableFrom (hk : zkn G h) (hZ : zkI G) (hx : h x = some (0, .ref st :: fs)) (hP : cP h O st ll aq re rt ea ha er hr mc xs qs rs s) (hJ : sJ tt nn s) (hN : nn ≤ 10000) (hT : tt ≤ 100000) : zK G mX1_reachableFrom 40 1080 [.ref x, .int y] h (cAns [eArg] h (qReach s y)) := by
  show zW G mX1_reachableFrom 40 1080 0 [.ref x, .int y, zho, zho] [] h _
  refine zW.iload_n (pc' := 1) dX1_reachableFrom_0 rfl rfl (zgS (zg0)) ?_
  by_cases q : sIn y (nI 0) (nI 7) = true
  · refine zW.callS (r' := 0) (pc' := 4) dX1_reachableFrom_1 rfl l_X1_84 rfl (w_xisPerson1 q) (zcc rfl zc0) rfl (Nat.le_of_ble_eq_true rfl) (Nat.le_of_ble_eq_true rfl) (Nat.le_of_ble_eq_true rfl) (fun _ _ q9 => ?_) (fun _ _ q9 => by cases q9.1)
    obtain ⟨q8, e9⟩ := q9
    cases q8
    replace e9 := e9.symm
    subst e9
    refine zW.callS (r' := 0) (pc' := 7) dX1_reachableFrom_4 rfl l_X1_88 rfl (w_chkArgument1) (zcc rfl zc0) rfl (Nat.le_of_ble_eq_true rfl) (Nat.le_of_ble_eq_true rfl) (Nat.le_of_ble_eq_true rfl) (fun _ _ q9 => ?_) (fun _ _ q9 => by cases q9.1)
    obtain ⟨q8, e9⟩ := q9
    cases q8
    replace e9 := e9.symm
    subst e9
    obtain ⟨a, h1, -, h3, e⟩ := sIn_nat q (by decide) (by decide)
    rw [h1]
    have loop : ∀ m k, k + m = 8 → zW G mX1_reachableFrom 40 (135 * m) 11 [.ref x, .int (nI a), .int (nI (sOrs (fun c => decide (bLen s a c ≠ 0)) k)), .int (nI k)] [] h (cAns [eArg] h (qReach s (nI a))) := by
      intro m
      induction m with
      | zero =>
        intro k hk'
        refine zW.iload_n (pc' := 12) dX1_reachableFrom_11 rfl rfl (zgS (zgS (zgS (zg0)))) ?_
        refine zW.bipush (pc' := 14) (nI 8) dX1_reachableFrom_12 rfl (by decide) ?_
        refine zW.icmp_geN (pc' := 17) 39 dX1_reachableFrom_14 rfl (by decide) (by omega) (by omega) (fun b9 => ?_) (fun b9 => absurd b9 (by omega))
        refine zW.iload_n (pc' := 40) dX1_reachableFrom_39 rfl rfl (zgS (zgS (zg0))) ?_
        refine zW.iret dX1_reachableFrom_40 rfl (rfl) ?_
        refine cAns.ok ?_
        unfold qReach
        rw [← h1, if_pos q, e, show k = 8 by omega, sRch_ors hJ.1]
      | succ m ih =>
        intro k hk'
        have i9 := ih (k + 1) (by omega)
        have hl8 := (bLen_spec hJ.1 (x := a)).2.2 k
        rw [sOrs] at i9
        refine zW.pay (r1 := 135 * m + 135) ?_ (by omega)
        refine zW.iload_n (pc' := 12) dX1_reachableFrom_11 rfl rfl (zgS (zgS (zgS (zg0)))) ?_
        refine zW.bipush (pc' := 14) (nI 8) dX1_reachableFrom_12 rfl (by decide) ?_
        refine zW.icmp_geN (pc' := 17) 39 dX1_reachableFrom_14 rfl (by decide) (by omega) (by omega) (fun b9 => absurd b9 (by omega)) (fun b9 => ?_)
        refine zW.aload_n (pc' := 18) dX1_reachableFrom_17 rfl rfl zg0 rfl ?_
        refine zW.iload_n (pc' := 19) dX1_reachableFrom_18 rfl rfl (zgS (zg0)) ?_
        refine zW.iload_n (pc' := 20) dX1_reachableFrom_19 rfl rfl (zgS (zgS (zgS (zg0)))) ?_
        refine zW.callV (r' := 135) (pc' := 23) dX1_reachableFrom_20 rfl l_X1_278 rfl hx ⟨rfl, (Nat.le_of_ble_eq_true rfl)⟩ rfl (c_shortestChain hk hZ hx hP hJ.1 (a := a) (b := k) (by omega) (by omega)) (zcc rfl (zcc rfl zc0)) rfl (Nat.le_of_ble_eq_true rfl) (Nat.le_of_ble_eq_true rfl) (Nat.le_of_ble_eq_true rfl) (fun _ _ q9 => ?_) (fun _ _ q9 => by cases q9.1)
        obtain ⟨q8, e9⟩ := q9
        cases q8
        replace e9 := e9.symm
        subst e9
        refine zW.iconst (pc' := 24) (-1) dX1_reachableFrom_23 rfl (by decide) ?_
        by_cases q0 : bLen s a k = 0
        · rw [cLenV_0 q0]
          rw [if_neg (fun w : decide (bLen s a k ≠ 0) = true => of_decide_eq_true w q0)] at i9
          refine zW.icmp_eq (pc' := 27) 33 dX1_reachableFrom_24 rfl (by decide) (fun b1 => ?_) (fun b1 => ?_)
          rotate_left
          · exact absurd rfl b1
          refine zW.iincN (pc' := 36) (n := 1) dX1_reachableFrom_33 rfl (Nat.le_of_ble_eq_true rfl) (zgS (zgS (zgS (zg0)))) (zsS (zsS (zsS (zs0)))) ?_
          refine zW.goto 11 dX1_reachableFrom_36 (by decide) ?_
          exact i9
        · rw [cLenV_1 q0]
          rw [if_pos (decide_eq_true q0)] at i9
          refine zW.icmp_eq (pc' := 27) 33 dX1_reachableFrom_24 rfl (by decide) (fun b1 => ?_) (fun b1 => ?_)
          · exact absurd b1 (nI_nm1 (by omega))
          refine zW.iload_n (pc' := 28) dX1_reachableFrom_27 rfl rfl (zgS (zgS (zg0))) ?_
          refine zW.iconst (pc' := 29) (nI 1) dX1_reachableFrom_28 rfl (by decide) ?_
          refine zW.iload_n (pc' := 30) dX1_reachableFrom_29 rfl rfl (zgS (zgS (zgS (zg0)))) ?_
          refine zW.ishl (pc' := 31) dX1_reachableFrom_30 rfl ?_
          rw [sh (by omega)]
          refine zW.ior (pc' := 32) dX1_reachableFrom_31 rfl ?_
          rw [nI_or]
          refine zW.istore_n (pc' := 33) dX1_reachableFrom_32 rfl rfl (Nat.le_of_ble_eq_true rfl) (zsS (zsS (zs0))) ?_
          refine zW.iincN (pc' := 36) (n := 1) dX1_reachableFrom_33 rfl (Nat.le_of_ble_eq_true rfl) (zgS (zgS (zgS (zg0)))) (zsS (zsS (zsS (zs0)))) ?_
          refine zW.goto 11 dX1_reachableFrom_36 (by decide) ?_
          exact i9
    refine zW.iconst (pc' := 8) (nI 0) dX1_reachableFrom_7 rfl (by decide) ?_
    refine zW.istore_n (pc' := 9) dX1_reachableFrom_8 rfl rfl (Nat.le_of_ble_eq_true rfl) (zsS (zsS (zs0))) ?_
    refine zW.iconst (pc' := 10) (nI 0) dX1_reachableFrom_9 rfl (by decide) ?_
    refine zW.istore_n (pc' := 11) dX1_reachableFrom_10 rfl rfl (Nat.le_of_ble_eq_true rfl) (zsS (zsS (zsS (zs0)))) ?_
    exact loop 8 0 rfl
  · refine zW.callS (r' := 0) (pc' := 4) dX1_reachableFrom_1 rfl l_X1_84 rfl (w_xisPerson0 q) (zcc rfl zc0) rfl (Nat.le_of_ble_eq_true rfl) (Nat.le_of_ble_eq_true rfl) (Nat.le_of_ble_eq_true rfl) (fun _ _ q9 => ?_) (fun _ _ q9 => by cases q9.1)
    obtain ⟨q8, e9⟩ := q9
    cases q8
    replace e9 := e9.symm
    subst e9
    refine zW.callS (r' := 2) (pc' := 7) dX1_reachableFrom_4 rfl l_X1_88 rfl (w_chkArgument0) (zcc rfl zc0) rfl (Nat.le_of_ble_eq_true rfl) (Nat.le_of_ble_eq_true rfl) (Nat.le_of_ble_eq_true rfl) (fun _ _ q9 => by cases q9.1) (fun _ _ q9 => ?_)
    obtain ⟨q8, e9⟩ := q9
    cases q8
    replace e9 := e9.symm
    subst e9
    refine zX.out0 rfl ?_
    exact cAns.no (by unfold qReach; rw [if_neg q]) rfl
theorem c_hasCycle (hk : zkn G h) (hZ : zkI G) (hx : h x = some (0, .ref st :: fs)) (hP : cP h O st ll aq re rt ea ha er hr mc xs qs rs s) (hJ : sJ tt nn s) (hN : nn ≤ 10000) (hT : tt ≤ 100000) : zK G mX1_hasCycle 40 1080 [.ref x] h (cAns [] h (qCycle s)) := by
  have loop : ∀ m k, k + m = 8 → (∀ j, j < k → bLen s j j = 0) → zW G mX1_hasCycle 40 (135 * m) 2 [.ref x, .int (nI k)] [] h (cAns [] h (qCycle s)) := by
    intro m
    induction m with
    | zero =>
      intro k hk' hno
      refine zW.iload_n (pc' := 3) dX1_hasCycle_2 rfl rfl (zgS (zg0)) ?_
      refine zW.bipush (pc' := 5) (nI 8) dX1_hasCycle_3 rfl (by decide) ?_
      refine zW.icmp_geN (pc' := 8) 26 dX1_hasCycle_5 rfl (by decide) (by omega) (by omega) (fun b9 => ?_) (fun b9 => absurd b9 (by omega))
      refine zW.iconst (pc' := 27) (nI 0) dX1_hasCycle_26 rfl (by decide) ?_
      refine zW.iret dX1_hasCycle_27 rfl (rfl) ?_
      refine cAns.ok ?_
      unfold qCycle
      have e0 : sCyc s 8 = 0 := sUp_none fun j hj => if_neg fun w => (sRch_len hJ.1).mp w (hno j (by omega))
      rw [if_pos e0]
    | succ m ih =>
      intro k hk' hno
      have hl8 := (bLen_spec hJ.1 (x := k)).2.2 k
      refine zW.pay (r1 := 135 * m + 135) ?_ (by omega)
      refine zW.iload_n (pc' := 3) dX1_hasCycle_2 rfl rfl (zgS (zg0)) ?_
      refine zW.bipush (pc' := 5) (nI 8) dX1_hasCycle_3 rfl (by decide) ?_
      refine zW.icmp_geN (pc' := 8) 26 dX1_hasCycle_5 rfl (by decide) (by omega) (by omega) (fun b9 => absurd b9 (by omega)) (fun b9 => ?_)
      refine zW.aload_n (pc' := 9) dX1_hasCycle_8 rfl rfl zg0 rfl ?_
      refine zW.iload_n (pc' := 10) dX1_hasCycle_9 rfl rfl (zgS (zg0)) ?_
      refine zW.iload_n (pc' := 11) dX1_hasCycle_10 rfl rfl (zgS (zg0)) ?_
      refine zW.callV (r' := 135) (pc' := 14) dX1_hasCycle_11 rfl l_X1_278 rfl hx ⟨rfl, (Nat.le_of_ble_eq_true rfl)⟩ rfl (c_shortestChain hk hZ hx hP hJ.1 (a := k) (b := k) (by omega) (by omega)) (zcc rfl (zcc rfl zc0)) rfl (Nat.le_of_ble_eq_true rfl) (Nat.le_of_ble_eq_true rfl) (Nat.le_of_ble_eq_true rfl) (fun _ _ q9 => ?_) (fun _ _ q9 => by cases q9.1)
      obtain ⟨q8, e9⟩ := q9
      cases q8
      replace e9 := e9.symm
      subst e9
      refine zW.iconst (pc' := 15) (-1) dX1_hasCycle_14 rfl (by decide) ?_
      by_cases q0 : bLen s k k = 0
      · rw [cLenV_0 q0]
        refine zW.icmp_eq (pc' := 18) 20 dX1_hasCycle_15 rfl (by decide) (fun b1 => ?_) (fun b1 => ?_)
        rotate_left
        · exact absurd rfl b1
        refine zW.iincN (pc' := 23) (n := 1) dX1_hasCycle_20 rfl (Nat.le_of_ble_eq_true rfl) (zgS (zg0)) (zsS (zs0)) ?_
        refine zW.goto 2 dX1_hasCycle_23 (by decide) ?_
        refine ih (k + 1) (by omega) fun j hj => ?_
        by_cases e : j = k
        · rw [e]; exact q0
        · exact hno j (by omega)
      · rw [cLenV_1 q0]
        refine zW.icmp_eq (pc' := 18) 20 dX1_hasCycle_15 rfl (by decide) (fun b1 => ?_) (fun b1 => ?_)
        · exact absurd b1 (nI_nm1 (by omega))
        refine zW.iconst (pc' := 19) (nI 1) dX1_hasCycle_18 rfl (by decide) ?_
        refine zW.iret dX1_hasCycle_19 rfl (rfl) ?_
        refine cAns.ok ?_
        unfold qCycle
        rw [if_neg (fun w => ?_)]
        have : 0 < sCyc s 8 := sUp_pos.mpr ⟨k, by omega, by rw [if_pos ((sRch_len hJ.1).mpr q0)]; exact Nat.one_pos⟩
        omega
  show zW G mX1_hasCycle 40 1080 0 [.ref x, zho] [] h _
  refine zW.iconst (pc' := 1) (nI 0) dX1_hasCycle_0 rfl (by decide) ?_
  refine zW.istore_n (pc' := 2) dX1_hasCycle_1 rfl rfl (Nat.le_of_ble_eq_true rfl) (zsS (zs0)) ?_
  exact loop 8 0 rfl fun j hj => absurd hj (Nat.not_lt_zero j)
theorem c_areChainsEqual (hk : zkn G h) (hZ : zkI G) (hx : h x = some (0, .ref st :: fs)) (hP : cP h O st ll aq re rt ea ha er hr mc xs qs rs s) (hI : sI tt nn n s) : zK G mX1_areChainsEqual 30 9664 [.ref x] h (zPu h (some (.int (nI 1)))) := by
  have inner : ∀ (r : Nat) (a : Nat), a < 8 → (∀ v2 : Value, zW G mX1_areChainsEqual 30 r 2 [.ref x, .int (nI (a + 1)), v2] [] h (zPu h (some (.int (nI 1))))) → ∀ m k, k + m = 8 → zW G mX1_areChainsEqual 30 (r + 151 * m) 10 [.ref x, .int (nI a), .int (nI k)] [] h (zPu h (some (.int (nI 1)))) := by
    intro r a ha8 fin m
    induction m with
    | zero =>
      intro k hk'
      refine zW.iload_n (pc' := 11) dX1_areChainsEqual_10 rfl rfl (zgS (zgS (zg0))) ?_
      refine zW.bipush (pc' := 13) (nI 8) dX1_areChainsEqual_11 rfl (by decide) ?_
      refine zW.icmp_geN (pc' := 16) 39 dX1_areChainsEqual_13 rfl (by decide) (by omega) (by omega) (fun b9 => ?_) (fun b9 => absurd b9 (by omega))
      refine zW.iincN (pc' := 42) (n := 1) dX1_areChainsEqual_39 rfl (Nat.le_of_ble_eq_true rfl) (zgS (zg0)) (zsS (zs0)) ?_
      refine zW.goto 2 dX1_areChainsEqual_42 (by decide) ?_
      exact zW.pay (fin _) (by omega)
    | succ m ih =>
      intro k hk'
      refine zW.pay (r1 := r + 151 * m + 16 + 135) ?_ (by omega)
      refine zW.iload_n (pc' := 11) dX1_areChainsEqual_10 rfl rfl (zgS (zgS (zg0))) ?_
      refine zW.bipush (pc' := 13) (nI 8) dX1_areChainsEqual_11 rfl (by decide) ?_
      refine zW.icmp_geN (pc' := 16) 39 dX1_areChainsEqual_13 rfl (by decide) (by omega) (by omega) (fun b9 => absurd b9 (by omega)) (fun b9 => ?_)
      refine zW.aload_n (pc' := 17) dX1_areChainsEqual_16 rfl rfl zg0 rfl ?_
      refine zW.iload_n (pc' := 18) dX1_areChainsEqual_17 rfl rfl (zgS (zg0)) ?_
      refine zW.iload_n (pc' := 19) dX1_areChainsEqual_18 rfl rfl (zgS (zgS (zg0))) ?_
      refine zW.callV (r' := 135) (pc' := 22) dX1_areChainsEqual_19 rfl l_X1_278 rfl hx ⟨rfl, (Nat.le_of_ble_eq_true rfl)⟩ rfl (c_shortestChain hk hZ hx hP hI (a := a) (b := k) (by omega) (by omega)) (zcc rfl (zcc rfl zc0)) rfl (Nat.le_of_ble_eq_true rfl) (Nat.le_of_ble_eq_true rfl) (Nat.le_of_ble_eq_true rfl) (fun _ _ q9 => ?_) (fun _ _ q9 => by cases q9.1)
      obtain ⟨q8, e9⟩ := q9
      cases q8
      replace e9 := e9.symm
      subst e9
      refine zW.aload_n (pc' := 23) dX1_areChainsEqual_22 rfl rfl zg0 rfl ?_
      refine zW.iload_n (pc' := 24) dX1_areChainsEqual_23 rfl rfl (zgS (zg0)) ?_
      refine zW.iload_n (pc' := 25) dX1_areChainsEqual_24 rfl rfl (zgS (zgS (zg0))) ?_
      refine zW.callV (r' := 16) (pc' := 28) dX1_areChainsEqual_25 rfl l_X1_282 rfl hx ⟨rfl, (Nat.le_of_ble_eq_true rfl)⟩ rfl (c_byRounds hx hP hI (a := a) (b := k) (by omega) (by omega)) (zcc rfl (zcc rfl zc0)) rfl (Nat.le_of_ble_eq_true rfl) (Nat.le_of_ble_eq_true rfl) (Nat.le_of_ble_eq_true rfl) (fun _ _ q9 => ?_) (fun _ _ q9 => by cases q9.1)
      obtain ⟨q8, e9⟩ := q9
      cases q8
      replace e9 := e9.symm
      subst e9
      refine zW.icmp_eq (pc' := 31) 33 dX1_areChainsEqual_28 rfl (by decide) (fun b1 => ?_) (fun b1 => ?_)
      rotate_left
      · exact absurd rfl b1
      refine zW.iincN (pc' := 36) (n := 1) dX1_areChainsEqual_33 rfl (Nat.le_of_ble_eq_true rfl) (zgS (zgS (zg0))) (zsS (zsS (zs0))) ?_
      refine zW.goto 10 dX1_areChainsEqual_36 (by decide) ?_
      exact ih (k + 1) (by omega)
  have outer : ∀ (m k : Nat) (v2 : Value), k + m = 8 → zW G mX1_areChainsEqual 30 (1208 * m) 2 [.ref x, .int (nI k), v2] [] h (zPu h (some (.int (nI 1)))) := by
    intro m
    induction m with
    | zero =>
      intro k v2 hk'
      refine zW.iload_n (pc' := 3) dX1_areChainsEqual_2 rfl rfl (zgS (zg0)) ?_
      refine zW.bipush (pc' := 5) (nI 8) dX1_areChainsEqual_3 rfl (by decide) ?_
      refine zW.icmp_geN (pc' := 8) 45 dX1_areChainsEqual_5 rfl (by decide) (by omega) (by omega) (fun b9 => ?_) (fun b9 => absurd b9 (by omega))
      refine zW.iconst (pc' := 46) (nI 1) dX1_areChainsEqual_45 rfl (by decide) ?_
      refine zW.iret dX1_areChainsEqual_46 rfl (rfl) ?_
      exact ⟨rfl, rfl⟩
    | succ m ih =>
      intro k v2 hk'
      refine zW.pay (r1 := 1208 * m + 151 * 8) ?_ (by omega)
      refine zW.iload_n (pc' := 3) dX1_areChainsEqual_2 rfl rfl (zgS (zg0)) ?_
      refine zW.bipush (pc' := 5) (nI 8) dX1_areChainsEqual_3 rfl (by decide) ?_
      refine zW.icmp_geN (pc' := 8) 45 dX1_areChainsEqual_5 rfl (by decide) (by omega) (by omega) (fun b9 => absurd b9 (by omega)) (fun b9 => ?_)
      refine zW.iconst (pc' := 9) (nI 0) dX1_areChainsEqual_8 rfl (by decide) ?_
      refine zW.istore_n (pc' := 10) dX1_areChainsEqual_9 rfl rfl (Nat.le_of_ble_eq_true rfl) (zsS (zsS (zs0))) ?_
      exact inner (1208 * m) k (by omega) (fun v2 => ih (k + 1) v2 (by omega)) 8 0 rfl
  show zW G mX1_areChainsEqual 30 9664 0 [.ref x, zho, zho] [] h _
  refine zW.iconst (pc' := 1) (nI 0) dX1_areChainsEqual_0 rfl (by decide) ?_
  refine zW.istore_n (pc' := 2) dX1_areChainsEqual_1 rfl rfl (Nat.le_of_ble_eq_true rfl) (zsS (zs0)) ?_
  exact outer 8 0 zho rfl
theorem c_sumOfBalances (hx : h x = some (0, .ref st :: fs)) (hP : cP h O st ll aq re rt ea ha er hr mc xs qs rs s) (hJ : sJ tt nn s) (hN : nn ≤ 10000) (hT : tt ≤ 100000) : zK G mX1_sumOfBalances 30 24 [.ref x] h (zPu h (some (.int 0))) := by
  have loop : ∀ m k, k + m = 8 → zW G mX1_sumOfBalances 30 (3 * m) 4 [.ref x, .int (sUpI (fun p => sBal s p) k), .int (nI k)] [] h (zPu h (some (.int 0))) := by
    intro m
    induction m with
    | zero =>
      intro k hk'
      refine zW.iload_n (pc' := 5) dX1_sumOfBalances_4 rfl rfl (zgS (zgS (zg0))) ?_
      refine zW.bipush (pc' := 7) (nI 8) dX1_sumOfBalances_5 rfl (by decide) ?_
      refine zW.icmp_geN (pc' := 10) 24 dX1_sumOfBalances_7 rfl (by decide) (by omega) (by omega) (fun b9 => ?_) (fun b9 => absurd b9 (by omega))
      refine zW.iload_n (pc' := 25) dX1_sumOfBalances_24 rfl rfl (zgS (zg0)) ?_
      refine zW.iret dX1_sumOfBalances_25 rfl (rfl) ?_
      rw [show k = 8 by omega, sBal_sum hJ.1]
      exact ⟨rfl, rfl⟩
    | succ m ih =>
      intro k hk'
      refine zW.pay (r1 := 3 * m + 3) ?_ (by omega)
      refine zW.iload_n (pc' := 5) dX1_sumOfBalances_4 rfl rfl (zgS (zgS (zg0))) ?_
      refine zW.bipush (pc' := 7) (nI 8) dX1_sumOfBalances_5 rfl (by decide) ?_
      refine zW.icmp_geN (pc' := 10) 24 dX1_sumOfBalances_7 rfl (by decide) (by omega) (by omega) (fun b9 => absurd b9 (by omega)) (fun b9 => ?_)
      refine zW.iload_n (pc' := 11) dX1_sumOfBalances_10 rfl rfl (zgS (zg0)) ?_
      refine zW.aload_n (pc' := 12) dX1_sumOfBalances_11 rfl rfl zg0 rfl ?_
      refine zW.iload_n (pc' := 13) dX1_sumOfBalances_12 rfl rfl (zgS (zgS (zg0))) ?_
      refine zW.callV (r' := 3) (pc' := 16) dX1_sumOfBalances_13 rfl l_X1_216 rfl hx ⟨rfl, (Nat.le_of_ble_eq_true rfl)⟩ rfl (c_balanceOf hx hP hJ hN hT (m := k) (by omega)) (zcc rfl zc0) rfl (Nat.le_of_ble_eq_true rfl) (Nat.le_of_ble_eq_true rfl) (Nat.le_of_ble_eq_true rfl) (fun _ _ q9 => ?_) (fun _ _ q9 => by cases q9.1)
      obtain ⟨q8, e9⟩ := q9
      cases q8
      replace e9 := e9.symm
      subst e9
      refine zW.iadd (pc' := 17) dX1_sumOfBalances_16 rfl ?_
      refine zW.istore_n (pc' := 18) dX1_sumOfBalances_17 rfl rfl (Nat.le_of_ble_eq_true rfl) (zsS (zs0)) ?_
      refine zW.iincN (pc' := 21) (n := 1) dX1_sumOfBalances_18 rfl (Nat.le_of_ble_eq_true rfl) (zgS (zgS (zg0))) (zsS (zsS (zs0))) ?_
      refine zW.goto 4 dX1_sumOfBalances_21 (by decide) ?_
      exact ih (k + 1) (by omega)
  show zW G mX1_sumOfBalances 30 24 0 [.ref x, zho, zho] [] h _
  refine zW.iconst (pc' := 1) (nI 0) dX1_sumOfBalances_0 rfl (by decide) ?_
  refine zW.istore_n (pc' := 2) dX1_sumOfBalances_1 rfl rfl (Nat.le_of_ble_eq_true rfl) (zsS (zs0)) ?_
  refine zW.iconst (pc' := 3) (nI 0) dX1_sumOfBalances_2 rfl (by decide) ?_
  refine zW.istore_n (pc' := 4) dX1_sumOfBalances_3 rfl rfl (Nat.le_of_ble_eq_true rfl) (zsS (zsS (zs0))) ?_
  exact loop 8 0 rfl
theorem c_areForecastsEqual (hk : zkn G h) (hZ : zkI G) (hx : h x = some (0, .ref st :: fs)) (hP : cP h O st ll aq re rt ea ha er hr mc xs qs rs s) (hJ : sJ tt nn s) (hN : nn ≤ 10000) (hT : tt + 50 < 100000) {m : Nat} (hm : m ≤ 50) : zK G mX1_areForecastsEqual 30 (28 * m + 81) [.ref x, .int (nI m)] h (zPu h (some (.int (nI 1)))) := by
  show zW G mX1_areForecastsEqual 30 (28*m+81) 0 [.ref x, .int (nI m)] [] h _
  refine zW.pay (r1 := 0 + (28 * m + 78) + 3) ?_ (by omega)
  refine zW.aload_n (pc' := 1) dX1_areForecastsEqual_0 rfl rfl zg0 rfl ?_
  refine zW.iload_n (pc' := 2) dX1_areForecastsEqual_1 rfl rfl (zgS (zg0)) ?_
  refine zW.callV (r' := 3) (pc' := 5) dX1_areForecastsEqual_2 rfl l_X1_308 rfl hx ⟨rfl, (Nat.le_of_ble_eq_true rfl)⟩ rfl (c_byComparison hx hP hJ hN (by omega) hm) (zcc rfl zc0) rfl (Nat.le_of_ble_eq_true rfl) (Nat.le_of_ble_eq_true rfl) (Nat.le_of_ble_eq_true rfl) (fun _ _ q9 => ?_) (fun _ _ q9 => by cases q9.1)
  obtain ⟨q8, e9⟩ := q9
  cases q8
  replace e9 := e9.symm
  subst e9
  refine zW.aload_n (pc' := 6) dX1_areForecastsEqual_5 rfl rfl zg0 rfl ?_
  refine zW.iload_n (pc' := 7) dX1_areForecastsEqual_6 rfl rfl (zgS (zg0)) ?_
  refine zW.callV (r' := (28*m+78)) (pc' := 10) dX1_areForecastsEqual_7 rfl l_X1_311 rfl hx ⟨rfl, (Nat.le_of_ble_eq_true rfl)⟩ rfl (c_byCopy hx hP hJ hN hT hk hZ hm) (zcc rfl zc0) rfl (Nat.le_of_ble_eq_true rfl) (Nat.le_of_ble_eq_true rfl) (Nat.le_of_ble_eq_true rfl) (fun _ _ q9 => ?_) (fun _ _ q9 => by cases q9.1)
  obtain ⟨q8, e9⟩ := q9
  cases q8
  replace e9 := e9.symm
  subst e9
  rw [sTicks_fc hJ]
  refine zW.icmp_ne (pc' := 13) 17 dX1_areForecastsEqual_10 rfl (by decide) (fun b1 => ?_) (fun b1 => ?_)
  · exact absurd rfl b1
  refine zW.iconst (pc' := 14) (nI 1) dX1_areForecastsEqual_13 rfl (by decide) ?_
  refine zW.goto 18 dX1_areForecastsEqual_14 (by decide) ?_
  refine zW.iret dX1_areForecastsEqual_18 rfl (rfl) ?_
  exact ⟨rfl, rfl⟩
theorem c_isConsistent (hk : zkn G h) (hZ : zkI G) (hL : zkL G) (hx : h x = some (0, .ref st :: fs)) (hP : cP h O st ll aq re rt ea ha er hr mc xs qs rs s) (hJ : sJ tt nn s) (hN : nn ≤ 10000) (hT : tt + 50 < 100000) : zK G mX1_isConsistent 40 11613 [.ref x] h (cAns [] h (0, nI 1)) := by
  have hst := hP.1
  have htot := hJ.1.2.1.2.1
  have step4 : zW G mX1_isConsistent 40 9688 72 [.ref x, .int (nI 1), .int (nI 1)] [] h (cAns [] h (0, nI 1)) := by
    refine zW.iload_n (pc' := 73) dX1_isConsistent_72 rfl rfl (zgS (zg0)) ?_
    refine zW.if_eqN (pc' := 76) 98 dX1_isConsistent_73 rfl (by decide) (by omega) (fun b9 => absurd b9 (by omega)) (fun b9 => ?_)
    refine zW.iload_n (pc' := 77) dX1_isConsistent_76 rfl rfl (zgS (zgS (zg0))) ?_
    refine zW.if_eqN (pc' := 80) 98 dX1_isConsistent_77 rfl (by decide) (by omega) (fun b9 => absurd b9 (by omega)) (fun b9 => ?_)
    refine zW.aload_n (pc' := 81) dX1_isConsistent_80 rfl rfl zg0 rfl ?_
    refine zW.callV (r' := 9664) (pc' := 84) dX1_isConsistent_81 rfl l_X1_349 rfl hx ⟨rfl, (Nat.le_of_ble_eq_true rfl)⟩ rfl (c_areChainsEqual hk hZ hx hP hJ.1) zc0 rfl (Nat.le_of_ble_eq_true rfl) (Nat.le_of_ble_eq_true rfl) (Nat.le_of_ble_eq_true rfl) (fun _ _ q9 => ?_) (fun _ _ q9 => by cases q9.1)
    obtain ⟨q8, e9⟩ := q9
    cases q8
    replace e9 := e9.symm
    subst e9
    refine zW.if_eqN (pc' := 87) 98 dX1_isConsistent_84 rfl (by decide) (by omega) (fun b9 => absurd b9 (by omega)) (fun b9 => ?_)
    refine zW.aload_n (pc' := 88) dX1_isConsistent_87 rfl rfl zg0 rfl ?_
    refine zW.callV (r' := 24) (pc' := 91) dX1_isConsistent_88 rfl l_X1_352 rfl hx ⟨rfl, (Nat.le_of_ble_eq_true rfl)⟩ rfl (c_sumOfBalances hx hP hJ hN (by omega)) zc0 rfl (Nat.le_of_ble_eq_true rfl) (Nat.le_of_ble_eq_true rfl) (Nat.le_of_ble_eq_true rfl) (fun _ _ q9 => ?_) (fun _ _ q9 => by cases q9.1)
    obtain ⟨q8, e9⟩ := q9
    cases q8
    replace e9 := e9.symm
    subst e9
    refine zW.if_ne (pc' := 94) 98 dX1_isConsistent_91 rfl (by decide) (fun b1 => ?_) (fun b1 => ?_)
    · exact absurd rfl b1
    refine zW.iconst (pc' := 95) (nI 1) dX1_isConsistent_94 rfl (by decide) ?_
    refine zW.goto 99 dX1_isConsistent_95 (by decide) ?_
    refine zW.iret dX1_isConsistent_99 rfl (rfl) ?_
    exact cAns.ok rfl
  have step2 : zW G mX1_isConsistent 40 11611 40 [.ref x, .int (nI 1), zho] [] h (cAns [] h (0, nI 1)) := by
    refine zW.aload_n (pc' := 41) dX1_isConsistent_40 rfl rfl zg0 rfl ?_
    refine zW.iconst (pc' := 42) (nI 0) dX1_isConsistent_41 rfl (by decide) ?_
    refine zW.callV (r' := 81) (pc' := 45) dX1_isConsistent_42 rfl l_X1_346 rfl hx ⟨rfl, (Nat.le_of_ble_eq_true rfl)⟩ rfl (c_areForecastsEqual hk hZ hx hP hJ hN hT (m := 0) (by omega)) (zcc rfl zc0) rfl (Nat.le_of_ble_eq_true rfl) (Nat.le_of_ble_eq_true rfl) (Nat.le_of_ble_eq_true rfl) (fun _ _ q9 => ?_) (fun _ _ q9 => by cases q9.1)
    obtain ⟨q8, e9⟩ := q9
    cases q8
    replace e9 := e9.symm
    subst e9
    refine zW.if_eqN (pc' := 48) 70 dX1_isConsistent_45 rfl (by decide) (by omega) (fun b9 => absurd b9 (by omega)) (fun b9 => ?_)
    refine zW.aload_n (pc' := 49) dX1_isConsistent_48 rfl rfl zg0 rfl ?_
    refine zW.bipush (pc' := 51) (nI 10) dX1_isConsistent_49 rfl (by decide) ?_
    refine zW.callV (r' := 361) (pc' := 54) dX1_isConsistent_51 rfl l_X1_346 rfl hx ⟨rfl, (Nat.le_of_ble_eq_true rfl)⟩ rfl (c_areForecastsEqual hk hZ hx hP hJ hN hT (m := 10) (by omega)) (zcc rfl zc0) rfl (Nat.le_of_ble_eq_true rfl) (Nat.le_of_ble_eq_true rfl) (Nat.le_of_ble_eq_true rfl) (fun _ _ q9 => ?_) (fun _ _ q9 => by cases q9.1)
    obtain ⟨q8, e9⟩ := q9
    cases q8
    replace e9 := e9.symm
    subst e9
    refine zW.if_eqN (pc' := 57) 70 dX1_isConsistent_54 rfl (by decide) (by omega) (fun b9 => absurd b9 (by omega)) (fun b9 => ?_)
    refine zW.aload_n (pc' := 58) dX1_isConsistent_57 rfl rfl zg0 rfl ?_
    refine zW.bipush (pc' := 60) (nI 50) dX1_isConsistent_58 rfl (by decide) ?_
    refine zW.callV (r' := 1481) (pc' := 63) dX1_isConsistent_60 rfl l_X1_346 rfl hx ⟨rfl, (Nat.le_of_ble_eq_true rfl)⟩ rfl (c_areForecastsEqual hk hZ hx hP hJ hN hT (m := 50) (by omega)) (zcc rfl zc0) rfl (Nat.le_of_ble_eq_true rfl) (Nat.le_of_ble_eq_true rfl) (Nat.le_of_ble_eq_true rfl) (fun _ _ q9 => ?_) (fun _ _ q9 => by cases q9.1)
    obtain ⟨q8, e9⟩ := q9
    cases q8
    replace e9 := e9.symm
    subst e9
    refine zW.if_eqN (pc' := 66) 70 dX1_isConsistent_63 rfl (by decide) (by omega) (fun b9 => absurd b9 (by omega)) (fun b9 => ?_)
    refine zW.iconst (pc' := 67) (nI 1) dX1_isConsistent_66 rfl (by decide) ?_
    refine zW.goto 71 dX1_isConsistent_67 (by decide) ?_
    refine zW.istore_n (pc' := 72) dX1_isConsistent_71 rfl rfl (Nat.le_of_ble_eq_true rfl) (zsS (zsS (zs0))) ?_
    exact step4
  have hw : s.1 4 + s.1 3 = sUp (fun k => sAt s.2.1 k 3) s.2.1.length + s.1 8 := by rw [sUp_wt]; exact htot
  have hU : sUp (fun k => sAt s.2.1 k 3) s.2.1.length < 2 ^ 30 := by
    have h1 := (hJ.1.tB (by omega) hN).2.2
    have h4 := hJ.1.2.1.2.2
    have h12 := hJ.1.len
    have h9 : ∀ k, k ≤ s.2.1.length → sUp (fun k => sAt s.2.1 k 3) k ≤ 9999 * k := by
      intro k
      induction k with
      | zero => intro _; exact Nat.le_refl _
      | succ k ih =>
        intro hk9
        have := (hJ.1.at (i := k) (by omega)).2.2.2.2.1.2
        have := ih (by omega)
        show sUp _ k + sAt s.2.1 k 3 ≤ _
        omega
    have := h9 _ (Nat.le_refl _)
    omega
  show zW G mX1_isConsistent 40 11613 0 [.ref x, zho, zho] [] h _
  refine zW.aload_n (pc' := 1) dX1_isConsistent_0 rfl rfl zg0 rfl ?_
  refine zW.get (pc' := 4) dX1_isConsistent_1 rfl f_X1_10_0 hx ⟨rfl, (Nat.le_of_ble_eq_true rfl)⟩ rfl ?_
  refine zW.get (pc' := 7) dX1_isConsistent_4 rfl f_X1_343_1 hst ⟨rfl, (Nat.le_of_ble_eq_true rfl)⟩ rfl ?_
  refine zW.aload_n (pc' := 8) dX1_isConsistent_7 rfl rfl zg0 rfl ?_
  refine zW.get (pc' := 11) dX1_isConsistent_8 rfl f_X1_10_0 hx ⟨rfl, (Nat.le_of_ble_eq_true rfl)⟩ rfl ?_
  refine zW.get (pc' := 14) dX1_isConsistent_11 rfl f_X1_332_1 hst ⟨rfl, (Nat.le_of_ble_eq_true rfl)⟩ rfl ?_
  refine zW.ladd (pc' := 15) dX1_isConsistent_14 rfl ?_
  refine zW.aload_n (pc' := 16) dX1_isConsistent_15 rfl rfl zg0 rfl ?_
  refine zW.get (pc' := 19) dX1_isConsistent_16 rfl f_X1_10_0 hx ⟨rfl, (Nat.le_of_ble_eq_true rfl)⟩ rfl ?_
  refine zW.callV (r' := 2) (pc' := 22) dX1_isConsistent_19 rfl l_X1_336 rfl hst ⟨rfl, (Nat.le_of_ble_eq_true rfl)⟩ rfl (c_stActive hP hJ hN (by omega) hk hL) zc0 rfl (Nat.le_of_ble_eq_true rfl) (Nat.le_of_ble_eq_true rfl) (Nat.le_of_ble_eq_true rfl) (fun _ _ q9 => ?_) (fun _ _ q9 => by cases q9.1)
  obtain ⟨q8, e9⟩ := q9
  cases q8
  replace e9 := e9.symm
  subst e9
  refine zW.aload_n (pc' := 23) dX1_isConsistent_22 rfl rfl zg0 rfl ?_
  refine zW.get (pc' := 26) dX1_isConsistent_23 rfl f_X1_10_0 hx ⟨rfl, (Nat.le_of_ble_eq_true rfl)⟩ rfl ?_
  refine zW.get (pc' := 29) dX1_isConsistent_26 rfl f_X1_340_1 hst ⟨rfl, (Nat.le_of_ble_eq_true rfl)⟩ rfl ?_
  refine zW.ladd (pc' := 30) dX1_isConsistent_29 rfl ?_
  rw [← nL_nI (by omega), nL_add, nL_add, hw]
  refine zW.lcmp (pc' := 31) dX1_isConsistent_30 rfl ?_
  rw [show ∀ v : Int64, lg_cmp v v = 0 from fun v => by unfold lg_cmp; simp]
  refine zW.if_ne (pc' := 34) 38 dX1_isConsistent_31 rfl (by decide) (fun b1 => ?_) (fun b1 => ?_)
  · exact absurd rfl b1
  refine zW.iconst (pc' := 35) (nI 1) dX1_isConsistent_34 rfl (by decide) ?_
  refine zW.goto 39 dX1_isConsistent_35 (by decide) ?_
  refine zW.istore_n (pc' := 40) dX1_isConsistent_39 rfl rfl (Nat.le_of_ble_eq_true rfl) (zsS (zs0)) ?_
  exact step2
end
