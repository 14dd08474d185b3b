/-! THE CLASS's questions, more -/
section
set_option maxRecDepth 100000
variable {G : zG} {h : zH} {O : Nat → Prop} {x st ll aq re rt ea ha er hr tt nn i : Nat} {mc : Int32} {xs : List (Nat × Nat)} {qs rs : List Nat} {s : sS} {fs : List Value} {id y z : Int32} {p : Nat × Nat}
theorem sI.b6 {n : Nat} (h : sI tt nn n s) (hi : i < s.2.1.length) : sAt s.2.1 i 6 < 2 ^ 30 := Nat.lt_of_le_of_lt (h.at hi).2.2.2.2.2.2.2.1 (by decide)
theorem sI.b7 {n : Nat} (h : sI tt nn n s) (hi : i < s.2.1.length) : sAt s.2.1 i 7 < 2 ^ 30 := Nat.lt_of_le_of_lt (h.at hi).2.2.2.2.2.2.2.2 (by decide)
theorem c_isSignable (hx : h x = some (0, .ref st :: fs)) (hP : cP h O st ll aq re rt ea ha er hr mc xs qs rs s) (hJ : sJ tt nn s) (hN : nn ≤ 10000) (hT : tt ≤ 100000) (hi : i < s.2.1.length) (hp : xs[i]? = some p) {m : Nat} (hm : m < 2 ^ 30) : zK G mX1_isSignable 28 3 [.ref x, .ref p.2, .int (nI m)] h (zPu h (some (.int (nI (if sAt s.2.1 i 6 = 0 ∧ sCount s.2.1 6 m < 3 then 1 else 0))))) := by
  have hc := hP.2.1.2.2.1 i p _ hp (sAt_get hi)
  have hc2 := cCl_l hc
  have hcl : sCount s.2.1 6 m ≤ s.2.1.length := List.countP_le_length
  have h12 := hJ.1.len
  show zW G mX1_isSignable 28 3 0 [.ref x, .ref p.2, .int (nI m)] [] h _
  refine zW.aload_n (pc' := 1) dX1_isSignable_0 rfl rfl (zgS (zg0)) rfl ?_
  refine zW.callV (r' := 0) (pc' := 4) dX1_isSignable_1 rfl l_X1_117 rfl hc2 ⟨rfl, (Nat.le_of_ble_eq_true rfl)⟩ rfl (w_clSigned hc (hJ.1.b6 hi)) zc0 rfl (Nat.le_of_ble_eq_true rfl) (Nat.le_of_ble_eq_true rfl) (Nat.le_of_ble_eq_true rfl) (fun _ _ q9 => ?_) (fun _ _ q9 => by cases q9.1)
  obtain ⟨q8, e9⟩ := q9
  cases q8
  replace e9 := e9.symm
  subst e9
  by_cases q : sAt s.2.1 i 6 = 0
  · rw [if_pos q]
    refine zW.if_neN (pc' := 7) 20 dX1_isSignable_4 rfl (by decide) (by omega) (fun b9 => absurd b9 (by omega)) (fun b9 => ?_)
    refine zW.aload_n (pc' := 8) dX1_isSignable_7 rfl rfl zg0 rfl ?_
    refine zW.iload_n (pc' := 9) dX1_isSignable_8 rfl rfl (zgS (zgS (zg0))) ?_
    refine zW.callV (r' := 3) (pc' := 12) dX1_isSignable_9 rfl l_X1_123 rfl hx ⟨rfl, (Nat.le_of_ble_eq_true rfl)⟩ rfl (c_signatures hx hP hJ hN hT hm) (zcc rfl zc0) rfl (Nat.le_of_ble_eq_true rfl) (Nat.le_of_ble_eq_true rfl) (Nat.le_of_ble_eq_true rfl) (fun _ _ q9 => ?_) (fun _ _ q9 => by cases q9.1)
    obtain ⟨q8, e9⟩ := q9
    cases q8
    replace e9 := e9.symm
    subst e9
    refine zW.iconst (pc' := 13) (nI 3) dX1_isSignable_12 rfl (by decide) ?_
    refine zW.icmp_geN (pc' := 16) 20 dX1_isSignable_13 rfl (by decide) (by omega) (by omega) (fun b1 => ?_) (fun b1 => ?_)
    · refine zW.iconst (pc' := 21) (nI 0) dX1_isSignable_20 rfl (by decide) ?_
      refine zW.iret dX1_isSignable_21 rfl (rfl) ?_
      rw [if_neg (fun z => by omega)]
      exact ⟨rfl, rfl⟩
    · refine zW.iconst (pc' := 17) (nI 1) dX1_isSignable_16 rfl (by decide) ?_
      refine zW.goto 21 dX1_isSignable_17 (by decide) ?_
      refine zW.iret dX1_isSignable_21 rfl (rfl) ?_
      rw [if_pos ⟨q, by omega⟩]
      exact ⟨rfl, rfl⟩
  · rw [if_neg q]
    refine zW.if_neN (pc' := 7) 20 dX1_isSignable_4 rfl (by decide) (by omega) (fun b9 => ?_) (fun b9 => absurd b9 (by omega))
    refine zW.iconst (pc' := 21) (nI 0) dX1_isSignable_20 rfl (by decide) ?_
    refine zW.iret dX1_isSignable_21 rfl (rfl) ?_
    rw [if_neg (fun z => q z.1)]
    exact ⟨rfl, rfl⟩
theorem c_isCountersignable (hx : h x = some (0, .ref st :: fs)) (hP : cP h O st ll aq re rt ea ha er hr mc xs qs rs s) (hJ : sJ tt nn s) (hN : nn ≤ 10000) (hT : tt ≤ 100000) (hi : i < s.2.1.length) (hp : xs[i]? = some p) {m : Nat} (hm : m < 2 ^ 30) : zK G mX1_isCountersignable 28 3 [.ref x, .ref p.2, .int (nI m)] h (zPu h (some (.int (nI (if 0 < sAt s.2.1 i 6 ∧ sAt s.2.1 i 7 = 0 ∧ sCount s.2.1 7 m < 2 then 1 else 0))))) := by
  have hc := hP.2.1.2.2.1 i p _ hp (sAt_get hi)
  have hc2 := cCl_l hc
  have hcl : sCount s.2.1 7 m ≤ s.2.1.length := List.countP_le_length
  have h12 := hJ.1.len
  show zW G mX1_isCountersignable 28 3 0 [.ref x, .ref p.2, .int (nI m)] [] h _
  refine zW.aload_n (pc' := 1) dX1_isCountersignable_0 rfl rfl (zgS (zg0)) rfl ?_
  refine zW.callV (r' := 0) (pc' := 4) dX1_isCountersignable_1 rfl l_X1_117 rfl hc2 ⟨rfl, (Nat.le_of_ble_eq_true rfl)⟩ rfl (w_clSigned hc (hJ.1.b6 hi)) zc0 rfl (Nat.le_of_ble_eq_true rfl) (Nat.le_of_ble_eq_true rfl) (Nat.le_of_ble_eq_true rfl) (fun _ _ q9 => ?_) (fun _ _ q9 => by cases q9.1)
  obtain ⟨q8, e9⟩ := q9
  cases q8
  replace e9 := e9.symm
  subst e9
  by_cases q : sAt s.2.1 i 6 = 0
  · rw [if_pos q]
    refine zW.if_eqN (pc' := 7) 27 dX1_isCountersignable_4 rfl (by decide) (by omega) (fun b9 => ?_) (fun b9 => absurd b9 (by omega))
    refine zW.iconst (pc' := 28) (nI 0) dX1_isCountersignable_27 rfl (by decide) ?_
    refine zW.iret dX1_isCountersignable_28 rfl (rfl) ?_
    rw [if_neg (fun z => by omega)]
    exact ⟨rfl, rfl⟩
  · rw [if_neg q]
    refine zW.if_eqN (pc' := 7) 27 dX1_isCountersignable_4 rfl (by decide) (by omega) (fun b9 => absurd b9 (by omega)) (fun b9 => ?_)
    refine zW.aload_n (pc' := 8) dX1_isCountersignable_7 rfl rfl (zgS (zg0)) rfl ?_
    refine zW.callV (r' := 0) (pc' := 11) dX1_isCountersignable_8 rfl l_X1_127 rfl hc2 ⟨rfl, (Nat.le_of_ble_eq_true rfl)⟩ rfl (w_clCosigned hc (hJ.1.b7 hi)) zc0 rfl (Nat.le_of_ble_eq_true rfl) (Nat.le_of_ble_eq_true rfl) (Nat.le_of_ble_eq_true rfl) (fun _ _ q9 => ?_) (fun _ _ q9 => by cases q9.1)
    obtain ⟨q8, e9⟩ := q9
    cases q8
    replace e9 := e9.symm
    subst e9
    by_cases q2 : sAt s.2.1 i 7 = 0
    · rw [if_pos q2]
      refine zW.if_neN (pc' := 14) 27 dX1_isCountersignable_11 rfl (by decide) (by omega) (fun b9 => absurd b9 (by omega)) (fun b9 => ?_)
      refine zW.aload_n (pc' := 15) dX1_isCountersignable_14 rfl rfl zg0 rfl ?_
      refine zW.iload_n (pc' := 16) dX1_isCountersignable_15 rfl rfl (zgS (zgS (zg0))) ?_
      refine zW.callV (r' := 3) (pc' := 19) dX1_isCountersignable_16 rfl l_X1_130 rfl hx ⟨rfl, (Nat.le_of_ble_eq_true rfl)⟩ rfl (c_countersignatures hx hP hJ hN hT hm) (zcc rfl zc0) rfl (Nat.le_of_ble_eq_true rfl) (Nat.le_of_ble_eq_true rfl) (Nat.le_of_ble_eq_true rfl) (fun _ _ q9 => ?_) (fun _ _ q9 => by cases q9.1)
      obtain ⟨q8, e9⟩ := q9
      cases q8
      replace e9 := e9.symm
      subst e9
      refine zW.iconst (pc' := 20) (nI 2) dX1_isCountersignable_19 rfl (by decide) ?_
      refine zW.icmp_geN (pc' := 23) 27 dX1_isCountersignable_20 rfl (by decide) (by omega) (by omega) (fun b1 => ?_) (fun b1 => ?_)
      · refine zW.iconst (pc' := 28) (nI 0) dX1_isCountersignable_27 rfl (by decide) ?_
        refine zW.iret dX1_isCountersignable_28 rfl (rfl) ?_
        rw [if_neg (fun z => by omega)]
        exact ⟨rfl, rfl⟩
      · refine zW.iconst (pc' := 24) (nI 1) dX1_isCountersignable_23 rfl (by decide) ?_
        refine zW.goto 28 dX1_isCountersignable_24 (by decide) ?_
        refine zW.iret dX1_isCountersignable_28 rfl (rfl) ?_
        rw [if_pos ⟨by omega, q2, by omega⟩]
        exact ⟨rfl, rfl⟩
    · rw [if_neg q2]
      refine zW.if_neN (pc' := 14) 27 dX1_isCountersignable_11 rfl (by decide) (by omega) (fun b9 => ?_) (fun b9 => absurd b9 (by omega))
      refine zW.iconst (pc' := 28) (nI 0) dX1_isCountersignable_27 rfl (by decide) ?_
      refine zW.iret dX1_isCountersignable_28 rfl (rfl) ?_
      rw [if_neg (fun z => by omega)]
      exact ⟨rfl, rfl⟩
theorem c_canSign (hx : h x = some (0, .ref st :: fs)) (hP : cP h O st ll aq re rt ea ha er hr mc xs qs rs s) (hJ : sJ tt nn s) (hN : nn ≤ 10000) (hT : tt ≤ 100000) : zK G mX1_canSign 40 5 [.ref x, .int id, .int y] h (cAns [eElt, eArg] h (qCanS s id y)) := by
  have hB := hJ.1.cB hN
  show zW G mX1_canSign 40 5 0 [.ref x, .int id, .int y, zho] [] h _
  refine zW.aload_n (pc' := 1) dX1_canSign_0 rfl rfl zg0 rfl ?_
  refine zW.iload_n (pc' := 2) dX1_canSign_1 rfl rfl (zgS (zg0)) ?_
  cases hf : sFind s.2.1 id with
  | none =>
    refine zW.callV (r' := 4) (pc' := 5) dX1_canSign_2 rfl l_X1_133 rfl hx ⟨rfl, (Nat.le_of_ble_eq_true rfl)⟩ rfl (w_claim0 hx hP hB hf) (zcc rfl zc0) rfl (Nat.le_of_ble_eq_true rfl) (Nat.le_of_ble_eq_true rfl) (Nat.le_of_ble_eq_true rfl) (fun _ _ q9 => by cases q9.1) (fun _ _ q9 => ?_)
    obtain ⟨q8, e9⟩ := q9
    cases q8
    replace e9 := e9.symm
    subst e9
    refine zX.out0 rfl ?_
    exact cAns.no (by unfold qCanS; rw [hf]) rfl
  | some i =>
    have hi := sFind_lt hf
    obtain ⟨p, hp, hc⟩ := hP.2.1.2.at hi
    refine zW.callV (r' := 2) (pc' := 5) dX1_canSign_2 rfl l_X1_133 rfl hx ⟨rfl, (Nat.le_of_ble_eq_true rfl)⟩ rfl (w_claim1 hx hP hB hf hp) (zcc rfl zc0) rfl (Nat.le_of_ble_eq_true rfl) (Nat.le_of_ble_eq_true rfl) (Nat.le_of_ble_eq_true rfl) (fun _ _ q9 => ?_) (fun _ _ q9 => by cases q9.1)
    obtain ⟨q8, e9⟩ := q9
    cases q8
    replace e9 := e9.symm
    subst e9
    refine zW.astore_n (pc' := 6) dX1_canSign_5 rfl rfl (Nat.le_of_ble_eq_true rfl) rfl (zsS (zsS (zsS (zs0)))) ?_
    refine zW.iload_n (pc' := 7) dX1_canSign_6 rfl rfl (zgS (zgS (zg0))) ?_
    by_cases q : sIn y (nI 0) (nI 3) = true
    · refine zW.callS (r' := 0) (pc' := 10) dX1_canSign_7 rfl l_X1_136 rfl (w_xisWave1 q) (zcc rfl zc0) rfl (Nat.le_of_ble_eq_true rfl) (Nat.le_of_ble_eq_true rfl) (Nat.le_of_ble_eq_true rfl) (fun _ _ q9 => ?_) (fun _ _ q9 => by cases q9.1)
      obtain ⟨q8, e9⟩ := q9
      cases q8
      replace e9 := e9.symm
      subst e9
      refine zW.callS (r' := 0) (pc' := 13) dX1_canSign_10 rfl l_X1_88 rfl (w_chkArgument1) (zcc rfl zc0) rfl (Nat.le_of_ble_eq_true rfl) (Nat.le_of_ble_eq_true rfl) (Nat.le_of_ble_eq_true rfl) (fun _ _ q9 => ?_) (fun _ _ q9 => by cases q9.1)
      obtain ⟨q8, e9⟩ := q9
      cases q8
      replace e9 := e9.symm
      subst e9
      obtain ⟨m, hm, -, h3, e⟩ := sIn_nat q (by decide) (by decide)
      rw [hm]
      refine zW.aload_n (pc' := 14) dX1_canSign_13 rfl rfl zg0 rfl ?_
      refine zW.aload_n (pc' := 15) dX1_canSign_14 rfl rfl (zgS (zgS (zgS (zg0)))) rfl ?_
      refine zW.iload_n (pc' := 16) dX1_canSign_15 rfl rfl (zgS (zgS (zg0))) ?_
      refine zW.callV (r' := 3) (pc' := 19) dX1_canSign_16 rfl l_X1_139 rfl hx ⟨rfl, (Nat.le_of_ble_eq_true rfl)⟩ rfl (c_isSignable hx hP hJ hN hT hi hp (m := m) (by omega)) (zcc rfl (zcc rfl zc0)) rfl (Nat.le_of_ble_eq_true rfl) (Nat.le_of_ble_eq_true rfl) (Nat.le_of_ble_eq_true rfl) (fun _ _ q9 => ?_) (fun _ _ q9 => by cases q9.1)
      obtain ⟨q8, e9⟩ := q9
      cases q8
      replace e9 := e9.symm
      subst e9
      refine zW.iret dX1_canSign_19 rfl (by split <;> rfl) ?_
      exact cAns.ok (by unfold qCanS; rw [hf, ← hm]; refine (if_pos q).trans ?_; rw [e])
    · refine zW.callS (r' := 0) (pc' := 10) dX1_canSign_7 rfl l_X1_136 rfl (w_xisWave0 q) (zcc rfl zc0) rfl (Nat.le_of_ble_eq_true rfl) (Nat.le_of_ble_eq_true rfl) (Nat.le_of_ble_eq_true rfl) (fun _ _ q9 => ?_) (fun _ _ q9 => by cases q9.1)
      obtain ⟨q8, e9⟩ := q9
      cases q8
      replace e9 := e9.symm
      subst e9
      refine zW.callS (r' := 2) (pc' := 13) dX1_canSign_10 rfl l_X1_88 rfl (w_chkArgument0) (zcc rfl zc0) rfl (Nat.le_of_ble_eq_true rfl) (Nat.le_of_ble_eq_true rfl) (Nat.le_of_ble_eq_true rfl) (fun _ _ q9 => by cases q9.1) (fun _ _ q9 => ?_)
      obtain ⟨q8, e9⟩ := q9
      cases q8
      replace e9 := e9.symm
      subst e9
      refine zX.out0 rfl ?_
      exact cAns.no (by unfold qCanS; rw [hf]; exact if_neg q) rfl
theorem c_canCountersign (hx : h x = some (0, .ref st :: fs)) (hP : cP h O st ll aq re rt ea ha er hr mc xs qs rs s) (hJ : sJ tt nn s) (hN : nn ≤ 10000) (hT : tt ≤ 100000) : zK G mX1_canCountersign 40 5 [.ref x, .int id, .int y] h (cAns [eElt, eArg] h (qCanC s id y)) := by
  have hB := hJ.1.cB hN
  show zW G mX1_canCountersign 40 5 0 [.ref x, .int id, .int y, zho] [] h _
  refine zW.aload_n (pc' := 1) dX1_canCountersign_0 rfl rfl zg0 rfl ?_
  refine zW.iload_n (pc' := 2) dX1_canCountersign_1 rfl rfl (zgS (zg0)) ?_
  cases hf : sFind s.2.1 id with
  | none =>
    refine zW.callV (r' := 4) (pc' := 5) dX1_canCountersign_2 rfl l_X1_133 rfl hx ⟨rfl, (Nat.le_of_ble_eq_true rfl)⟩ rfl (w_claim0 hx hP hB hf) (zcc rfl zc0) rfl (Nat.le_of_ble_eq_true rfl) (Nat.le_of_ble_eq_true rfl) (Nat.le_of_ble_eq_true rfl) (fun _ _ q9 => by cases q9.1) (fun _ _ q9 => ?_)
    obtain ⟨q8, e9⟩ := q9
    cases q8
    replace e9 := e9.symm
    subst e9
    refine zX.out0 rfl ?_
    exact cAns.no (by unfold qCanC; rw [hf]) rfl
  | some i =>
    have hi := sFind_lt hf
    obtain ⟨p, hp, hc⟩ := hP.2.1.2.at hi
    refine zW.callV (r' := 2) (pc' := 5) dX1_canCountersign_2 rfl l_X1_133 rfl hx ⟨rfl, (Nat.le_of_ble_eq_true rfl)⟩ rfl (w_claim1 hx hP hB hf hp) (zcc rfl zc0) rfl (Nat.le_of_ble_eq_true rfl) (Nat.le_of_ble_eq_true rfl) (Nat.le_of_ble_eq_true rfl) (fun _ _ q9 => ?_) (fun _ _ q9 => by cases q9.1)
    obtain ⟨q8, e9⟩ := q9
    cases q8
    replace e9 := e9.symm
    subst e9
    refine zW.astore_n (pc' := 6) dX1_canCountersign_5 rfl rfl (Nat.le_of_ble_eq_true rfl) rfl (zsS (zsS (zsS (zs0)))) ?_
    refine zW.iload_n (pc' := 7) dX1_canCountersign_6 rfl rfl (zgS (zgS (zg0))) ?_
    by_cases q : sIn y (nI 0) (nI 3) = true
    · refine zW.callS (r' := 0) (pc' := 10) dX1_canCountersign_7 rfl l_X1_149 rfl (w_xisRock1 q) (zcc rfl zc0) rfl (Nat.le_of_ble_eq_true rfl) (Nat.le_of_ble_eq_true rfl) (Nat.le_of_ble_eq_true rfl) (fun _ _ q9 => ?_) (fun _ _ q9 => by cases q9.1)
      obtain ⟨q8, e9⟩ := q9
      cases q8
      replace e9 := e9.symm
      subst e9
      refine zW.callS (r' := 0) (pc' := 13) dX1_canCountersign_10 rfl l_X1_88 rfl (w_chkArgument1) (zcc rfl zc0) rfl (Nat.le_of_ble_eq_true rfl) (Nat.le_of_ble_eq_true rfl) (Nat.le_of_ble_eq_true rfl) (fun _ _ q9 => ?_) (fun _ _ q9 => by cases q9.1)
      obtain ⟨q8, e9⟩ := q9
      cases q8
      replace e9 := e9.symm
      subst e9
      obtain ⟨m, hm, -, h3, e⟩ := sIn_nat q (by decide) (by decide)
      rw [hm]
      refine zW.aload_n (pc' := 14) dX1_canCountersign_13 rfl rfl zg0 rfl ?_
      refine zW.aload_n (pc' := 15) dX1_canCountersign_14 rfl rfl (zgS (zgS (zgS (zg0)))) rfl ?_
      refine zW.iload_n (pc' := 16) dX1_canCountersign_15 rfl rfl (zgS (zgS (zg0))) ?_
      refine zW.callV (r' := 3) (pc' := 19) dX1_canCountersign_16 rfl l_X1_152 rfl hx ⟨rfl, (Nat.le_of_ble_eq_true rfl)⟩ rfl (c_isCountersignable hx hP hJ hN hT hi hp (m := m) (by omega)) (zcc rfl (zcc rfl zc0)) rfl (Nat.le_of_ble_eq_true rfl) (Nat.le_of_ble_eq_true rfl) (Nat.le_of_ble_eq_true rfl) (fun _ _ q9 => ?_) (fun _ _ q9 => by cases q9.1)
      obtain ⟨q8, e9⟩ := q9
      cases q8
      replace e9 := e9.symm
      subst e9
      refine zW.iret dX1_canCountersign_19 rfl (by split <;> rfl) ?_
      exact cAns.ok (by unfold qCanC; rw [hf, ← hm]; refine (if_pos q).trans ?_; rw [e])
    · refine zW.callS (r' := 0) (pc' := 10) dX1_canCountersign_7 rfl l_X1_149 rfl (w_xisRock0 q) (zcc rfl zc0) rfl (Nat.le_of_ble_eq_true rfl) (Nat.le_of_ble_eq_true rfl) (Nat.le_of_ble_eq_true rfl) (fun _ _ q9 => ?_) (fun _ _ q9 => by cases q9.1)
      obtain ⟨q8, e9⟩ := q9
      cases q8
      replace e9 := e9.symm
      subst e9
      refine zW.callS (r' := 2) (pc' := 13) dX1_canCountersign_10 rfl l_X1_88 rfl (w_chkArgument0) (zcc rfl zc0) rfl (Nat.le_of_ble_eq_true rfl) (Nat.le_of_ble_eq_true rfl) (Nat.le_of_ble_eq_true rfl) (fun _ _ q9 => by cases q9.1) (fun _ _ q9 => ?_)
      obtain ⟨q8, e9⟩ := q9
      cases q8
      replace e9 := e9.symm
      subst e9
      refine zX.out0 rfl ?_
      exact cAns.no (by unfold qCanC; rw [hf]; exact if_neg q) rfl
theorem c_signaturesOf (hx : h x = some (0, .ref st :: fs)) (hP : cP h O st ll aq re rt ea ha er hr mc xs qs rs s) (hJ : sJ tt nn s) (hN : nn ≤ 10000) (hT : tt ≤ 100000) : zK G mX1_signaturesOf 40 3 [.ref x, .int y] h (cAns [eArg] h (qSigs s 6 y)) := by
  show zW G mX1_signaturesOf 40 3 0 [.ref x, .int y] [] h _
  refine zW.iload_n (pc' := 1) dX1_signaturesOf_0 rfl rfl (zgS (zg0)) ?_
  by_cases q : sIn y (nI 0) (nI 3) = true
  · refine zW.callS (r' := 0) (pc' := 4) dX1_signaturesOf_1 rfl l_X1_136 rfl (w_xisWave1 q) (zcc rfl zc0) rfl (Nat.le_of_ble_eq_true rfl) (Nat.le_of_ble_eq_true rfl) (Nat.le_of_ble_eq_true rfl) (fun _ _ q9 => ?_) (fun _ _ q9 => by cases q9.1)
    obtain ⟨q8, e9⟩ := q9
    cases q8
    replace e9 := e9.symm
    subst e9
    refine zW.callS (r' := 0) (pc' := 7) dX1_signaturesOf_4 rfl l_X1_88 rfl (w_chkArgument1) (zcc rfl zc0) rfl (Nat.le_of_ble_eq_true rfl) (Nat.le_of_ble_eq_true rfl) (Nat.le_of_ble_eq_true rfl) (fun _ _ q9 => ?_) (fun _ _ q9 => by cases q9.1)
    obtain ⟨q8, e9⟩ := q9
    cases q8
    replace e9 := e9.symm
    subst e9
    obtain ⟨m, hm, -, h3, e⟩ := sIn_nat q (by decide) (by decide)
    rw [hm]
    refine zW.aload_n (pc' := 8) dX1_signaturesOf_7 rfl rfl zg0 rfl ?_
    refine zW.iload_n (pc' := 9) dX1_signaturesOf_8 rfl rfl (zgS (zg0)) ?_
    refine zW.callV (r' := 3) (pc' := 12) dX1_signaturesOf_9 rfl l_X1_123 rfl hx ⟨rfl, (Nat.le_of_ble_eq_true rfl)⟩ rfl (c_signatures hx hP hJ hN hT (m := m) (by omega)) (zcc rfl zc0) rfl (Nat.le_of_ble_eq_true rfl) (Nat.le_of_ble_eq_true rfl) (Nat.le_of_ble_eq_true rfl) (fun _ _ q9 => ?_) (fun _ _ q9 => by cases q9.1)
    obtain ⟨q8, e9⟩ := q9
    cases q8
    replace e9 := e9.symm
    subst e9
    refine zW.iret dX1_signaturesOf_12 rfl (rfl) ?_
    exact cAns.ok (by unfold qSigs; rw [← hm, if_pos q, e])
  · refine zW.callS (r' := 0) (pc' := 4) dX1_signaturesOf_1 rfl l_X1_136 rfl (w_xisWave0 q) (zcc rfl zc0) rfl (Nat.le_of_ble_eq_true rfl) (Nat.le_of_ble_eq_true rfl) (Nat.le_of_ble_eq_true rfl) (fun _ _ q9 => ?_) (fun _ _ q9 => by cases q9.1)
    obtain ⟨q8, e9⟩ := q9
    cases q8
    replace e9 := e9.symm
    subst e9
    refine zW.callS (r' := 2) (pc' := 7) dX1_signaturesOf_4 rfl l_X1_88 rfl (w_chkArgument0) (zcc rfl zc0) rfl (Nat.le_of_ble_eq_true rfl) (Nat.le_of_ble_eq_true rfl) (Nat.le_of_ble_eq_true rfl) (fun _ _ q9 => by cases q9.1) (fun _ _ q9 => ?_)
    obtain ⟨q8, e9⟩ := q9
    cases q8
    replace e9 := e9.symm
    subst e9
    refine zX.out0 rfl ?_
    exact cAns.no (by unfold qSigs; rw [if_neg q]) rfl
theorem c_countersignaturesOf (hx : h x = some (0, .ref st :: fs)) (hP : cP h O st ll aq re rt ea ha er hr mc xs qs rs s) (hJ : sJ tt nn s) (hN : nn ≤ 10000) (hT : tt ≤ 100000) : zK G mX1_countersignaturesOf 40 3 [.ref x, .int y] h (cAns [eArg] h (qSigs s 7 y)) := by
  show zW G mX1_countersignaturesOf 40 3 0 [.ref x, .int y] [] h _
  refine zW.iload_n (pc' := 1) dX1_countersignaturesOf_0 rfl rfl (zgS (zg0)) ?_
  by_cases q : sIn y (nI 0) (nI 3) = true
  · refine zW.callS (r' := 0) (pc' := 4) dX1_countersignaturesOf_1 rfl l_X1_149 rfl (w_xisRock1 q) (zcc rfl zc0) rfl (Nat.le_of_ble_eq_true rfl) (Nat.le_of_ble_eq_true rfl) (Nat.le_of_ble_eq_true rfl) (fun _ _ q9 => ?_) (fun _ _ q9 => by cases q9.1)
    obtain ⟨q8, e9⟩ := q9
    cases q8
    replace e9 := e9.symm
    subst e9
    refine zW.callS (r' := 0) (pc' := 7) dX1_countersignaturesOf_4 rfl l_X1_88 rfl (w_chkArgument1) (zcc rfl zc0) rfl (Nat.le_of_ble_eq_true rfl) (Nat.le_of_ble_eq_true rfl) (Nat.le_of_ble_eq_true rfl) (fun _ _ q9 => ?_) (fun _ _ q9 => by cases q9.1)
    obtain ⟨q8, e9⟩ := q9
    cases q8
    replace e9 := e9.symm
    subst e9
    obtain ⟨m, hm, -, h3, e⟩ := sIn_nat q (by decide) (by decide)
    rw [hm]
    refine zW.aload_n (pc' := 8) dX1_countersignaturesOf_7 rfl rfl zg0 rfl ?_
    refine zW.iload_n (pc' := 9) dX1_countersignaturesOf_8 rfl rfl (zgS (zg0)) ?_
    refine zW.callV (r' := 3) (pc' := 12) dX1_countersignaturesOf_9 rfl l_X1_130 rfl hx ⟨rfl, (Nat.le_of_ble_eq_true rfl)⟩ rfl (c_countersignatures hx hP hJ hN hT (m := m) (by omega)) (zcc rfl zc0) rfl (Nat.le_of_ble_eq_true rfl) (Nat.le_of_ble_eq_true rfl) (Nat.le_of_ble_eq_true rfl) (fun _ _ q9 => ?_) (fun _ _ q9 => by cases q9.1)
    obtain ⟨q8, e9⟩ := q9
    cases q8
    replace e9 := e9.symm
    subst e9
    refine zW.iret dX1_countersignaturesOf_12 rfl (rfl) ?_
    exact cAns.ok (by unfold qSigs; rw [← hm, if_pos q, e])
  · refine zW.callS (r' := 0) (pc' := 4) dX1_countersignaturesOf_1 rfl l_X1_149 rfl (w_xisRock0 q) (zcc rfl zc0) rfl (Nat.le_of_ble_eq_true rfl) (Nat.le_of_ble_eq_true rfl) (Nat.le_of_ble_eq_true rfl) (fun _ _ q9 => ?_) (fun _ _ q9 => by cases q9.1)
    obtain ⟨q8, e9⟩ := q9
    cases q8
    replace e9 := e9.symm
    subst e9
    refine zW.callS (r' := 2) (pc' := 7) dX1_countersignaturesOf_4 rfl l_X1_88 rfl (w_chkArgument0) (zcc rfl zc0) rfl (Nat.le_of_ble_eq_true rfl) (Nat.le_of_ble_eq_true rfl) (Nat.le_of_ble_eq_true rfl) (fun _ _ q9 => by cases q9.1) (fun _ _ q9 => ?_)
    obtain ⟨q8, e9⟩ := q9
    cases q8
    replace e9 := e9.symm
    subst e9
    refine zX.out0 rfl ?_
    exact cAns.no (by unfold qSigs; rw [if_neg q]) rfl
theorem c_heaviest (hx : h x = some (0, .ref st :: fs)) (hP : cP h O st ll aq re rt ea ha er hr mc xs qs rs s) (hJ : sJ tt nn s) (hN : nn ≤ 10000) (hT : tt ≤ 100000) (hk : zkn G h) (hL : zkL G) : zK G mX1_heaviest 40 4 [.ref x] h (cAns [eElt] h (qHeaviest s)) := by
  have hst := hP.1
  have hb := (hk _ _ (hL 7 (by omega))).1
  have hbd : ∀ c ∈ s.2.1, c 3 < 2 ^ 30 := fun c hc => hJ.1.lt hN hT hc (by decide)
  have low := w_stLowest (G := G) hP hJ.1.len lc7 (Nat.le_of_ble_eq_true rfl) hb rfl rfl zc0 (Nat.le_of_ble_eq_true rfl) (V := fun c => -nI (c 3)) (fun H a c _ _ hc => w_lmHvy hc)
  have k1 : ∀ p : Nat × Nat, s.2.1.length ≠ 0 → xs[sLowK (fun c => -nI (c 3)) s.2.1 (s.2.1.length - 1)]? = some p → zK G mX1_lowest 16 2 [.ref x, .ref (zg_a G (50 + 7))] h (zPu h (some (.ref p.2))) := by
    intro p q0 hp
    rw [if_neg q0, show cAd xs (sLowK (fun c => -nI (c 3)) s.2.1 (s.2.1.length - 1)) = some p.2 by unfold cAd; rw [hp]; rfl] at low
    show zW G mX1_lowest 16 2 0 [.ref x, .ref (zg_a G (50 + 7)), zho] [] h _
    refine zW.aload_n (pc' := 1) dX1_lowest_0 rfl rfl zg0 rfl ?_
    refine zW.get (pc' := 4) dX1_lowest_1 rfl f_X1_10_0 hx ⟨rfl, (Nat.le_of_ble_eq_true rfl)⟩ rfl ?_
    refine zW.aload_n (pc' := 5) dX1_lowest_4 rfl rfl (zgS (zg0)) rfl ?_
    refine zW.callV (r' := 2) (pc' := 8) dX1_lowest_5 rfl l_X1_222 rfl hst ⟨rfl, (Nat.le_of_ble_eq_true rfl)⟩ rfl (low) (zcc rfl zc0) rfl (Nat.le_of_ble_eq_true rfl) (Nat.le_of_ble_eq_true rfl) (Nat.le_of_ble_eq_true rfl) (fun _ _ q9 => ?_) (fun _ _ q9 => by cases q9.1)
    obtain ⟨q8, e9⟩ := q9
    cases q8
    replace e9 := e9.symm
    subst e9
    refine zW.astore_n (pc' := 9) dX1_lowest_8 rfl rfl (Nat.le_of_ble_eq_true rfl) rfl (zsS (zsS (zs0))) ?_
    refine zW.aload_n (pc' := 10) dX1_lowest_9 rfl rfl (zgS (zgS (zg0))) rfl ?_
    refine zW.ifnull (pc' := 13) 17 dX1_lowest_10 rfl (by decide) rfl (fun b1 => ?_) (fun b1 => ?_)
    · cases b1
    refine zW.iconst (pc' := 14) (nI 1) dX1_lowest_13 rfl (by decide) ?_
    refine zW.goto 18 dX1_lowest_14 (by decide) ?_
    refine zW.callS (r' := 0) (pc' := 21) dX1_lowest_18 rfl l_X1_80 rfl (w_chkElement1) (zcc rfl zc0) rfl (Nat.le_of_ble_eq_true rfl) (Nat.le_of_ble_eq_true rfl) (Nat.le_of_ble_eq_true rfl) (fun _ _ q9 => ?_) (fun _ _ q9 => by cases q9.1)
    obtain ⟨q8, e9⟩ := q9
    cases q8
    replace e9 := e9.symm
    subst e9
    refine zW.aload_n (pc' := 22) dX1_lowest_21 rfl rfl (zgS (zgS (zg0))) rfl ?_
    refine zW.aret dX1_lowest_22 rfl (Or.inl ⟨_, rfl⟩) rfl ?_
    exact ⟨rfl, rfl⟩
  have k0 : s.2.1.length = 0 → zK G mX1_lowest 16 4 [.ref x, .ref (zg_a G (50 + 7))] h (zTr h eElt) := by
    intro q0
    rw [if_pos q0] at low
    show zW G mX1_lowest 16 4 0 [.ref x, .ref (zg_a G (50 + 7)), zho] [] h _
    refine zW.aload_n (pc' := 1) dX1_lowest_0 rfl rfl zg0 rfl ?_
    refine zW.get (pc' := 4) dX1_lowest_1 rfl f_X1_10_0 hx ⟨rfl, (Nat.le_of_ble_eq_true rfl)⟩ rfl ?_
    refine zW.aload_n (pc' := 5) dX1_lowest_4 rfl rfl (zgS (zg0)) rfl ?_
    refine zW.callV (r' := 2) (pc' := 8) dX1_lowest_5 rfl l_X1_222 rfl hst ⟨rfl, (Nat.le_of_ble_eq_true rfl)⟩ rfl (low) (zcc rfl zc0) rfl (Nat.le_of_ble_eq_true rfl) (Nat.le_of_ble_eq_true rfl) (Nat.le_of_ble_eq_true rfl) (fun _ _ q9 => ?_) (fun _ _ q9 => by cases q9.1)
    obtain ⟨q8, e9⟩ := q9
    cases q8
    replace e9 := e9.symm
    subst e9
    refine zW.astore_n (pc' := 9) dX1_lowest_8 rfl rfl (Nat.le_of_ble_eq_true rfl) rfl (zsS (zsS (zs0))) ?_
    refine zW.aload_n (pc' := 10) dX1_lowest_9 rfl rfl (zgS (zgS (zg0))) rfl ?_
    refine zW.ifnull (pc' := 13) 17 dX1_lowest_10 rfl (by decide) rfl (fun b1 => ?_) (fun b1 => ?_)
    rotate_left
    · exact absurd rfl b1
    refine zW.iconst (pc' := 18) (nI 0) dX1_lowest_17 rfl (by decide) ?_
    refine zW.callS (r' := 2) (pc' := 21) dX1_lowest_18 rfl l_X1_80 rfl (w_chkElement0) (zcc rfl zc0) rfl (Nat.le_of_ble_eq_true rfl) (Nat.le_of_ble_eq_true rfl) (Nat.le_of_ble_eq_true rfl) (fun _ _ q9 => by cases q9.1) (fun _ _ q9 => ?_)
    obtain ⟨q8, e9⟩ := q9
    cases q8
    replace e9 := e9.symm
    subst e9
    refine zX.out0 rfl ?_
    exact ⟨rfl, rfl⟩
  show zW G mX1_heaviest 40 4 0 [.ref x] [] h _
  refine zW.aload_n (pc' := 1) dX1_heaviest_0 rfl rfl zg0 rfl ?_
  refine zW.lamC (i := 7) (pc' := 6) dX1_heaviest_1 rfl rfl rfl rfl rfl (Nat.le_of_ble_eq_true rfl) (Nat.le_of_ble_eq_true rfl) ?_
  by_cases q : s.2.1.length = 0
  · refine zW.callV (r' := 4) (pc' := 9) dX1_heaviest_6 rfl l_X1_229 rfl hx ⟨rfl, (Nat.le_of_ble_eq_true rfl)⟩ rfl (k0 q) (zcc rfl zc0) rfl (Nat.le_of_ble_eq_true rfl) (Nat.le_of_ble_eq_true rfl) (Nat.le_of_ble_eq_true rfl) (fun _ _ q9 => by cases q9.1) (fun _ _ q9 => ?_)
    obtain ⟨q8, e9⟩ := q9
    cases q8
    replace e9 := e9.symm
    subst e9
    refine zX.out0 rfl ?_
    exact cAns.no (by unfold qHeaviest; rw [if_pos q]) rfl
  · have hle := sLowK_le (V := fun c => -nI (c 3)) (cs := s.2.1) (k := s.2.1.length - 1)
    obtain ⟨p, hp, hc⟩ := hP.2.1.2.at (k := sLowK (fun c => -nI (c 3)) s.2.1 (s.2.1.length - 1)) (by omega)
    have hc2 := cCl_l hc
    refine zW.callV (r' := 2) (pc' := 9) dX1_heaviest_6 rfl l_X1_229 rfl hx ⟨rfl, (Nat.le_of_ble_eq_true rfl)⟩ rfl (k1 p q hp) (zcc rfl zc0) rfl (Nat.le_of_ble_eq_true rfl) (Nat.le_of_ble_eq_true rfl) (Nat.le_of_ble_eq_true rfl) (fun _ _ q9 => ?_) (fun _ _ q9 => by cases q9.1)
    obtain ⟨q8, e9⟩ := q9
    cases q8
    replace e9 := e9.symm
    subst e9
    refine zW.get (pc' := 12) dX1_heaviest_9 rfl f_X1_194_2 hc2 ⟨rfl, (Nat.le_of_ble_eq_true rfl)⟩ rfl ?_
    refine zW.iret dX1_heaviest_12 rfl (rfl) ?_
    exact cAns.ok (by unfold qHeaviest; rw [if_neg q, ← sLow_hvy hbd (by omega)])
theorem c_nextExpiry (hx : h x = some (0, .ref st :: fs)) (hP : cP h O st ll aq re rt ea ha er hr mc xs qs rs s) (hJ : sJ tt nn s) (hN : nn ≤ 10000) (hT : tt ≤ 100000) (hk : zkn G h) (hL : zkL G) : zK G mX1_nextExpiry 40 4 [.ref x] h (cAns [eElt] h (qNext s)) := by
  have hst := hP.1
  have hb := (hk _ _ (hL 8 (by omega))).1
  have hbd : ∀ c ∈ s.2.1, c 4 < 2 ^ 30 := fun c hc => hJ.1.lt hN hT hc (by decide)
  have low := w_stLowest (G := G) hP hJ.1.len lc8 (Nat.le_of_ble_eq_true rfl) hb rfl rfl zc0 (Nat.le_of_ble_eq_true rfl) (V := fun c => nI (c 4)) (fun H a c _ _ hc => w_lmExp hc)
  have k1 : ∀ p : Nat × Nat, s.2.1.length ≠ 0 → xs[sLowK (fun c => nI (c 4)) s.2.1 (s.2.1.length - 1)]? = some p → zK G mX1_lowest 16 2 [.ref x, .ref (zg_a G (50 + 8))] h (zPu h (some (.ref p.2))) := by
    intro p q0 hp
    rw [if_neg q0, show cAd xs (sLowK (fun c => nI (c 4)) s.2.1 (s.2.1.length - 1)) = some p.2 by unfold cAd; rw [hp]; rfl] at low
    show zW G mX1_lowest 16 2 0 [.ref x, .ref (zg_a G (50 + 8)), zho] [] h _
    refine zW.aload_n (pc' := 1) dX1_lowest_0 rfl rfl zg0 rfl ?_
    refine zW.get (pc' := 4) dX1_lowest_1 rfl f_X1_10_0 hx ⟨rfl, (Nat.le_of_ble_eq_true rfl)⟩ rfl ?_
    refine zW.aload_n (pc' := 5) dX1_lowest_4 rfl rfl (zgS (zg0)) rfl ?_
    refine zW.callV (r' := 2) (pc' := 8) dX1_lowest_5 rfl l_X1_222 rfl hst ⟨rfl, (Nat.le_of_ble_eq_true rfl)⟩ rfl (low) (zcc rfl zc0) rfl (Nat.le_of_ble_eq_true rfl) (Nat.le_of_ble_eq_true rfl) (Nat.le_of_ble_eq_true rfl) (fun _ _ q9 => ?_) (fun _ _ q9 => by cases q9.1)
    obtain ⟨q8, e9⟩ := q9
    cases q8
    replace e9 := e9.symm
    subst e9
    refine zW.astore_n (pc' := 9) dX1_lowest_8 rfl rfl (Nat.le_of_ble_eq_true rfl) rfl (zsS (zsS (zs0))) ?_
    refine zW.aload_n (pc' := 10) dX1_lowest_9 rfl rfl (zgS (zgS (zg0))) rfl ?_
    refine zW.ifnull (pc' := 13) 17 dX1_lowest_10 rfl (by decide) rfl (fun b1 => ?_) (fun b1 => ?_)
    · cases b1
    refine zW.iconst (pc' := 14) (nI 1) dX1_lowest_13 rfl (by decide) ?_
    refine zW.goto 18 dX1_lowest_14 (by decide) ?_
    refine zW.callS (r' := 0) (pc' := 21) dX1_lowest_18 rfl l_X1_80 rfl (w_chkElement1) (zcc rfl zc0) rfl (Nat.le_of_ble_eq_true rfl) (Nat.le_of_ble_eq_true rfl) (Nat.le_of_ble_eq_true rfl) (fun _ _ q9 => ?_) (fun _ _ q9 => by cases q9.1)
    obtain ⟨q8, e9⟩ := q9
    cases q8
    replace e9 := e9.symm
    subst e9
    refine zW.aload_n (pc' := 22) dX1_lowest_21 rfl rfl (zgS (zgS (zg0))) rfl ?_
    refine zW.aret dX1_lowest_22 rfl (Or.inl ⟨_, rfl⟩) rfl ?_
    exact ⟨rfl, rfl⟩
  have k0 : s.2.1.length = 0 → zK G mX1_lowest 16 4 [.ref x, .ref (zg_a G (50 + 8))] h (zTr h eElt) := by
    intro q0
    rw [if_pos q0] at low
    show zW G mX1_lowest 16 4 0 [.ref x, .ref (zg_a G (50 + 8)), zho] [] h _
    refine zW.aload_n (pc' := 1) dX1_lowest_0 rfl rfl zg0 rfl ?_
    refine zW.get (pc' := 4) dX1_lowest_1 rfl f_X1_10_0 hx ⟨rfl, (Nat.le_of_ble_eq_true rfl)⟩ rfl ?_
    refine zW.aload_n (pc' := 5) dX1_lowest_4 rfl rfl (zgS (zg0)) rfl ?_
    refine zW.callV (r' := 2) (pc' := 8) dX1_lowest_5 rfl l_X1_222 rfl hst ⟨rfl, (Nat.le_of_ble_eq_true rfl)⟩ rfl (low) (zcc rfl zc0) rfl (Nat.le_of_ble_eq_true rfl) (Nat.le_of_ble_eq_true rfl) (Nat.le_of_ble_eq_true rfl) (fun _ _ q9 => ?_) (fun _ _ q9 => by cases q9.1)
    obtain ⟨q8, e9⟩ := q9
    cases q8
    replace e9 := e9.symm
    subst e9
    refine zW.astore_n (pc' := 9) dX1_lowest_8 rfl rfl (Nat.le_of_ble_eq_true rfl) rfl (zsS (zsS (zs0))) ?_
    refine zW.aload_n (pc' := 10) dX1_lowest_9 rfl rfl (zgS (zgS (zg0))) rfl ?_
    refine zW.ifnull (pc' := 13) 17 dX1_lowest_10 rfl (by decide) rfl (fun b1 => ?_) (fun b1 => ?_)
    rotate_left
    · exact absurd rfl b1
    refine zW.iconst (pc' := 18) (nI 0) dX1_lowest_17 rfl (by decide) ?_
    refine zW.callS (r' := 2) (pc' := 21) dX1_lowest_18 rfl l_X1_80 rfl (w_chkElement0) (zcc rfl zc0) rfl (Nat.le_of_ble_eq_true rfl) (Nat.le_of_ble_eq_true rfl) (Nat.le_of_ble_eq_true rfl) (fun _ _ q9 => by cases q9.1) (fun _ _ q9 => ?_)
    obtain ⟨q8, e9⟩ := q9
    cases q8
    replace e9 := e9.symm
    subst e9
    refine zX.out0 rfl ?_
    exact ⟨rfl, rfl⟩
  show zW G mX1_nextExpiry 40 4 0 [.ref x] [] h _
  refine zW.aload_n (pc' := 1) dX1_nextExpiry_0 rfl rfl zg0 rfl ?_
  refine zW.lamC (i := 8) (pc' := 6) dX1_nextExpiry_1 rfl rfl rfl rfl rfl (Nat.le_of_ble_eq_true rfl) (Nat.le_of_ble_eq_true rfl) ?_
  by_cases q : s.2.1.length = 0
  · refine zW.callV (r' := 4) (pc' := 9) dX1_nextExpiry_6 rfl l_X1_229 rfl hx ⟨rfl, (Nat.le_of_ble_eq_true rfl)⟩ rfl (k0 q) (zcc rfl zc0) rfl (Nat.le_of_ble_eq_true rfl) (Nat.le_of_ble_eq_true rfl) (Nat.le_of_ble_eq_true rfl) (fun _ _ q9 => by cases q9.1) (fun _ _ q9 => ?_)
    obtain ⟨q8, e9⟩ := q9
    cases q8
    replace e9 := e9.symm
    subst e9
    refine zX.out0 rfl ?_
    exact cAns.no (by unfold qNext; rw [if_pos q]) rfl
  · have hle := sLowK_le (V := fun c => nI (c 4)) (cs := s.2.1) (k := s.2.1.length - 1)
    obtain ⟨p, hp, hc⟩ := hP.2.1.2.at (k := sLowK (fun c => nI (c 4)) s.2.1 (s.2.1.length - 1)) (by omega)
    have hc2 := cCl_l hc
    refine zW.callV (r' := 2) (pc' := 9) dX1_nextExpiry_6 rfl l_X1_229 rfl hx ⟨rfl, (Nat.le_of_ble_eq_true rfl)⟩ rfl (k1 p q hp) (zcc rfl zc0) rfl (Nat.le_of_ble_eq_true rfl) (Nat.le_of_ble_eq_true rfl) (Nat.le_of_ble_eq_true rfl) (fun _ _ q9 => ?_) (fun _ _ q9 => by cases q9.1)
    obtain ⟨q8, e9⟩ := q9
    cases q8
    replace e9 := e9.symm
    subst e9
    refine zW.get (pc' := 12) dX1_nextExpiry_9 rfl f_X1_146_2 hc2 ⟨rfl, (Nat.le_of_ble_eq_true rfl)⟩ rfl ?_
    refine zW.iret dX1_nextExpiry_12 rfl (rfl) ?_
    exact cAns.ok (by unfold qNext; rw [if_neg q, ← sLow_soon hbd (by omega)])
theorem c_nextToAudit (hx : h x = some (0, .ref st :: fs)) (hP : cP h O st ll aq re rt ea ha er hr mc xs qs rs s) : zK G mX1_nextToAudit 40 2 [.ref x] h (cAns [eElt] h (qNextAudit s)) := by
  have hst := hP.1
  obtain ⟨hQ, hI⟩ := hP.2.2.1
  have hq := hQ.2.1
  show zW G mX1_nextToAudit 40 2 0 [.ref x] [] h _
  refine zW.aload_n (pc' := 1) dX1_nextToAudit_0 rfl rfl zg0 rfl ?_
  refine zW.get (pc' := 4) dX1_nextToAudit_1 rfl f_X1_10_0 hx ⟨rfl, (Nat.le_of_ble_eq_true rfl)⟩ rfl ?_
  refine zW.get (pc' := 7) dX1_nextToAudit_4 rfl f_X1_231_1 hst ⟨rfl, (Nat.le_of_ble_eq_true rfl)⟩ rfl ?_
  refine zW.callV (r' := 0) (pc' := 10) dX1_nextToAudit_7 rfl l_X1_234 rfl hq ⟨rfl, (Nat.le_of_ble_eq_true rfl)⟩ rfl (w_dqEmpty hQ) zc0 rfl (Nat.le_of_ble_eq_true rfl) (Nat.le_of_ble_eq_true rfl) (Nat.le_of_ble_eq_true rfl) (fun _ _ q9 => ?_) (fun _ _ q9 => by cases q9.1)
  obtain ⟨q8, e9⟩ := q9
  cases q8
  replace e9 := e9.symm
  subst e9
  cases e : s.2.2.1 with
  | nil =>
    have e0 : qs = [] := List.length_eq_zero_iff.mp (by rw [hI.1, e]; rfl)
    rw [if_pos e0]
    refine zW.if_neN (pc' := 13) 17 dX1_nextToAudit_10 rfl (by decide) (by omega) (fun b9 => ?_) (fun b9 => absurd b9 (by omega))
    refine zW.iconst (pc' := 18) (nI 0) dX1_nextToAudit_17 rfl (by decide) ?_
    refine zW.callS (r' := 2) (pc' := 21) dX1_nextToAudit_18 rfl l_X1_80 rfl (w_chkElement0) (zcc rfl zc0) rfl (Nat.le_of_ble_eq_true rfl) (Nat.le_of_ble_eq_true rfl) (Nat.le_of_ble_eq_true rfl) (fun _ _ q9 => by cases q9.1) (fun _ _ q9 => ?_)
    obtain ⟨q8, e9⟩ := q9
    cases q8
    replace e9 := e9.symm
    subst e9
    refine zX.out0 rfl ?_
    exact cAns.no (by unfold qNextAudit; rw [e]) rfl
  | cons n l =>
    obtain ⟨q0, l0, e0⟩ : ∃ q0 l0, qs = q0 :: l0 := by
      cases hq9 : qs with
      | nil => have := hI.1; rw [hq9, e] at this; cases this
      | cons a b => exact ⟨a, b, rfl⟩
    rw [if_neg (by rw [e0]; exact fun q => by cases q)]
    subst e0
    obtain ⟨kq, hc0, -⟩ := hI.2 0 q0 n rfl (by rw [e]; rfl)
    have hk15 : kq % 1000 = 15 ∧ 15 < 50 := by rcases hc0.2 with q | q <;> subst q <;> decide
    have hcc := hc0.1
    refine zW.if_neN (pc' := 13) 17 dX1_nextToAudit_10 rfl (by decide) (by omega) (fun b9 => absurd b9 (by omega)) (fun b9 => ?_)
    refine zW.iconst (pc' := 14) (nI 1) dX1_nextToAudit_13 rfl (by decide) ?_
    refine zW.goto 18 dX1_nextToAudit_14 (by decide) ?_
    refine zW.callS (r' := 0) (pc' := 21) dX1_nextToAudit_18 rfl l_X1_80 rfl (w_chkElement1) (zcc rfl zc0) rfl (Nat.le_of_ble_eq_true rfl) (Nat.le_of_ble_eq_true rfl) (Nat.le_of_ble_eq_true rfl) (fun _ _ q9 => ?_) (fun _ _ q9 => by cases q9.1)
    obtain ⟨q8, e9⟩ := q9
    cases q8
    replace e9 := e9.symm
    subst e9
    refine zW.aload_n (pc' := 22) dX1_nextToAudit_21 rfl rfl zg0 rfl ?_
    refine zW.get (pc' := 25) dX1_nextToAudit_22 rfl f_X1_10_0 hx ⟨rfl, (Nat.le_of_ble_eq_true rfl)⟩ rfl ?_
    refine zW.get (pc' := 28) dX1_nextToAudit_25 rfl f_X1_231_1 hst ⟨rfl, (Nat.le_of_ble_eq_true rfl)⟩ rfl ?_
    refine zW.callV (r' := 0) (pc' := 31) dX1_nextToAudit_28 rfl l_X1_235 rfl hq ⟨rfl, (Nat.le_of_ble_eq_true rfl)⟩ rfl (w_dqFirst hQ) zc0 rfl (Nat.le_of_ble_eq_true rfl) (Nat.le_of_ble_eq_true rfl) (Nat.le_of_ble_eq_true rfl) (fun _ _ q9 => ?_) (fun _ _ q9 => by cases q9.1)
    obtain ⟨q8, e9⟩ := q9
    cases q8
    replace e9 := e9.symm
    subst e9
    refine zW.castS (pc' := 34) dX1_nextToAudit_31 rfl (lw_all_tbl q1391) hcc hk15 rfl ?_
    refine zW.callV (r' := 0) (pc' := 37) dX1_nextToAudit_34 rfl l_X1_240 rfl hcc hk15 rfl (w_intValue hc0) zc0 rfl (Nat.le_of_ble_eq_true rfl) (Nat.le_of_ble_eq_true rfl) (Nat.le_of_ble_eq_true rfl) (fun _ _ q9 => ?_) (fun _ _ q9 => by cases q9.1)
    obtain ⟨q8, e9⟩ := q9
    cases q8
    replace e9 := e9.symm
    subst e9
    refine zW.iret dX1_nextToAudit_37 rfl (rfl) ?_
    exact cAns.ok (by unfold qNextAudit; rw [e])
theorem c_auditPosition (hx : h x = some (0, .ref st :: fs)) (hP : cP h O st ll aq re rt ea ha er hr mc xs qs rs s) (hJ : sJ tt nn s) (hN : nn ≤ 10000) (hT : tt ≤ 100000) : zK G mX1_auditPosition 40 4 [.ref x, .int id] h (cAns [eElt] h (qAuditPos s id)) := by
  have hB := hJ.1.cB hN
  have hst := hP.1
  obtain ⟨hQ, hI⟩ := hP.2.2.1
  have hq := hQ.2.1
  have hql := hJ.1.ql
  have h12 := hJ.1.len
  have loop : ∀ (a : Nat) (j0 : Nat), s.2.2.1[j0]? = some a → a < 2 ^ 30 → s.2.2.1.Nodup → ∀ (it : Nat) (n : h it = none) (m k : Nat) (lr : Int32) (v4 : Value), k + m = j0 → zW G mX1_auditPosition 40 0 19 [.ref x, .int (nI a), .int (nI k), .ref it, v4] [] (zup h it (cDi aq ha qs.length k lr)) (cAns [eElt] h (0, nI (s.2.2.1.idxOf a))) := by
    intro a j0 hj0 ha' hnd it n m
    have hjl : j0 < s.2.2.1.length := (List.getElem?_eq_some_iff.mp hj0).1
    have hq1 := hI.1
    induction m with
    | zero =>
      intro k lr v4 hk'
      have hi := zup_s (h := h) (a := it) (c := cDi aq ha qs.length k lr)
      have hQ1 := hQ.mk (h' := zup h it (cDi aq ha qs.length k lr)) fun b k' l _ e => (zup_n (zfresh n e)).trans e
      obtain ⟨q0, hq0⟩ : ∃ q, qs[k]? = some q := ⟨_, List.getElem?_eq_getElem (by omega)⟩
      obtain ⟨kq, hc0, -⟩ := hI.2 k q0 a hq0 (by rw [show k = j0 by omega]; exact hj0)
      have hk15 : kq % 1000 = 15 ∧ 15 < 50 := by rcases hc0.2 with q | q <;> subst q <;> decide
      refine zW.aload_n (pc' := 20) dX1_auditPosition_19 rfl rfl (zgS (zgS (zgS (zg0)))) rfl ?_
      refine zW.callF (r' := 0) (pc' := 25) dX1_auditPosition_20 rfl l_X1_247_J30 rfl hi ⟨rfl, (Nat.le_of_ble_eq_true rfl)⟩ rfl (w_diHas hi hQ.1.2) zc0 rfl (Nat.le_of_ble_eq_true rfl) (Nat.le_of_ble_eq_true rfl) (Nat.le_of_ble_eq_true rfl) (fun _ _ q9 => ?_) (fun _ _ q9 => by cases q9.1)
      obtain ⟨q8, e9⟩ := q9
      cases q8
      replace e9 := e9.symm
      subst e9
      rw [if_pos (by omega)]
      refine zW.if_eqN (pc' := 28) 56 dX1_auditPosition_25 rfl (by decide) (by omega) (fun b9 => absurd b9 (by omega)) (fun b9 => ?_)
      refine zW.aload_n (pc' := 29) dX1_auditPosition_28 rfl rfl (zgS (zgS (zgS (zg0)))) rfl ?_
      refine zW.callF (r' := 0) (pc' := 34) dX1_auditPosition_29 rfl l_X1_252_J30 rfl hi ⟨rfl, (Nat.le_of_ble_eq_true rfl)⟩ rfl (w_diNext hQ1 hi hq0) zc0 rfl (Nat.le_of_ble_eq_true rfl) (Nat.le_of_ble_eq_true rfl) (Nat.le_of_ble_eq_true rfl) (fun _ _ q9 => ?_) (fun _ _ q9 => absurd q9 zO.no)
      obtain ⟨_, q8, e1, e9, -⟩ := q9
      cases q8
      subst e1
      rw [zup_up] at e9
      subst e9
      have hc1 : cInt (zup h it (cDi aq ha qs.length (k + 1) (nI ((ha + k) % 17)))) q0 kq a := ⟨(zup_n (zfresh n hc0.1)).trans hc0.1, hc0.2⟩
      have hcc := hc1.1
      refine zW.castS (pc' := 37) dX1_auditPosition_34 rfl (lw_all_tbl q1391) hcc hk15 rfl ?_
      refine zW.callV (r' := 0) (pc' := 40) dX1_auditPosition_37 rfl l_X1_240 rfl hcc hk15 rfl (w_intValue hc1) zc0 rfl (Nat.le_of_ble_eq_true rfl) (Nat.le_of_ble_eq_true rfl) (Nat.le_of_ble_eq_true rfl) (fun _ _ q9 => ?_) (fun _ _ q9 => by cases q9.1)
      obtain ⟨q8, e9⟩ := q9
      cases q8
      replace e9 := e9.symm
      subst e9
      refine zW.istore (pc' := 42) dX1_auditPosition_40 rfl (Nat.le_of_ble_eq_true rfl) (zsS (zsS (zsS (zsS (zs0))))) ?_
      refine zW.iload (pc' := 44) dX1_auditPosition_42 rfl (zgS (zgS (zgS (zgS (zg0))))) ?_
      refine zW.iload_n (pc' := 45) dX1_auditPosition_44 rfl rfl (zgS (zg0)) ?_
      refine zW.icmp_ne (pc' := 48) 50 dX1_auditPosition_45 rfl (by decide) (fun b1 => ?_) (fun b1 => ?_)
      · exact absurd rfl b1
      refine zW.iload_n (pc' := 49) dX1_auditPosition_48 rfl rfl (zgS (zgS (zg0))) ?_
      refine zW.drop (zle.up n) ?_
      refine zW.iret dX1_auditPosition_49 rfl (rfl) ?_
      refine cAns.ok ?_
      rw [idxOf_at hj0 (fun j hj q => ?_), show k = j0 by omega]
      have := (List.getElem?_inj hjl hnd).mp (hj0.trans q.symm)
      omega
    | succ m ih =>
      intro k lr v4 hk'
      have hi := zup_s (h := h) (a := it) (c := cDi aq ha qs.length k lr)
      have hQ1 := hQ.mk (h' := zup h it (cDi aq ha qs.length k lr)) fun b k' l _ e => (zup_n (zfresh n e)).trans e
      obtain ⟨q0, hq0⟩ : ∃ q, qs[k]? = some q := ⟨_, List.getElem?_eq_getElem (by omega)⟩
      obtain ⟨w, hw⟩ : ∃ w, s.2.2.1[k]? = some w := ⟨_, List.getElem?_eq_getElem (by omega)⟩
      have hwb := hB.2.2.1 w (List.mem_of_getElem? hw)
      have hwa : ¬ nI w = nI a := fun q => by
        have e := nI_inj q (by omega) (by omega)
        rw [e] at hw
        have := (List.getElem?_inj hjl hnd).mp (hj0.trans hw.symm)
        omega
      obtain ⟨kq, hc0, -⟩ := hI.2 k q0 w hq0 hw
      have hk15 : kq % 1000 = 15 ∧ 15 < 50 := by rcases hc0.2 with q | q <;> subst q <;> decide
      refine zW.aload_n (pc' := 20) dX1_auditPosition_19 rfl rfl (zgS (zgS (zgS (zg0)))) rfl ?_
      refine zW.callF (r' := 0) (pc' := 25) dX1_auditPosition_20 rfl l_X1_247_J30 rfl hi ⟨rfl, (Nat.le_of_ble_eq_true rfl)⟩ rfl (w_diHas hi hQ.1.2) zc0 rfl (Nat.le_of_ble_eq_true rfl) (Nat.le_of_ble_eq_true rfl) (Nat.le_of_ble_eq_true rfl) (fun _ _ q9 => ?_) (fun _ _ q9 => by cases q9.1)
      obtain ⟨q8, e9⟩ := q9
      cases q8
      replace e9 := e9.symm
      subst e9
      rw [if_pos (by omega)]
      refine zW.if_eqN (pc' := 28) 56 dX1_auditPosition_25 rfl (by decide) (by omega) (fun b9 => absurd b9 (by omega)) (fun b9 => ?_)
      refine zW.aload_n (pc' := 29) dX1_auditPosition_28 rfl rfl (zgS (zgS (zgS (zg0)))) rfl ?_
      refine zW.callF (r' := 0) (pc' := 34) dX1_auditPosition_29 rfl l_X1_252_J30 rfl hi ⟨rfl, (Nat.le_of_ble_eq_true rfl)⟩ rfl (w_diNext hQ1 hi hq0) zc0 rfl (Nat.le_of_ble_eq_true rfl) (Nat.le_of_ble_eq_true rfl) (Nat.le_of_ble_eq_true rfl) (fun _ _ q9 => ?_) (fun _ _ q9 => absurd q9 zO.no)
      obtain ⟨_, q8, e1, e9, -⟩ := q9
      cases q8
      subst e1
      rw [zup_up] at e9
      subst e9
      have hc1 : cInt (zup h it (cDi aq ha qs.length (k + 1) (nI ((ha + k) % 17)))) q0 kq w := ⟨(zup_n (zfresh n hc0.1)).trans hc0.1, hc0.2⟩
      have hcc := hc1.1
      refine zW.castS (pc' := 37) dX1_auditPosition_34 rfl (lw_all_tbl q1391) hcc hk15 rfl ?_
      refine zW.callV (r' := 0) (pc' := 40) dX1_auditPosition_37 rfl l_X1_240 rfl hcc hk15 rfl (w_intValue hc1) zc0 rfl (Nat.le_of_ble_eq_true rfl) (Nat.le_of_ble_eq_true rfl) (Nat.le_of_ble_eq_true rfl) (fun _ _ q9 => ?_) (fun _ _ q9 => by cases q9.1)
      obtain ⟨q8, e9⟩ := q9
      cases q8
      replace e9 := e9.symm
      subst e9
      refine zW.istore (pc' := 42) dX1_auditPosition_40 rfl (Nat.le_of_ble_eq_true rfl) (zsS (zsS (zsS (zsS (zs0))))) ?_
      refine zW.iload (pc' := 44) dX1_auditPosition_42 rfl (zgS (zgS (zgS (zgS (zg0))))) ?_
      refine zW.iload_n (pc' := 45) dX1_auditPosition_44 rfl rfl (zgS (zg0)) ?_
      refine zW.icmp_ne (pc' := 48) 50 dX1_auditPosition_45 rfl (by decide) (fun b1 => ?_) (fun b1 => ?_)
      rotate_left
      · exact absurd b1 hwa
      refine zW.iincN (pc' := 53) (n := 1) dX1_auditPosition_50 rfl (Nat.le_of_ble_eq_true rfl) (zgS (zgS (zg0))) (zsS (zsS (zs0))) ?_
      refine zW.goto 19 dX1_auditPosition_53 (by decide) ?_
      exact ih (k + 1) _ _ (by omega)
  show zW G mX1_auditPosition 40 4 0 [.ref x, .int id, zho, zho, zho] [] h _
  refine zW.aload_n (pc' := 1) dX1_auditPosition_0 rfl rfl zg0 rfl ?_
  refine zW.iload_n (pc' := 2) dX1_auditPosition_1 rfl rfl (zgS (zg0)) ?_
  cases hf : sFind s.2.1 id with
  | none =>
    refine zW.callV (r' := 4) (pc' := 5) dX1_auditPosition_2 rfl l_X1_133 rfl hx ⟨rfl, (Nat.le_of_ble_eq_true rfl)⟩ rfl (w_claim0 hx hP hB hf) (zcc rfl zc0) rfl (Nat.le_of_ble_eq_true rfl) (Nat.le_of_ble_eq_true rfl) (Nat.le_of_ble_eq_true rfl) (fun _ _ q9 => by cases q9.1) (fun _ _ q9 => ?_)
    obtain ⟨q8, e9⟩ := q9
    cases q8
    replace e9 := e9.symm
    subst e9
    refine zX.out0 rfl ?_
    exact cAns.no (by unfold qAuditPos; rw [hf]) rfl
  | some i =>
    have hi := sFind_lt hf
    obtain ⟨p, hp, hc⟩ := hP.2.1.2.at hi
    refine zW.callV (r' := 2) (pc' := 5) dX1_auditPosition_2 rfl l_X1_133 rfl hx ⟨rfl, (Nat.le_of_ble_eq_true rfl)⟩ rfl (w_claim1 hx hP hB hf hp) (zcc rfl zc0) rfl (Nat.le_of_ble_eq_true rfl) (Nat.le_of_ble_eq_true rfl) (Nat.le_of_ble_eq_true rfl) (fun _ _ q9 => ?_) (fun _ _ q9 => by cases q9.1)
    obtain ⟨q8, e9⟩ := q9
    cases q8
    replace e9 := e9.symm
    subst e9
    obtain ⟨j0, hj0⟩ := List.getElem?_of_mem (hJ.1.qu hi)
    have e1 := sFind_eq hf
    refine zW.pop (pc' := 6) dX1_auditPosition_5 rfl rfl ?_
    refine zW.iconst (pc' := 7) (nI 0) dX1_auditPosition_6 rfl (by decide) ?_
    refine zW.istore_n (pc' := 8) dX1_auditPosition_7 rfl rfl (Nat.le_of_ble_eq_true rfl) (zsS (zsS (zs0))) ?_
    refine zW.aload_n (pc' := 9) dX1_auditPosition_8 rfl rfl zg0 rfl ?_
    refine zW.get (pc' := 12) dX1_auditPosition_9 rfl f_X1_10_0 hx ⟨rfl, (Nat.le_of_ble_eq_true rfl)⟩ rfl ?_
    refine zW.get (pc' := 15) dX1_auditPosition_12 rfl f_X1_231_1 hst ⟨rfl, (Nat.le_of_ble_eq_true rfl)⟩ rfl ?_
    refine zW.callV (r' := 1) (pc' := 18) dX1_auditPosition_15 rfl l_X1_243 rfl hq ⟨rfl, (Nat.le_of_ble_eq_true rfl)⟩ rfl (w_dqIter hQ) zc0 rfl (Nat.le_of_ble_eq_true rfl) (Nat.le_of_ble_eq_true rfl) (Nat.le_of_ble_eq_true rfl) (fun _ _ q9 => ?_) (fun _ _ q9 => absurd q9 zO.no)
    obtain ⟨_, q8, it, e2, n, e9, -⟩ := q9
    cases q8
    subst e2
    subst e9
    refine zW.astore_n (pc' := 19) dX1_auditPosition_18 rfl rfl (Nat.le_of_ble_eq_true rfl) rfl (zsS (zsS (zsS (zs0)))) ?_
    have k := loop (sAt s.2.1 i 0) j0 hj0 (hB.2.1 i hi).1 hB.2.2.2.1 it n j0 0 (-1) zho (Nat.zero_add _)
    rw [e1] at k
    refine (zW.pay k (by omega)).post fun o h' q => ?_
    unfold qAuditPos
    rw [hf]
    exact q
theorem c_recentlyExpired (hx : h x = some (0, .ref st :: fs)) (hP : cP h O st ll aq re rt ea ha er hr mc xs qs rs s) (hB : cB s) : zK G mX1_recentlyExpired 40 4 [.ref x, .int y] h (cAns [eElt] h (qRecent s y)) := by
  have hst := hP.1
  obtain ⟨hQ, hI⟩ := hP.2.2.2.1
  have hq := hQ.2.1
  have h8 := hB.2.2.2.2.1
  have hq1 := hI.1
  have loop : ∀ (it : Nat) (n : h it = none) (m k : Nat) (lr : Int32) (v4 : Value), k + m = s.2.2.2.length → (∀ j, j < k → ¬ nI j = y) → zW G mX1_recentlyExpired 40 2 13 [.ref x, .int y, .int (nI k), .ref it, v4] [] (zup h it (cDi re hr rs.length k lr)) (cAns [eElt] h (qRecent s y)) := by
    intro it n m
    induction m with
    | zero =>
      intro k lr v4 hk' hno
      have hi := zup_s (h := h) (a := it) (c := cDi re hr rs.length k lr)
      refine zW.aload_n (pc' := 14) dX1_recentlyExpired_13 rfl rfl (zgS (zgS (zgS (zg0)))) rfl ?_
      refine zW.callF (r' := 0) (pc' := 19) dX1_recentlyExpired_14 rfl l_X1_247_J30 rfl hi ⟨rfl, (Nat.le_of_ble_eq_true rfl)⟩ rfl (w_diHas hi hQ.1.2) zc0 rfl (Nat.le_of_ble_eq_true rfl) (Nat.le_of_ble_eq_true rfl) (Nat.le_of_ble_eq_true rfl) (fun _ _ q9 => ?_) (fun _ _ q9 => by cases q9.1)
      obtain ⟨q8, e9⟩ := q9
      cases q8
      replace e9 := e9.symm
      subst e9
      rw [if_neg (by omega)]
      refine zW.if_eqN (pc' := 22) 50 dX1_recentlyExpired_19 rfl (by decide) (by omega) (fun b9 => ?_) (fun b9 => absurd b9 (by omega))
      refine zW.drop (zle.up n) ?_
      refine zW.throw0 zT_elt dX1_recentlyExpired_50 dX1_recentlyExpired_53 dX1_recentlyExpired_54 dX1_recentlyExpired_57 (fun _ q => by cases q) (Nat.le_of_ble_eq_true rfl) (Nat.le_of_ble_eq_true rfl) (Nat.le_of_ble_eq_true rfl) ?_
      refine cAns.no (by
        unfold qRecent
        rw [if_neg fun q => ?_]
        obtain ⟨j, e1, hj, e2⟩ := sPos_nat q
        exact hno j (by omega) e1.symm) rfl
    | succ m ih =>
      intro k lr v4 hk' hno
      have hi := zup_s (h := h) (a := it) (c := cDi re hr rs.length k lr)
      have hQ1 := hQ.mk (h' := zup h it (cDi re hr rs.length k lr)) fun b k' l _ e => (zup_n (zfresh n e)).trans e
      obtain ⟨q0, hq0⟩ : ∃ q, rs[k]? = some q := ⟨_, List.getElem?_eq_getElem (by omega)⟩
      obtain ⟨w, hw⟩ : ∃ w, s.2.2.2[k]? = some w := ⟨_, List.getElem?_eq_getElem (by omega)⟩
      obtain ⟨kq, hc0, -⟩ := hI.2 k q0 w hq0 hw
      have hk15 : kq % 1000 = 15 ∧ 15 < 50 := by rcases hc0.2 with q | q <;> subst q <;> decide
      refine zW.aload_n (pc' := 14) dX1_recentlyExpired_13 rfl rfl (zgS (zgS (zgS (zg0)))) rfl ?_
      refine zW.callF (r' := 0) (pc' := 19) dX1_recentlyExpired_14 rfl l_X1_247_J30 rfl hi ⟨rfl, (Nat.le_of_ble_eq_true rfl)⟩ rfl (w_diHas hi hQ.1.2) zc0 rfl (Nat.le_of_ble_eq_true rfl) (Nat.le_of_ble_eq_true rfl) (Nat.le_of_ble_eq_true rfl) (fun _ _ q9 => ?_) (fun _ _ q9 => by cases q9.1)
      obtain ⟨q8, e9⟩ := q9
      cases q8
      replace e9 := e9.symm
      subst e9
      rw [if_pos (by omega)]
      refine zW.if_eqN (pc' := 22) 50 dX1_recentlyExpired_19 rfl (by decide) (by omega) (fun b9 => absurd b9 (by omega)) (fun b9 => ?_)
      refine zW.aload_n (pc' := 23) dX1_recentlyExpired_22 rfl rfl (zgS (zgS (zgS (zg0)))) rfl ?_
      refine zW.callF (r' := 0) (pc' := 28) dX1_recentlyExpired_23 rfl l_X1_252_J30 rfl hi ⟨rfl, (Nat.le_of_ble_eq_true rfl)⟩ rfl (w_diNext hQ1 hi hq0) zc0 rfl (Nat.le_of_ble_eq_true rfl) (Nat.le_of_ble_eq_true rfl) (Nat.le_of_ble_eq_true rfl) (fun _ _ q9 => ?_) (fun _ _ q9 => absurd q9 zO.no)
      obtain ⟨_, q8, e1, e9, -⟩ := q9
      cases q8
      subst e1
      rw [zup_up] at e9
      subst e9
      have hc1 : cInt (zup h it (cDi re hr rs.length (k + 1) (nI ((hr + k) % 17)))) q0 kq w := ⟨(zup_n (zfresh n hc0.1)).trans hc0.1, hc0.2⟩
      have hcc := hc1.1
      refine zW.castS (pc' := 31) dX1_recentlyExpired_28 rfl (lw_all_tbl q1391) hcc hk15 rfl ?_
      refine zW.callV (r' := 0) (pc' := 34) dX1_recentlyExpired_31 rfl l_X1_240 rfl hcc hk15 rfl (w_intValue hc1) zc0 rfl (Nat.le_of_ble_eq_true rfl) (Nat.le_of_ble_eq_true rfl) (Nat.le_of_ble_eq_true rfl) (fun _ _ q9 => ?_) (fun _ _ q9 => by cases q9.1)
      obtain ⟨q8, e9⟩ := q9
      cases q8
      replace e9 := e9.symm
      subst e9
      refine zW.istore (pc' := 36) dX1_recentlyExpired_34 rfl (Nat.le_of_ble_eq_true rfl) (zsS (zsS (zsS (zsS (zs0))))) ?_
      refine zW.iload_n (pc' := 37) dX1_recentlyExpired_36 rfl rfl (zgS (zgS (zg0))) ?_
      refine zW.iload_n (pc' := 38) dX1_recentlyExpired_37 rfl rfl (zgS (zg0)) ?_
      refine zW.icmp_ne (pc' := 41) 44 dX1_recentlyExpired_38 rfl (by decide) (fun b1 => ?_) (fun b1 => ?_)
      · refine zW.iincN (pc' := 47) (n := 1) dX1_recentlyExpired_44 rfl (Nat.le_of_ble_eq_true rfl) (zgS (zgS (zg0))) (zsS (zsS (zs0))) ?_
        refine zW.goto 13 dX1_recentlyExpired_47 (by decide) ?_
        refine ih (k + 1) _ _ (by omega) fun j hj => ?_
        by_cases e : j = k
        · rw [e]; exact b1
        · exact hno j (by omega)
      · refine zW.iload (pc' := 43) dX1_recentlyExpired_41 rfl (zgS (zgS (zgS (zgS (zg0))))) ?_
        refine zW.drop (zle.up n) ?_
        refine zW.iret dX1_recentlyExpired_43 rfl (rfl) ?_
        refine cAns.ok ?_
        unfold qRecent
        have e2 : iN y = k := by rw [← b1]; exact iN_nI (by omega)
        rw [if_pos (show sPos y s.2.2.2.length = true from decide_eq_true ⟨by rw [← b1]; exact Int32.not_lt.mp (nI_nn (by omega)), by rw [e2]; omega⟩), e2, List.getD_eq_getElem?_getD, hw]
        rfl
  show zW G mX1_recentlyExpired 40 4 0 [.ref x, .int y, zho, zho, zho] [] h _
  refine zW.iconst (pc' := 1) (nI 0) dX1_recentlyExpired_0 rfl (by decide) ?_
  refine zW.istore_n (pc' := 2) dX1_recentlyExpired_1 rfl rfl (Nat.le_of_ble_eq_true rfl) (zsS (zsS (zs0))) ?_
  refine zW.aload_n (pc' := 3) dX1_recentlyExpired_2 rfl rfl zg0 rfl ?_
  refine zW.get (pc' := 6) dX1_recentlyExpired_3 rfl f_X1_10_0 hx ⟨rfl, (Nat.le_of_ble_eq_true rfl)⟩ rfl ?_
  refine zW.get (pc' := 9) dX1_recentlyExpired_6 rfl f_X1_320_1 hst ⟨rfl, (Nat.le_of_ble_eq_true rfl)⟩ rfl ?_
  refine zW.callV (r' := 1) (pc' := 12) dX1_recentlyExpired_9 rfl l_X1_243 rfl hq ⟨rfl, (Nat.le_of_ble_eq_true rfl)⟩ rfl (w_dqIter hQ) zc0 rfl (Nat.le_of_ble_eq_true rfl) (Nat.le_of_ble_eq_true rfl) (Nat.le_of_ble_eq_true rfl) (fun _ _ q9 => ?_) (fun _ _ q9 => absurd q9 zO.no)
  obtain ⟨_, q8, it, e2, n, e9, -⟩ := q9
  cases q8
  subst e2
  subst e9
  refine zW.astore_n (pc' := 13) dX1_recentlyExpired_12 rfl rfl (Nat.le_of_ble_eq_true rfl) rfl (zsS (zsS (zsS (zs0)))) ?_
  exact zW.pay (loop it n s.2.2.2.length 0 (-1) zho (Nat.zero_add _) (fun j hj => absurd hj (Nat.not_lt_zero j))) (by omega)
end
