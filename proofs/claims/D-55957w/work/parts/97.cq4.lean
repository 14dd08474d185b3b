/-! THE CLASS's questions: the future, totals -/
section
set_option maxRecDepth 100000
variable {G : zG} {h : zH} {O : Nat → Prop} {x st ll aq re rt ea ha er hr tt nn i : Nat} {mc : Int32} {xs : List (Nat × Nat)} {qs rs : List Nat} {s : sS} {fs : List Value} {id y z : Int32} {p : Nat × Nat}
theorem sI.b034 {n : Nat} (h : sI tt nn n s) (hN : nn ≤ 10000) (hT : tt ≤ 100000) {c : sC} (hc : c ∈ s.2.1) : c 0 < 2 ^ 30 ∧ c 3 < 2 ^ 30 ∧ c 4 < 2 ^ 30 := ⟨h.lt hN hT hc (by decide), h.lt hN hT hc (by decide), h.lt hN hT hc (by decide)⟩
theorem c_expiryRank (hx : h x = some (0, .ref st :: fs)) (hP : cP h O st ll aq re rt ea ha er hr mc xs qs rs s) (hJ : sJ tt nn s) (hN : nn ≤ 10000) (hT : tt ≤ 100000) : zK G mX1_expiryRank 40 5 [.ref x, .int id] h (cAns [eElt] h (qRank s id)) := by
  have hst := hP.1
  have hB := hJ.1.cB hN
  show zW G mX1_expiryRank 40 5 0 [.ref x, .int id, zho] [] h _
  refine zW.aload_n (pc' := 1) dX1_expiryRank_0 rfl rfl zg0 rfl ?_
  refine zW.iload_n (pc' := 2) dX1_expiryRank_1 rfl rfl (zgS (zg0)) ?_
  cases hf : sFind s.2.1 id with
  | none =>
    refine zW.callV (r' := 4) (pc' := 5) dX1_expiryRank_2 rfl l_X1_133 rfl hx ⟨rfl, (Nat.le_of_ble_eq_true rfl)⟩ rfl (w_claim0 hx hP hB hf) (zcc rfl zc0) rfl (Nat.le_of_ble_eq_true rfl) (Nat.le_of_ble_eq_true rfl) (Nat.le_of_ble_eq_true rfl) (fun _ _ q9 => by cases q9.1) (fun _ _ q9 => ?_)
    obtain ⟨q8, e9⟩ := q9
    cases q8
    replace e9 := e9.symm
    subst e9
    refine zX.out0 rfl ?_
    exact cAns.no (by unfold qRank; rw [hf]) rfl
  | some i =>
    have hi := sFind_lt hf
    obtain ⟨p, hp, hc⟩ := hP.2.1.2.at hi
    refine zW.callV (r' := 2) (pc' := 5) dX1_expiryRank_2 rfl l_X1_133 rfl hx ⟨rfl, (Nat.le_of_ble_eq_true rfl)⟩ rfl (w_claim1 hx hP hB hf hp) (zcc rfl zc0) rfl (Nat.le_of_ble_eq_true rfl) (Nat.le_of_ble_eq_true rfl) (Nat.le_of_ble_eq_true rfl) (fun _ _ q9 => ?_) (fun _ _ q9 => by cases q9.1)
    obtain ⟨q8, e9⟩ := q9
    cases q8
    replace e9 := e9.symm
    subst e9
    refine zW.astore_n (pc' := 6) dX1_expiryRank_5 rfl rfl (Nat.le_of_ble_eq_true rfl) rfl (zsS (zsS (zs0))) ?_
    refine zW.aload_n (pc' := 7) dX1_expiryRank_6 rfl rfl zg0 rfl ?_
    refine zW.get (pc' := 10) dX1_expiryRank_7 rfl f_X1_10_0 hx ⟨rfl, (Nat.le_of_ble_eq_true rfl)⟩ rfl ?_
    refine zW.aload_n (pc' := 11) dX1_expiryRank_10 rfl rfl (zgS (zgS (zg0))) rfl ?_
    refine zW.lamM (i := 12) (vals := [.ref p.2]) (pc' := 16) dX1_expiryRank_11 rfl rfl rfl rfl (Nat.le_of_ble_eq_true rfl) lk12 rfl (Nat.le_of_ble_eq_true rfl) (Nat.le_of_ble_eq_true rfl) rfl (lam_fit1 rfl) rfl (Nat.le_of_ble_eq_true rfl) (Nat.le_of_ble_eq_true rfl) (fun b _ nb e9 kb => ?_)
    have zb := zfr.new (zfr.rf (A := fun _ => False) (h := h)) e9 nb
    subst e9
    have hP1 := hP.fr zb (fun _ _ q => q)
    have hst1 := hP1.1
    have hc1 := zb.at hc (fun q => q)
    refine zW.callV (r' := 2) (pc' := 19) dX1_expiryRank_16 rfl l_X1_112 rfl hst1 ⟨rfl, (Nat.le_of_ble_eq_true rfl)⟩ rfl (w_stCount hP1 hJ.1.len lc12 (Nat.le_of_ble_eq_true rfl) kb rfl rfl (zcc rfl zc0) (Nat.le_of_ble_eq_true rfl) (T := fun c ↦ decide (cLt c (sAt s.2.1 i))) (fun H a c hz hcm hcc ↦ w_lmRank (hz.at hc1) hcc ⟨hJ.1.b034 hN hT hcm, hJ.1.b034 hN hT (sAt_mem hi)⟩)) (zcc rfl zc0) rfl (Nat.le_of_ble_eq_true rfl) (Nat.le_of_ble_eq_true rfl) (Nat.le_of_ble_eq_true rfl) (fun _ _ q9 => ?_) (fun _ _ q9 => by cases q9.1)
    obtain ⟨q8, e9⟩ := q9
    cases q8
    replace e9 := e9.symm
    subst e9
    refine zW.drop (zle.up nb) ?_
    rw [sCk_rank hJ.1 hi]
    refine zW.iret dX1_expiryRank_19 rfl (rfl) ?_
    exact cAns.ok (by unfold qRank; rw [hf])
theorem c_byComparison (hx : h x = some (0, .ref st :: fs)) (hP : cP h O st ll aq re rt ea ha er hr mc xs qs rs s) (hJ : sJ tt nn s) (hN : nn ≤ 10000) (hT : tt ≤ 100000) {m : Nat} (hm : m ≤ 50) : zK G mX1_expiringByComparison 28 3 [.ref x, .int (nI m)] h (zPu h (some (.int (nI (sUp (fun k => if sAt s.2.1 k 4 ≤ s.1 0 + m then 1 else 0) s.2.1.length))))) := by
  have hst := hP.1
  have ht : s.1 0 ≤ tt := hJ.1.1.1
  show zW G mX1_expiringByComparison 28 3 0 [.ref x, .int (nI m), zho] [] h _
  refine zW.aload_n (pc' := 1) dX1_expiringByComparison_0 rfl rfl zg0 rfl ?_
  refine zW.get (pc' := 4) dX1_expiringByComparison_1 rfl f_X1_10_0 hx ⟨rfl, (Nat.le_of_ble_eq_true rfl)⟩ rfl ?_
  refine zW.get (pc' := 7) dX1_expiringByComparison_4 rfl f_X1_181_1 hst ⟨rfl, (Nat.le_of_ble_eq_true rfl)⟩ rfl ?_
  refine zW.iload_n (pc' := 8) dX1_expiringByComparison_7 rfl rfl (zgS (zg0)) ?_
  refine zW.iaddN (pc' := 9) dX1_expiringByComparison_8 rfl ?_
  refine zW.istore_n (pc' := 10) dX1_expiringByComparison_9 rfl rfl (Nat.le_of_ble_eq_true rfl) (zsS (zsS (zs0))) ?_
  refine zW.iload_n (pc' := 11) dX1_expiringByComparison_10 rfl rfl (zgS (zg0)) ?_
  refine zW.if_neN (pc' := 14) 18 dX1_expiringByComparison_11 rfl (by decide) (by omega) (fun b1 => ?_) (fun b1 => ?_)
  · refine zW.aload_n (pc' := 19) dX1_expiringByComparison_18 rfl rfl zg0 rfl ?_
    refine zW.get (pc' := 22) dX1_expiringByComparison_19 rfl f_X1_10_0 hx ⟨rfl, (Nat.le_of_ble_eq_true rfl)⟩ rfl ?_
    refine zW.iload_n (pc' := 23) dX1_expiringByComparison_22 rfl rfl (zgS (zgS (zg0))) ?_
    refine zW.lamM (i := 1) (vals := [.int (nI (s.1 0 + m))]) (pc' := 28) dX1_expiringByComparison_23 rfl rfl rfl rfl (Nat.le_of_ble_eq_true rfl) lk1 rfl (Nat.le_of_ble_eq_true rfl) (Nat.le_of_ble_eq_true rfl) rfl (lam_fit1 rfl) rfl (Nat.le_of_ble_eq_true rfl) (Nat.le_of_ble_eq_true rfl) (fun b _ nb e9 kb => ?_)
    have zb := zfr.new (zfr.rf (A := fun _ => False) (h := h)) e9 nb
    subst e9
    have hP1 := hP.fr zb (fun _ _ q => q)
    have hst1 := hP1.1
    refine zW.callV (r' := 2) (pc' := 31) dX1_expiringByComparison_28 rfl l_X1_112 rfl hst1 ⟨rfl, (Nat.le_of_ble_eq_true rfl)⟩ rfl (w_stCount hP1 hJ.1.len lc1 (Nat.le_of_ble_eq_true rfl) kb rfl rfl (zcc rfl zc0) (Nat.le_of_ble_eq_true rfl) (T := fun c ↦ decide (nI (c 4) ≤ nI (s.1 0 + m))) (fun H a c _ _ hc ↦ w_lmLim hc)) (zcc rfl zc0) rfl (Nat.le_of_ble_eq_true rfl) (Nat.le_of_ble_eq_true rfl) (Nat.le_of_ble_eq_true rfl) (fun _ _ q9 => ?_) (fun _ _ q9 => by cases q9.1)
    obtain ⟨q8, e9⟩ := q9
    cases q8
    replace e9 := e9.symm
    subst e9
    refine zW.drop (zle.up nb) ?_
    rw [sCk_lim hJ.1 hN hT (by omega)]
    refine zW.iret dX1_expiringByComparison_31 rfl (rfl) ?_
    exact ⟨rfl, rfl⟩
  · have e : sUp (fun k => if sAt s.2.1 k 4 ≤ s.1 0 + m then 1 else 0) s.2.1.length = 0 := sUp_none fun k hk => by
      have := hJ.2 _ (sAt_mem hk)
      rw [if_neg (by omega)]
    refine zW.iconst (pc' := 15) (nI 0) dX1_expiringByComparison_14 rfl (by decide) ?_
    refine zW.goto 31 dX1_expiringByComparison_15 (by decide) ?_
    refine zW.iret dX1_expiringByComparison_31 rfl (rfl) ?_
    rw [e]
    exact ⟨rfl, rfl⟩
theorem w_isFc1 (q : sIn y (nI 0) (nI 50) = true) : zK G mX1_isForecast 2 0 [.int y] h (zPu h (some (.int (nI 1)))) := by
  show zW G mX1_isForecast 2 0 0 [.int y] [] h _
  refine zW.iload_n (pc' := 1) dX1_isForecast_0 rfl rfl zg0 ?_
  refine zW.iconst (pc' := 2) (nI 0) dX1_isForecast_1 rfl (by decide) ?_
  refine zW.bipush (pc' := 4) (nI 50) dX1_isForecast_2 rfl (by decide) ?_
  refine zW.callS (r' := 0) (pc' := 7) dX1_isForecast_4 rfl l_X1_52 rfl (w_btw) (zcc rfl (zcc rfl (zcc rfl zc0))) rfl (Nat.le_of_ble_eq_true rfl) (Nat.le_of_ble_eq_true rfl) (Nat.le_of_ble_eq_true rfl) (fun _ _ q9 => ?_) (fun _ _ q9 => by cases q9.1)
  obtain ⟨q8, e9⟩ := q9
  cases q8
  replace e9 := e9.symm
  subst e9
  rw [if_pos q]
  refine zW.iret dX1_isForecast_7 rfl (rfl) ?_
  exact ⟨rfl, rfl⟩
theorem w_isFc0 (q : ¬ sIn y (nI 0) (nI 50) = true) : zK G mX1_isForecast 2 0 [.int y] h (zPu h (some (.int (nI 0)))) := by
  show zW G mX1_isForecast 2 0 0 [.int y] [] h _
  refine zW.iload_n (pc' := 1) dX1_isForecast_0 rfl rfl zg0 ?_
  refine zW.iconst (pc' := 2) (nI 0) dX1_isForecast_1 rfl (by decide) ?_
  refine zW.bipush (pc' := 4) (nI 50) dX1_isForecast_2 rfl (by decide) ?_
  refine zW.callS (r' := 0) (pc' := 7) dX1_isForecast_4 rfl l_X1_52 rfl (w_btw) (zcc rfl (zcc rfl (zcc rfl zc0))) rfl (Nat.le_of_ble_eq_true rfl) (Nat.le_of_ble_eq_true rfl) (Nat.le_of_ble_eq_true rfl) (fun _ _ q9 => ?_) (fun _ _ q9 => by cases q9.1)
  obtain ⟨q8, e9⟩ := q9
  cases q8
  replace e9 := e9.symm
  subst e9
  rw [if_neg q]
  refine zW.iret dX1_isForecast_7 rfl (rfl) ?_
  exact ⟨rfl, rfl⟩
theorem cS.cell {h : zH} {O : Nat → Prop} {st : Nat} {s : sS} (hS : cS h O st s) : ∃ f2, h st = some (1, f2) := by
  obtain ⟨ll', aq', re', rt', ea', ha', er', hr', mc', xs', qs', rs', hP'⟩ := hS
  exact ⟨_, hP'.1⟩
theorem zfr.le {A : Nat → Prop} {h0 h1 : zH} (z : zfr A h0 h1) (n : ∀ b, A b → h0 b = none) : zle h0 h1 := fun a c e => z.at e fun q => by rw [n a q] at e; cases e
theorem c_byCopy (hx : h x = some (0, .ref st :: fs)) (hP : cP h O st ll aq re rt ea ha er hr mc xs qs rs s) (hJ : sJ tt nn s) (hN : nn ≤ 10000) (hT : tt + 50 < 100000) (hk : zkn G h) (hZ : zkI G) {m : Nat} (hm : m ≤ 50) : zK G mX1_expiringByCopy 28 (28 * m + 78) [.ref x, .int (nI m)] h (zPu h (some (.int (nI (sTicks s m).1)))) := by
  have hst := hP.1
  have hB := hJ.1.cB hN
  have hql := hJ.1.ql
  show zW G mX1_expiringByCopy 28 (28*m+78) 0 [.ref x, .int (nI m)] [] h _
  refine zW.aload_n (pc' := 1) dX1_expiringByCopy_0 rfl rfl zg0 rfl ?_
  refine zW.get (pc' := 4) dX1_expiringByCopy_1 rfl f_X1_10_0 hx ⟨rfl, (Nat.le_of_ble_eq_true rfl)⟩ rfl ?_
  refine zW.callV (r' := 78) (pc' := 7) dX1_expiringByCopy_4 rfl l_X1_60 rfl hst ⟨rfl, (Nat.le_of_ble_eq_true rfl)⟩ rfl (w_stCopy hk hZ ⟨ll, aq, re, rt, ea, ha, er, hr, mc, xs, qs, rs, hP⟩ hB.1 (fun y hy ↦ Nat.lt_trans (hB.2.2.1 y hy) (by decide)) (by have := hB.1; omega) (fun y hy ↦ Nat.lt_trans (hB.2.2.2.2.2 y hy) (by decide)) hB.2.2.2.2.1) zc0 rfl (Nat.le_of_ble_eq_true rfl) (Nat.le_of_ble_eq_true rfl) (Nat.le_of_ble_eq_true rfl) (fun _ _ q9 => ?_) (fun _ _ q9 => absurd q9 zO.no)
  obtain ⟨_, q8, st', e1, hS', z1⟩ := q9
  cases q8
  subst e1
  obtain ⟨f2, hst2⟩ := cS.cell hS'
  refine zW.pay (r1 := 0 + 28 * m) ?_ (by omega)
  refine zW.iload_n (pc' := 8) dX1_expiringByCopy_7 rfl rfl (zgS (zg0)) ?_
  refine zW.callV (r' := (28*m)) (pc' := 11) dX1_expiringByCopy_8 rfl l_X1_168 rfl hst2 ⟨rfl, (Nat.le_of_ble_eq_true rfl)⟩ rfl (w_stAdvance (z1.kn hk) hZ hN (t := m) (tt := tt) (by omega) hJ.1 hJ.2 hS') (zcc rfl zc0) rfl (Nat.le_of_ble_eq_true rfl) (Nat.le_of_ble_eq_true rfl) (Nat.le_of_ble_eq_true rfl) (fun _ _ q9 => ?_) (fun _ _ q9 => absurd q9 zO.no)
  obtain ⟨_, q8, e1, hS2, z2⟩ := q9
  cases q8
  subst e1
  refine zW.drop (h1 := h) (fun b c e => z2.at (z1.at e fun q => q) fun q => ?_) ?_
  · have q : h b = none := q
    rw [q] at e
    cases e
  refine zW.iret dX1_expiringByCopy_11 rfl (rfl) ?_
  exact ⟨rfl, rfl⟩
theorem c_expiringWithin (hx : h x = some (0, .ref st :: fs)) (hP : cP h O st ll aq re rt ea ha er hr mc xs qs rs s) (hJ : sJ tt nn s) (hN : nn ≤ 10000) (hT : tt ≤ 100000) : zK G mX1_expiringWithin 40 3 [.ref x, .int y] h (cAns [eArg] h (qExpW s y)) := by
  show zW G mX1_expiringWithin 40 3 0 [.ref x, .int y] [] h _
  refine zW.iload_n (pc' := 1) dX1_expiringWithin_0 rfl rfl (zgS (zg0)) ?_
  by_cases q : sIn y (nI 0) (nI 50) = true
  · refine zW.callS (r' := 0) (pc' := 4) dX1_expiringWithin_1 rfl l_X1_305 rfl (w_isFc1 q) (zcc rfl zc0) rfl (Nat.le_of_ble_eq_true rfl) (Nat.le_of_ble_eq_true rfl) (Nat.le_of_ble_eq_true rfl) (fun _ _ q9 => ?_) (fun _ _ q9 => by cases q9.1)
    obtain ⟨q8, e9⟩ := q9
    cases q8
    replace e9 := e9.symm
    subst e9
    refine zW.callS (r' := 0) (pc' := 7) dX1_expiringWithin_4 rfl l_X1_88 rfl (w_chkArgument1) (zcc rfl zc0) rfl (Nat.le_of_ble_eq_true rfl) (Nat.le_of_ble_eq_true rfl) (Nat.le_of_ble_eq_true rfl) (fun _ _ q9 => ?_) (fun _ _ q9 => by cases q9.1)
    obtain ⟨q8, e9⟩ := q9
    cases q8
    replace e9 := e9.symm
    subst e9
    obtain ⟨m, hm, -, h3, e⟩ := sIn_nat q (by decide) (by decide)
    rw [hm]
    refine zW.aload_n (pc' := 8) dX1_expiringWithin_7 rfl rfl zg0 rfl ?_
    refine zW.iload_n (pc' := 9) dX1_expiringWithin_8 rfl rfl (zgS (zg0)) ?_
    refine zW.callV (r' := 3) (pc' := 12) dX1_expiringWithin_9 rfl l_X1_308 rfl hx ⟨rfl, (Nat.le_of_ble_eq_true rfl)⟩ rfl (c_byComparison hx hP hJ hN hT (m := m) h3) (zcc rfl zc0) rfl (Nat.le_of_ble_eq_true rfl) (Nat.le_of_ble_eq_true rfl) (Nat.le_of_ble_eq_true rfl) (fun _ _ q9 => ?_) (fun _ _ q9 => by cases q9.1)
    obtain ⟨q8, e9⟩ := q9
    cases q8
    replace e9 := e9.symm
    subst e9
    refine zW.iret dX1_expiringWithin_12 rfl (rfl) ?_
    exact cAns.ok (by unfold qExpW; rw [← hm, if_pos q, e])
  · refine zW.callS (r' := 0) (pc' := 4) dX1_expiringWithin_1 rfl l_X1_305 rfl (w_isFc0 q) (zcc rfl zc0) rfl (Nat.le_of_ble_eq_true rfl) (Nat.le_of_ble_eq_true rfl) (Nat.le_of_ble_eq_true rfl) (fun _ _ q9 => ?_) (fun _ _ q9 => by cases q9.1)
    obtain ⟨q8, e9⟩ := q9
    cases q8
    replace e9 := e9.symm
    subst e9
    refine zW.callS (r' := 2) (pc' := 7) dX1_expiringWithin_4 rfl l_X1_88 rfl (w_chkArgument0) (zcc rfl zc0) rfl (Nat.le_of_ble_eq_true rfl) (Nat.le_of_ble_eq_true rfl) (Nat.le_of_ble_eq_true rfl) (fun _ _ q9 => by cases q9.1) (fun _ _ q9 => ?_)
    obtain ⟨q8, e9⟩ := q9
    cases q8
    replace e9 := e9.symm
    subst e9
    refine zX.out0 rfl ?_
    exact cAns.no (by unfold qExpW; rw [if_neg q]) rfl
theorem c_expiringBySimulation (hx : h x = some (0, .ref st :: fs)) (hP : cP h O st ll aq re rt ea ha er hr mc xs qs rs s) (hJ : sJ tt nn s) (hN : nn ≤ 10000) (hT : tt + 50 < 100000) (hk : zkn G h) (hZ : zkI G) : zK G mX1_expiringBySimulation 40 1478 [.ref x, .int y] h (cAns [eArg] h (qExpS s y)) := by
  show zW G mX1_expiringBySimulation 40 1478 0 [.ref x, .int y] [] h _
  refine zW.iload_n (pc' := 1) dX1_expiringBySimulation_0 rfl rfl (zgS (zg0)) ?_
  by_cases q : sIn y (nI 0) (nI 50) = true
  · refine zW.callS (r' := 0) (pc' := 4) dX1_expiringBySimulation_1 rfl l_X1_305 rfl (w_isFc1 q) (zcc rfl zc0) rfl (Nat.le_of_ble_eq_true rfl) (Nat.le_of_ble_eq_true rfl) (Nat.le_of_ble_eq_true rfl) (fun _ _ q9 => ?_) (fun _ _ q9 => by cases q9.1)
    obtain ⟨q8, e9⟩ := q9
    cases q8
    replace e9 := e9.symm
    subst e9
    refine zW.callS (r' := 0) (pc' := 7) dX1_expiringBySimulation_4 rfl l_X1_88 rfl (w_chkArgument1) (zcc rfl zc0) rfl (Nat.le_of_ble_eq_true rfl) (Nat.le_of_ble_eq_true rfl) (Nat.le_of_ble_eq_true rfl) (fun _ _ q9 => ?_) (fun _ _ q9 => by cases q9.1)
    obtain ⟨q8, e9⟩ := q9
    cases q8
    replace e9 := e9.symm
    subst e9
    obtain ⟨m, hm, -, h3, e⟩ := sIn_nat q (by decide) (by decide)
    rw [hm]
    refine zW.aload_n (pc' := 8) dX1_expiringBySimulation_7 rfl rfl zg0 rfl ?_
    refine zW.iload_n (pc' := 9) dX1_expiringBySimulation_8 rfl rfl (zgS (zg0)) ?_
    refine zW.pay (r1 := 0 + (28 * m + 78)) ?_ (by omega)
    refine zW.callV (r' := (28*m+78)) (pc' := 12) dX1_expiringBySimulation_9 rfl l_X1_311 rfl hx ⟨rfl, (Nat.le_of_ble_eq_true rfl)⟩ rfl (c_byCopy hx hP hJ hN hT hk hZ (m := m) h3) (zcc rfl zc0) rfl (Nat.le_of_ble_eq_true rfl) (Nat.le_of_ble_eq_true rfl) (Nat.le_of_ble_eq_true rfl) (fun _ _ q9 => ?_) (fun _ _ q9 => by cases q9.1)
    obtain ⟨q8, e9⟩ := q9
    cases q8
    replace e9 := e9.symm
    subst e9
    refine zW.iret dX1_expiringBySimulation_12 rfl (rfl) ?_
    exact cAns.ok (by unfold qExpS; rw [← hm, if_pos q, e])
  · refine zW.callS (r' := 0) (pc' := 4) dX1_expiringBySimulation_1 rfl l_X1_305 rfl (w_isFc0 q) (zcc rfl zc0) rfl (Nat.le_of_ble_eq_true rfl) (Nat.le_of_ble_eq_true rfl) (Nat.le_of_ble_eq_true rfl) (fun _ _ q9 => ?_) (fun _ _ q9 => by cases q9.1)
    obtain ⟨q8, e9⟩ := q9
    cases q8
    replace e9 := e9.symm
    subst e9
    refine zW.callS (r' := 2) (pc' := 7) dX1_expiringBySimulation_4 rfl l_X1_88 rfl (w_chkArgument0) (zcc rfl zc0) rfl (Nat.le_of_ble_eq_true rfl) (Nat.le_of_ble_eq_true rfl) (Nat.le_of_ble_eq_true rfl) (fun _ _ q9 => by cases q9.1) (fun _ _ q9 => ?_)
    obtain ⟨q8, e9⟩ := q9
    cases q8
    replace e9 := e9.symm
    subst e9
    refine zX.out0 rfl ?_
    exact cAns.no (by unfold qExpS; rw [if_neg q]) rfl
theorem c_expiredCount (hx : h x = some (0, .ref st :: fs)) (hP : cP h O st ll aq re rt ea ha er hr mc xs qs rs s) : zK G mX1_expiredCount 40 0 [.ref x] h (cAns [] h (qNum s 5)) := by
  have hst := hP.1
  show zW G mX1_expiredCount 40 0 0 [.ref x] [] h _
  refine zW.aload_n (pc' := 1) dX1_expiredCount_0 rfl rfl zg0 rfl ?_
  refine zW.get (pc' := 4) dX1_expiredCount_1 rfl f_X1_10_0 hx ⟨rfl, (Nat.le_of_ble_eq_true rfl)⟩ rfl ?_
  refine zW.get (pc' := 7) dX1_expiredCount_4 rfl f_X1_323_1 hst ⟨rfl, (Nat.le_of_ble_eq_true rfl)⟩ rfl ?_
  refine zW.iret dX1_expiredCount_7 rfl (rfl) ?_
  exact cAns.ok rfl
theorem c_settledCount (hx : h x = some (0, .ref st :: fs)) (hP : cP h O st ll aq re rt ea ha er hr mc xs qs rs s) : zK G mX1_settledCount 40 0 [.ref x] h (cAns [] h (qNum s 6)) := by
  have hst := hP.1
  show zW G mX1_settledCount 40 0 0 [.ref x] [] h _
  refine zW.aload_n (pc' := 1) dX1_settledCount_0 rfl rfl zg0 rfl ?_
  refine zW.get (pc' := 4) dX1_settledCount_1 rfl f_X1_10_0 hx ⟨rfl, (Nat.le_of_ble_eq_true rfl)⟩ rfl ?_
  refine zW.get (pc' := 7) dX1_settledCount_4 rfl f_X1_326_1 hst ⟨rfl, (Nat.le_of_ble_eq_true rfl)⟩ rfl ?_
  refine zW.iret dX1_settledCount_7 rfl (rfl) ?_
  exact cAns.ok rfl
theorem c_voidedCount (hx : h x = some (0, .ref st :: fs)) (hP : cP h O st ll aq re rt ea ha er hr mc xs qs rs s) : zK G mX1_voidedCount 40 0 [.ref x] h (cAns [] h (qNum s 7)) := by
  have hst := hP.1
  show zW G mX1_voidedCount 40 0 0 [.ref x] [] h _
  refine zW.aload_n (pc' := 1) dX1_voidedCount_0 rfl rfl zg0 rfl ?_
  refine zW.get (pc' := 4) dX1_voidedCount_1 rfl f_X1_10_0 hx ⟨rfl, (Nat.le_of_ble_eq_true rfl)⟩ rfl ?_
  refine zW.get (pc' := 7) dX1_voidedCount_4 rfl f_X1_329_1 hst ⟨rfl, (Nat.le_of_ble_eq_true rfl)⟩ rfl ?_
  refine zW.iret dX1_voidedCount_7 rfl (rfl) ?_
  exact cAns.ok rfl
theorem c_interestTotal (hx : h x = some (0, .ref st :: fs)) (hP : cP h O st ll aq re rt ea ha er hr mc xs qs rs s) (hb : s.1 3 < 2 ^ 30) : zK G mX1_interestTotal 40 0 [.ref x] h (zPu h (some (.long (nI (s.1 3)).toInt64))) := by
  have hst := hP.1
  show zW G mX1_interestTotal 40 0 0 [.ref x] [] h _
  refine zW.aload_n (pc' := 1) dX1_interestTotal_0 rfl rfl zg0 rfl ?_
  refine zW.get (pc' := 4) dX1_interestTotal_1 rfl f_X1_10_0 hx ⟨rfl, (Nat.le_of_ble_eq_true rfl)⟩ rfl ?_
  refine zW.get (pc' := 7) dX1_interestTotal_4 rfl f_X1_332_1 hst ⟨rfl, (Nat.le_of_ble_eq_true rfl)⟩ rfl ?_
  refine zW.lret dX1_interestTotal_7 rfl ?_
  rw [nL_nI (by omega)]
  exact ⟨rfl, rfl⟩
theorem c_closedWeight (hx : h x = some (0, .ref st :: fs)) (hP : cP h O st ll aq re rt ea ha er hr mc xs qs rs s) (hb : s.1 8 < 2 ^ 30) : zK G mX1_closedWeight 40 0 [.ref x] h (zPu h (some (.long (nI (s.1 8)).toInt64))) := by
  have hst := hP.1
  show zW G mX1_closedWeight 40 0 0 [.ref x] [] h _
  refine zW.aload_n (pc' := 1) dX1_closedWeight_0 rfl rfl zg0 rfl ?_
  refine zW.get (pc' := 4) dX1_closedWeight_1 rfl f_X1_10_0 hx ⟨rfl, (Nat.le_of_ble_eq_true rfl)⟩ rfl ?_
  refine zW.get (pc' := 7) dX1_closedWeight_4 rfl f_X1_340_1 hst ⟨rfl, (Nat.le_of_ble_eq_true rfl)⟩ rfl ?_
  refine zW.lret dX1_closedWeight_7 rfl ?_
  rw [nL_nI (by omega)]
  exact ⟨rfl, rfl⟩
theorem c_stActive (hP : cP h O st ll aq re rt ea ha er hr mc xs qs rs s) (hJ : sJ tt nn s) (hN : nn ≤ 10000) (hT : tt ≤ 100000) (hk : zkn G h) (hL : zkL G) : zK G mX2_activeWeight 26 2 [.ref st] h (zPu h (some (.long (nI (sUp (fun k => sAt s.2.1 k 3) s.2.1.length)).toInt64))) := by
  have hst := hP.1
  have hb := (hk _ _ (hL 0 (by omega))).1
  show zW G mX2_activeWeight 26 2 0 [.ref st] [] h _
  refine zW.aload_n (pc' := 1) dX2_activeWeight_0 rfl rfl zg0 rfl ?_
  refine zW.lamC (i := 0) (pc' := 6) dX2_activeWeight_1 rfl rfl rfl rfl rfl (Nat.le_of_ble_eq_true rfl) (Nat.le_of_ble_eq_true rfl) ?_
  refine zW.callV (r' := 2) (pc' := 9) dX2_activeWeight_6 rfl l_X2_178 rfl hst ⟨rfl, (Nat.le_of_ble_eq_true rfl)⟩ rfl (w_stSum hP hJ.1.len lc0 (Nat.le_of_ble_eq_true rfl) hb rfl rfl zc0 (Nat.le_of_ble_eq_true rfl) (V := fun c ↦ nI (c 3)) (fun H a c _ _ hc ↦ w_lmWt hc)) (zcc rfl zc0) rfl (Nat.le_of_ble_eq_true rfl) (Nat.le_of_ble_eq_true rfl) (Nat.le_of_ble_eq_true rfl) (fun _ _ q9 => ?_) (fun _ _ q9 => by cases q9.1)
  obtain ⟨q8, e9⟩ := q9
  cases q8
  replace e9 := e9.symm
  subst e9
  rw [sUpI_nat (f := fun k => sAt s.2.1 k 3) (fun k _ => rfl)]
  refine zW.i2l (pc' := 10) dX2_activeWeight_9 rfl ?_
  refine zW.lret dX2_activeWeight_10 rfl ?_
  exact ⟨rfl, rfl⟩
theorem c_activeWeight (hx : h x = some (0, .ref st :: fs)) (hP : cP h O st ll aq re rt ea ha er hr mc xs qs rs s) (hJ : sJ tt nn s) (hN : nn ≤ 10000) (hT : tt ≤ 100000) (hk : zkn G h) (hL : zkL G) : zK G mX1_activeWeight 40 2 [.ref x] h (zPu h (some (.long (nI (sUp (fun k => sAt s.2.1 k 3) s.2.1.length)).toInt64))) := by
  have hst := hP.1
  show zW G mX1_activeWeight 40 2 0 [.ref x] [] h _
  refine zW.aload_n (pc' := 1) dX1_activeWeight_0 rfl rfl zg0 rfl ?_
  refine zW.get (pc' := 4) dX1_activeWeight_1 rfl f_X1_10_0 hx ⟨rfl, (Nat.le_of_ble_eq_true rfl)⟩ rfl ?_
  refine zW.callV (r' := 2) (pc' := 7) dX1_activeWeight_4 rfl l_X1_336 rfl hst ⟨rfl, (Nat.le_of_ble_eq_true rfl)⟩ rfl (c_stActive hP hJ hN hT hk hL) zc0 rfl (Nat.le_of_ble_eq_true rfl) (Nat.le_of_ble_eq_true rfl) (Nat.le_of_ble_eq_true rfl) (fun _ _ q9 => ?_) (fun _ _ q9 => by cases q9.1)
  obtain ⟨q8, e9⟩ := q9
  cases q8
  replace e9 := e9.symm
  subst e9
  refine zW.lret dX1_activeWeight_7 rfl ?_
  exact ⟨rfl, rfl⟩
theorem zu3 {c : sC} {a b : Nat} : zu (zu c 3 a) 3 b = zu c 3 b := by
  funext f
  unfold zu
  by_cases q : f = 3
  · rw [if_pos q, if_pos q]
  · rw [if_neg q, if_neg q, if_neg q]
theorem zu3s {c : sC} : zu c 3 (c 3) = c := by
  funext f
  unfold zu
  by_cases q : f = 3
  · rw [if_pos q, q]
  · rw [if_neg q]
theorem c_weightAfter (hx : h x = some (0, .ref st :: fs)) (hP : cP h O st ll aq re rt ea ha er hr mc xs qs rs s) (hJ : sJ tt nn s) (hN : nn ≤ 10000) (hT : tt + 50 < 100000) : zK G mX1_weightAfter 40 6 [.ref x, .int id, .int y] h (cAns [eElt, eArg] h (qAfter s id y)) := by
  have hst := hP.1
  have hB := hJ.1.cB hN
  have hrt := hP.2.2.2.2.2.1
  have ht : s.1 0 ≤ tt := hJ.1.1.1
  have h20 := hJ.1.1.2.2.2.2
  show zW G mX1_weightAfter 40 6 0 [.ref x, .int id, .int y, zho, zho] [] h _
  refine zW.aload_n (pc' := 1) dX1_weightAfter_0 rfl rfl zg0 rfl ?_
  refine zW.iload_n (pc' := 2) dX1_weightAfter_1 rfl rfl (zgS (zg0)) ?_
  cases hf : sFind s.2.1 id with
  | none =>
    refine zW.callV (r' := 4) (pc' := 5) dX1_weightAfter_2 rfl l_X1_133 rfl hx ⟨rfl, (Nat.le_of_ble_eq_true rfl)⟩ rfl (w_claim0 hx hP hB hf) (zcc rfl zc0) rfl (Nat.le_of_ble_eq_true rfl) (Nat.le_of_ble_eq_true rfl) (Nat.le_of_ble_eq_true rfl) (fun _ _ q9 => by cases q9.1) (fun _ _ q9 => ?_)
    obtain ⟨q8, e9⟩ := q9
    cases q8
    replace e9 := e9.symm
    subst e9
    refine zX.out0 rfl ?_
    exact cAns.no (by unfold qAfter; rw [hf]) rfl
  | some i =>
    have hi := sFind_lt hf
    have h6 := hJ.1.b6 hi
    obtain ⟨p, hp, hc⟩ := hP.2.1.2.at hi
    refine zW.callV (r' := 2) (pc' := 5) dX1_weightAfter_2 rfl l_X1_133 rfl hx ⟨rfl, (Nat.le_of_ble_eq_true rfl)⟩ rfl (w_claim1 hx hP hB hf hp) (zcc rfl zc0) rfl (Nat.le_of_ble_eq_true rfl) (Nat.le_of_ble_eq_true rfl) (Nat.le_of_ble_eq_true rfl) (fun _ _ q9 => ?_) (fun _ _ q9 => by cases q9.1)
    obtain ⟨q8, e9⟩ := q9
    cases q8
    replace e9 := e9.symm
    subst e9
    have loop : ∀ n : Nat, h n = none → ∀ (t m k : Nat), k + m = t → t ≤ 50 → zW G mX1_weightAfter 40 2 19 [.ref x, .int id, .int (nI t), .ref n, .int (nI (k + 1))] [] (zup h n (2, cCl (zu (sAt s.2.1 i) 3 (sAft s i k)))) (cAns [eElt, eArg] h (0, nI (sAft s i t))) := by
      intro n nn9 t m
      induction m with
      | zero =>
        intro k hk ht50
        have hn := zup_s (h := h) (a := n) (c := (2, cCl (zu (sAt s.2.1 i) 3 (sAft s i k))))
        have hn2 := cCl_l hn
        refine zW.iload (pc' := 21) dX1_weightAfter_19 rfl (zgS (zgS (zgS (zgS (zg0))))) ?_
        refine zW.iload_n (pc' := 22) dX1_weightAfter_21 rfl rfl (zgS (zgS (zg0))) ?_
        refine zW.icmp_gtN (pc' := 25) 57 dX1_weightAfter_22 rfl (by decide) (by omega) (by omega) (fun b9 => ?_) (fun b9 => absurd b9 (by omega))
        refine zW.aload_n (pc' := 58) dX1_weightAfter_57 rfl rfl (zgS (zgS (zgS (zg0)))) rfl ?_
        refine zW.get (pc' := 61) dX1_weightAfter_58 rfl f_X1_162_2 hn2 ⟨rfl, (Nat.le_of_ble_eq_true rfl)⟩ rfl ?_
        refine zW.drop (zle.up nn9) ?_
        refine zW.iret dX1_weightAfter_61 rfl (rfl) ?_
        refine cAns.ok ?_
        rw [show (zu (sAt s.2.1 i) 3 (sAft s i k)) 3 = sAft s i k from zu_s, show k = t by omega]
      | succ m ih =>
        intro k hk ht50
        have hn := zup_s (h := h) (a := n) (c := (2, cCl (zu (sAt s.2.1 i) 3 (sAft s i k))))
        have hx1 := (zup_n (c := (2, cCl (zu (sAt s.2.1 i) 3 (sAft s i k)))) (zfresh nn9 hx)).trans hx
        have hst1 := (zup_n (c := (2, cCl (zu (sAt s.2.1 i) 3 (sAft s i k)))) (zfresh nn9 hst)).trans hst
        have hrt1 := (zup_n (c := (2, cCl (zu (sAt s.2.1 i) 3 (sAft s i k)))) (zfresh nn9 hrt)).trans hrt
        refine zW.iload (pc' := 21) dX1_weightAfter_19 rfl (zgS (zgS (zgS (zgS (zg0))))) ?_
        refine zW.iload_n (pc' := 22) dX1_weightAfter_21 rfl rfl (zgS (zgS (zg0))) ?_
        refine zW.icmp_gtN (pc' := 25) 57 dX1_weightAfter_22 rfl (by decide) (by omega) (by omega) (fun b9 => absurd b9 (by omega)) (fun b9 => ?_)
        refine zW.aload_n (pc' := 26) dX1_weightAfter_25 rfl rfl (zgS (zgS (zgS (zg0)))) rfl ?_
        refine zW.aload_n (pc' := 27) dX1_weightAfter_26 rfl rfl zg0 rfl ?_
        refine zW.get (pc' := 30) dX1_weightAfter_27 rfl f_X1_10_0 hx1 ⟨rfl, (Nat.le_of_ble_eq_true rfl)⟩ rfl ?_
        refine zW.get (pc' := 33) dX1_weightAfter_30 rfl f_X1_177_1 hst1 ⟨rfl, (Nat.le_of_ble_eq_true rfl)⟩ rfl ?_
        refine zW.aload_n (pc' := 34) dX1_weightAfter_33 rfl rfl zg0 rfl ?_
        refine zW.get (pc' := 37) dX1_weightAfter_34 rfl f_X1_10_0 hx1 ⟨rfl, (Nat.le_of_ble_eq_true rfl)⟩ rfl ?_
        refine zW.get (pc' := 40) dX1_weightAfter_37 rfl f_X1_181_1 hst1 ⟨rfl, (Nat.le_of_ble_eq_true rfl)⟩ rfl ?_
        refine zW.iload (pc' := 42) dX1_weightAfter_40 rfl (zgS (zgS (zgS (zgS (zg0))))) ?_
        refine zW.iaddN (pc' := 43) dX1_weightAfter_42 rfl ?_
        refine zW.callS (r' := 0) (pc' := 46) dX1_weightAfter_43 rfl l_X1_184 rfl (w_phaseC (t := s.1 0 + (k + 1)) (by omega)) (zcc rfl zc0) rfl (Nat.le_of_ble_eq_true rfl) (Nat.le_of_ble_eq_true rfl) (Nat.le_of_ble_eq_true rfl) (fun _ _ q9 => ?_) (fun _ _ q9 => by cases q9.1)
        obtain ⟨q8, e9⟩ := q9
        cases q8
        replace e9 := e9.symm
        subst e9
        have hp4 : (s.1 0 + (k + 1)) / 4 % 4 < 4 := Nat.mod_lt _ (by decide)
        have hle := sAft_le hJ.1 hi (k := k)
        refine zW.ialdN (pc' := 47) dX1_weightAfter_46 rfl hrt1 rfl (hp4) (Nat.le_of_ble_eq_true rfl) ?_
        have e3 : (zu (sAt s.2.1 i) 3 (sAft s i k)) 3 = sAft s i k := zu_s
        have e6 : (zu (sAt s.2.1 i) 3 (sAft s i k)) 6 = sAt s.2.1 i 6 := zu_n (by decide)
        refine zW.callV (r' := 0) (pc' := 50) dX1_weightAfter_47 rfl l_X1_317 rfl hn ⟨rfl, (Nat.le_of_ble_eq_true rfl)⟩ rfl (w_clInterest hn (p := s.1 (10 + (s.1 0 + (k + 1)) / 4 % 4)) (by rw [e6]; exact h6) (by rw [e3]; exact hle) (h20 _ hp4)) (zcc rfl zc0) rfl (Nat.le_of_ble_eq_true rfl) (Nat.le_of_ble_eq_true rfl) (Nat.le_of_ble_eq_true rfl) (fun _ _ q9 => ?_) (fun _ _ q9 => absurd q9 zO.no)
        obtain ⟨_, q8, e1, e9, -⟩ := q9
        cases q8
        subst e1
        rw [zup_up] at e9
        have e4 : (if (zu (sAt s.2.1 i) 3 (sAft s i k)) 6 = 0 then zu (zu (sAt s.2.1 i) 3 (sAft s i k)) 3 (sGrow ((zu (sAt s.2.1 i) 3 (sAft s i k)) 3) (s.1 (10 + (s.1 0 + (k + 1)) / 4 % 4))) else zu (sAt s.2.1 i) 3 (sAft s i k)) = zu (sAt s.2.1 i) 3 (sAft s i (k + 1)) := by
          rw [e6, e3, sAft]
          by_cases q : sAt s.2.1 i 6 = 0
          · rw [if_pos q, if_pos q, zu3]
          · rw [if_neg q, if_neg q]
        rw [e4] at e9
        subst e9
        refine zW.pop (pc' := 51) dX1_weightAfter_50 rfl rfl ?_
        refine zW.iincN (pc' := 54) (n := 1) dX1_weightAfter_51 rfl (Nat.le_of_ble_eq_true rfl) (zgS (zgS (zgS (zgS (zg0))))) (zsS (zsS (zsS (zsS (zs0))))) ?_
        refine zW.goto 19 dX1_weightAfter_54 (by decide) ?_
        exact ih (k + 1) (by omega) ht50
    refine zW.callV (r' := 2) (pc' := 8) dX1_weightAfter_5 rfl l_X1_314 rfl hc ⟨rfl, (Nat.le_of_ble_eq_true rfl)⟩ rfl (w_clCopy hc) zc0 rfl (Nat.le_of_ble_eq_true rfl) (Nat.le_of_ble_eq_true rfl) (Nat.le_of_ble_eq_true rfl) (fun _ _ q9 => ?_) (fun _ _ q9 => absurd q9 zO.no)
    obtain ⟨_, q8, n, e1, nn9, e9, -⟩ := q9
    cases q8
    subst e1
    refine zW.astore_n (pc' := 9) dX1_weightAfter_8 rfl rfl (Nat.le_of_ble_eq_true rfl) rfl (zsS (zsS (zsS (zs0)))) ?_
    refine zW.iload_n (pc' := 10) dX1_weightAfter_9 rfl rfl (zgS (zgS (zg0))) ?_
    have hx1 := zpres e9 (zfresh nn9 hx) hx
    by_cases q : sIn y (nI 0) (nI 50) = true
    · refine zW.callS (r' := 0) (pc' := 13) dX1_weightAfter_10 rfl l_X1_305 rfl (w_isFc1 q) (zcc rfl zc0) rfl (Nat.le_of_ble_eq_true rfl) (Nat.le_of_ble_eq_true rfl) (Nat.le_of_ble_eq_true rfl) (fun _ _ q9 => ?_) (fun _ _ q9 => by cases q9.1)
      obtain ⟨q8, e9⟩ := q9
      cases q8
      replace e9 := e9.symm
      subst e9
      refine zW.callS (r' := 0) (pc' := 16) dX1_weightAfter_13 rfl l_X1_88 rfl (w_chkArgument1) (zcc rfl zc0) rfl (Nat.le_of_ble_eq_true rfl) (Nat.le_of_ble_eq_true rfl) (Nat.le_of_ble_eq_true rfl) (fun _ _ q9 => ?_) (fun _ _ q9 => by cases q9.1)
      obtain ⟨q8, e9⟩ := q9
      cases q8
      replace e9 := e9.symm
      subst e9
      obtain ⟨t, hm, -, h3, e⟩ := sIn_nat q (by decide) (by decide)
      rw [hm]
      refine zW.iconst (pc' := 17) (nI 1) dX1_weightAfter_16 rfl (by decide) ?_
      refine zW.istore (pc' := 19) dX1_weightAfter_17 rfl (Nat.le_of_ble_eq_true rfl) (zsS (zsS (zsS (zsS (zs0))))) ?_
      subst e9
      have l := loop n nn9 t t 0 (Nat.zero_add _) h3
      rw [show sAft s i 0 = sAt s.2.1 i 3 from rfl, zu3s] at l
      refine (zW.pay l (by omega)).post fun o h' q9 => ?_
      rw [show qAfter s id (nI t) = (0, nI (sAft s i t)) by unfold qAfter; rw [hf, ← hm]; refine (if_pos q).trans ?_; rw [e]]
      exact q9
    · refine zW.callS (r' := 0) (pc' := 13) dX1_weightAfter_10 rfl l_X1_305 rfl (w_isFc0 q) (zcc rfl zc0) rfl (Nat.le_of_ble_eq_true rfl) (Nat.le_of_ble_eq_true rfl) (Nat.le_of_ble_eq_true rfl) (fun _ _ q9 => ?_) (fun _ _ q9 => by cases q9.1)
      obtain ⟨q8, e9⟩ := q9
      cases q8
      replace e9 := e9.symm
      subst e9
      subst e9
      refine zW.drop (zle.up nn9) ?_
      refine zW.callS (r' := 2) (pc' := 16) dX1_weightAfter_13 rfl l_X1_88 rfl (w_chkArgument0) (zcc rfl zc0) rfl (Nat.le_of_ble_eq_true rfl) (Nat.le_of_ble_eq_true rfl) (Nat.le_of_ble_eq_true rfl) (fun _ _ q9 => by cases q9.1) (fun _ _ q9 => ?_)
      obtain ⟨q8, e9⟩ := q9
      cases q8
      replace e9 := e9.symm
      subst e9
      refine zX.out0 rfl ?_
      exact cAns.no (by unfold qAfter; rw [hf]; exact if_neg q) rfl
end
