/-! THE CLASS's changes: tick, advance, audit, setRate; the worlds' other calls -/
section
set_option maxRecDepth 100000
variable {G : zG} {h h' h1 : zH} {O U V : Nat → Prop} {x st tt nn e : Nat} {X : List zA} {w : sW} {id y z p q u : Int32} {R : sR}
/-- a tick's outcome -/
def sTick1 (s : sS) : sR := (0, (sTick s).1, (sTick s).2)
theorem c_tick (hk : zkn G h) (hZ : zkI G) (hG : cReg x e X w h U) (he : e ≤ 1) (hJ : sJ tt nn w.1) (hN : nn ≤ 10000) (hT : tt + 50 < 100000) : zK G mX1_tick 30 1500 [.ref x] h (cChg x e X U h w (sTick1 w.1)) := by
  obtain ⟨st, O, hS, l, k⟩ := hG
  obtain ⟨fs, hx, -⟩ := k.hx
  show zW G mX1_tick 30 1500 0 [.ref x] [] h _
  refine zW.aload_n (pc' := 1) dX1_tick_0 rfl rfl zg0 rfl ?_
  refine zW.callV (r' := 78) (pc' := 4) dX1_tick_1 rfl l_X1_101 rfl hx ⟨rfl, (Nat.le_of_ble_eq_true rfl)⟩ rfl (c_begin hk hZ hS hJ hN he k) zc0 rfl (Nat.le_of_ble_eq_true rfl) (Nat.le_of_ble_eq_true rfl) (Nat.le_of_ble_eq_true rfl) (fun _ _ q9 => ?_) (fun _ _ q9 => absurd q9 zO.no)
  obtain ⟨_, q8, e1, k1, z1⟩ := q9
  cases q8
  subst e1
  obtain ⟨fs1, hx1, -⟩ := k1.hx
  have hS1 := hS.fr z1 fun b hb q => q.2 hb
  obtain ⟨f2, hst1⟩ := cS.cell hS1
  refine zW.aload_n (pc' := 5) dX1_tick_4 rfl rfl zg0 rfl ?_
  refine zW.get (pc' := 8) dX1_tick_5 rfl f_X1_10_0 hx1 ⟨rfl, (Nat.le_of_ble_eq_true rfl)⟩ rfl ?_
  refine zW.callV (r' := 28) (pc' := 11) dX1_tick_8 rfl l_X1_165 rfl hst1 ⟨rfl, (Nat.le_of_ble_eq_true rfl)⟩ rfl (w_stTick (z1.kn hk) hZ hN (by omega) hJ.1 hJ.2 hS1) zc0 rfl (Nat.le_of_ble_eq_true rfl) (Nat.le_of_ble_eq_true rfl) (Nat.le_of_ble_eq_true rfl) (fun _ _ q9 => ?_) (fun _ _ q9 => absurd q9 zO.no)
  obtain ⟨_, q8, e1, hS2, z2⟩ := q9
  cases q8
  subst e1
  refine zW.iret dX1_tick_11 rfl (rfl) ?_
  exact cChg.ok rfl (cReg.done l z1 k1 z2 hS2)
theorem c_advance (hk : zkn G h) (hZ : zkI G) (hG : cReg x e X w h U) (he : e ≤ 1) (hJ : sJ tt nn w.1) (hN : nn ≤ 10000) (hT : tt + 50 < 100000) : zK G mX1_advance 30 1500 [.ref x, .int y] h (cChg x e X U h w (sAdvance w.1 y)) := by
  obtain ⟨st, O, hS, l, k⟩ := hG
  obtain ⟨fs, hx, -⟩ := k.hx
  show zW G mX1_advance 30 1500 0 [.ref x, .int y] [] h _
  refine zW.iload_n (pc' := 1) dX1_advance_0 rfl rfl (zgS (zg0)) ?_
  refine zW.iconst (pc' := 2) (nI 1) dX1_advance_1 rfl (by decide) ?_
  refine zW.bipush (pc' := 4) (nI 50) dX1_advance_2 rfl (by decide) ?_
  refine zW.callS (r' := 0) (pc' := 7) dX1_advance_4 rfl l_X1_52 rfl (w_btw) (zcc rfl (zcc rfl (zcc rfl zc0))) rfl (Nat.le_of_ble_eq_true rfl) (Nat.le_of_ble_eq_true rfl) (Nat.le_of_ble_eq_true rfl) (fun _ _ q9 => ?_) (fun _ _ q9 => by cases q9.1)
  obtain ⟨q8, e9⟩ := q9
  cases q8
  replace e9 := e9.symm
  subst e9
  by_cases q : sIn y (nI 1) (nI 50) = true
  rotate_left
  · rw [if_neg q]
    refine zW.callS (r' := 2) (pc' := 10) dX1_advance_7 rfl l_X1_88 rfl (w_chkArgument0) (zcc rfl zc0) rfl (Nat.le_of_ble_eq_true rfl) (Nat.le_of_ble_eq_true rfl) (Nat.le_of_ble_eq_true rfl) (fun _ _ q9 => by cases q9.1) (fun _ _ q9 => ?_)
    obtain ⟨q8, e9⟩ := q9
    cases q8
    replace e9 := e9.symm
    subst e9
    refine zX.out0 rfl ?_
    exact cChg.no (k := 1) (by unfold sAdvance; rw [if_neg q]) rfl
  rw [if_pos q]
  refine zW.callS (r' := 0) (pc' := 10) dX1_advance_7 rfl l_X1_88 rfl (w_chkArgument1) (zcc rfl zc0) rfl (Nat.le_of_ble_eq_true rfl) (Nat.le_of_ble_eq_true rfl) (Nat.le_of_ble_eq_true rfl) (fun _ _ q9 => ?_) (fun _ _ q9 => by cases q9.1)
  obtain ⟨q8, e9⟩ := q9
  cases q8
  replace e9 := e9.symm
  subst e9
  refine zW.aload_n (pc' := 11) dX1_advance_10 rfl rfl zg0 rfl ?_
  refine zW.callV (r' := 78) (pc' := 14) dX1_advance_11 rfl l_X1_101 rfl hx ⟨rfl, (Nat.le_of_ble_eq_true rfl)⟩ rfl (c_begin hk hZ hS hJ hN he k) zc0 rfl (Nat.le_of_ble_eq_true rfl) (Nat.le_of_ble_eq_true rfl) (Nat.le_of_ble_eq_true rfl) (fun _ _ q9 => ?_) (fun _ _ q9 => absurd q9 zO.no)
  obtain ⟨_, q8, e1, k1, z1⟩ := q9
  cases q8
  subst e1
  obtain ⟨fs1, hx1, -⟩ := k1.hx
  have hS1 := hS.fr z1 fun b hb q => q.2 hb
  obtain ⟨f2, hst1⟩ := cS.cell hS1
  obtain ⟨m, hm, -, h3, em⟩ := sIn_nat q (by decide) (by decide)
  subst hm
  refine zW.pay (r1 := 0 + 28 * m) ?_ (by omega)
  refine zW.aload_n (pc' := 15) dX1_advance_14 rfl rfl zg0 rfl ?_
  refine zW.get (pc' := 18) dX1_advance_15 rfl f_X1_10_0 hx1 ⟨rfl, (Nat.le_of_ble_eq_true rfl)⟩ rfl ?_
  refine zW.iload_n (pc' := 19) dX1_advance_18 rfl rfl (zgS (zg0)) ?_
  refine zW.callV (r' := (28*m)) (pc' := 22) dX1_advance_19 rfl l_X1_168 rfl hst1 ⟨rfl, (Nat.le_of_ble_eq_true rfl)⟩ rfl (w_stAdvance (z1.kn hk) hZ hN (t := m) (tt := tt) (by omega) hJ.1 hJ.2 hS1) (zcc rfl zc0) rfl (Nat.le_of_ble_eq_true rfl) (Nat.le_of_ble_eq_true rfl) (Nat.le_of_ble_eq_true rfl) (fun _ _ q9 => ?_) (fun _ _ q9 => absurd q9 zO.no)
  obtain ⟨_, q8, e1, hS2, z2⟩ := q9
  cases q8
  subst e1
  refine zW.iret dX1_advance_22 rfl (rfl) ?_
  refine cChg.ok ?_ (cReg.done l z1 k1 z2 hS2)
  unfold sAdvance
  rw [if_pos q, em]
theorem c_audit (hk : zkn G h) (hZ : zkI G) (hG : cReg x e X w h U) (he : e ≤ 1) (hJ : sJ tt nn w.1) (hN : nn ≤ 10000) : zK G mX1_audit 30 1500 [.ref x, .int y] h (cChg x e X U h w (sAudit w.1 y)) := by
  obtain ⟨st, O, hS, l, k⟩ := hG
  obtain ⟨fs, hx, -⟩ := k.hx
  show zW G mX1_audit 30 1500 0 [.ref x, .int y] [] h _
  refine zW.iload_n (pc' := 1) dX1_audit_0 rfl rfl (zgS (zg0)) ?_
  refine zW.iconst (pc' := 2) (nI 1) dX1_audit_1 rfl (by decide) ?_
  refine zW.bipush (pc' := 4) (nI 12) dX1_audit_2 rfl (by decide) ?_
  refine zW.callS (r' := 0) (pc' := 7) dX1_audit_4 rfl l_X1_52 rfl (w_btw) (zcc rfl (zcc rfl (zcc rfl zc0))) rfl (Nat.le_of_ble_eq_true rfl) (Nat.le_of_ble_eq_true rfl) (Nat.le_of_ble_eq_true rfl) (fun _ _ q9 => ?_) (fun _ _ q9 => by cases q9.1)
  obtain ⟨q8, e9⟩ := q9
  cases q8
  replace e9 := e9.symm
  subst e9
  by_cases q : sIn y (nI 1) (nI 12) = true
  rotate_left
  · rw [if_neg q]
    refine zW.callS (r' := 2) (pc' := 10) dX1_audit_7 rfl l_X1_88 rfl (w_chkArgument0) (zcc rfl zc0) rfl (Nat.le_of_ble_eq_true rfl) (Nat.le_of_ble_eq_true rfl) (Nat.le_of_ble_eq_true rfl) (fun _ _ q9 => by cases q9.1) (fun _ _ q9 => ?_)
    obtain ⟨q8, e9⟩ := q9
    cases q8
    replace e9 := e9.symm
    subst e9
    refine zX.out0 rfl ?_
    exact cChg.no (k := 1) (by unfold sAudit; rw [if_neg q]) rfl
  rw [if_pos q]
  refine zW.callS (r' := 0) (pc' := 10) dX1_audit_7 rfl l_X1_88 rfl (w_chkArgument1) (zcc rfl zc0) rfl (Nat.le_of_ble_eq_true rfl) (Nat.le_of_ble_eq_true rfl) (Nat.le_of_ble_eq_true rfl) (fun _ _ q9 => ?_) (fun _ _ q9 => by cases q9.1)
  obtain ⟨q8, e9⟩ := q9
  cases q8
  replace e9 := e9.symm
  subst e9
  refine zW.aload_n (pc' := 11) dX1_audit_10 rfl rfl zg0 rfl ?_
  refine zW.callV (r' := 78) (pc' := 14) dX1_audit_11 rfl l_X1_101 rfl hx ⟨rfl, (Nat.le_of_ble_eq_true rfl)⟩ rfl (c_begin hk hZ hS hJ hN he k) zc0 rfl (Nat.le_of_ble_eq_true rfl) (Nat.le_of_ble_eq_true rfl) (Nat.le_of_ble_eq_true rfl) (fun _ _ q9 => ?_) (fun _ _ q9 => absurd q9 zO.no)
  obtain ⟨_, q8, e1, k1, z1⟩ := q9
  cases q8
  subst e1
  obtain ⟨fs1, hx1, -⟩ := k1.hx
  have hS1 := hS.fr z1 fun b hb q => q.2 hb
  obtain ⟨f2, hst1⟩ := cS.cell hS1
  obtain ⟨m, hm, -, h3, em⟩ := sIn_nat q (by decide) (by decide)
  subst hm
  refine zW.aload_n (pc' := 15) dX1_audit_14 rfl rfl zg0 rfl ?_
  refine zW.get (pc' := 18) dX1_audit_15 rfl f_X1_10_0 hx1 ⟨rfl, (Nat.le_of_ble_eq_true rfl)⟩ rfl ?_
  refine zW.iload_n (pc' := 19) dX1_audit_18 rfl rfl (zgS (zg0)) ?_
  refine zW.callV (r' := 60) (pc' := 22) dX1_audit_19 rfl l_X1_171 rfl hst1 ⟨rfl, (Nat.le_of_ble_eq_true rfl)⟩ rfl (w_stAudit hJ.1 hJ.2 hN hS1 (n := m) (by omega)) (zcc rfl zc0) rfl (Nat.le_of_ble_eq_true rfl) (Nat.le_of_ble_eq_true rfl) (Nat.le_of_ble_eq_true rfl) (fun _ _ q9 => ?_) (fun _ _ q9 => absurd q9 zO.no)
  obtain ⟨_, q8, e1, hS2, z2⟩ := q9
  cases q8
  subst e1
  refine zW.iret dX1_audit_22 rfl (rfl) ?_
  refine cChg.ok ?_ (cReg.done l z1 k1 z2 (hS2.up fun b hb => Or.inl hb))
  unfold sAudit
  rw [if_pos q, em]
theorem c_setRate (hk : zkn G h) (hZ : zkI G) (hG : cReg x e X w h U) (he : e ≤ 1) (hJ : sJ tt nn w.1) (hN : nn ≤ 10000) : zK G mX1_setRate 30 1500 [.ref x, .int y, .int z] h (cChg x e X U h w (sSetRate w.1 y z)) := by
  obtain ⟨st, O, ⟨ll, aq, re, rt, ea, ha, er, hr, mc, xs, qs, rs, hP⟩, l, k⟩ := hG
  obtain ⟨fs, hx, -⟩ := k.hx
  have hS : cS h O st w.1 := ⟨ll, aq, re, rt, ea, ha, er, hr, mc, xs, qs, rs, hP⟩
  have bad : ¬ (sIn y (nI 0) (nI 3) = true ∧ sIn z (nI 0) (nI 20) = true) → zW G mX1_setRate 30 1500 21 [.ref x, .int y, .int z, zho] [] h (cChg x e X U h w (sSetRate w.1 y z)) := fun q => by
    refine zW.iconst (pc' := 22) (nI 0) dX1_setRate_21 rfl (by decide) ?_
    refine zW.callS (r' := 2) (pc' := 25) dX1_setRate_22 rfl l_X1_88 rfl (w_chkArgument0) (zcc rfl zc0) rfl (Nat.le_of_ble_eq_true rfl) (Nat.le_of_ble_eq_true rfl) (Nat.le_of_ble_eq_true rfl) (fun _ _ q9 => by cases q9.1) (fun _ _ q9 => ?_)
    obtain ⟨q8, e9⟩ := q9
    cases q8
    replace e9 := e9.symm
    subst e9
    refine zX.out0 rfl ?_
    exact cChg.no (k := 1) (by unfold sSetRate; rw [if_neg q]) rfl
  show zW G mX1_setRate 30 1500 0 [.ref x, .int y, .int z, zho] [] h _
  refine zW.iload_n (pc' := 1) dX1_setRate_0 rfl rfl (zgS (zg0)) ?_
  by_cases q1 : sIn y (nI 0) (nI 3) = true
  rotate_left
  · refine zW.callS (r' := 0) (pc' := 4) dX1_setRate_1 rfl l_X1_174 rfl (w_xisPhase0 q1) (zcc rfl zc0) rfl (Nat.le_of_ble_eq_true rfl) (Nat.le_of_ble_eq_true rfl) (Nat.le_of_ble_eq_true rfl) (fun _ _ q9 => ?_) (fun _ _ q9 => by cases q9.1)
    obtain ⟨q8, e9⟩ := q9
    cases q8
    replace e9 := e9.symm
    subst e9
    refine zW.if_eqN (pc' := 7) 21 dX1_setRate_4 rfl (by decide) (by omega) (fun b9 => ?_) (fun b9 => absurd b9 (by omega))
    exact bad fun t => q1 t.1
  refine zW.callS (r' := 0) (pc' := 4) dX1_setRate_1 rfl l_X1_174 rfl (w_xisPhase1 q1) (zcc rfl zc0) rfl (Nat.le_of_ble_eq_true rfl) (Nat.le_of_ble_eq_true rfl) (Nat.le_of_ble_eq_true rfl) (fun _ _ q9 => ?_) (fun _ _ q9 => by cases q9.1)
  obtain ⟨q8, e9⟩ := q9
  cases q8
  replace e9 := e9.symm
  subst e9
  refine zW.if_eqN (pc' := 7) 21 dX1_setRate_4 rfl (by decide) (by omega) (fun b9 => absurd b9 (by omega)) (fun b9 => ?_)
  refine zW.iload_n (pc' := 8) dX1_setRate_7 rfl rfl (zgS (zgS (zg0))) ?_
  refine zW.iconst (pc' := 9) (nI 0) dX1_setRate_8 rfl (by decide) ?_
  refine zW.bipush (pc' := 11) (nI 20) dX1_setRate_9 rfl (by decide) ?_
  refine zW.callS (r' := 0) (pc' := 14) dX1_setRate_11 rfl l_X1_52 rfl (w_btw) (zcc rfl (zcc rfl (zcc rfl zc0))) rfl (Nat.le_of_ble_eq_true rfl) (Nat.le_of_ble_eq_true rfl) (Nat.le_of_ble_eq_true rfl) (fun _ _ q9 => ?_) (fun _ _ q9 => by cases q9.1)
  obtain ⟨q8, e9⟩ := q9
  cases q8
  replace e9 := e9.symm
  subst e9
  by_cases q2 : sIn z (nI 0) (nI 20) = true
  rotate_left
  · rw [if_neg q2]
    refine zW.if_eqN (pc' := 17) 21 dX1_setRate_14 rfl (by decide) (by omega) (fun b9 => ?_) (fun b9 => absurd b9 (by omega))
    exact bad fun t => q2 t.2
  rw [if_pos q2]
  refine zW.if_eqN (pc' := 17) 21 dX1_setRate_14 rfl (by decide) (by omega) (fun b9 => absurd b9 (by omega)) (fun b9 => ?_)
  refine zW.iconst (pc' := 18) (nI 1) dX1_setRate_17 rfl (by decide) ?_
  refine zW.goto 22 dX1_setRate_18 (by decide) ?_
  refine zW.callS (r' := 0) (pc' := 25) dX1_setRate_22 rfl l_X1_88 rfl (w_chkArgument1) (zcc rfl zc0) rfl (Nat.le_of_ble_eq_true rfl) (Nat.le_of_ble_eq_true rfl) (Nat.le_of_ble_eq_true rfl) (fun _ _ q9 => ?_) (fun _ _ q9 => by cases q9.1)
  obtain ⟨q8, e9⟩ := q9
  cases q8
  replace e9 := e9.symm
  subst e9
  refine zW.aload_n (pc' := 26) dX1_setRate_25 rfl rfl zg0 rfl ?_
  refine zW.callV (r' := 78) (pc' := 29) dX1_setRate_26 rfl l_X1_101 rfl hx ⟨rfl, (Nat.le_of_ble_eq_true rfl)⟩ rfl (c_begin hk hZ hS hJ hN he k) zc0 rfl (Nat.le_of_ble_eq_true rfl) (Nat.le_of_ble_eq_true rfl) (Nat.le_of_ble_eq_true rfl) (fun _ _ q9 => ?_) (fun _ _ q9 => absurd q9 zO.no)
  obtain ⟨_, q8, e1, k1, z1⟩ := q9
  cases q8
  subst e1
  obtain ⟨fs1, hx1, -⟩ := k1.hx
  have hP1 := hP.fr z1 fun b hb q => q.2 hb
  obtain ⟨m1, e1, -, h1, e1'⟩ := sIn_nat q1 (by decide) (by decide)
  obtain ⟨m2, e2, -, h2, e2'⟩ := sIn_nat q2 (by decide) (by decide)
  subst e1 e2
  have hst1 := hP1.1
  have hrt1 := hP1.2.2.2.2.2.1
  have zf := hP1.rf
  refine zW.aload_n (pc' := 30) dX1_setRate_29 rfl rfl zg0 rfl ?_
  refine zW.get (pc' := 33) dX1_setRate_30 rfl f_X1_10_0 hx1 ⟨rfl, (Nat.le_of_ble_eq_true rfl)⟩ rfl ?_
  refine zW.get (pc' := 36) dX1_setRate_33 rfl f_X1_177_1 hst1 ⟨rfl, (Nat.le_of_ble_eq_true rfl)⟩ rfl ?_
  refine zW.iload_n (pc' := 37) dX1_setRate_36 rfl rfl (zgS (zg0)) ?_
  refine zW.ialdN (pc' := 38) dX1_setRate_37 rfl hrt1 rfl (by omega) (Nat.le_of_ble_eq_true rfl) ?_
  refine zW.istore_n (pc' := 39) dX1_setRate_38 rfl rfl (Nat.le_of_ble_eq_true rfl) (zsS (zsS (zsS (zs0)))) ?_
  refine zW.aload_n (pc' := 40) dX1_setRate_39 rfl rfl zg0 rfl ?_
  refine zW.get (pc' := 43) dX1_setRate_40 rfl f_X1_10_0 hx1 ⟨rfl, (Nat.le_of_ble_eq_true rfl)⟩ rfl ?_
  refine zW.get (pc' := 46) dX1_setRate_43 rfl f_X1_177_1 hst1 ⟨rfl, (Nat.le_of_ble_eq_true rfl)⟩ rfl ?_
  refine zW.iload_n (pc' := 47) dX1_setRate_46 rfl rfl (zgS (zg0)) ?_
  refine zW.iload_n (pc' := 48) dX1_setRate_47 rfl rfl (zgS (zgS (zg0))) ?_
  refine zW.iastNK (pc' := 49) dX1_setRate_48 rfl hrt1 (by omega) (Nat.le_of_ble_eq_true rfl) (fun _ e9 k9 => ?_)
  have hx1 := zpres e9 (zne hx1 hrt1 (by decide)) hx1
  have hst1 := zpres e9 (zne hst1 hrt1 (by decide)) hst1
  have zf := zf.put e9 hrt1 (by decide) (Or.inl hP.2.2.2.2.2.2.2.2.2.2.2)
  have ert := e9
  replace hrt1 := k9
  clear e9 k9
  refine zW.iload_n (pc' := 50) dX1_setRate_49 rfl rfl (zgS (zgS (zgS (zg0)))) ?_
  refine zW.iret dX1_setRate_50 rfl (rfl) ?_
  have hP2 := hP1.rate (i := m1) (x := m2) (by omega) ert
  refine cChg.ok ?_ (cReg.done l z1 k1 zf (cS.up ⟨ll, aq, re, rt, ea, ha, er, hr, mc, xs, qs, rs, hP2⟩ fun b hb => Or.inl hb))
  unfold sSetRate
  rw [if_pos ⟨q1, q2⟩, e1', e2']
end
