/-! THE CLASS's changes: add, sign, countersign, settle -/
section
set_option maxRecDepth 100000
variable {G : zG} {h h' h1 : zH} {O U V : Nat → Prop} {x st tt nn e : Nat} {X : List zA} {w : sW} {id y z p q u : Int32} {R : sR}
theorem cChg.no {k v : Nat} {s' : sS} {E : String} (e1 : R = (k + 1, v, s')) (hE : cEx (k + 1) = E) : cChg x e X U h w R (.inr E) h := by
  subst e1; subst hE
  exact Or.inr ⟨Nat.succ_ne_zero _, rfl, rfl⟩
theorem cChg.ok {v : Nat} {s' : sS} (e1 : R = (0, v, s')) (k : cReg x e X (s', wB e w) h' (zext U h) ∧ zfr U h h') : cChg x e X U h w R (.inl (some (.int (nI v)))) h' := by
  subst e1
  exact Or.inl ⟨rfl, rfl, k.1, k.2⟩
theorem cRest.hx {wr : List sS × Option sS × List Nat × List Nat × Nat × Nat} (k : cRest x st e X wr h V) : ∃ fs, h x = some (0, .ref st :: fs) ∧ V x := by
  obtain ⟨sv, hq, ib, lb, SH, -, Ox, ⟨⟨hx, ox⟩, -⟩, lx, -⟩ := k
  exact ⟨_, hx, (lx x ox).1⟩
theorem cP.rf {ll aq re rt ea ha er hr : Nat} {mc : Int32} {xs : List (Nat × Nat)} {qs rs : List Nat} {s : sS} (_ : cP h O st ll aq re rt ea ha er hr mc xs qs rs s) : zfr O h h := zfr.rf
theorem cCl_sg {c : sC} {m e : Nat} : cCl (zu (zu c 6 (m + 1)) 4 e) = [.int (nI (c 0)), .int (nI (c 1)), .int (nI (c 2)), .int (nI (c 3)), .int (nI e), .int (nI m), .int (nI (c 7) - 1), .int (nI (c 5))] := by
  have e1 : nI (m + 1) - 1 = nI m := nI_s1 (Nat.succ_pos m)
  unfold cCl
  simp only [zu, Nat.reduceEqDiff, reduceIte, e1]
theorem cCl_cg {c : sC} {m e : Nat} : cCl (zu (zu c 7 (m + 1)) 4 e) = [.int (nI (c 0)), .int (nI (c 1)), .int (nI (c 2)), .int (nI (c 3)), .int (nI e), .int (nI (c 6) - 1), .int (nI m), .int (nI (c 5))] := by
  have e1 : nI (m + 1) - 1 = nI m := nI_s1 (Nat.succ_pos m)
  unfold cCl
  simp only [zu, Nat.reduceEqDiff, reduceIte, e1]
theorem c_add (hk : zkn G h) (hZ : zkI G) (hG : cReg x e X w h U) (he : e ≤ 1) (hJ : sJ tt nn w.1) (hN : nn ≤ 10000) (hT : tt + 50 < 100000) : zK G mX1_add 30 1500 [.ref x, .int y, .int z, .int p, .int u] h (cChg x e X U h w (sAdd w.1 y z p u)) := by
  obtain ⟨st, O, hS, l, k⟩ := hG
  obtain ⟨fs, hx, -⟩ := k.hx
  obtain ⟨ll, aq, re, rt, ea, ha, er, hr, mc, xs, qs, rs, hP⟩ := id hS
  have hst := hP.1
  have hl0 := hP.2.1.1.1
  have hxl := hP.2.1.2.1
  have bad1 : ¬ (sIn y (nI 0) (nI 7) = true ∧ sIn z (nI 0) (nI 7) = true ∧ y ≠ z) → zW G mX1_add 30 1500 23 [.ref x, .int y, .int z, .int p, .int u] [] h (cChg x e X U h w (sAdd w.1 y z p u)) := fun q => by
    refine zW.iconst (pc' := 24) (nI 0) dX1_add_23 rfl (by decide) ?_
    refine zW.callS (r' := 2) (pc' := 27) dX1_add_24 rfl l_X1_88 rfl (w_chkArgument0) (zcc rfl zc0) rfl (Nat.le_of_ble_eq_true rfl) (Nat.le_of_ble_eq_true rfl) (Nat.le_of_ble_eq_true rfl) (fun _ _ q9 => by cases q9.1) (fun _ _ q9 => ?_)
    obtain ⟨q8, e9⟩ := q9
    cases q8
    replace e9 := e9.symm
    subst e9
    refine zX.out0 rfl ?_
    exact cChg.no (k := 1) (by unfold sAdd; rw [if_neg (fun t => q ⟨t.1, t.2.1, t.2.2.1⟩)]) rfl
  have bad2 : ¬ (sIn p (nI 1) (nI 999) = true ∧ sIn u (nI 1) (nI 50) = true) → zW G mX1_add 30 1500 53 [.ref x, .int y, .int z, .int p, .int u] [] h (cChg x e X U h w (sAdd w.1 y z p u)) := fun q => by
    refine zW.iconst (pc' := 54) (nI 0) dX1_add_53 rfl (by decide) ?_
    refine zW.callS (r' := 2) (pc' := 57) dX1_add_54 rfl l_X1_88 rfl (w_chkArgument0) (zcc rfl zc0) rfl (Nat.le_of_ble_eq_true rfl) (Nat.le_of_ble_eq_true rfl) (Nat.le_of_ble_eq_true rfl) (fun _ _ q9 => by cases q9.1) (fun _ _ q9 => ?_)
    obtain ⟨q8, e9⟩ := q9
    cases q8
    replace e9 := e9.symm
    subst e9
    refine zX.out0 rfl ?_
    exact cChg.no (k := 1) (by unfold sAdd; rw [if_neg (fun t => q t.2.2.2)]) rfl
  show zW G mX1_add 30 1500 0 [.ref x, .int y, .int z, .int p, .int u] [] h _
  refine zW.iload_n (pc' := 1) dX1_add_0 rfl rfl (zgS (zg0)) ?_
  by_cases q1 : sIn y (nI 0) (nI 7) = true
  rotate_left
  · refine zW.callS (r' := 0) (pc' := 4) dX1_add_1 rfl l_X1_84 rfl (w_xisPerson0 q1) (zcc rfl zc0) rfl (Nat.le_of_ble_eq_true rfl) (Nat.le_of_ble_eq_true rfl) (Nat.le_of_ble_eq_true rfl) (fun _ _ q9 => ?_) (fun _ _ q9 => by cases q9.1)
    obtain ⟨q8, e9⟩ := q9
    cases q8
    replace e9 := e9.symm
    subst e9
    refine zW.if_eqN (pc' := 7) 23 dX1_add_4 rfl (by decide) (by omega) (fun b9 => ?_) (fun b9 => absurd b9 (by omega))
    exact bad1 fun t => q1 t.1
  refine zW.callS (r' := 0) (pc' := 4) dX1_add_1 rfl l_X1_84 rfl (w_xisPerson1 q1) (zcc rfl zc0) rfl (Nat.le_of_ble_eq_true rfl) (Nat.le_of_ble_eq_true rfl) (Nat.le_of_ble_eq_true rfl) (fun _ _ q9 => ?_) (fun _ _ q9 => by cases q9.1)
  obtain ⟨q8, e9⟩ := q9
  cases q8
  replace e9 := e9.symm
  subst e9
  refine zW.if_eqN (pc' := 7) 23 dX1_add_4 rfl (by decide) (by omega) (fun b9 => absurd b9 (by omega)) (fun b9 => ?_)
  refine zW.iload_n (pc' := 8) dX1_add_7 rfl rfl (zgS (zgS (zg0))) ?_
  by_cases q2 : sIn z (nI 0) (nI 7) = true
  rotate_left
  · refine zW.callS (r' := 0) (pc' := 11) dX1_add_8 rfl l_X1_84 rfl (w_xisPerson0 q2) (zcc rfl zc0) rfl (Nat.le_of_ble_eq_true rfl) (Nat.le_of_ble_eq_true rfl) (Nat.le_of_ble_eq_true rfl) (fun _ _ q9 => ?_) (fun _ _ q9 => by cases q9.1)
    obtain ⟨q8, e9⟩ := q9
    cases q8
    replace e9 := e9.symm
    subst e9
    refine zW.if_eqN (pc' := 14) 23 dX1_add_11 rfl (by decide) (by omega) (fun b9 => ?_) (fun b9 => absurd b9 (by omega))
    exact bad1 fun t => q2 t.2.1
  refine zW.callS (r' := 0) (pc' := 11) dX1_add_8 rfl l_X1_84 rfl (w_xisPerson1 q2) (zcc rfl zc0) rfl (Nat.le_of_ble_eq_true rfl) (Nat.le_of_ble_eq_true rfl) (Nat.le_of_ble_eq_true rfl) (fun _ _ q9 => ?_) (fun _ _ q9 => by cases q9.1)
  obtain ⟨q8, e9⟩ := q9
  cases q8
  replace e9 := e9.symm
  subst e9
  refine zW.if_eqN (pc' := 14) 23 dX1_add_11 rfl (by decide) (by omega) (fun b9 => absurd b9 (by omega)) (fun b9 => ?_)
  refine zW.iload_n (pc' := 15) dX1_add_14 rfl rfl (zgS (zg0)) ?_
  refine zW.iload_n (pc' := 16) dX1_add_15 rfl rfl (zgS (zgS (zg0))) ?_
  refine zW.icmp_eq (pc' := 19) 23 dX1_add_16 rfl (by decide) (fun b1 => ?_) (fun b1 => ?_)
  · exact bad1 fun t => t.2.2 b1
  refine zW.iconst (pc' := 20) (nI 1) dX1_add_19 rfl (by decide) ?_
  refine zW.goto 24 dX1_add_20 (by decide) ?_
  refine zW.callS (r' := 0) (pc' := 27) dX1_add_24 rfl l_X1_88 rfl (w_chkArgument1) (zcc rfl zc0) rfl (Nat.le_of_ble_eq_true rfl) (Nat.le_of_ble_eq_true rfl) (Nat.le_of_ble_eq_true rfl) (fun _ _ q9 => ?_) (fun _ _ q9 => by cases q9.1)
  obtain ⟨q8, e9⟩ := q9
  cases q8
  replace e9 := e9.symm
  subst e9
  refine zW.iload_n (pc' := 28) dX1_add_27 rfl rfl (zgS (zgS (zgS (zg0)))) ?_
  refine zW.iconst (pc' := 29) (nI 1) dX1_add_28 rfl (by decide) ?_
  refine zW.sipush (pc' := 32) (nI 999) dX1_add_29 rfl (by decide) ?_
  refine zW.callS (r' := 0) (pc' := 35) dX1_add_32 rfl l_X1_52 rfl (w_btw) (zcc rfl (zcc rfl (zcc rfl zc0))) rfl (Nat.le_of_ble_eq_true rfl) (Nat.le_of_ble_eq_true rfl) (Nat.le_of_ble_eq_true rfl) (fun _ _ q9 => ?_) (fun _ _ q9 => by cases q9.1)
  obtain ⟨q8, e9⟩ := q9
  cases q8
  replace e9 := e9.symm
  subst e9
  by_cases q3 : sIn p (nI 1) (nI 999) = true
  rotate_left
  · rw [if_neg q3]
    refine zW.if_eqN (pc' := 38) 53 dX1_add_35 rfl (by decide) (by omega) (fun b9 => ?_) (fun b9 => absurd b9 (by omega))
    exact bad2 fun t => q3 t.1
  rw [if_pos q3]
  refine zW.if_eqN (pc' := 38) 53 dX1_add_35 rfl (by decide) (by omega) (fun b9 => absurd b9 (by omega)) (fun b9 => ?_)
  refine zW.iload (pc' := 40) dX1_add_38 rfl (zgS (zgS (zgS (zgS (zg0))))) ?_
  refine zW.iconst (pc' := 41) (nI 1) dX1_add_40 rfl (by decide) ?_
  refine zW.bipush (pc' := 43) (nI 50) dX1_add_41 rfl (by decide) ?_
  refine zW.callS (r' := 0) (pc' := 46) dX1_add_43 rfl l_X1_52 rfl (w_btw) (zcc rfl (zcc rfl (zcc rfl zc0))) rfl (Nat.le_of_ble_eq_true rfl) (Nat.le_of_ble_eq_true rfl) (Nat.le_of_ble_eq_true rfl) (fun _ _ q9 => ?_) (fun _ _ q9 => by cases q9.1)
  obtain ⟨q8, e9⟩ := q9
  cases q8
  replace e9 := e9.symm
  subst e9
  by_cases q4 : sIn u (nI 1) (nI 50) = true
  rotate_left
  · rw [if_neg q4]
    refine zW.if_eqN (pc' := 49) 53 dX1_add_46 rfl (by decide) (by omega) (fun b9 => ?_) (fun b9 => absurd b9 (by omega))
    exact bad2 fun t => q4 t.2
  rw [if_pos q4]
  refine zW.if_eqN (pc' := 49) 53 dX1_add_46 rfl (by decide) (by omega) (fun b9 => absurd b9 (by omega)) (fun b9 => ?_)
  refine zW.iconst (pc' := 50) (nI 1) dX1_add_49 rfl (by decide) ?_
  refine zW.goto 54 dX1_add_50 (by decide) ?_
  refine zW.callS (r' := 0) (pc' := 57) dX1_add_54 rfl l_X1_88 rfl (w_chkArgument1) (zcc rfl zc0) rfl (Nat.le_of_ble_eq_true rfl) (Nat.le_of_ble_eq_true rfl) (Nat.le_of_ble_eq_true rfl) (fun _ _ q9 => ?_) (fun _ _ q9 => by cases q9.1)
  obtain ⟨q8, e9⟩ := q9
  cases q8
  replace e9 := e9.symm
  subst e9
  refine zW.aload_n (pc' := 58) dX1_add_57 rfl rfl zg0 rfl ?_
  refine zW.get (pc' := 61) dX1_add_58 rfl f_X1_10_0 hx ⟨rfl, (Nat.le_of_ble_eq_true rfl)⟩ rfl ?_
  refine zW.get (pc' := 64) dX1_add_61 rfl f_X1_91_1 hst ⟨rfl, (Nat.le_of_ble_eq_true rfl)⟩ rfl ?_
  refine zW.callV (r' := 0) (pc' := 67) dX1_add_64 rfl l_X1_95 rfl hl0 ⟨rfl, (Nat.le_of_ble_eq_true rfl)⟩ rfl (w_llSize hl0) zc0 rfl (Nat.le_of_ble_eq_true rfl) (Nat.le_of_ble_eq_true rfl) (Nat.le_of_ble_eq_true rfl) (fun _ _ q9 => ?_) (fun _ _ q9 => by cases q9.1)
  obtain ⟨q8, e9⟩ := q9
  cases q8
  replace e9 := e9.symm
  subst e9
  rw [hxl]
  have h12 := hJ.1.len
  refine zW.bipush (pc' := 69) (nI 12) dX1_add_67 rfl (by decide) ?_
  refine zW.icmp_geN (pc' := 72) 76 dX1_add_69 rfl (by decide) (by omega) (by omega) (fun b2 => ?_) (fun b2 => ?_)
  · refine zW.iconst (pc' := 77) (nI 0) dX1_add_76 rfl (by decide) ?_
    refine zW.callS (r' := 2) (pc' := 80) dX1_add_77 rfl l_X1_98 rfl (w_chkState0) (zcc rfl zc0) rfl (Nat.le_of_ble_eq_true rfl) (Nat.le_of_ble_eq_true rfl) (Nat.le_of_ble_eq_true rfl) (fun _ _ q9 => by cases q9.1) (fun _ _ q9 => ?_)
    obtain ⟨q8, e9⟩ := q9
    cases q8
    replace e9 := e9.symm
    subst e9
    refine zX.out0 rfl ?_
    exact cChg.no (k := 2) (by unfold sAdd; rw [if_pos ⟨q1, q2, b1, q3, q4⟩, if_pos (by omega)]) rfl
  refine zW.iconst (pc' := 73) (nI 1) dX1_add_72 rfl (by decide) ?_
  refine zW.goto 77 dX1_add_73 (by decide) ?_
  refine zW.callS (r' := 0) (pc' := 80) dX1_add_77 rfl l_X1_98 rfl (w_chkState1) (zcc rfl zc0) rfl (Nat.le_of_ble_eq_true rfl) (Nat.le_of_ble_eq_true rfl) (Nat.le_of_ble_eq_true rfl) (fun _ _ q9 => ?_) (fun _ _ q9 => by cases q9.1)
  obtain ⟨q8, e9⟩ := q9
  cases q8
  replace e9 := e9.symm
  subst e9
  refine zW.aload_n (pc' := 81) dX1_add_80 rfl rfl zg0 rfl ?_
  refine zW.callV (r' := 78) (pc' := 84) dX1_add_81 rfl l_X1_101 rfl hx ⟨rfl, (Nat.le_of_ble_eq_true rfl)⟩ rfl (c_begin hk hZ hS hJ hN he k) zc0 rfl (Nat.le_of_ble_eq_true rfl) (Nat.le_of_ble_eq_true rfl) (Nat.le_of_ble_eq_true rfl) (fun _ _ q9 => ?_) (fun _ _ q9 => absurd q9 zO.no)
  obtain ⟨_, q8, e1, k1, z1⟩ := q9
  cases q8
  subst e1
  obtain ⟨fs1, hx1, -⟩ := k1.hx
  have hS1 := hS.fr z1 fun b hb q => q.2 hb
  obtain ⟨f2, hst1⟩ := cS.cell hS1
  obtain ⟨m1, e1, -, -, e1'⟩ := sIn_nat q1 (by decide) (by decide)
  obtain ⟨m2, e2, -, -, e2'⟩ := sIn_nat q2 (by decide) (by decide)
  obtain ⟨m3, e3, -, h3, e3'⟩ := sIn_nat q3 (by decide) (by decide)
  obtain ⟨m4, e4, -, h4, e4'⟩ := sIn_nat q4 (by decide) (by decide)
  subst e1 e2 e3 e4
  refine zW.aload_n (pc' := 85) dX1_add_84 rfl rfl zg0 rfl ?_
  refine zW.get (pc' := 88) dX1_add_85 rfl f_X1_10_0 hx1 ⟨rfl, (Nat.le_of_ble_eq_true rfl)⟩ rfl ?_
  refine zW.iload_n (pc' := 89) dX1_add_88 rfl rfl (zgS (zg0)) ?_
  refine zW.iload_n (pc' := 90) dX1_add_89 rfl rfl (zgS (zgS (zg0))) ?_
  refine zW.iload_n (pc' := 91) dX1_add_90 rfl rfl (zgS (zgS (zgS (zg0)))) ?_
  refine zW.iload (pc' := 93) dX1_add_91 rfl (zgS (zgS (zgS (zgS (zg0))))) ?_
  refine zW.callV (r' := 4) (pc' := 96) dX1_add_93 rfl l_X1_104 rfl hst1 ⟨rfl, (Nat.le_of_ble_eq_true rfl)⟩ rfl (w_stAdd (z1.kn hk) hZ hJ.1 hN (by omega) hS1 b2 h3 h4) (zcc rfl (zcc rfl (zcc rfl (zcc rfl zc0)))) rfl (Nat.le_of_ble_eq_true rfl) (Nat.le_of_ble_eq_true rfl) (Nat.le_of_ble_eq_true rfl) (fun _ _ q9 => ?_) (fun _ _ q9 => absurd q9 zO.no)
  obtain ⟨_, q8, e1, hS2, z2⟩ := q9
  cases q8
  subst e1
  refine zW.iret dX1_add_96 rfl (rfl) ?_
  refine cChg.ok ?_ (cReg.done l z1 k1 z2 hS2)
  unfold sAdd
  rw [if_pos ⟨q1, q2, b1, q3, q4⟩, if_neg (by omega), e1', e2', e3', e4']
theorem c_sign (hk : zkn G h) (hZ : zkI G) (hG : cReg x e X w h U) (he : e ≤ 1) (hJ : sJ tt nn w.1) (hN : nn ≤ 10000) (hT : tt + 50 < 100000) : zK G mX1_sign 30 1500 [.ref x, .int id, .int y] h (cChg x e X U h w (sSign w.1 id y)) := by
  obtain ⟨st, O, ⟨ll, aq, re, rt, ea, ha, er, hr, mc, xs, qs, rs, hP⟩, l, k⟩ := hG
  obtain ⟨fs, hx, -⟩ := k.hx
  have hS : cS h O st w.1 := ⟨ll, aq, re, rt, ea, ha, er, hr, mc, xs, qs, rs, hP⟩
  have hB := hJ.1.cB hN
  show zW G mX1_sign 30 1500 0 [.ref x, .int id, .int y, zho] [] h _
  refine zW.aload_n (pc' := 1) dX1_sign_0 rfl rfl zg0 rfl ?_
  refine zW.iload_n (pc' := 2) dX1_sign_1 rfl rfl (zgS (zg0)) ?_
  cases hf : sFind w.1.2.1 id with
  | none =>
    refine zW.callV (r' := 4) (pc' := 5) dX1_sign_2 rfl l_X1_133 rfl hx ⟨rfl, (Nat.le_of_ble_eq_true rfl)⟩ rfl (w_claim0 hx hP hB hf) (zcc rfl zc0) rfl (Nat.le_of_ble_eq_true rfl) (Nat.le_of_ble_eq_true rfl) (Nat.le_of_ble_eq_true rfl) (fun _ _ q9 => by cases q9.1) (fun _ _ q9 => ?_)
    obtain ⟨q8, e9⟩ := q9
    cases q8
    replace e9 := e9.symm
    subst e9
    refine zX.out0 rfl ?_
    exact cChg.no (k := 0) (by unfold sSign; rw [hf]) rfl
  | some i =>
    have hi := sFind_lt hf
    obtain ⟨p, hp, hc⟩ := hP.2.1.2.at hi
    refine zW.callV (r' := 2) (pc' := 5) dX1_sign_2 rfl l_X1_133 rfl hx ⟨rfl, (Nat.le_of_ble_eq_true rfl)⟩ rfl (w_claim1 hx hP hB hf hp) (zcc rfl zc0) rfl (Nat.le_of_ble_eq_true rfl) (Nat.le_of_ble_eq_true rfl) (Nat.le_of_ble_eq_true rfl) (fun _ _ q9 => ?_) (fun _ _ q9 => by cases q9.1)
    obtain ⟨q8, e9⟩ := q9
    cases q8
    replace e9 := e9.symm
    subst e9
    refine zW.astore_n (pc' := 6) dX1_sign_5 rfl rfl (Nat.le_of_ble_eq_true rfl) rfl (zsS (zsS (zsS (zs0)))) ?_
    refine zW.iload_n (pc' := 7) dX1_sign_6 rfl rfl (zgS (zgS (zg0))) ?_
    by_cases q : sIn y (nI 0) (nI 3) = true
    rotate_left
    · refine zW.callS (r' := 0) (pc' := 10) dX1_sign_7 rfl l_X1_136 rfl (w_xisWave0 q) (zcc rfl zc0) rfl (Nat.le_of_ble_eq_true rfl) (Nat.le_of_ble_eq_true rfl) (Nat.le_of_ble_eq_true rfl) (fun _ _ q9 => ?_) (fun _ _ q9 => by cases q9.1)
      obtain ⟨q8, e9⟩ := q9
      cases q8
      replace e9 := e9.symm
      subst e9
      refine zW.callS (r' := 2) (pc' := 13) dX1_sign_10 rfl l_X1_88 rfl (w_chkArgument0) (zcc rfl zc0) rfl (Nat.le_of_ble_eq_true rfl) (Nat.le_of_ble_eq_true rfl) (Nat.le_of_ble_eq_true rfl) (fun _ _ q9 => by cases q9.1) (fun _ _ q9 => ?_)
      obtain ⟨q8, e9⟩ := q9
      cases q8
      replace e9 := e9.symm
      subst e9
      refine zX.out0 rfl ?_
      exact cChg.no (k := 1) (by unfold sSign; rw [hf]; exact if_neg q) rfl
    refine zW.callS (r' := 0) (pc' := 10) dX1_sign_7 rfl l_X1_136 rfl (w_xisWave1 q) (zcc rfl zc0) rfl (Nat.le_of_ble_eq_true rfl) (Nat.le_of_ble_eq_true rfl) (Nat.le_of_ble_eq_true rfl) (fun _ _ q9 => ?_) (fun _ _ q9 => by cases q9.1)
    obtain ⟨q8, e9⟩ := q9
    cases q8
    replace e9 := e9.symm
    subst e9
    refine zW.callS (r' := 0) (pc' := 13) dX1_sign_10 rfl l_X1_88 rfl (w_chkArgument1) (zcc rfl zc0) rfl (Nat.le_of_ble_eq_true rfl) (Nat.le_of_ble_eq_true rfl) (Nat.le_of_ble_eq_true rfl) (fun _ _ q9 => ?_) (fun _ _ q9 => by cases q9.1)
    obtain ⟨q8, e9⟩ := q9
    cases q8
    replace e9 := e9.symm
    subst e9
    obtain ⟨m, hm, -, h3, em⟩ := sIn_nat q (by decide) (by decide)
    subst hm
    refine zW.aload_n (pc' := 14) dX1_sign_13 rfl rfl zg0 rfl ?_
    refine zW.aload_n (pc' := 15) dX1_sign_14 rfl rfl (zgS (zgS (zgS (zg0)))) rfl ?_
    refine zW.iload_n (pc' := 16) dX1_sign_15 rfl rfl (zgS (zgS (zg0))) ?_
    refine zW.callV (r' := 3) (pc' := 19) dX1_sign_16 rfl l_X1_139 rfl hx ⟨rfl, (Nat.le_of_ble_eq_true rfl)⟩ rfl (c_isSignable hx hP hJ hN (by omega) hi hp (m := m) (by omega)) (zcc rfl (zcc rfl zc0)) rfl (Nat.le_of_ble_eq_true rfl) (Nat.le_of_ble_eq_true rfl) (Nat.le_of_ble_eq_true rfl) (fun _ _ q9 => ?_) (fun _ _ q9 => by cases q9.1)
    obtain ⟨q8, e9⟩ := q9
    cases q8
    replace e9 := e9.symm
    subst e9
    by_cases q2 : sAt w.1.2.1 i 6 = 0 ∧ sCount w.1.2.1 6 m < 3
    rotate_left
    · rw [if_neg q2]
      refine zW.callS (r' := 2) (pc' := 22) dX1_sign_19 rfl l_X1_98 rfl (w_chkState0) (zcc rfl zc0) rfl (Nat.le_of_ble_eq_true rfl) (Nat.le_of_ble_eq_true rfl) (Nat.le_of_ble_eq_true rfl) (fun _ _ q9 => by cases q9.1) (fun _ _ q9 => ?_)
      obtain ⟨q8, e9⟩ := q9
      cases q8
      replace e9 := e9.symm
      subst e9
      refine zX.out0 rfl ?_
      exact cChg.no (k := 2) (by unfold sSign; rw [hf]; refine (if_pos q).trans ?_; rw [em]; exact if_neg q2) rfl
    rw [if_pos q2]
    refine zW.callS (r' := 0) (pc' := 22) dX1_sign_19 rfl l_X1_98 rfl (w_chkState1) (zcc rfl zc0) rfl (Nat.le_of_ble_eq_true rfl) (Nat.le_of_ble_eq_true rfl) (Nat.le_of_ble_eq_true rfl) (fun _ _ q9 => ?_) (fun _ _ q9 => by cases q9.1)
    obtain ⟨q8, e9⟩ := q9
    cases q8
    replace e9 := e9.symm
    subst e9
    refine zW.aload_n (pc' := 23) dX1_sign_22 rfl rfl zg0 rfl ?_
    refine zW.callV (r' := 78) (pc' := 26) dX1_sign_23 rfl l_X1_101 rfl hx ⟨rfl, (Nat.le_of_ble_eq_true rfl)⟩ rfl (c_begin hk hZ hS hJ hN he k) zc0 rfl (Nat.le_of_ble_eq_true rfl) (Nat.le_of_ble_eq_true rfl) (Nat.le_of_ble_eq_true rfl) (fun _ _ q9 => ?_) (fun _ _ q9 => absurd q9 zO.no)
    obtain ⟨_, q8, e1, k1, z1⟩ := q9
    cases q8
    subst e1
    have hP1 := hP.fr z1 fun b hb q => q.2 hb
    have hc1 := cCl_l (hP1.2.1.2.2.1 i p _ hp (sAt_get hi))
    have zf := hP1.rf
    refine zW.aload_n (pc' := 27) dX1_sign_26 rfl rfl (zgS (zgS (zgS (zg0)))) rfl ?_
    refine zW.iload_n (pc' := 28) dX1_sign_27 rfl rfl (zgS (zgS (zg0))) ?_
    refine zW.putK (pc' := 31) dX1_sign_28 rfl f_X1_143_2 hc1 ⟨⟨rfl, (Nat.le_of_ble_eq_true rfl)⟩, (Nat.le_of_ble_eq_true rfl)⟩ (zFw.of ft_2_5 rfl rfl) (zsS (zsS (zsS (zsS (zsS (zs0)))))) (fun _ e9 k9 => ?_)
    have zf := zf.put e9 hc1 (by decide) (Or.inl (hP.2.2.2.2.2.2.2.2.1 p (List.mem_of_getElem? hp)))
    have ec := e9
    replace hc1 := k9
    clear e9 k9
    refine zW.aload_n (pc' := 32) dX1_sign_31 rfl rfl (zgS (zgS (zgS (zg0)))) rfl ?_
    refine zW.dup (pc' := 33) dX1_sign_32 rfl rfl ?_
    refine zW.get (pc' := 36) dX1_sign_33 rfl f_X1_146_2 hc1 ⟨rfl, (Nat.le_of_ble_eq_true rfl)⟩ rfl ?_
    refine zW.iconst (pc' := 37) (nI 5) dX1_sign_36 rfl (by decide) ?_
    refine zW.iload_n (pc' := 38) dX1_sign_37 rfl rfl (zgS (zgS (zg0))) ?_
    refine zW.iaddN (pc' := 39) dX1_sign_38 rfl ?_
    refine zW.iaddN (pc' := 40) dX1_sign_39 rfl ?_
    refine zW.putK (pc' := 43) dX1_sign_40 rfl f_X1_146_2 hc1 ⟨⟨rfl, (Nat.le_of_ble_eq_true rfl)⟩, (Nat.le_of_ble_eq_true rfl)⟩ (zFw.of ft_2_4 rfl rfl) (zsS (zsS (zsS (zsS (zs0))))) (fun _ e9 k9 => ?_)
    have zf := zf.put e9 hc1 (by decide) (Or.inl (hP.2.2.2.2.2.2.2.2.1 p (List.mem_of_getElem? hp)))
    have ec := ztrk ec e9
    replace hc1 := k9
    clear e9 k9
    refine zW.aload_n (pc' := 44) dX1_sign_43 rfl rfl (zgS (zgS (zgS (zg0)))) rfl ?_
    refine zW.get (pc' := 47) dX1_sign_44 rfl f_X1_146_2 hc1 ⟨rfl, (Nat.le_of_ble_eq_true rfl)⟩ rfl ?_
    refine zW.iret dX1_sign_47 rfl (rfl) ?_
    have hP2 := hP1.claim (c := zu (zu (sAt w.1.2.1 i) 6 (m + 1)) 4 (sAt w.1.2.1 i 4 + (5 + m))) hp (ec.trans (by rw [cCl_sg]))
    refine cChg.ok ?_ (cReg.done l z1 k1 zf (cS.up ⟨ll, aq, re, rt, ea, ha, er, hr, mc, xs, qs, rs, hP2⟩ fun b hb => Or.inl hb))
    unfold sSign
    rw [hf]
    refine (if_pos q).trans ?_
    rw [em, ← Nat.add_assoc]
    exact if_pos q2
theorem c_countersign (hk : zkn G h) (hZ : zkI G) (hG : cReg x e X w h U) (he : e ≤ 1) (hJ : sJ tt nn w.1) (hN : nn ≤ 10000) (hT : tt + 50 < 100000) : zK G mX1_countersign 30 1500 [.ref x, .int id, .int y] h (cChg x e X U h w (sCosign w.1 id y)) := by
  obtain ⟨st, O, ⟨ll, aq, re, rt, ea, ha, er, hr, mc, xs, qs, rs, hP⟩, l, k⟩ := hG
  obtain ⟨fs, hx, -⟩ := k.hx
  have hS : cS h O st w.1 := ⟨ll, aq, re, rt, ea, ha, er, hr, mc, xs, qs, rs, hP⟩
  have hB := hJ.1.cB hN
  show zW G mX1_countersign 30 1500 0 [.ref x, .int id, .int y, zho] [] h _
  refine zW.aload_n (pc' := 1) dX1_countersign_0 rfl rfl zg0 rfl ?_
  refine zW.iload_n (pc' := 2) dX1_countersign_1 rfl rfl (zgS (zg0)) ?_
  cases hf : sFind w.1.2.1 id with
  | none =>
    refine zW.callV (r' := 4) (pc' := 5) dX1_countersign_2 rfl l_X1_133 rfl hx ⟨rfl, (Nat.le_of_ble_eq_true rfl)⟩ rfl (w_claim0 hx hP hB hf) (zcc rfl zc0) rfl (Nat.le_of_ble_eq_true rfl) (Nat.le_of_ble_eq_true rfl) (Nat.le_of_ble_eq_true rfl) (fun _ _ q9 => by cases q9.1) (fun _ _ q9 => ?_)
    obtain ⟨q8, e9⟩ := q9
    cases q8
    replace e9 := e9.symm
    subst e9
    refine zX.out0 rfl ?_
    exact cChg.no (k := 0) (by unfold sCosign; rw [hf]) rfl
  | some i =>
    have hi := sFind_lt hf
    obtain ⟨p, hp, hc⟩ := hP.2.1.2.at hi
    refine zW.callV (r' := 2) (pc' := 5) dX1_countersign_2 rfl l_X1_133 rfl hx ⟨rfl, (Nat.le_of_ble_eq_true rfl)⟩ rfl (w_claim1 hx hP hB hf hp) (zcc rfl zc0) rfl (Nat.le_of_ble_eq_true rfl) (Nat.le_of_ble_eq_true rfl) (Nat.le_of_ble_eq_true rfl) (fun _ _ q9 => ?_) (fun _ _ q9 => by cases q9.1)
    obtain ⟨q8, e9⟩ := q9
    cases q8
    replace e9 := e9.symm
    subst e9
    refine zW.astore_n (pc' := 6) dX1_countersign_5 rfl rfl (Nat.le_of_ble_eq_true rfl) rfl (zsS (zsS (zsS (zs0)))) ?_
    refine zW.iload_n (pc' := 7) dX1_countersign_6 rfl rfl (zgS (zgS (zg0))) ?_
    by_cases q : sIn y (nI 0) (nI 3) = true
    rotate_left
    · refine zW.callS (r' := 0) (pc' := 10) dX1_countersign_7 rfl l_X1_149 rfl (w_xisRock0 q) (zcc rfl zc0) rfl (Nat.le_of_ble_eq_true rfl) (Nat.le_of_ble_eq_true rfl) (Nat.le_of_ble_eq_true rfl) (fun _ _ q9 => ?_) (fun _ _ q9 => by cases q9.1)
      obtain ⟨q8, e9⟩ := q9
      cases q8
      replace e9 := e9.symm
      subst e9
      refine zW.callS (r' := 2) (pc' := 13) dX1_countersign_10 rfl l_X1_88 rfl (w_chkArgument0) (zcc rfl zc0) rfl (Nat.le_of_ble_eq_true rfl) (Nat.le_of_ble_eq_true rfl) (Nat.le_of_ble_eq_true rfl) (fun _ _ q9 => by cases q9.1) (fun _ _ q9 => ?_)
      obtain ⟨q8, e9⟩ := q9
      cases q8
      replace e9 := e9.symm
      subst e9
      refine zX.out0 rfl ?_
      exact cChg.no (k := 1) (by unfold sCosign; rw [hf]; exact if_neg q) rfl
    refine zW.callS (r' := 0) (pc' := 10) dX1_countersign_7 rfl l_X1_149 rfl (w_xisRock1 q) (zcc rfl zc0) rfl (Nat.le_of_ble_eq_true rfl) (Nat.le_of_ble_eq_true rfl) (Nat.le_of_ble_eq_true rfl) (fun _ _ q9 => ?_) (fun _ _ q9 => by cases q9.1)
    obtain ⟨q8, e9⟩ := q9
    cases q8
    replace e9 := e9.symm
    subst e9
    refine zW.callS (r' := 0) (pc' := 13) dX1_countersign_10 rfl l_X1_88 rfl (w_chkArgument1) (zcc rfl zc0) rfl (Nat.le_of_ble_eq_true rfl) (Nat.le_of_ble_eq_true rfl) (Nat.le_of_ble_eq_true rfl) (fun _ _ q9 => ?_) (fun _ _ q9 => by cases q9.1)
    obtain ⟨q8, e9⟩ := q9
    cases q8
    replace e9 := e9.symm
    subst e9
    obtain ⟨m, hm, -, h3, em⟩ := sIn_nat q (by decide) (by decide)
    subst hm
    refine zW.aload_n (pc' := 14) dX1_countersign_13 rfl rfl zg0 rfl ?_
    refine zW.aload_n (pc' := 15) dX1_countersign_14 rfl rfl (zgS (zgS (zgS (zg0)))) rfl ?_
    refine zW.iload_n (pc' := 16) dX1_countersign_15 rfl rfl (zgS (zgS (zg0))) ?_
    refine zW.callV (r' := 3) (pc' := 19) dX1_countersign_16 rfl l_X1_152 rfl hx ⟨rfl, (Nat.le_of_ble_eq_true rfl)⟩ rfl (c_isCountersignable hx hP hJ hN (by omega) hi hp (m := m) (by omega)) (zcc rfl (zcc rfl zc0)) rfl (Nat.le_of_ble_eq_true rfl) (Nat.le_of_ble_eq_true rfl) (Nat.le_of_ble_eq_true rfl) (fun _ _ q9 => ?_) (fun _ _ q9 => by cases q9.1)
    obtain ⟨q8, e9⟩ := q9
    cases q8
    replace e9 := e9.symm
    subst e9
    by_cases q2 : 0 < sAt w.1.2.1 i 6 ∧ sAt w.1.2.1 i 7 = 0 ∧ sCount w.1.2.1 7 m < 2
    rotate_left
    · rw [if_neg q2]
      refine zW.callS (r' := 2) (pc' := 22) dX1_countersign_19 rfl l_X1_98 rfl (w_chkState0) (zcc rfl zc0) rfl (Nat.le_of_ble_eq_true rfl) (Nat.le_of_ble_eq_true rfl) (Nat.le_of_ble_eq_true rfl) (fun _ _ q9 => by cases q9.1) (fun _ _ q9 => ?_)
      obtain ⟨q8, e9⟩ := q9
      cases q8
      replace e9 := e9.symm
      subst e9
      refine zX.out0 rfl ?_
      exact cChg.no (k := 2) (by unfold sCosign; rw [hf]; refine (if_pos q).trans ?_; rw [em]; exact if_neg q2) rfl
    rw [if_pos q2]
    refine zW.callS (r' := 0) (pc' := 22) dX1_countersign_19 rfl l_X1_98 rfl (w_chkState1) (zcc rfl zc0) rfl (Nat.le_of_ble_eq_true rfl) (Nat.le_of_ble_eq_true rfl) (Nat.le_of_ble_eq_true rfl) (fun _ _ q9 => ?_) (fun _ _ q9 => by cases q9.1)
    obtain ⟨q8, e9⟩ := q9
    cases q8
    replace e9 := e9.symm
    subst e9
    refine zW.aload_n (pc' := 23) dX1_countersign_22 rfl rfl zg0 rfl ?_
    refine zW.callV (r' := 78) (pc' := 26) dX1_countersign_23 rfl l_X1_101 rfl hx ⟨rfl, (Nat.le_of_ble_eq_true rfl)⟩ rfl (c_begin hk hZ hS hJ hN he k) zc0 rfl (Nat.le_of_ble_eq_true rfl) (Nat.le_of_ble_eq_true rfl) (Nat.le_of_ble_eq_true rfl) (fun _ _ q9 => ?_) (fun _ _ q9 => absurd q9 zO.no)
    obtain ⟨_, q8, e1, k1, z1⟩ := q9
    cases q8
    subst e1
    have hP1 := hP.fr z1 fun b hb q => q.2 hb
    have hc1 := cCl_l (hP1.2.1.2.2.1 i p _ hp (sAt_get hi))
    have zf := hP1.rf
    refine zW.aload_n (pc' := 27) dX1_countersign_26 rfl rfl (zgS (zgS (zgS (zg0)))) rfl ?_
    refine zW.iload_n (pc' := 28) dX1_countersign_27 rfl rfl (zgS (zgS (zg0))) ?_
    refine zW.putK (pc' := 31) dX1_countersign_28 rfl f_X1_155_2 hc1 ⟨⟨rfl, (Nat.le_of_ble_eq_true rfl)⟩, (Nat.le_of_ble_eq_true rfl)⟩ (zFw.of ft_2_6 rfl rfl) (zsS (zsS (zsS (zsS (zsS (zsS (zs0))))))) (fun _ e9 k9 => ?_)
    have zf := zf.put e9 hc1 (by decide) (Or.inl (hP.2.2.2.2.2.2.2.2.1 p (List.mem_of_getElem? hp)))
    have ec := e9
    replace hc1 := k9
    clear e9 k9
    refine zW.aload_n (pc' := 32) dX1_countersign_31 rfl rfl (zgS (zgS (zgS (zg0)))) rfl ?_
    refine zW.dup (pc' := 33) dX1_countersign_32 rfl rfl ?_
    refine zW.get (pc' := 36) dX1_countersign_33 rfl f_X1_146_2 hc1 ⟨rfl, (Nat.le_of_ble_eq_true rfl)⟩ rfl ?_
    refine zW.bipush (pc' := 38) (nI 10) dX1_countersign_36 rfl (by decide) ?_
    refine zW.iconst (pc' := 39) (nI 2) dX1_countersign_38 rfl (by decide) ?_
    refine zW.iload_n (pc' := 40) dX1_countersign_39 rfl rfl (zgS (zgS (zg0))) ?_
    refine zW.imulN (pc' := 41) dX1_countersign_40 rfl ?_
    refine zW.iaddN (pc' := 42) dX1_countersign_41 rfl ?_
    refine zW.iaddN (pc' := 43) dX1_countersign_42 rfl ?_
    refine zW.putK (pc' := 46) dX1_countersign_43 rfl f_X1_146_2 hc1 ⟨⟨rfl, (Nat.le_of_ble_eq_true rfl)⟩, (Nat.le_of_ble_eq_true rfl)⟩ (zFw.of ft_2_4 rfl rfl) (zsS (zsS (zsS (zsS (zs0))))) (fun _ e9 k9 => ?_)
    have zf := zf.put e9 hc1 (by decide) (Or.inl (hP.2.2.2.2.2.2.2.2.1 p (List.mem_of_getElem? hp)))
    have ec := ztrk ec e9
    replace hc1 := k9
    clear e9 k9
    refine zW.aload_n (pc' := 47) dX1_countersign_46 rfl rfl (zgS (zgS (zgS (zg0)))) rfl ?_
    refine zW.get (pc' := 50) dX1_countersign_47 rfl f_X1_146_2 hc1 ⟨rfl, (Nat.le_of_ble_eq_true rfl)⟩ rfl ?_
    refine zW.iret dX1_countersign_50 rfl (rfl) ?_
    have hP2 := hP1.claim (c := zu (zu (sAt w.1.2.1 i) 7 (m + 1)) 4 (sAt w.1.2.1 i 4 + (10 + 2 * m))) hp (ec.trans (by rw [cCl_cg]))
    refine cChg.ok ?_ (cReg.done l z1 k1 zf (cS.up ⟨ll, aq, re, rt, ea, ha, er, hr, mc, xs, qs, rs, hP2⟩ fun b hb => Or.inl hb))
    unfold sCosign
    rw [hf]
    refine (if_pos q).trans ?_
    rw [em, ← Nat.add_assoc]
    exact if_pos q2
theorem c_settle (hk : zkn G h) (hZ : zkI G) (hG : cReg x e X w h U) (he : e ≤ 1) (hJ : sJ tt nn w.1) (hN : nn ≤ 10000) : zK G mX1_settle 30 1500 [.ref x, .int id] h (cChg x e X U h w (sSettle w.1 id)) := by
  obtain ⟨st, O, ⟨ll, aq, re, rt, ea, ha, er, hr, mc, xs, qs, rs, hP⟩, l, k⟩ := hG
  obtain ⟨fs, hx, -⟩ := k.hx
  have hS : cS h O st w.1 := ⟨ll, aq, re, rt, ea, ha, er, hr, mc, xs, qs, rs, hP⟩
  have hB := hJ.1.cB hN
  show zW G mX1_settle 30 1500 0 [.ref x, .int id, zho] [] h _
  refine zW.aload_n (pc' := 1) dX1_settle_0 rfl rfl zg0 rfl ?_
  refine zW.iload_n (pc' := 2) dX1_settle_1 rfl rfl (zgS (zg0)) ?_
  cases hf : sFind w.1.2.1 id with
  | none =>
    refine zW.callV (r' := 4) (pc' := 5) dX1_settle_2 rfl l_X1_133 rfl hx ⟨rfl, (Nat.le_of_ble_eq_true rfl)⟩ rfl (w_claim0 hx hP hB hf) (zcc rfl zc0) rfl (Nat.le_of_ble_eq_true rfl) (Nat.le_of_ble_eq_true rfl) (Nat.le_of_ble_eq_true rfl) (fun _ _ q9 => by cases q9.1) (fun _ _ q9 => ?_)
    obtain ⟨q8, e9⟩ := q9
    cases q8
    replace e9 := e9.symm
    subst e9
    refine zX.out0 rfl ?_
    exact cChg.no (k := 0) (by unfold sSettle; rw [hf]) rfl
  | some i =>
    have hi := sFind_lt hf
    obtain ⟨p, hp, hc⟩ := hP.2.1.2.at hi
    have hc2 := cCl_l hc
    refine zW.callV (r' := 2) (pc' := 5) dX1_settle_2 rfl l_X1_133 rfl hx ⟨rfl, (Nat.le_of_ble_eq_true rfl)⟩ rfl (w_claim1 hx hP hB hf hp) (zcc rfl zc0) rfl (Nat.le_of_ble_eq_true rfl) (Nat.le_of_ble_eq_true rfl) (Nat.le_of_ble_eq_true rfl) (fun _ _ q9 => ?_) (fun _ _ q9 => by cases q9.1)
    obtain ⟨q8, e9⟩ := q9
    cases q8
    replace e9 := e9.symm
    subst e9
    refine zW.astore_n (pc' := 6) dX1_settle_5 rfl rfl (Nat.le_of_ble_eq_true rfl) rfl (zsS (zsS (zs0))) ?_
    refine zW.aload_n (pc' := 7) dX1_settle_6 rfl rfl (zgS (zgS (zg0))) rfl ?_
    refine zW.callV (r' := 0) (pc' := 10) dX1_settle_7 rfl l_X1_117 rfl hc2 ⟨rfl, (Nat.le_of_ble_eq_true rfl)⟩ rfl (w_clSigned hc (hJ.1.b6 hi)) zc0 rfl (Nat.le_of_ble_eq_true rfl) (Nat.le_of_ble_eq_true rfl) (Nat.le_of_ble_eq_true rfl) (fun _ _ q9 => ?_) (fun _ _ q9 => by cases q9.1)
    obtain ⟨q8, e9⟩ := q9
    cases q8
    replace e9 := e9.symm
    subst e9
    by_cases q2 : sAt w.1.2.1 i 6 = 0
    · rw [if_pos q2]
      refine zW.callS (r' := 2) (pc' := 13) dX1_settle_10 rfl l_X1_98 rfl (w_chkState0) (zcc rfl zc0) rfl (Nat.le_of_ble_eq_true rfl) (Nat.le_of_ble_eq_true rfl) (Nat.le_of_ble_eq_true rfl) (fun _ _ q9 => by cases q9.1) (fun _ _ q9 => ?_)
      obtain ⟨q8, e9⟩ := q9
      cases q8
      replace e9 := e9.symm
      subst e9
      refine zX.out0 rfl ?_
      exact cChg.no (k := 2) (by unfold sSettle; rw [hf]; exact if_pos q2) rfl
    rw [if_neg q2]
    refine zW.callS (r' := 0) (pc' := 13) dX1_settle_10 rfl l_X1_98 rfl (w_chkState1) (zcc rfl zc0) rfl (Nat.le_of_ble_eq_true rfl) (Nat.le_of_ble_eq_true rfl) (Nat.le_of_ble_eq_true rfl) (fun _ _ q9 => ?_) (fun _ _ q9 => by cases q9.1)
    obtain ⟨q8, e9⟩ := q9
    cases q8
    replace e9 := e9.symm
    subst e9
    refine zW.aload_n (pc' := 14) dX1_settle_13 rfl rfl zg0 rfl ?_
    refine zW.callV (r' := 78) (pc' := 17) dX1_settle_14 rfl l_X1_101 rfl hx ⟨rfl, (Nat.le_of_ble_eq_true rfl)⟩ rfl (c_begin hk hZ hS hJ hN he k) zc0 rfl (Nat.le_of_ble_eq_true rfl) (Nat.le_of_ble_eq_true rfl) (Nat.le_of_ble_eq_true rfl) (fun _ _ q9 => ?_) (fun _ _ q9 => absurd q9 zO.no)
    obtain ⟨_, q8, e1, k1, z1⟩ := q9
    cases q8
    subst e1
    obtain ⟨fs1, hx1, -⟩ := k1.hx
    have hP1 := hP.fr z1 fun b hb q => q.2 hb
    have hst1 := hP1.1
    refine zW.aload_n (pc' := 18) dX1_settle_17 rfl rfl zg0 rfl ?_
    refine zW.get (pc' := 21) dX1_settle_18 rfl f_X1_10_0 hx1 ⟨rfl, (Nat.le_of_ble_eq_true rfl)⟩ rfl ?_
    refine zW.aload_n (pc' := 22) dX1_settle_21 rfl rfl (zgS (zgS (zg0))) rfl ?_
    refine zW.callV (r' := 3) (pc' := 25) dX1_settle_22 rfl l_X1_158 rfl hst1 ⟨rfl, (Nat.le_of_ble_eq_true rfl)⟩ rfl (w_stSettle hP1 hB hp) (zcc rfl zc0) rfl (Nat.le_of_ble_eq_true rfl) (Nat.le_of_ble_eq_true rfl) (Nat.le_of_ble_eq_true rfl) (fun _ _ q9 => ?_) (fun _ _ q9 => absurd q9 zO.no)
    obtain ⟨_, q8, e1, hS2, hc3, z2⟩ := q9
    cases q8
    subst e1
    have hc3 := cCl_l hc3
    refine zW.aload_n (pc' := 26) dX1_settle_25 rfl rfl (zgS (zgS (zg0))) rfl ?_
    refine zW.get (pc' := 29) dX1_settle_26 rfl f_X1_162_2 hc3 ⟨rfl, (Nat.le_of_ble_eq_true rfl)⟩ rfl ?_
    refine zW.iret dX1_settle_29 rfl (rfl) ?_
    refine cChg.ok ?_ (cReg.done l z1 k1 z2 (hS2.up fun b hb => Or.inl hb))
    unfold sSettle
    rw [hf]
    exact if_neg q2
end
