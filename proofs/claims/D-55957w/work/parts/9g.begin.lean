/-! THE CLASS's beginChange -/
section
set_option maxRecDepth 100000
variable {G : zG} {h h' h1 : zH} {O U V : Nat → Prop} {x st hq tt nn : Nat} {X T : List zA} {s : sS} {w : sW} {SH : List Nat} {fs : List Value} {v1 v2 v3 v4 v5 : Value} {sv ib lb : Value}
theorem w_stCopyJ (hk : zkn G h) (hZ : zkI G) (hS : cS h O st s) (hJ : sJ tt nn s) (hN : nn ≤ 10000) : zK G mX2_copy 8 78 [.ref st] h (cCopy h s) := by
  have hB := hJ.1.cB hN
  have hql := hJ.1.ql
  exact w_stCopy hk hZ hS hB.1 (fun y hy => Nat.lt_trans (hB.2.2.1 y hy) (by decide)) (by have := hB.1; omega) (fun y hy => Nat.lt_trans (hB.2.2.2.2.2 y hy) (by decide)) hB.2.2.2.2.1
theorem zObj_st {l : List Value} : zObj ((1, l) : zC) := ⟨Nat.le_of_ble_eq_true rfl, (RX2, TX2, 12), rfl, id q3104⟩
theorem c_begin0 (hk : zkn G h) (hZ : zkI G) (hS : cS h O st s) (hJ : sJ tt nn s) (hN : nn ≤ 10000) {olds : List sS} (hl : SH.length = olds.length) (h8 : olds.length ≤ 8) (hR : zSep (iO x [.ref st, sv, .ref hq, ib, lb, .int (nI 0), v1, v2] :: iD hq SH :: (iH SH olds ++ T)) h V) : zK G mX1_beginChange 9 78 [.ref x] h (zO fun v h' => v = none ∧ ∃ SH', SH'.length = (sPush olds s).length ∧ zSep (iO x [.ref st, sv, .ref hq, ib, lb, .int (nI 0), v1, v2] :: iD hq SH' :: (iH SH' (sPush olds s) ++ T)) h' (zext V h) ∧ zfr V h h') := by
  obtain ⟨Ox, ⟨⟨hx, ox⟩, -⟩, lx, -⟩ := id hR
  obtain ⟨fst, hst⟩ := cS.cell hS
  show zW G mX1_beginChange 9 78 0 [.ref x] [] h _
  refine zW.aload_n (pc' := 1) dX1_beginChange_0 rfl rfl zg0 rfl ?_
  refine zW.get (pc' := 4) dX1_beginChange_1 rfl f_X1_56_0 hx ⟨rfl, (Nat.le_of_ble_eq_true rfl)⟩ rfl ?_
  refine zW.if_eqN (pc' := 7) 8 dX1_beginChange_4 rfl (by decide) (by omega) (fun b9 => ?_) (fun b9 => absurd b9 (by omega))
  refine zW.aload_n (pc' := 9) dX1_beginChange_8 rfl rfl zg0 rfl ?_
  refine zW.get (pc' := 12) dX1_beginChange_9 rfl f_X1_19_0 hx ⟨rfl, (Nat.le_of_ble_eq_true rfl)⟩ rfl ?_
  refine zW.aload_n (pc' := 13) dX1_beginChange_12 rfl rfl zg0 rfl ?_
  refine zW.get (pc' := 16) dX1_beginChange_13 rfl f_X1_10_0 hx ⟨rfl, (Nat.le_of_ble_eq_true rfl)⟩ rfl ?_
  refine zW.callV (r' := 78) (pc' := 19) dX1_beginChange_16 rfl l_X1_60 rfl hst ⟨rfl, (Nat.le_of_ble_eq_true rfl)⟩ rfl (w_stCopyJ hk hZ hS hJ hN) zc0 rfl (Nat.le_of_ble_eq_true rfl) (Nat.le_of_ble_eq_true rfl) (Nat.le_of_ble_eq_true rfl) (fun _ _ q9 => ?_) (fun _ _ q9 => absurd q9 zO.no)
  obtain ⟨_, q8, st', e1, hS', z1⟩ := q9
  cases q8
  subst e1
  have hR1 := hR.add (P := iS st' s) z1 hS'.live iS.stb
  have hR2 := (hR1.under fun _ r => r.sw).sw
  obtain ⟨OD, ⟨⟨ar, hd, hQ, oD⟩, sD⟩, lD, R3⟩ := hR2
  obtain ⟨l2, hst2⟩ := cS.hst hS'
  have hq1 := hQ.2.1
  have hx1 := z1.at hx fun q => q
  have nst : st' ≠ hq := zne hst2 hq1 (by decide)
  refine zW.callV (r' := 0) (pc' := 22) dX1_beginChange_19 rfl l_X1_64 rfl hq1 ⟨rfl, (Nat.le_of_ble_eq_true rfl)⟩ rfl (w_dqAddLast hQ (by omega) hst2 zObj_st nst) (zcc rfl zc0) rfl (Nat.le_of_ble_eq_true rfl) (Nat.le_of_ble_eq_true rfl) (Nat.le_of_ble_eq_true rfl) (fun _ _ q9 => ?_) (fun _ _ q9 => absurd q9 zO.no)
  obtain ⟨_, q8, e1, hQ2, z2⟩ := q9
  cases q8
  subst e1
  have hx2 := hQ.out z2 hx1 ⟨by decide, by decide⟩
  have hq2 := hQ2.2.1
  have zz2 : zfr OD _ _ := z2.mono fun b hb => Or.inl (hb.elim (fun q => by rw [q]; exact oD.1) fun q => by rw [q]; exact oD.2)
  have hV1 : zfr V h _ := z1.mono fun _ q => q.elim
  have zV2 := hV1.tr zz2 fun b hb => (lD b hb).1
  have hR4 := ((((zSep.re (P := iD hq (SH ++ [st'])) lD R3 zz2 ⟨ar, hd, hQ2, ⟨Or.inl oD.1, by rw [hq2]; exact fun q => by cases q⟩, ⟨Or.inl oD.2, by obtain ⟨-, -, f, h3, -⟩ := hQ2; rw [h3]; exact fun q => by cases q⟩⟩ iD.stb).trv z1).under fun _ r => r.sw).sw).under fun _ r => r.under fun _ r => r.mid
  refine zW.aload_n (pc' := 23) dX1_beginChange_22 rfl rfl zg0 rfl ?_
  refine zW.get (pc' := 26) dX1_beginChange_23 rfl f_X1_19_0 hx2 ⟨rfl, (Nat.le_of_ble_eq_true rfl)⟩ rfl ?_
  refine zW.callV (r' := 0) (pc' := 29) dX1_beginChange_26 rfl l_X1_68 rfl hq2 ⟨rfl, (Nat.le_of_ble_eq_true rfl)⟩ rfl (w_dqSize hQ2) zc0 rfl (Nat.le_of_ble_eq_true rfl) (Nat.le_of_ble_eq_true rfl) (Nat.le_of_ble_eq_true rfl) (fun _ _ q9 => ?_) (fun _ _ q9 => by cases q9.1)
  obtain ⟨q8, e9⟩ := q9
  cases q8
  replace e9 := e9.symm
  subst e9
  rw [List.length_append, List.length_singleton]
  refine zW.bipush (pc' := 31) (nI 8) dX1_beginChange_29 rfl (by decide) ?_
  refine zW.icmp_leN (pc' := 34) 42 dX1_beginChange_31 rfl (by decide) (by omega) (by omega) (fun b1 => ?_) (fun b1 => ?_)
  · refine zW.vret dX1_beginChange_42 rfl ?_
    have e : sPush olds s = olds ++ [s] := if_neg (by omega)
    refine ⟨_, rfl, rfl, SH ++ [st'], ?_, ?_, zV2⟩
    · rw [e, List.length_append, List.length_append, hl]; rfl
    · rw [e, iH_snoc hl, List.append_assoc]
      exact hR4
  · obtain ⟨a0, SH, rfl⟩ : ∃ a0 SH', SH = a0 :: SH' := by
      cases SH with
      | nil => rw [List.length_nil] at b1; omega
      | cons a l => exact ⟨a, l, rfl⟩
    obtain ⟨s0, olds, rfl⟩ : ∃ a0 SH', olds = a0 :: SH' := by
      cases olds with
      | nil => cases hl
      | cons a l => exact ⟨a, l, rfl⟩
    have hl := Nat.succ.inj hl
    refine zW.aload_n (pc' := 35) dX1_beginChange_34 rfl rfl zg0 rfl ?_
    refine zW.get (pc' := 38) dX1_beginChange_35 rfl f_X1_19_0 hx2 ⟨rfl, (Nat.le_of_ble_eq_true rfl)⟩ rfl ?_
    refine zW.callV (r' := 0) (pc' := 41) dX1_beginChange_38 rfl l_X1_72 rfl hq2 ⟨rfl, (Nat.le_of_ble_eq_true rfl)⟩ rfl (w_dqRemFirst hQ2) zc0 rfl (Nat.le_of_ble_eq_true rfl) (Nat.le_of_ble_eq_true rfl) (Nat.le_of_ble_eq_true rfl) (fun _ _ q9 => ?_) (fun _ _ q9 => absurd q9 zO.no)
    obtain ⟨_, q8, e1, hQ5, z5⟩ := q9
    cases q8
    subst e1
    have hR5 := (hR4.under fun _ r => r.under fun _ r => r.tl).sw
    obtain ⟨OE, ⟨⟨ar5, hd5, hQ6, oE⟩, sE⟩, lE, R6⟩ := hR5
    have hq6 := hQ6.2.1
    obtain rfl : ar = ar5 := by
      have q3 := (List.cons.inj (Prod.mk.inj (Option.some.inj (hq2.symm.trans hq6))).2).1
      injection q3
    have zz5 : zfr OE _ _ := z5.mono fun b hb => Or.inl (hb.elim (fun q => by rw [q]; exact oE.1) fun q => by rw [q]; exact oE.2)
    have hq7 := hQ5.2.1
    have hR7 := ((zSep.re (P := iD hq (SH ++ [st'])) lE R6 zz5 ⟨ar, _, hQ5, ⟨Or.inl oE.1, by rw [hq7]; exact fun q => by cases q⟩, ⟨Or.inl oE.2, by obtain ⟨-, -, f, h3, -⟩ := hQ5; rw [h3]; exact fun q => by cases q⟩⟩ iD.stb).trv zV2).sw
    refine zW.pop (pc' := 42) dX1_beginChange_41 rfl rfl ?_
    refine zW.vret dX1_beginChange_42 rfl ?_
    have e : sPush (s0 :: olds) s = olds ++ [s] := if_pos (by rw [List.length_cons] at b1 h8 ⊢; omega)
    refine ⟨_, rfl, rfl, SH ++ [st'], ?_, ?_, zV2.tr zz5 fun b hb => (lE b hb).1⟩
    · rw [e, List.length_append, List.length_append, hl]; rfl
    · rw [e, iH_snoc hl, List.append_assoc]
      exact hR7
theorem c_begin (hk : zkn G h) (hZ : zkI G) (hS : cS h O st w.1) (hJ : sJ tt nn w.1) (hN : nn ≤ 10000) {e : Nat} (he : e ≤ 1) (hR : cRest x st e X w.2 h V) : zK G mX1_beginChange 9 78 [.ref x] h (zO fun v h' => v = none ∧ cRest x st e X (wB e w) h' (zext V h) ∧ zfr V h h') := by
  obtain ⟨sv, hq, ib, lb, SH, ⟨h1, h2, h3⟩, h4⟩ := hR
  by_cases q : e = 0
  · subst q
    refine zW.post (c_begin0 hk hZ hS hJ hN h1 h2 h4) fun o h' ⟨v, e1, e2, SH', e3, e4, e5⟩ => ⟨v, e1, e2, ?_, e5⟩
    refine ⟨sv, hq, ib, lb, SH', ⟨e3, ?_, h3⟩, e4⟩
    show (sPush w.2.1 w.1).length ≤ 8
    unfold sPush
    split
    · rw [List.length_append, List.length_tail, List.length_singleton]; omega
    · rw [List.length_append, List.length_singleton]; omega
  · obtain rfl : e = 1 := by omega
    obtain ⟨Ox, ⟨⟨hx, ox⟩, -⟩, lx, -⟩ := id h4
    show zW G mX1_beginChange 9 78 0 [.ref x] [] h _
    refine zW.aload_n (pc' := 1) dX1_beginChange_0 rfl rfl zg0 rfl ?_
    refine zW.get (pc' := 4) dX1_beginChange_1 rfl f_X1_56_0 hx ⟨rfl, (Nat.le_of_ble_eq_true rfl)⟩ rfl ?_
    refine zW.if_eqN (pc' := 7) 8 dX1_beginChange_4 rfl (by decide) (by omega) (fun b9 => absurd b9 (by omega)) (fun b9 => ?_)
    refine zW.pay (r1 := 0) ?_ (Nat.zero_le _)
    refine zW.vret dX1_beginChange_7 rfl ?_
    exact ⟨_, rfl, rfl, ⟨sv, hq, ib, lb, SH, ⟨h1, h2, h3⟩, h4.up fun b hb _ => Or.inl hb⟩, zfr.rf⟩
end
