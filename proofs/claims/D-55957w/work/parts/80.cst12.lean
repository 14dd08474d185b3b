/-! State.audit, add -/
section
set_option maxRecDepth 100000
variable {G : zG} {h h' h0 h1 H : zH} {O O' A B : Nat → Prop} {st ll aq re rt ea er ha hr c it : Nat} {mc : Int32} {xs : List (Nat × Nat)} {qs rs : List Nat} {s : sS} {tt nn jj : Nat} {Q : zR → zH → Prop}
theorem cB.set5 (hB : cB s) {i x : Nat} : cB (s.1, s.2.1.set i (zu (sAt s.2.1 i) 5 x), s.2.2) := by
  obtain ⟨b1, b2, b3⟩ := hB
  refine ⟨by show (s.2.1.set i _).length ≤ 12; rw [List.length_set]; exact b1, fun j hj => ?_, b3⟩
  dsimp only at hj ⊢
  rw [List.length_set] at hj
  by_cases q : i = j
  · subst q
    rw [sAt_of (List.getElem?_set_self hj), zu_n (by decide), zu_n (by decide)]
    exact b2 i hj
  · rw [sAt_of (by rw [List.getElem?_set_ne q]; exact sAt_get hj)]
    exact b2 j hj
theorem cIs.turn {q0 y : Nat} {its ys : List Nat} (hI : cIs h O (q0 :: its) (y :: ys)) : cIs h O (its ++ [q0]) (ys ++ [y]) := by
  obtain ⟨k, hk, ho⟩ := hI.2 0 q0 y rfl rfl
  refine cIs.push ⟨by have := hI.1; rw [List.length_cons, List.length_cons] at this; omega, fun i q x e1 e2 => hI.2 (i + 1) q x e1 e2⟩ hk ho
theorem w_visC (hP : cP H O st ll aq re rt ea ha er hr mc xs qs rs s) (hI : sI tt nn jj s) (hN : nn ≤ 10000) (hl : 0 < s.2.1.length) {n r : Nat} {v1 v2 v4 v5 : Value} (fin : ∀ (H' : zH) (v5 : Value), cS H' O st (sVisit s).2 → zfr O H H' → zW G mX2_audit 9 r 79 [.ref st, v1, v2, .int (nI (n + (sVisit s).1)), v4, v5] [] H' Q) : zW G mX2_audit 9 (r + 5) 23 [.ref st, v1, v2, .int (nI n), v4, v5] [] H Q := by
  have hB := hI.cB hN
  have h12 := hI.len
  have hst := hP.1
  have hO := hP.2.2.2.2.2.2
  obtain ⟨y, ys, hq⟩ : ∃ q qs, s.2.2.1 = q :: qs := by
    cases e : s.2.2.1 with
    | nil =>
      have := hI.qu hl
      rw [e] at this
      cases this
    | cons q qs => exact ⟨q, qs, rfl⟩
  obtain ⟨i, ei, hi, eid⟩ := sFind_q hI hN (q := y) (by rw [hq]; exact List.mem_cons_self)
  have hs : sVisit s = sVisitAt s y ys i := by
    unfold sVisit
    rw [hq]
    dsimp only
    rw [ei]
  have hci := hI.at hi
  have hQ0 := hP.2.2.1.1
  have hI0 := hP.2.2.1.2
  obtain ⟨q0, its, hqs⟩ : ∃ q0 its, qs = q0 :: its := by
    cases e : qs with
    | nil =>
      have := hI0.1
      rw [e, hq] at this
      cases this
    | cons q qs => exact ⟨q, qs, rfl⟩
  subst hqs
  rw [hq] at hI0
  obtain ⟨kq, hc0, -⟩ := hI0.2 0 q0 y rfl rfl
  have hk15 : kq % 1000 = 15 ∧ 15 < 50 := by rcases hc0.2 with q | q <;> subst q <;> decide
  have hcc := hc0.1
  have haq := hQ0.2.1
  obtain ⟨p, hp, hc⟩ := hP.2.1.2.at hi
  have hfd := w_sFind (G := G) hP h12 (fun j hj => (hB.2.1 j hj).1) (id := nI y)
  rw [ei, show (some i).bind (cAd xs) = some p.2 by show cAd xs i = _; unfold cAd; rw [hp]; rfl] at hfd
  have h67 : sAt s.2.1 i 6 < 2 ^ 30 ∧ sAt s.2.1 i 7 < 2 ^ 30 := by
    have := hci.2.2.2.2.2.2.2
    omega
  have zf := zfr.rf (A := O) (h := H)
  refine zW.aload_n (pc' := 24) dX2_audit_23 rfl rfl zg0 rfl ?_
  refine zW.aload_n (pc' := 25) dX2_audit_24 rfl rfl zg0 rfl ?_
  refine zW.get (pc' := 28) dX2_audit_25 rfl f_X2_21_1 hst ⟨rfl, (Nat.le_of_ble_eq_true rfl)⟩ rfl ?_
  refine zW.callV (r' := 0) (pc' := 31) dX2_audit_28 rfl l_X2_162 rfl haq ⟨rfl, (Nat.le_of_ble_eq_true rfl)⟩ rfl (w_dqFirst hQ0) zc0 rfl (Nat.le_of_ble_eq_true rfl) (Nat.le_of_ble_eq_true rfl) (Nat.le_of_ble_eq_true rfl) (fun _ _ q9 => ?_) (fun _ _ q9 => by cases q9.1)
  obtain ⟨q8, e9⟩ := q9
  cases q8
  replace e9 := e9.symm
  subst e9
  refine zW.castS (pc' := 34) dX2_audit_31 rfl (lw_all_tbl q1138) hcc hk15 rfl ?_
  refine zW.callV (r' := 0) (pc' := 37) dX2_audit_34 rfl l_X2_60 rfl hcc hk15 rfl (w_intValue hc0) zc0 rfl (Nat.le_of_ble_eq_true rfl) (Nat.le_of_ble_eq_true rfl) (Nat.le_of_ble_eq_true rfl) (fun _ _ q9 => ?_) (fun _ _ q9 => by cases q9.1)
  obtain ⟨q8, e9⟩ := q9
  cases q8
  replace e9 := e9.symm
  subst e9
  refine zW.callV (r' := 2) (pc' := 40) dX2_audit_37 rfl l_X2_165 rfl hst ⟨rfl, (Nat.le_of_ble_eq_true rfl)⟩ rfl (hfd) (zcc rfl zc0) rfl (Nat.le_of_ble_eq_true rfl) (Nat.le_of_ble_eq_true rfl) (Nat.le_of_ble_eq_true rfl) (fun _ _ q9 => ?_) (fun _ _ q9 => by cases q9.1)
  obtain ⟨q8, e9⟩ := q9
  cases q8
  replace e9 := e9.symm
  subst e9
  refine zW.astore (pc' := 42) dX2_audit_40 rfl (Nat.le_of_ble_eq_true rfl) zrf_ir (zsS (zsS (zsS (zsS (zsS (zs0)))))) ?_
  refine zW.aload (pc' := 44) dX2_audit_42 rfl (zgS (zgS (zgS (zgS (zgS (zg0)))))) zrf_ir ?_
  refine zW.callV (r' := 0) (pc' := 47) dX2_audit_44 rfl l_X2_169 rfl hc ⟨rfl, (Nat.le_of_ble_eq_true rfl)⟩ rfl (w_clVoid hc hci.2.2.2.2.2.2.1 h67.1 h67.2) zc0 rfl (Nat.le_of_ble_eq_true rfl) (Nat.le_of_ble_eq_true rfl) (Nat.le_of_ble_eq_true rfl) (fun _ _ q9 => ?_) (fun _ _ q9 => absurd q9 zO.no)
  obtain ⟨_, q8, e1, e9, k9⟩ := q9
  cases q8
  subst e1
  have hst := zpres e9 (zne hst hc (by decide)) hst
  have zf := zf.put e9 hc (by decide) (Or.inl (hO.2.2.1 p (List.mem_of_getElem? hp)))
  have ec := e9
  replace hc := k9
  clear e9 k9
  have hP2 := hP.claim hp ec
  by_cases q3 : sStrikes (sAt s.2.1 i) = 3
  · rw [if_pos q3]
    refine zW.if_eqN (pc' := 50) 62 dX2_audit_47 rfl (by decide) (by omega) (fun b9 => absurd b9 (by omega)) (fun b9 => ?_)
    refine zW.aload_n (pc' := 51) dX2_audit_50 rfl rfl zg0 rfl ?_
    refine zW.aload (pc' := 53) dX2_audit_51 rfl (zgS (zgS (zgS (zgS (zgS (zg0)))))) zrf_ir ?_
    refine zW.callV (r' := 3) (pc' := 56) dX2_audit_53 rfl l_X2_123 rfl hst ⟨rfl, (Nat.le_of_ble_eq_true rfl)⟩ rfl (w_stRemove hP2 hB.set5 hp) (zcc rfl zc0) rfl (Nat.le_of_ble_eq_true rfl) (Nat.le_of_ble_eq_true rfl) (Nat.le_of_ble_eq_true rfl) (fun _ _ q9 => ?_) (fun _ _ q9 => absurd q9 zO.no)
    obtain ⟨_, q8, e1, hS3, -, z3⟩ := q9
    cases q8
    subst e1
    refine zW.iincN (pc' := 59) (n := 1) dX2_audit_56 rfl (Nat.le_of_ble_eq_true rfl) (zgS (zgS (zgS (zg0)))) (zsS (zsS (zsS (zs0)))) ?_
    refine zW.goto 79 dX2_audit_59 (by decide) ?_
    have e1 : sVisit s = (1, sClose (s.1, s.2.1.set i (zu (sAt s.2.1 i) 5 (sStrikes (sAt s.2.1 i))), s.2.2) i) := by
      rw [hs]
      unfold sVisitAt
      rw [if_pos q3, q3]
    have f := fin _ (.ref p.2) (by rw [e1]; exact hS3) (zf.tr z3 fun b hb => Or.inl hb)
    rw [e1] at f
    exact f
  · rw [if_neg q3]
    have hQ2 := hP2.2.2.1.1
    have hI2 := hP2.2.2.1.2
    dsimp only at hI2
    rw [hq] at hI2
    have hcc2 := (hI2.2 0 q0 y rfl rfl)
    have haq2 := hQ2.2.1
    refine zW.if_eqN (pc' := 50) 62 dX2_audit_47 rfl (by decide) (by omega) (fun b9 => ?_) (fun b9 => absurd b9 (by omega))
    refine zW.aload_n (pc' := 63) dX2_audit_62 rfl rfl zg0 rfl ?_
    refine zW.get (pc' := 66) dX2_audit_63 rfl f_X2_21_1 hst ⟨rfl, (Nat.le_of_ble_eq_true rfl)⟩ rfl ?_
    refine zW.aload_n (pc' := 67) dX2_audit_66 rfl rfl zg0 rfl ?_
    refine zW.get (pc' := 70) dX2_audit_67 rfl f_X2_21_1 hst ⟨rfl, (Nat.le_of_ble_eq_true rfl)⟩ rfl ?_
    refine zW.callV (r' := 0) (pc' := 73) dX2_audit_70 rfl l_X2_172 rfl haq2 ⟨rfl, (Nat.le_of_ble_eq_true rfl)⟩ rfl (w_dqRemFirst hQ2) zc0 rfl (Nat.le_of_ble_eq_true rfl) (Nat.le_of_ble_eq_true rfl) (Nat.le_of_ble_eq_true rfl) (fun _ _ q9 => ?_) (fun _ _ q9 => absurd q9 zO.no)
    obtain ⟨_, q8, e1, hQ3, z3⟩ := q9
    cases q8
    subst e1
    have hc3 : cInt _ q0 kq y := ⟨hQ2.outI z3 _ _ _ hc0.2 (zpres ec (zne hc0.1 (hP.2.1.2.2.1 i p _ hp (sAt_get hi)) (by rcases hc0.2 with q | q <;> subst q <;> decide)) hc0.1), hc0.2⟩
    have hcc3 := hc3.1
    have haq3 := hQ3.2.1
    have nq : q0 ≠ aq := zne hcc3 haq3 (by rcases hc0.2 with q | q <;> subst q <;> decide)
    refine zW.castS (pc' := 76) dX2_audit_73 rfl (lw_all_tbl q1138) hcc3 hk15 rfl ?_
    refine zW.callV (r' := 0) (pc' := 79) dX2_audit_76 rfl l_X2_68 rfl haq3 ⟨rfl, (Nat.le_of_ble_eq_true rfl)⟩ rfl (w_dqAddLast hQ3 (by have := hQ2.1.2; rw [List.length_cons] at this; omega) hcc3 hc3.ob nq) (zcc rfl zc0) rfl (Nat.le_of_ble_eq_true rfl) (Nat.le_of_ble_eq_true rfl) (Nat.le_of_ble_eq_true rfl) (fun _ _ q9 => ?_) (fun _ _ q9 => absurd q9 zO.no)
    obtain ⟨_, q8, e1, hQ4, z4⟩ := q9
    cases q8
    subst e1
    have z34 : zfr (cDf aq ea) _ _ := z3.tr z4 fun b hb => Or.inl hb
    have hI4 := (hI2.mv (hQ2.outI z34)).turn
    have hP4 := hP2.queue z34 hQ4 hI4 fun _ q => q
    dsimp only at hP4
    have e1 : sVisit s = (0, (s.1, s.2.1.set i (zu (sAt s.2.1 i) 5 (sStrikes (sAt s.2.1 i))), ys ++ [y], s.2.2.2)) := by
      rw [hs]
      unfold sVisitAt
      rw [if_neg q3]
    have f := fin _ (.ref p.2) (by rw [e1]; exact ⟨ll, aq, re, rt, ea, _, er, hr, mc, xs, _, rs, hP4⟩) (zf.tr z34 fun b hb => Or.inl (hb.elim (fun q => by rw [q]; exact hO.2.2.2.1.1) fun q => by rw [q]; exact hO.2.2.2.1.2))
    rw [e1] at f
    exact zW.pay f (by omega)
end
