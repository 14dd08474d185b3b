/-! THE CLASS's questions by counts and sums -/
section
set_option maxRecDepth 100000
variable {G : zG} {h : zH} {O : Nat → Prop} {x st ll aq re rt ea ha er hr tt nn i : Nat} {mc : Int32} {xs : List (Nat × Nat)} {qs rs : List Nat} {s : sS} {fs : List Value} {id y z : Int32} {p : Nat × Nat}
theorem lam_fit1 {t : FieldType} {v : Value} (h : fits t v = true) : ∀ (j : Nat) t' v', [t][j]? = some t' → [v][j]? = some v' → fits t' v' = true := fun j t' v' h1 h2 => by
  match j, h1, h2 with
  | 0, h1, h2 => cases h1; cases h2; exact h
theorem lam_fit2 {t u : FieldType} {v w : Value} (h : fits t v = true) (k : fits u w = true) : ∀ (j : Nat) t' v', [t, u][j]? = some t' → [v, w][j]? = some v' → fits t' v' = true := fun j t' v' h1 h2 => by
  match j, h1, h2 with
  | 0, h1, h2 => cases h1; cases h2; exact h
  | 1, h1, h2 => cases h1; cases h2; exact k
/-- the objects of the sites that capture nothing stand at the start -/
def zkL (G : zG) : Prop := ∀ i, (i = 0 ∨ i = 7 ∨ i = 8) → zg_k G (zg_a G (50 + i)) = some (1050 + i, [])
theorem c_signatures (hx : h x = some (0, .ref st :: fs)) (hP : cP h O st ll aq re rt ea ha er hr mc xs qs rs s) (hJ : sJ tt nn s) (hN : nn ≤ 10000) (hT : tt ≤ 100000) {m : Nat} (hm : m < 2 ^ 30) : zK G mX1_signatures 26 3 [.ref x, .int (nI m)] h (zPu h (some (.int (nI (sCount s.2.1 6 m))))) := by
  have hst := hP.1
  show zW G mX1_signatures 26 3 0 [.ref x, .int (nI m)] [] h _
  refine zW.aload_n (pc' := 1) dX1_signatures_0 rfl rfl zg0 rfl ?_
  refine zW.get (pc' := 4) dX1_signatures_1 rfl f_X1_10_0 hx ⟨rfl, (Nat.le_of_ble_eq_true rfl)⟩ rfl ?_
  refine zW.iload_n (pc' := 5) dX1_signatures_4 rfl rfl (zgS (zg0)) ?_
  refine zW.lamM (i := 3) (vals := [.int (nI m)]) (pc' := 10) dX1_signatures_5 rfl rfl rfl rfl (Nat.le_of_ble_eq_true rfl) lk3 rfl (Nat.le_of_ble_eq_true rfl) (Nat.le_of_ble_eq_true rfl) rfl (lam_fit1 rfl) rfl (Nat.le_of_ble_eq_true rfl) (Nat.le_of_ble_eq_true rfl) (fun b _ nb e9 kb => ?_)
  have zb := zfr.new (zfr.rf (A := fun _ => False) (h := h)) e9 nb
  subst e9
  have hP1 := hP.fr zb (fun _ _ q => q)
  have hst1 := hP1.1
  refine zW.callV (r' := 2) (pc' := 13) dX1_signatures_10 rfl l_X1_112 rfl hst1 ⟨rfl, (Nat.le_of_ble_eq_true rfl)⟩ rfl (w_stCount hP1 hJ.1.len lc3 (Nat.le_of_ble_eq_true rfl) kb rfl rfl (zcc rfl zc0) (Nat.le_of_ble_eq_true rfl) (fun H a c _ _ hc ↦ w_lmSig hc)) (zcc rfl zc0) rfl (Nat.le_of_ble_eq_true rfl) (Nat.le_of_ble_eq_true rfl) (Nat.le_of_ble_eq_true rfl) (fun _ _ q9 => ?_) (fun _ _ q9 => by cases q9.1)
  obtain ⟨q8, e9⟩ := q9
  cases q8
  replace e9 := e9.symm
  subst e9
  refine zW.drop (zle.up nb) ?_
  rw [sCk_sig hJ.1 hN hT (by decide) hm]
  refine zW.iret dX1_signatures_13 rfl (rfl) ?_
  exact ⟨rfl, rfl⟩
theorem c_countersignatures (hx : h x = some (0, .ref st :: fs)) (hP : cP h O st ll aq re rt ea ha er hr mc xs qs rs s) (hJ : sJ tt nn s) (hN : nn ≤ 10000) (hT : tt ≤ 100000) {m : Nat} (hm : m < 2 ^ 30) : zK G mX1_countersignatures 26 3 [.ref x, .int (nI m)] h (zPu h (some (.int (nI (sCount s.2.1 7 m))))) := by
  have hst := hP.1
  show zW G mX1_countersignatures 26 3 0 [.ref x, .int (nI m)] [] h _
  refine zW.aload_n (pc' := 1) dX1_countersignatures_0 rfl rfl zg0 rfl ?_
  refine zW.get (pc' := 4) dX1_countersignatures_1 rfl f_X1_10_0 hx ⟨rfl, (Nat.le_of_ble_eq_true rfl)⟩ rfl ?_
  refine zW.iload_n (pc' := 5) dX1_countersignatures_4 rfl rfl (zgS (zg0)) ?_
  refine zW.lamM (i := 4) (vals := [.int (nI m)]) (pc' := 10) dX1_countersignatures_5 rfl rfl rfl rfl (Nat.le_of_ble_eq_true rfl) lk4 rfl (Nat.le_of_ble_eq_true rfl) (Nat.le_of_ble_eq_true rfl) rfl (lam_fit1 rfl) rfl (Nat.le_of_ble_eq_true rfl) (Nat.le_of_ble_eq_true rfl) (fun b _ nb e9 kb => ?_)
  have zb := zfr.new (zfr.rf (A := fun _ => False) (h := h)) e9 nb
  subst e9
  have hP1 := hP.fr zb (fun _ _ q => q)
  have hst1 := hP1.1
  refine zW.callV (r' := 2) (pc' := 13) dX1_countersignatures_10 rfl l_X1_112 rfl hst1 ⟨rfl, (Nat.le_of_ble_eq_true rfl)⟩ rfl (w_stCount hP1 hJ.1.len lc4 (Nat.le_of_ble_eq_true rfl) kb rfl rfl (zcc rfl zc0) (Nat.le_of_ble_eq_true rfl) (fun H a c _ _ hc ↦ w_lmCos hc)) (zcc rfl zc0) rfl (Nat.le_of_ble_eq_true rfl) (Nat.le_of_ble_eq_true rfl) (Nat.le_of_ble_eq_true rfl) (fun _ _ q9 => ?_) (fun _ _ q9 => by cases q9.1)
  obtain ⟨q8, e9⟩ := q9
  cases q8
  replace e9 := e9.symm
  subst e9
  refine zW.drop (zle.up nb) ?_
  rw [sCk_sig hJ.1 hN hT (by decide) hm]
  refine zW.iret dX1_countersignatures_13 rfl (rfl) ?_
  exact ⟨rfl, rfl⟩
theorem c_owedBy (hx : h x = some (0, .ref st :: fs)) (hP : cP h O st ll aq re rt ea ha er hr mc xs qs rs s) (hJ : sJ tt nn s) (hN : nn ≤ 10000) (hT : tt ≤ 100000) : zK G mX1_owedBy 40 3 [.ref x, .int y] h (cAns [eArg] h (qOwed s 1 y)) := by
  have hst := hP.1
  show zW G mX1_owedBy 40 3 0 [.ref x, .int y] [] h _
  refine zW.iload_n (pc' := 1) dX1_owedBy_0 rfl rfl (zgS (zg0)) ?_
  by_cases q : sIn y (nI 0) (nI 7) = true
  · refine zW.callS (r' := 0) (pc' := 4) dX1_owedBy_1 rfl l_X1_84 rfl (w_xisPerson1 q) (zcc rfl zc0) rfl (Nat.le_of_ble_eq_true rfl) (Nat.le_of_ble_eq_true rfl) (Nat.le_of_ble_eq_true rfl) (fun _ _ q9 => ?_) (fun _ _ q9 => by cases q9.1)
    obtain ⟨q8, e9⟩ := q9
    cases q8
    replace e9 := e9.symm
    subst e9
    refine zW.callS (r' := 0) (pc' := 7) dX1_owedBy_4 rfl l_X1_88 rfl (w_chkArgument1) (zcc rfl zc0) rfl (Nat.le_of_ble_eq_true rfl) (Nat.le_of_ble_eq_true rfl) (Nat.le_of_ble_eq_true rfl) (fun _ _ q9 => ?_) (fun _ _ q9 => by cases q9.1)
    obtain ⟨q8, e9⟩ := q9
    cases q8
    replace e9 := e9.symm
    subst e9
    obtain ⟨m, hm, -, h3, e⟩ := sIn_nat q (by decide) (by decide)
    rw [hm]
    refine zW.aload_n (pc' := 8) dX1_owedBy_7 rfl rfl zg0 rfl ?_
    refine zW.get (pc' := 11) dX1_owedBy_8 rfl f_X1_10_0 hx ⟨rfl, (Nat.le_of_ble_eq_true rfl)⟩ rfl ?_
    refine zW.iload_n (pc' := 12) dX1_owedBy_11 rfl rfl (zgS (zg0)) ?_
    refine zW.lamM (i := 5) (vals := [.int (nI m)]) (pc' := 17) dX1_owedBy_12 rfl rfl rfl rfl (Nat.le_of_ble_eq_true rfl) lk5 rfl (Nat.le_of_ble_eq_true rfl) (Nat.le_of_ble_eq_true rfl) rfl (lam_fit1 rfl) rfl (Nat.le_of_ble_eq_true rfl) (Nat.le_of_ble_eq_true rfl) (fun b _ nb e9 kb => ?_)
    have zb := zfr.new (zfr.rf (A := fun _ => False) (h := h)) e9 nb
    subst e9
    have hP1 := hP.fr zb (fun _ _ q => q)
    have hst1 := hP1.1
    refine zW.callV (r' := 2) (pc' := 20) dX1_owedBy_17 rfl l_X1_210 rfl hst1 ⟨rfl, (Nat.le_of_ble_eq_true rfl)⟩ rfl (w_stSum hP1 hJ.1.len lc5 (Nat.le_of_ble_eq_true rfl) kb rfl rfl (zcc rfl zc0) (Nat.le_of_ble_eq_true rfl) (V := fun c ↦ if nI (c 1) = nI m then nI (c 3) else 0) (fun H a c _ _ hc ↦ w_lmBy hc)) (zcc rfl zc0) rfl (Nat.le_of_ble_eq_true rfl) (Nat.le_of_ble_eq_true rfl) (Nat.le_of_ble_eq_true rfl) (fun _ _ q9 => ?_) (fun _ _ q9 => by cases q9.1)
    obtain ⟨q8, e9⟩ := q9
    cases q8
    replace e9 := e9.symm
    subst e9
    refine zW.drop (zle.up nb) ?_
    rw [sUpI_sum hJ.1 hN hT (by decide) (by omega)]
    refine zW.iret dX1_owedBy_20 rfl (rfl) ?_
    exact cAns.ok (by unfold qOwed; rw [← hm, if_pos q, e])
  · refine zW.callS (r' := 0) (pc' := 4) dX1_owedBy_1 rfl l_X1_84 rfl (w_xisPerson0 q) (zcc rfl zc0) rfl (Nat.le_of_ble_eq_true rfl) (Nat.le_of_ble_eq_true rfl) (Nat.le_of_ble_eq_true rfl) (fun _ _ q9 => ?_) (fun _ _ q9 => by cases q9.1)
    obtain ⟨q8, e9⟩ := q9
    cases q8
    replace e9 := e9.symm
    subst e9
    refine zW.callS (r' := 2) (pc' := 7) dX1_owedBy_4 rfl l_X1_88 rfl (w_chkArgument0) (zcc rfl zc0) rfl (Nat.le_of_ble_eq_true rfl) (Nat.le_of_ble_eq_true rfl) (Nat.le_of_ble_eq_true rfl) (fun _ _ q9 => by cases q9.1) (fun _ _ q9 => ?_)
    obtain ⟨q8, e9⟩ := q9
    cases q8
    replace e9 := e9.symm
    subst e9
    refine zX.out0 rfl ?_
    exact cAns.no (by unfold qOwed; rw [if_neg q]) rfl
theorem c_owedTo (hx : h x = some (0, .ref st :: fs)) (hP : cP h O st ll aq re rt ea ha er hr mc xs qs rs s) (hJ : sJ tt nn s) (hN : nn ≤ 10000) (hT : tt ≤ 100000) : zK G mX1_owedTo 40 3 [.ref x, .int y] h (cAns [eArg] h (qOwed s 2 y)) := by
  have hst := hP.1
  show zW G mX1_owedTo 40 3 0 [.ref x, .int y] [] h _
  refine zW.iload_n (pc' := 1) dX1_owedTo_0 rfl rfl (zgS (zg0)) ?_
  by_cases q : sIn y (nI 0) (nI 7) = true
  · refine zW.callS (r' := 0) (pc' := 4) dX1_owedTo_1 rfl l_X1_84 rfl (w_xisPerson1 q) (zcc rfl zc0) rfl (Nat.le_of_ble_eq_true rfl) (Nat.le_of_ble_eq_true rfl) (Nat.le_of_ble_eq_true rfl) (fun _ _ q9 => ?_) (fun _ _ q9 => by cases q9.1)
    obtain ⟨q8, e9⟩ := q9
    cases q8
    replace e9 := e9.symm
    subst e9
    refine zW.callS (r' := 0) (pc' := 7) dX1_owedTo_4 rfl l_X1_88 rfl (w_chkArgument1) (zcc rfl zc0) rfl (Nat.le_of_ble_eq_true rfl) (Nat.le_of_ble_eq_true rfl) (Nat.le_of_ble_eq_true rfl) (fun _ _ q9 => ?_) (fun _ _ q9 => by cases q9.1)
    obtain ⟨q8, e9⟩ := q9
    cases q8
    replace e9 := e9.symm
    subst e9
    obtain ⟨m, hm, -, h3, e⟩ := sIn_nat q (by decide) (by decide)
    rw [hm]
    refine zW.aload_n (pc' := 8) dX1_owedTo_7 rfl rfl zg0 rfl ?_
    refine zW.get (pc' := 11) dX1_owedTo_8 rfl f_X1_10_0 hx ⟨rfl, (Nat.le_of_ble_eq_true rfl)⟩ rfl ?_
    refine zW.iload_n (pc' := 12) dX1_owedTo_11 rfl rfl (zgS (zg0)) ?_
    refine zW.lamM (i := 6) (vals := [.int (nI m)]) (pc' := 17) dX1_owedTo_12 rfl rfl rfl rfl (Nat.le_of_ble_eq_true rfl) lk6 rfl (Nat.le_of_ble_eq_true rfl) (Nat.le_of_ble_eq_true rfl) rfl (lam_fit1 rfl) rfl (Nat.le_of_ble_eq_true rfl) (Nat.le_of_ble_eq_true rfl) (fun b _ nb e9 kb => ?_)
    have zb := zfr.new (zfr.rf (A := fun _ => False) (h := h)) e9 nb
    subst e9
    have hP1 := hP.fr zb (fun _ _ q => q)
    have hst1 := hP1.1
    refine zW.callV (r' := 2) (pc' := 20) dX1_owedTo_17 rfl l_X1_210 rfl hst1 ⟨rfl, (Nat.le_of_ble_eq_true rfl)⟩ rfl (w_stSum hP1 hJ.1.len lc6 (Nat.le_of_ble_eq_true rfl) kb rfl rfl (zcc rfl zc0) (Nat.le_of_ble_eq_true rfl) (V := fun c ↦ if nI (c 2) = nI m then nI (c 3) else 0) (fun H a c _ _ hc ↦ w_lmTo hc)) (zcc rfl zc0) rfl (Nat.le_of_ble_eq_true rfl) (Nat.le_of_ble_eq_true rfl) (Nat.le_of_ble_eq_true rfl) (fun _ _ q9 => ?_) (fun _ _ q9 => by cases q9.1)
    obtain ⟨q8, e9⟩ := q9
    cases q8
    replace e9 := e9.symm
    subst e9
    refine zW.drop (zle.up nb) ?_
    rw [sUpI_sum hJ.1 hN hT (by decide) (by omega)]
    refine zW.iret dX1_owedTo_20 rfl (rfl) ?_
    exact cAns.ok (by unfold qOwed; rw [← hm, if_pos q, e])
  · refine zW.callS (r' := 0) (pc' := 4) dX1_owedTo_1 rfl l_X1_84 rfl (w_xisPerson0 q) (zcc rfl zc0) rfl (Nat.le_of_ble_eq_true rfl) (Nat.le_of_ble_eq_true rfl) (Nat.le_of_ble_eq_true rfl) (fun _ _ q9 => ?_) (fun _ _ q9 => by cases q9.1)
    obtain ⟨q8, e9⟩ := q9
    cases q8
    replace e9 := e9.symm
    subst e9
    refine zW.callS (r' := 2) (pc' := 7) dX1_owedTo_4 rfl l_X1_88 rfl (w_chkArgument0) (zcc rfl zc0) rfl (Nat.le_of_ble_eq_true rfl) (Nat.le_of_ble_eq_true rfl) (Nat.le_of_ble_eq_true rfl) (fun _ _ q9 => by cases q9.1) (fun _ _ q9 => ?_)
    obtain ⟨q8, e9⟩ := q9
    cases q8
    replace e9 := e9.symm
    subst e9
    refine zX.out0 rfl ?_
    exact cAns.no (by unfold qOwed; rw [if_neg q]) rfl
theorem c_balanceOf (hx : h x = some (0, .ref st :: fs)) (hP : cP h O st ll aq re rt ea ha er hr mc xs qs rs s) (hJ : sJ tt nn s) (hN : nn ≤ 10000) (hT : tt ≤ 100000) {m : Nat} (hm : m < 2 ^ 30) : zK G mX1_balanceOf 26 3 [.ref x, .int (nI m)] h (zPu h (some (.int (sBal s m)))) := by
  have hst := hP.1
  show zW G mX1_balanceOf 26 3 0 [.ref x, .int (nI m)] [] h _
  refine zW.aload_n (pc' := 1) dX1_balanceOf_0 rfl rfl zg0 rfl ?_
  refine zW.get (pc' := 4) dX1_balanceOf_1 rfl f_X1_10_0 hx ⟨rfl, (Nat.le_of_ble_eq_true rfl)⟩ rfl ?_
  refine zW.iload_n (pc' := 5) dX1_balanceOf_4 rfl rfl (zgS (zg0)) ?_
  refine zW.lamM (i := 2) (vals := [.int (nI m)]) (pc' := 10) dX1_balanceOf_5 rfl rfl rfl rfl (Nat.le_of_ble_eq_true rfl) lk2 rfl (Nat.le_of_ble_eq_true rfl) (Nat.le_of_ble_eq_true rfl) rfl (lam_fit1 rfl) rfl (Nat.le_of_ble_eq_true rfl) (Nat.le_of_ble_eq_true rfl) (fun b _ nb e9 kb => ?_)
  have zb := zfr.new (zfr.rf (A := fun _ => False) (h := h)) e9 nb
  subst e9
  have hP1 := hP.fr zb (fun _ _ q => q)
  have hst1 := hP1.1
  refine zW.callV (r' := 2) (pc' := 13) dX1_balanceOf_10 rfl l_X1_210 rfl hst1 ⟨rfl, (Nat.le_of_ble_eq_true rfl)⟩ rfl (w_stSum hP1 hJ.1.len lc2 (Nat.le_of_ble_eq_true rfl) kb rfl rfl (zcc rfl zc0) (Nat.le_of_ble_eq_true rfl) (V := fun c ↦ cSgn c (nI m) * nI (c 3)) (fun H a c _ _ hc ↦ w_lmBal hc)) (zcc rfl zc0) rfl (Nat.le_of_ble_eq_true rfl) (Nat.le_of_ble_eq_true rfl) (Nat.le_of_ble_eq_true rfl) (fun _ _ q9 => ?_) (fun _ _ q9 => by cases q9.1)
  obtain ⟨q8, e9⟩ := q9
  cases q8
  replace e9 := e9.symm
  subst e9
  refine zW.drop (zle.up nb) ?_
  rw [sUpI_sgn hJ.1 hN hT hm]
  refine zW.iret dX1_balanceOf_13 rfl (rfl) ?_
  exact ⟨rfl, rfl⟩
theorem c_balance (hx : h x = some (0, .ref st :: fs)) (hP : cP h O st ll aq re rt ea ha er hr mc xs qs rs s) (hJ : sJ tt nn s) (hN : nn ≤ 10000) (hT : tt ≤ 100000) : zK G mX1_balance 40 3 [.ref x, .int y] h (cAns [eArg] h (qBalance s y)) := by
  show zW G mX1_balance 40 3 0 [.ref x, .int y] [] h _
  refine zW.iload_n (pc' := 1) dX1_balance_0 rfl rfl (zgS (zg0)) ?_
  by_cases q : sIn y (nI 0) (nI 7) = true
  · refine zW.callS (r' := 0) (pc' := 4) dX1_balance_1 rfl l_X1_84 rfl (w_xisPerson1 q) (zcc rfl zc0) rfl (Nat.le_of_ble_eq_true rfl) (Nat.le_of_ble_eq_true rfl) (Nat.le_of_ble_eq_true rfl) (fun _ _ q9 => ?_) (fun _ _ q9 => by cases q9.1)
    obtain ⟨q8, e9⟩ := q9
    cases q8
    replace e9 := e9.symm
    subst e9
    refine zW.callS (r' := 0) (pc' := 7) dX1_balance_4 rfl l_X1_88 rfl (w_chkArgument1) (zcc rfl zc0) rfl (Nat.le_of_ble_eq_true rfl) (Nat.le_of_ble_eq_true rfl) (Nat.le_of_ble_eq_true rfl) (fun _ _ q9 => ?_) (fun _ _ q9 => by cases q9.1)
    obtain ⟨q8, e9⟩ := q9
    cases q8
    replace e9 := e9.symm
    subst e9
    obtain ⟨m, hm, -, h3, e⟩ := sIn_nat q (by decide) (by decide)
    rw [hm]
    refine zW.aload_n (pc' := 8) dX1_balance_7 rfl rfl zg0 rfl ?_
    refine zW.iload_n (pc' := 9) dX1_balance_8 rfl rfl (zgS (zg0)) ?_
    refine zW.callV (r' := 3) (pc' := 12) dX1_balance_9 rfl l_X1_216 rfl hx ⟨rfl, (Nat.le_of_ble_eq_true rfl)⟩ rfl (c_balanceOf hx hP hJ hN hT (m := m) (by omega)) (zcc rfl zc0) rfl (Nat.le_of_ble_eq_true rfl) (Nat.le_of_ble_eq_true rfl) (Nat.le_of_ble_eq_true rfl) (fun _ _ q9 => ?_) (fun _ _ q9 => by cases q9.1)
    obtain ⟨q8, e9⟩ := q9
    cases q8
    replace e9 := e9.symm
    subst e9
    refine zW.iret dX1_balance_12 rfl (rfl) ?_
    exact cAns.ok (by unfold qBalance; rw [← hm, if_pos q, e])
  · refine zW.callS (r' := 0) (pc' := 4) dX1_balance_1 rfl l_X1_84 rfl (w_xisPerson0 q) (zcc rfl zc0) rfl (Nat.le_of_ble_eq_true rfl) (Nat.le_of_ble_eq_true rfl) (Nat.le_of_ble_eq_true rfl) (fun _ _ q9 => ?_) (fun _ _ q9 => by cases q9.1)
    obtain ⟨q8, e9⟩ := q9
    cases q8
    replace e9 := e9.symm
    subst e9
    refine zW.callS (r' := 2) (pc' := 7) dX1_balance_4 rfl l_X1_88 rfl (w_chkArgument0) (zcc rfl zc0) rfl (Nat.le_of_ble_eq_true rfl) (Nat.le_of_ble_eq_true rfl) (Nat.le_of_ble_eq_true rfl) (fun _ _ q9 => by cases q9.1) (fun _ _ q9 => ?_)
    obtain ⟨q8, e9⟩ := q9
    cases q8
    replace e9 := e9.symm
    subst e9
    refine zX.out0 rfl ?_
    exact cAns.no (by unfold qBalance; rw [if_neg q]) rfl
theorem c_mostIndebted (hx : h x = some (0, .ref st :: fs)) (hP : cP h O st ll aq re rt ea ha er hr mc xs qs rs s) (hJ : sJ tt nn s) (hN : nn ≤ 10000) (hT : tt ≤ 100000) : zK G mX1_mostIndebted 40 44 [.ref x] h (cAns [eElt] h (qMost s)) := by
  have hst := hP.1
  have hl := hP.2.1.1.1
  have hxs := hP.2.1.2.1
  have h12 := hJ.1.len
  show zW G mX1_mostIndebted 40 44 0 [.ref x, zho, zho] [] h _
  refine zW.aload_n (pc' := 1) dX1_mostIndebted_0 rfl rfl zg0 rfl ?_
  refine zW.get (pc' := 4) dX1_mostIndebted_1 rfl f_X1_10_0 hx ⟨rfl, (Nat.le_of_ble_eq_true rfl)⟩ rfl ?_
  refine zW.get (pc' := 7) dX1_mostIndebted_4 rfl f_X1_91_1 hst ⟨rfl, (Nat.le_of_ble_eq_true rfl)⟩ rfl ?_
  refine zW.callU (r' := 0) (pc' := 10) dX1_mostIndebted_7 rfl l_X1_219_J3 rfl hl ⟨rfl, (Nat.le_of_ble_eq_true rfl)⟩ rfl (w_llEmpty hl (by omega)) zc0 rfl (Nat.le_of_ble_eq_true rfl) (Nat.le_of_ble_eq_true rfl) (Nat.le_of_ble_eq_true rfl) (fun _ _ q9 => ?_) (fun _ _ q9 => by cases q9.1)
  obtain ⟨q8, e9⟩ := q9
  cases q8
  replace e9 := e9.symm
  subst e9
  have e : (xs = []) ↔ s.2.1.length = 0 := by rw [← hxs]; exact List.length_eq_zero_iff.symm
  by_cases q : s.2.1.length = 0
  · rw [if_pos (e.mpr q)]
    refine zW.if_neN (pc' := 13) 17 dX1_mostIndebted_10 rfl (by decide) (by omega) (fun b9 => ?_) (fun b9 => absurd b9 (by omega))
    refine zW.iconst (pc' := 18) (nI 0) dX1_mostIndebted_17 rfl (by decide) ?_
    refine zW.callS (r' := 2) (pc' := 21) dX1_mostIndebted_18 rfl l_X1_80 rfl (w_chkElement0) (zcc rfl zc0) rfl (Nat.le_of_ble_eq_true rfl) (Nat.le_of_ble_eq_true rfl) (Nat.le_of_ble_eq_true rfl) (fun _ _ q9 => by cases q9.1) (fun _ _ q9 => ?_)
    obtain ⟨q8, e9⟩ := q9
    cases q8
    replace e9 := e9.symm
    subst e9
    refine zX.out0 rfl ?_
    exact cAns.no (by unfold qMost; rw [if_pos q]) rfl
  · rw [if_neg (fun z => q (e.mp z))]
    refine zW.if_neN (pc' := 13) 17 dX1_mostIndebted_10 rfl (by decide) (by omega) (fun b9 => absurd b9 (by omega)) (fun b9 => ?_)
    refine zW.iconst (pc' := 14) (nI 1) dX1_mostIndebted_13 rfl (by decide) ?_
    refine zW.goto 18 dX1_mostIndebted_14 (by decide) ?_
    refine zW.callS (r' := 0) (pc' := 21) dX1_mostIndebted_18 rfl l_X1_80 rfl (w_chkElement1) (zcc rfl zc0) rfl (Nat.le_of_ble_eq_true rfl) (Nat.le_of_ble_eq_true rfl) (Nat.le_of_ble_eq_true rfl) (fun _ _ q9 => ?_) (fun _ _ q9 => by cases q9.1)
    obtain ⟨q8, e9⟩ := q9
    cases q8
    replace e9 := e9.symm
    subst e9
    have loop : ∀ k m, k + m = 7 → zW G mX1_mostIndebted 40 (6 * m + 2) 25 [.ref x, .int (nI (sMost s k)), .int (nI (k + 1))] [] h (cAns [eElt] h (qMost s)) := by
      intro k m
      induction m generalizing k with
      | zero =>
        intro hk
        refine zW.iload_n (pc' := 26) dX1_mostIndebted_25 rfl rfl (zgS (zgS (zg0))) ?_
        refine zW.bipush (pc' := 28) (nI 8) dX1_mostIndebted_26 rfl (by decide) ?_
        refine zW.icmp_geN (pc' := 31) 52 dX1_mostIndebted_28 rfl (by decide) (by omega) (by omega) (fun b9 => ?_) (fun b9 => absurd b9 (by omega))
        refine zW.iload_n (pc' := 53) dX1_mostIndebted_52 rfl rfl (zgS (zg0)) ?_
        refine zW.iret dX1_mostIndebted_53 rfl (rfl) ?_
        exact cAns.ok (by unfold qMost; rw [if_neg q, show k = 7 by omega])
      | succ m ih =>
        intro hk
        have hle := sMost_le (s := s) (k := k)
        have i9 := ih (k + 1) (by omega)
        rw [sMost] at i9
        refine zW.pay (r1 := 6 * m + 2 + 3 + 3) ?_ (by omega)
        refine zW.iload_n (pc' := 26) dX1_mostIndebted_25 rfl rfl (zgS (zgS (zg0))) ?_
        refine zW.bipush (pc' := 28) (nI 8) dX1_mostIndebted_26 rfl (by decide) ?_
        refine zW.icmp_geN (pc' := 31) 52 dX1_mostIndebted_28 rfl (by decide) (by omega) (by omega) (fun b9 => absurd b9 (by omega)) (fun b9 => ?_)
        refine zW.aload_n (pc' := 32) dX1_mostIndebted_31 rfl rfl zg0 rfl ?_
        refine zW.iload_n (pc' := 33) dX1_mostIndebted_32 rfl rfl (zgS (zgS (zg0))) ?_
        refine zW.callV (r' := 3) (pc' := 36) dX1_mostIndebted_33 rfl l_X1_216 rfl hx ⟨rfl, (Nat.le_of_ble_eq_true rfl)⟩ rfl (c_balanceOf hx hP hJ hN hT (m := k + 1) (by omega)) (zcc rfl zc0) rfl (Nat.le_of_ble_eq_true rfl) (Nat.le_of_ble_eq_true rfl) (Nat.le_of_ble_eq_true rfl) (fun _ _ q9 => ?_) (fun _ _ q9 => by cases q9.1)
        obtain ⟨q8, e9⟩ := q9
        cases q8
        replace e9 := e9.symm
        subst e9
        refine zW.aload_n (pc' := 37) dX1_mostIndebted_36 rfl rfl zg0 rfl ?_
        refine zW.iload_n (pc' := 38) dX1_mostIndebted_37 rfl rfl (zgS (zg0)) ?_
        refine zW.callV (r' := 3) (pc' := 41) dX1_mostIndebted_38 rfl l_X1_216 rfl hx ⟨rfl, (Nat.le_of_ble_eq_true rfl)⟩ rfl (c_balanceOf hx hP hJ hN hT (m := sMost s k) (by omega)) (zcc rfl zc0) rfl (Nat.le_of_ble_eq_true rfl) (Nat.le_of_ble_eq_true rfl) (Nat.le_of_ble_eq_true rfl) (fun _ _ q9 => ?_) (fun _ _ q9 => by cases q9.1)
        obtain ⟨q8, e9⟩ := q9
        cases q8
        replace e9 := e9.symm
        subst e9
        refine zW.icmp_ge (pc' := 44) 46 dX1_mostIndebted_41 rfl (by decide) (fun b1 => ?_) (fun b1 => ?_)
        · rw [if_neg (Int32.not_lt.mpr b1)] at i9
          refine zW.iincN (pc' := 49) (n := 1) dX1_mostIndebted_46 rfl (Nat.le_of_ble_eq_true rfl) (zgS (zgS (zg0))) (zsS (zsS (zs0))) ?_
          refine zW.goto 25 dX1_mostIndebted_49 (by decide) ?_
          exact i9
        · rw [if_pos (Int32.not_le.mp b1)] at i9
          refine zW.iload_n (pc' := 45) dX1_mostIndebted_44 rfl rfl (zgS (zgS (zg0))) ?_
          refine zW.istore_n (pc' := 46) dX1_mostIndebted_45 rfl rfl (Nat.le_of_ble_eq_true rfl) (zsS (zs0)) ?_
          refine zW.iincN (pc' := 49) (n := 1) dX1_mostIndebted_46 rfl (Nat.le_of_ble_eq_true rfl) (zgS (zgS (zg0))) (zsS (zsS (zs0))) ?_
          refine zW.goto 25 dX1_mostIndebted_49 (by decide) ?_
          exact i9
    refine zW.iconst (pc' := 22) (nI 0) dX1_mostIndebted_21 rfl (by decide) ?_
    refine zW.istore_n (pc' := 23) dX1_mostIndebted_22 rfl rfl (Nat.le_of_ble_eq_true rfl) (zsS (zs0)) ?_
    refine zW.iconst (pc' := 24) (nI 1) dX1_mostIndebted_23 rfl (by decide) ?_
    refine zW.istore_n (pc' := 25) dX1_mostIndebted_24 rfl rfl (Nat.le_of_ble_eq_true rfl) (zsS (zsS (zs0))) ?_
    exact loop 0 7 rfl
theorem c_checkPersons1 (q : sIn y (nI 0) (nI 7) = true ∧ sIn z (nI 0) (nI 7) = true) : zK G mX1_checkPersons 14 0 [.int y, .int z] h (zPu h none) := by
  show zW G mX1_checkPersons 14 0 0 [.int y, .int z] [] h _
  refine zW.iload_n (pc' := 1) dX1_checkPersons_0 rfl rfl zg0 ?_
  refine zW.callS (r' := 0) (pc' := 4) dX1_checkPersons_1 rfl l_X1_84 rfl (w_xisPerson1 q.1) (zcc rfl zc0) rfl (Nat.le_of_ble_eq_true rfl) (Nat.le_of_ble_eq_true rfl) (Nat.le_of_ble_eq_true rfl) (fun _ _ q9 => ?_) (fun _ _ q9 => by cases q9.1)
  obtain ⟨q8, e9⟩ := q9
  cases q8
  replace e9 := e9.symm
  subst e9
  refine zW.if_eqN (pc' := 7) 18 dX1_checkPersons_4 rfl (by decide) (by omega) (fun b9 => absurd b9 (by omega)) (fun b9 => ?_)
  refine zW.iload_n (pc' := 8) dX1_checkPersons_7 rfl rfl (zgS (zg0)) ?_
  refine zW.callS (r' := 0) (pc' := 11) dX1_checkPersons_8 rfl l_X1_84 rfl (w_xisPerson1 q.2) (zcc rfl zc0) rfl (Nat.le_of_ble_eq_true rfl) (Nat.le_of_ble_eq_true rfl) (Nat.le_of_ble_eq_true rfl) (fun _ _ q9 => ?_) (fun _ _ q9 => by cases q9.1)
  obtain ⟨q8, e9⟩ := q9
  cases q8
  replace e9 := e9.symm
  subst e9
  refine zW.if_eqN (pc' := 14) 18 dX1_checkPersons_11 rfl (by decide) (by omega) (fun b9 => absurd b9 (by omega)) (fun b9 => ?_)
  refine zW.iconst (pc' := 15) (nI 1) dX1_checkPersons_14 rfl (by decide) ?_
  refine zW.goto 19 dX1_checkPersons_15 (by decide) ?_
  refine zW.callS (r' := 0) (pc' := 22) dX1_checkPersons_19 rfl l_X1_88 rfl (w_chkArgument1) (zcc rfl zc0) rfl (Nat.le_of_ble_eq_true rfl) (Nat.le_of_ble_eq_true rfl) (Nat.le_of_ble_eq_true rfl) (fun _ _ q9 => ?_) (fun _ _ q9 => by cases q9.1)
  obtain ⟨q8, e9⟩ := q9
  cases q8
  replace e9 := e9.symm
  subst e9
  refine zW.vret dX1_checkPersons_22 rfl ?_
  exact ⟨rfl, rfl⟩
theorem c_checkPersons0 (q : ¬ (sIn y (nI 0) (nI 7) = true ∧ sIn z (nI 0) (nI 7) = true)) : zK G mX1_checkPersons 14 2 [.int y, .int z] h (zTr h eArg) := by
  have bad : zW G mX1_checkPersons 14 2 18 [.int y, .int z] [] h (zTr h eArg) := by
    refine zW.iconst (pc' := 19) (nI 0) dX1_checkPersons_18 rfl (by decide) ?_
    refine zW.callS (r' := 2) (pc' := 22) dX1_checkPersons_19 rfl l_X1_88 rfl (w_chkArgument0) (zcc rfl zc0) rfl (Nat.le_of_ble_eq_true rfl) (Nat.le_of_ble_eq_true rfl) (Nat.le_of_ble_eq_true rfl) (fun _ _ q9 => by cases q9.1) (fun _ _ q9 => ?_)
    obtain ⟨q8, e9⟩ := q9
    cases q8
    replace e9 := e9.symm
    subst e9
    refine zX.out0 rfl ?_
    exact ⟨rfl, rfl⟩
  show zW G mX1_checkPersons 14 2 0 [.int y, .int z] [] h _
  refine zW.iload_n (pc' := 1) dX1_checkPersons_0 rfl rfl zg0 ?_
  by_cases q1 : sIn y (nI 0) (nI 7) = true
  · refine zW.callS (r' := 0) (pc' := 4) dX1_checkPersons_1 rfl l_X1_84 rfl (w_xisPerson1 q1) (zcc rfl zc0) rfl (Nat.le_of_ble_eq_true rfl) (Nat.le_of_ble_eq_true rfl) (Nat.le_of_ble_eq_true rfl) (fun _ _ q9 => ?_) (fun _ _ q9 => by cases q9.1)
    obtain ⟨q8, e9⟩ := q9
    cases q8
    replace e9 := e9.symm
    subst e9
    refine zW.if_eqN (pc' := 7) 18 dX1_checkPersons_4 rfl (by decide) (by omega) (fun b9 => absurd b9 (by omega)) (fun b9 => ?_)
    refine zW.iload_n (pc' := 8) dX1_checkPersons_7 rfl rfl (zgS (zg0)) ?_
    refine zW.callS (r' := 0) (pc' := 11) dX1_checkPersons_8 rfl l_X1_84 rfl (w_xisPerson0 (fun q2 ↦ q ⟨q1, q2⟩)) (zcc rfl zc0) rfl (Nat.le_of_ble_eq_true rfl) (Nat.le_of_ble_eq_true rfl) (Nat.le_of_ble_eq_true rfl) (fun _ _ q9 => ?_) (fun _ _ q9 => by cases q9.1)
    obtain ⟨q8, e9⟩ := q9
    cases q8
    replace e9 := e9.symm
    subst e9
    refine zW.if_eqN (pc' := 14) 18 dX1_checkPersons_11 rfl (by decide) (by omega) (fun b9 => ?_) (fun b9 => absurd b9 (by omega))
    exact bad
  · refine zW.callS (r' := 0) (pc' := 4) dX1_checkPersons_1 rfl l_X1_84 rfl (w_xisPerson0 q1) (zcc rfl zc0) rfl (Nat.le_of_ble_eq_true rfl) (Nat.le_of_ble_eq_true rfl) (Nat.le_of_ble_eq_true rfl) (fun _ _ q9 => ?_) (fun _ _ q9 => by cases q9.1)
    obtain ⟨q8, e9⟩ := q9
    cases q8
    replace e9 := e9.symm
    subst e9
    refine zW.if_eqN (pc' := 7) 18 dX1_checkPersons_4 rfl (by decide) (by omega) (fun b9 => ?_) (fun b9 => absurd b9 (by omega))
    exact bad
theorem c_isOwed (hx : h x = some (0, .ref st :: fs)) (hP : cP h O st ll aq re rt ea ha er hr mc xs qs rs s) (hJ : sJ tt nn s) (hN : nn ≤ 10000) (hT : tt ≤ 100000) {a b' : Nat} (ha' : a < 2 ^ 30) (hb' : b' < 2 ^ 30) : zK G mX1_isOwed 26 3 [.ref x, .int (nI a), .int (nI b')] h (zPu h (some (.int (nI (if sOwes s a b' s.2.1.length 0 = true then 1 else 0))))) := by
  have hst := hP.1
  have hle := sCk_le (T := fun c => decide (nI (c 1) = nI a ∧ nI (c 2) = nI b')) (cs := s.2.1) (k := s.2.1.length)
  have h12 := hJ.1.len
  show zW G mX1_isOwed 26 3 0 [.ref x, .int (nI a), .int (nI b')] [] h _
  refine zW.aload_n (pc' := 1) dX1_isOwed_0 rfl rfl zg0 rfl ?_
  refine zW.get (pc' := 4) dX1_isOwed_1 rfl f_X1_10_0 hx ⟨rfl, (Nat.le_of_ble_eq_true rfl)⟩ rfl ?_
  refine zW.iload_n (pc' := 5) dX1_isOwed_4 rfl rfl (zgS (zg0)) ?_
  refine zW.iload_n (pc' := 6) dX1_isOwed_5 rfl rfl (zgS (zgS (zg0))) ?_
  refine zW.lamM (i := 9) (vals := [.int (nI a), .int (nI b')]) (pc' := 11) dX1_isOwed_6 rfl rfl rfl rfl (Nat.le_of_ble_eq_true rfl) lk9 rfl (Nat.le_of_ble_eq_true rfl) (Nat.le_of_ble_eq_true rfl) rfl (lam_fit2 rfl rfl) rfl (Nat.le_of_ble_eq_true rfl) (Nat.le_of_ble_eq_true rfl) (fun b _ nb e9 kb => ?_)
  have zb := zfr.new (zfr.rf (A := fun _ => False) (h := h)) e9 nb
  subst e9
  have hP1 := hP.fr zb (fun _ _ q => q)
  have hst1 := hP1.1
  refine zW.callV (r' := 2) (pc' := 14) dX1_isOwed_11 rfl l_X1_112 rfl hst1 ⟨rfl, (Nat.le_of_ble_eq_true rfl)⟩ rfl (w_stCount hP1 hJ.1.len lc9 (Nat.le_of_ble_eq_true rfl) kb rfl rfl (zcc rfl (zcc rfl zc0)) (Nat.le_of_ble_eq_true rfl) (T := fun c ↦ decide (nI (c 1) = nI a ∧ nI (c 2) = nI b')) (fun H a c _ _ hc ↦ w_lmOwed hc)) (zcc rfl zc0) rfl (Nat.le_of_ble_eq_true rfl) (Nat.le_of_ble_eq_true rfl) (Nat.le_of_ble_eq_true rfl) (fun _ _ q9 => ?_) (fun _ _ q9 => by cases q9.1)
  obtain ⟨q8, e9⟩ := q9
  cases q8
  replace e9 := e9.symm
  subst e9
  refine zW.drop (zle.up nb) ?_
  have e := sCk_owes hJ.1 hN hT ha' hb'
  refine zW.if_leN (pc' := 17) 21 dX1_isOwed_14 rfl (by decide) (by omega) (fun b1 => ?_) (fun b1 => ?_)
  · refine zW.iconst (pc' := 22) (nI 0) dX1_isOwed_21 rfl (by decide) ?_
    refine zW.iret dX1_isOwed_22 rfl (rfl) ?_
    rw [if_neg (fun z => by have := e.mpr z; omega)]
    exact ⟨rfl, rfl⟩
  · refine zW.iconst (pc' := 18) (nI 1) dX1_isOwed_17 rfl (by decide) ?_
    refine zW.goto 22 dX1_isOwed_18 (by decide) ?_
    refine zW.iret dX1_isOwed_22 rfl (rfl) ?_
    rw [if_pos (e.mp (by omega))]
    exact ⟨rfl, rfl⟩
theorem c_owes (hx : h x = some (0, .ref st :: fs)) (hP : cP h O st ll aq re rt ea ha er hr mc xs qs rs s) (hJ : sJ tt nn s) (hN : nn ≤ 10000) (hT : tt ≤ 100000) : zK G mX1_owes 40 3 [.ref x, .int y, .int z] h (cAns [eArg] h (qOwes s y z)) := by
  show zW G mX1_owes 40 3 0 [.ref x, .int y, .int z] [] h _
  refine zW.iload_n (pc' := 1) dX1_owes_0 rfl rfl (zgS (zg0)) ?_
  refine zW.iload_n (pc' := 2) dX1_owes_1 rfl rfl (zgS (zgS (zg0))) ?_
  by_cases q : sIn y (nI 0) (nI 7) = true ∧ sIn z (nI 0) (nI 7) = true
  · refine zW.callS (r' := 0) (pc' := 5) dX1_owes_2 rfl l_X1_258 rfl (c_checkPersons1 q) (zcc rfl (zcc rfl zc0)) rfl (Nat.le_of_ble_eq_true rfl) (Nat.le_of_ble_eq_true rfl) (Nat.le_of_ble_eq_true rfl) (fun _ _ q9 => ?_) (fun _ _ q9 => by cases q9.1)
    obtain ⟨q8, e9⟩ := q9
    cases q8
    replace e9 := e9.symm
    subst e9
    obtain ⟨a, h1, -, h3, e⟩ := sIn_nat q.1 (by decide) (by decide)
    obtain ⟨b, h4, -, h6, e'⟩ := sIn_nat q.2 (by decide) (by decide)
    rw [h1, h4]
    refine zW.aload_n (pc' := 6) dX1_owes_5 rfl rfl zg0 rfl ?_
    refine zW.iload_n (pc' := 7) dX1_owes_6 rfl rfl (zgS (zg0)) ?_
    refine zW.iload_n (pc' := 8) dX1_owes_7 rfl rfl (zgS (zgS (zg0))) ?_
    refine zW.callV (r' := 3) (pc' := 11) dX1_owes_8 rfl l_X1_262 rfl hx ⟨rfl, (Nat.le_of_ble_eq_true rfl)⟩ rfl (c_isOwed hx hP hJ hN hT (a := a) (b' := b) (by omega) (by omega)) (zcc rfl (zcc rfl zc0)) rfl (Nat.le_of_ble_eq_true rfl) (Nat.le_of_ble_eq_true rfl) (Nat.le_of_ble_eq_true rfl) (fun _ _ q9 => ?_) (fun _ _ q9 => by cases q9.1)
    obtain ⟨q8, e9⟩ := q9
    cases q8
    replace e9 := e9.symm
    subst e9
    refine zW.iret dX1_owes_11 rfl (by split <;> rfl) ?_
    exact cAns.ok (by unfold qOwes; rw [← h1, ← h4, if_pos q, e, e'])
  · refine zW.callS (r' := 2) (pc' := 5) dX1_owes_2 rfl l_X1_258 rfl (c_checkPersons0 q) (zcc rfl (zcc rfl zc0)) rfl (Nat.le_of_ble_eq_true rfl) (Nat.le_of_ble_eq_true rfl) (Nat.le_of_ble_eq_true rfl) (fun _ _ q9 => by cases q9.1) (fun _ _ q9 => ?_)
    obtain ⟨q8, e9⟩ := q9
    cases q8
    replace e9 := e9.symm
    subst e9
    refine zX.out0 rfl ?_
    exact cAns.no (by unfold qOwes; rw [if_neg q]) rfl
theorem c_pairBalance (hx : h x = some (0, .ref st :: fs)) (hP : cP h O st ll aq re rt ea ha er hr mc xs qs rs s) (hJ : sJ tt nn s) (hN : nn ≤ 10000) (hT : tt ≤ 100000) : zK G mX1_pairBalance 40 6 [.ref x, .int y, .int z] h (cAns [eArg] h (qPair s y z)) := by
  have hst := hP.1
  show zW G mX1_pairBalance 40 6 0 [.ref x, .int y, .int z, zho, zho] [] h _
  refine zW.iload_n (pc' := 1) dX1_pairBalance_0 rfl rfl (zgS (zg0)) ?_
  refine zW.iload_n (pc' := 2) dX1_pairBalance_1 rfl rfl (zgS (zgS (zg0))) ?_
  by_cases q : sIn y (nI 0) (nI 7) = true ∧ sIn z (nI 0) (nI 7) = true
  · refine zW.callS (r' := 0) (pc' := 5) dX1_pairBalance_2 rfl l_X1_258 rfl (c_checkPersons1 q) (zcc rfl (zcc rfl zc0)) rfl (Nat.le_of_ble_eq_true rfl) (Nat.le_of_ble_eq_true rfl) (Nat.le_of_ble_eq_true rfl) (fun _ _ q9 => ?_) (fun _ _ q9 => by cases q9.1)
    obtain ⟨q8, e9⟩ := q9
    cases q8
    replace e9 := e9.symm
    subst e9
    obtain ⟨a, h1, -, h3, e⟩ := sIn_nat q.1 (by decide) (by decide)
    obtain ⟨b', h4, -, h6, e'⟩ := sIn_nat q.2 (by decide) (by decide)
    rw [h1, h4]
    refine zW.aload_n (pc' := 6) dX1_pairBalance_5 rfl rfl zg0 rfl ?_
    refine zW.get (pc' := 9) dX1_pairBalance_6 rfl f_X1_10_0 hx ⟨rfl, (Nat.le_of_ble_eq_true rfl)⟩ rfl ?_
    refine zW.iload_n (pc' := 10) dX1_pairBalance_9 rfl rfl (zgS (zgS (zg0))) ?_
    refine zW.iload_n (pc' := 11) dX1_pairBalance_10 rfl rfl (zgS (zg0)) ?_
    refine zW.lamM (i := 10) (vals := [.int (nI b'), .int (nI a)]) (pc' := 16) dX1_pairBalance_11 rfl rfl rfl rfl (Nat.le_of_ble_eq_true rfl) lk10 rfl (Nat.le_of_ble_eq_true rfl) (Nat.le_of_ble_eq_true rfl) rfl (lam_fit2 rfl rfl) rfl (Nat.le_of_ble_eq_true rfl) (Nat.le_of_ble_eq_true rfl) (fun b _ nb e9 kb => ?_)
    have zb := zfr.new (zfr.rf (A := fun _ => False) (h := h)) e9 nb
    subst e9
    have hP1 := hP.fr zb (fun _ _ q => q)
    have hst1 := hP1.1
    refine zW.callV (r' := 2) (pc' := 19) dX1_pairBalance_16 rfl l_X1_210 rfl hst1 ⟨rfl, (Nat.le_of_ble_eq_true rfl)⟩ rfl (w_stSum hP1 hJ.1.len lc10 (Nat.le_of_ble_eq_true rfl) kb rfl rfl (zcc rfl (zcc rfl zc0)) (Nat.le_of_ble_eq_true rfl) (V := fun c ↦ if nI (c 1) = nI b' ∧ nI (c 2) = nI a then nI (c 3) else 0) (fun H a c _ _ hc ↦ w_lmPr7 hc)) (zcc rfl zc0) rfl (Nat.le_of_ble_eq_true rfl) (Nat.le_of_ble_eq_true rfl) (Nat.le_of_ble_eq_true rfl) (fun _ _ q9 => ?_) (fun _ _ q9 => by cases q9.1)
    obtain ⟨q8, e9⟩ := q9
    cases q8
    replace e9 := e9.symm
    subst e9
    refine zW.drop (zle.up nb) ?_
    rw [sUpI_pair hJ.1 hN hT (by omega) (by omega)]
    clear hst1 hP1 zb kb nb b
    refine zW.istore_n (pc' := 20) dX1_pairBalance_19 rfl rfl (Nat.le_of_ble_eq_true rfl) (zsS (zsS (zsS (zs0)))) ?_
    refine zW.aload_n (pc' := 21) dX1_pairBalance_20 rfl rfl zg0 rfl ?_
    refine zW.get (pc' := 24) dX1_pairBalance_21 rfl f_X1_10_0 hx ⟨rfl, (Nat.le_of_ble_eq_true rfl)⟩ rfl ?_
    refine zW.iload_n (pc' := 25) dX1_pairBalance_24 rfl rfl (zgS (zg0)) ?_
    refine zW.iload_n (pc' := 26) dX1_pairBalance_25 rfl rfl (zgS (zgS (zg0))) ?_
    refine zW.lamM (i := 11) (vals := [.int (nI a), .int (nI b')]) (pc' := 31) dX1_pairBalance_26 rfl rfl rfl rfl (Nat.le_of_ble_eq_true rfl) lk11 rfl (Nat.le_of_ble_eq_true rfl) (Nat.le_of_ble_eq_true rfl) rfl (lam_fit2 rfl rfl) rfl (Nat.le_of_ble_eq_true rfl) (Nat.le_of_ble_eq_true rfl) (fun b _ nb e9 kb => ?_)
    have zb := zfr.new (zfr.rf (A := fun _ => False) (h := h)) e9 nb
    subst e9
    have hP1 := hP.fr zb (fun _ _ q => q)
    have hst1 := hP1.1
    refine zW.callV (r' := 2) (pc' := 34) dX1_pairBalance_31 rfl l_X1_210 rfl hst1 ⟨rfl, (Nat.le_of_ble_eq_true rfl)⟩ rfl (w_stSum hP1 hJ.1.len lc11 (Nat.le_of_ble_eq_true rfl) kb rfl rfl (zcc rfl (zcc rfl zc0)) (Nat.le_of_ble_eq_true rfl) (V := fun c ↦ if nI (c 1) = nI a ∧ nI (c 2) = nI b' then nI (c 3) else 0) (fun H a c _ _ hc ↦ w_lmPr8 hc)) (zcc rfl zc0) rfl (Nat.le_of_ble_eq_true rfl) (Nat.le_of_ble_eq_true rfl) (Nat.le_of_ble_eq_true rfl) (fun _ _ q9 => ?_) (fun _ _ q9 => by cases q9.1)
    obtain ⟨q8, e9⟩ := q9
    cases q8
    replace e9 := e9.symm
    subst e9
    refine zW.drop (zle.up nb) ?_
    rw [sUpI_pair hJ.1 hN hT (by omega) (by omega)]
    refine zW.istore (pc' := 36) dX1_pairBalance_34 rfl (Nat.le_of_ble_eq_true rfl) (zsS (zsS (zsS (zsS (zs0))))) ?_
    refine zW.iload_n (pc' := 37) dX1_pairBalance_36 rfl rfl (zgS (zgS (zgS (zg0)))) ?_
    refine zW.iload (pc' := 39) dX1_pairBalance_37 rfl (zgS (zgS (zgS (zgS (zg0))))) ?_
    refine zW.isub (pc' := 40) dX1_pairBalance_39 rfl ?_
    refine zW.iret dX1_pairBalance_40 rfl (rfl) ?_
    exact cAns.ok (by unfold qPair; rw [← h1, ← h4, if_pos q, e, e'])
  · refine zW.callS (r' := 2) (pc' := 5) dX1_pairBalance_2 rfl l_X1_258 rfl (c_checkPersons0 q) (zcc rfl (zcc rfl zc0)) rfl (Nat.le_of_ble_eq_true rfl) (Nat.le_of_ble_eq_true rfl) (Nat.le_of_ble_eq_true rfl) (fun _ _ q9 => by cases q9.1) (fun _ _ q9 => ?_)
    obtain ⟨q8, e9⟩ := q9
    cases q8
    replace e9 := e9.symm
    subst e9
    refine zX.out0 rfl ?_
    exact cAns.no (by unfold qPair; rw [if_neg q]) rfl
end
