/-! State.close: a claim's id leaves the queue -/
section
set_option maxRecDepth 100000
variable {G : zG} {h h' h0 : zH} {O O' : Nat → Prop} {st ll aq re rt ea ha er hr c it : Nat} {mc : Int32} {xs : List (Nat × Nat)} {qs rs qu : List Nat} {m : Nat → Nat} {x : sC}
theorem nL_w {w : Nat} (hw : w < 2 ^ 31) : (nI w).toInt64 = nL w := by
  apply Int64.toInt_inj.mp
  rw [Int32.toInt_toInt64, nI_toInt hw]
  unfold nL
  rw [Int64.toInt_ofNat_of_lt (by omega)]
theorem nL_add {a b : Nat} : nL a + nL b = nL (a + b) := (Int64.ofNat_add a b).symm
/-- what close leaves -/
abbrev cClo (h : zH) (O : Nat → Prop) (st ll aq re rt ea : Nat) (m : Nat → Nat) (qu : List Nat) (x : sC) : zR → zH → Prop := zO fun v h' => v = none ∧ ∃ ha' qs', h' st = some (1, cSf ll aq re rt (zu m 8 (m 8 + x 3))) ∧ cDQ h' aq ea ha' qs' ∧ cIs h' O qs' (qu.erase (x 0)) ∧ zfr (fun b => b = st ∨ cDf aq ea b) h h'
/-- no match from k on -/
theorem w_close2 (nit : h it = none) (hx0 : x 0 < 2 ^ 30) (hqe : ∀ y ∈ qu, y < 2 ^ 30) : ∀ (n k ha1 : Nat) (H : zH) (qs1 : List Nat) (lr : Int32), k + n = qs1.length → H st = some (1, cSf ll aq re rt (zu m 8 (m 8 + x 3))) → H c = some (2, cCl x) → cDQ H aq ea ha1 qs1 → cIs H O qs1 (qu.erase (x 0)) → (∀ i, k ≤ i → (qu.erase (x 0))[i]? ≠ some (x 0)) → H it = some (cDi aq ha1 qs1.length k lr) → zfr (fun b => b = st ∨ cDf aq ea b) h H → zW G mX2_close 5 0 22 [.ref st, .ref c, .ref it] [] H (cClo h O st ll aq re rt ea m qu x) := by
  intro n
  induction n with
  | zero =>
    intro k ha1 H qs1 lr hkn hst hc hQ hI hno hit zf
    have hkn : k = qs1.length := hkn
    rw [hkn] at hit
    refine zW.aload_n (pc' := 23) dX2_close_22 rfl rfl (zgS (zgS (zg0))) rfl ?_
    refine zW.callF (r' := 0) (pc' := 28) dX2_close_23 rfl l_X2_37_J30 rfl hit ⟨rfl, (Nat.le_of_ble_eq_true rfl)⟩ rfl (w_diHas hit hQ.1.2) zc0 rfl (Nat.le_of_ble_eq_true rfl) (Nat.le_of_ble_eq_true rfl) (Nat.le_of_ble_eq_true rfl) (fun _ _ q9 => ?_) (fun _ _ q9 => by cases q9.1)
    obtain ⟨q8, e9⟩ := q9
    cases q8
    replace e9 := e9.symm
    subst e9
    rw [if_neg (Nat.lt_irrefl _)]
    refine zW.if_eqN (pc' := 31) 59 dX2_close_28 rfl (by decide) (by omega) (fun b9 => ?_) (fun b9 => absurd b9 (by omega))
    refine zW.vret dX2_close_59 rfl ?_
    exact ⟨_, rfl, rfl, ha1, qs1, hst, hQ, hI, zf⟩
  | succ n ih =>
    intro k ha1 H qs1 lr hkn hst hc hQ hI hno hit zf
    obtain ⟨q0, hq0⟩ : ∃ q, qs1[k]? = some q := ⟨_, List.getElem?_eq_getElem (by omega)⟩
    obtain ⟨y, hy⟩ : ∃ y, (qu.erase (x 0))[k]? = some y := ⟨_, List.getElem?_eq_getElem (by rw [← hI.1]; omega)⟩
    obtain ⟨kq, hc0, -⟩ := hI.2 k q0 y hq0 hy
    have hyn : ¬ y = x 0 := fun q => hno k (Nat.le_refl _) (by rw [hy, q])
    have hyb : y < 2 ^ 30 := hqe y (List.mem_of_mem_erase (List.mem_of_getElem? hy))
    have hk15 : kq % 1000 = 15 ∧ 15 < 50 := by rcases hc0.2 with q | q <;> subst q <;> decide
    have hne : q0 ≠ it := zne hc0.1 hit (by rcases hc0.2 with q | q <;> subst q <;> decide)
    have hc' := cCl_l hc
    have hit0 := hit
    refine zW.aload_n (pc' := 23) dX2_close_22 rfl rfl (zgS (zgS (zg0))) rfl ?_
    refine zW.callF (r' := 0) (pc' := 28) dX2_close_23 rfl l_X2_37_J30 rfl hit ⟨rfl, (Nat.le_of_ble_eq_true rfl)⟩ rfl (w_diHas hit hQ.1.2) zc0 rfl (Nat.le_of_ble_eq_true rfl) (Nat.le_of_ble_eq_true rfl) (Nat.le_of_ble_eq_true rfl) (fun _ _ q9 => ?_) (fun _ _ q9 => by cases q9.1)
    obtain ⟨q8, e9⟩ := q9
    cases q8
    replace e9 := e9.symm
    subst e9
    rw [if_pos (by omega)]
    refine zW.if_eqN (pc' := 31) 59 dX2_close_28 rfl (by decide) (by omega) (fun b9 => absurd b9 (by omega)) (fun b9 => ?_)
    refine zW.aload_n (pc' := 32) dX2_close_31 rfl rfl (zgS (zgS (zg0))) rfl ?_
    refine zW.callF (r' := 0) (pc' := 37) dX2_close_32 rfl l_X2_43_J30 rfl hit ⟨rfl, (Nat.le_of_ble_eq_true rfl)⟩ rfl (w_diNext hQ hit hq0) zc0 rfl (Nat.le_of_ble_eq_true rfl) (Nat.le_of_ble_eq_true rfl) (Nat.le_of_ble_eq_true rfl) (fun _ _ q9 => ?_) (fun _ _ q9 => absurd q9 zO.no)
    obtain ⟨_, q8, e1, e9, k9⟩ := q9
    cases q8
    subst e1
    have hst := zpres e9 (zne hst hit (by decide)) hst
    have hc := zpres e9 (zne hc hit (by decide)) hc
    have zf := zf.put e9 hit (by decide) (Or.inr nit)
    have hq := e9
    replace hit := k9
    clear e9 k9
    have hc1 : cInt _ q0 kq y := ⟨zpres hq hne hc0.1, hc0.2⟩
    have hcc := hc1.1
    refine zW.castS (pc' := 40) dX2_close_37 rfl (lw_all_tbl q1138) hcc hk15 rfl ?_
    refine zW.callV (r' := 0) (pc' := 43) dX2_close_40 rfl l_X2_60 rfl hcc hk15 rfl (w_intValue hc1) zc0 rfl (Nat.le_of_ble_eq_true rfl) (Nat.le_of_ble_eq_true rfl) (Nat.le_of_ble_eq_true rfl) (fun _ _ q9 => ?_) (fun _ _ q9 => by cases q9.1)
    obtain ⟨q8, e9⟩ := q9
    cases q8
    replace e9 := e9.symm
    subst e9
    have hcl := cCl_l hc
    refine zW.aload_n (pc' := 44) dX2_close_43 rfl rfl (zgS (zg0)) rfl ?_
    refine zW.get (pc' := 47) dX2_close_44 rfl f_X2_95_2 hcl ⟨rfl, (Nat.le_of_ble_eq_true rfl)⟩ rfl ?_
    refine zW.icmp_neN (pc' := 50) 22 dX2_close_47 rfl (by decide) (by omega) (by omega) (fun b9 => ?_) (fun b9 => absurd b9 (by omega))
    have hQ1 := hQ.mk (h' := _) fun b k' l hk e => zpres hq (zne e hit0 (by rcases hk with q | q <;> subst q <;> decide)) e
    have hI1 := hI.mv (h' := _) fun b k' l hk e => zpres hq (zne e hit0 (by rcases hk with q | q <;> subst q <;> decide)) e
    exact ih (k + 1) ha1 _ qs1 _ (by omega) hst hc hQ1 hI1 (fun i hi => hno i (by omega)) hit zf
/-- no match ahead of k -/
theorem w_close1 (nit : h it = none) (hx0 : x 0 < 2 ^ 30) (hqe : ∀ y ∈ qu, y < 2 ^ 30) (hnd : qu.Nodup) : ∀ (n k : Nat) (H : zH) (lr : Int32), k + n = qs.length → H st = some (1, cSf ll aq re rt (zu m 8 (m 8 + x 3))) → H c = some (2, cCl x) → cDQ H aq ea ha qs → cIs H O qs qu → (∀ i, i < k → qu[i]? ≠ some (x 0)) → H it = some (cDi aq ha qs.length k lr) → zfr (fun b => b = st ∨ cDf aq ea b) h H → zW G mX2_close 5 0 22 [.ref st, .ref c, .ref it] [] H (cClo h O st ll aq re rt ea m qu x) := by
  intro n
  induction n with
  | zero =>
    intro k H lr hkn hst hc hQ hI hno hit zf
    have hkn : k = qs.length := hkn
    have hni : ¬ x 0 ∈ qu := fun q => by
      obtain ⟨i, hi⟩ := List.getElem?_of_mem q
      exact hno i (by rw [hkn, hI.1]; exact (List.getElem?_eq_some_iff.mp hi).1) hi
    have he : qu.erase (x 0) = qu := List.erase_of_not_mem hni
    refine w_close2 nit hx0 hqe 0 k ha H qs lr (by omega) hst hc hQ (by rw [he]; exact hI) (fun i _ q => ?_) hit zf
    rw [he] at q
    exact hni (List.mem_of_getElem? q)
  | succ n ih =>
    intro k H lr hkn hst hc hQ hI hno hit zf
    obtain ⟨q0, hq0⟩ : ∃ q, qs[k]? = some q := ⟨_, List.getElem?_eq_getElem (by omega)⟩
    obtain ⟨y, hy⟩ : ∃ y, qu[k]? = some y := ⟨_, List.getElem?_eq_getElem (by rw [← hI.1]; omega)⟩
    obtain ⟨kq, hc0, -⟩ := hI.2 k q0 y hq0 hy
    have hyb : y < 2 ^ 30 := hqe y (List.mem_of_getElem? hy)
    have hk15 : kq % 1000 = 15 ∧ 15 < 50 := by rcases hc0.2 with q | q <;> subst q <;> decide
    have hne : q0 ≠ it := zne hc0.1 hit (by rcases hc0.2 with q | q <;> subst q <;> decide)
    have hit0 := hit
    refine zW.aload_n (pc' := 23) dX2_close_22 rfl rfl (zgS (zgS (zg0))) rfl ?_
    refine zW.callF (r' := 0) (pc' := 28) dX2_close_23 rfl l_X2_37_J30 rfl hit ⟨rfl, (Nat.le_of_ble_eq_true rfl)⟩ rfl (w_diHas hit hQ.1.2) zc0 rfl (Nat.le_of_ble_eq_true rfl) (Nat.le_of_ble_eq_true rfl) (Nat.le_of_ble_eq_true rfl) (fun _ _ q9 => ?_) (fun _ _ q9 => by cases q9.1)
    obtain ⟨q8, e9⟩ := q9
    cases q8
    replace e9 := e9.symm
    subst e9
    rw [if_pos (by omega)]
    refine zW.if_eqN (pc' := 31) 59 dX2_close_28 rfl (by decide) (by omega) (fun b9 => absurd b9 (by omega)) (fun b9 => ?_)
    refine zW.aload_n (pc' := 32) dX2_close_31 rfl rfl (zgS (zgS (zg0))) rfl ?_
    refine zW.callF (r' := 0) (pc' := 37) dX2_close_32 rfl l_X2_43_J30 rfl hit ⟨rfl, (Nat.le_of_ble_eq_true rfl)⟩ rfl (w_diNext hQ hit hq0) zc0 rfl (Nat.le_of_ble_eq_true rfl) (Nat.le_of_ble_eq_true rfl) (Nat.le_of_ble_eq_true rfl) (fun _ _ q9 => ?_) (fun _ _ q9 => absurd q9 zO.no)
    obtain ⟨_, q8, e1, e9, k9⟩ := q9
    cases q8
    subst e1
    have hst := zpres e9 (zne hst hit (by decide)) hst
    have hc := zpres e9 (zne hc hit (by decide)) hc
    have zf := zf.put e9 hit (by decide) (Or.inr nit)
    have hq := e9
    replace hit := k9
    clear e9 k9
    have hc1 : cInt _ q0 kq y := ⟨zpres hq hne hc0.1, hc0.2⟩
    have hcc := hc1.1
    refine zW.castS (pc' := 40) dX2_close_37 rfl (lw_all_tbl q1138) hcc hk15 rfl ?_
    refine zW.callV (r' := 0) (pc' := 43) dX2_close_40 rfl l_X2_60 rfl hcc hk15 rfl (w_intValue hc1) zc0 rfl (Nat.le_of_ble_eq_true rfl) (Nat.le_of_ble_eq_true rfl) (Nat.le_of_ble_eq_true rfl) (fun _ _ q9 => ?_) (fun _ _ q9 => by cases q9.1)
    obtain ⟨q8, e9⟩ := q9
    cases q8
    replace e9 := e9.symm
    subst e9
    have hcl := cCl_l hc
    refine zW.aload_n (pc' := 44) dX2_close_43 rfl rfl (zgS (zg0)) rfl ?_
    refine zW.get (pc' := 47) dX2_close_44 rfl f_X2_95_2 hcl ⟨rfl, (Nat.le_of_ble_eq_true rfl)⟩ rfl ?_
    have hQ1 := hQ.mk (h' := _) fun b k' l hk e => zpres hq (zne e hit0 (by rcases hk with q | q <;> subst q <;> decide)) e
    have hI1 := hI.mv (h' := _) fun b k' l hk e => zpres hq (zne e hit0 (by rcases hk with q | q <;> subst q <;> decide)) e
    refine zW.icmp_neN (pc' := 50) 22 dX2_close_47 rfl (by decide) (by omega) (by omega) (fun b1 => ?_) (fun b1 => ?_)
    · refine ih (k + 1) _ _ (by omega) hst hc hQ1 hI1 (fun i hi => ?_) hit zf
      by_cases q : i = k
      · rw [q, hy]; exact fun e => b1 (Option.some.inj e)
      · exact hno i (by omega)
    · have hyk : qu[k]? = some (x 0) := by rw [hy, b1]
      have he := erase_first qu k hyk hno
      refine zW.aload_n (pc' := 51) dX2_close_50 rfl rfl (zgS (zgS (zg0))) rfl ?_
      refine zW.callF (r' := 0) (pc' := 56) dX2_close_51 rfl l_X2_116_J30 rfl hit ⟨rfl, (Nat.le_of_ble_eq_true rfl)⟩ rfl (w_diRemove hQ1 hI1.ob (by omega) hit) zc0 rfl (Nat.le_of_ble_eq_true rfl) (Nat.le_of_ble_eq_true rfl) (Nat.le_of_ble_eq_true rfl) (fun _ _ q9 => ?_) (fun _ _ q9 => absurd q9 zO.no)
      obtain ⟨_, q8, e1, ha', hQ2, hit2, z2⟩ := q9
      cases q8
      subst e1
      refine zW.goto 22 dX2_close_56 (by decide) ?_
      have hn1 := hQ1.nk hit ⟨by decide, by decide⟩
      have hns := hQ1.nk hst ⟨by decide, by decide⟩
      have hnc := hQ1.nk hc ⟨by decide, by decide⟩
      have hst2 := z2.at hst fun q => q.elim (fun q => zne hst hit (by decide) q) fun q => q.elim (fun q => hns.1 q.symm) fun q => hns.2 q.symm
      have hcx := z2.at hc fun q => q.elim (fun q => zne hc hit (by decide) q) fun q => q.elim (fun q => hnc.1 q.symm) fun q => hnc.2 q.symm
      have hlq : (qs.eraseIdx k).length = qs.length - 1 := by rw [List.length_eraseIdx, if_pos (by omega)]
      rw [← hlq] at hit2
      have hI2 := (hI1.mv (h' := _) fun b k' l hk e => z2.at e fun q => by
        have hnb := hQ1.nk e (by rcases hk with q | q <;> subst q <;> decide)
        exact q.elim (fun q => zne e hit (by rcases hk with q | q <;> subst q <;> decide) q) fun q => q.elim (fun q => hnb.1 q.symm) fun q => hnb.2 q.symm).erase k
      rw [← he] at hI2
      refine w_close2 nit hx0 hqe (qs.length - 1 - k) k ha' _ (qs.eraseIdx k) _ (by omega) hst2 hcx hQ2 hI2 (fun i hi q => ?_) hit2 (zf.tr z2 fun b hb => hb.elim (fun q => Or.inr (by rw [q]; exact nit)) fun q => Or.inl (Or.inr q))
      rw [he, List.getElem?_eraseIdx, if_neg (by omega)] at q
      have := (List.getElem?_inj (List.getElem?_eq_some_iff.mp hyk).1 hnd).mp (hyk.trans q.symm)
      omega
theorem w_stClose (hst : h st = some (1, cSf ll aq re rt m)) (hc : h c = some (2, cCl x)) (hQ : cDQ h aq ea ha qs) (hI : cIs h O qs qu) (hx0 : x 0 < 2 ^ 30) (hx3 : x 3 < 2 ^ 30) (hqe : ∀ y ∈ qu, y < 2 ^ 30) (hnd : qu.Nodup) : zK G mX2_close 5 1 [.ref st, .ref c] h (cClo h O st ll aq re rt ea m qu x) := by
  have hst0 := hst
  have hl := cCl_l hc
  have zf := zfr.rf (A := fun b => b = st ∨ cDf aq ea b) (h := h)
  show zW G mX2_close 5 1 0 [.ref st, .ref c, zho] [] h _
  refine zW.aload_n (pc' := 1) dX2_close_0 rfl rfl zg0 rfl ?_
  refine zW.dup (pc' := 2) dX2_close_1 rfl rfl ?_
  refine zW.get (pc' := 5) dX2_close_2 rfl f_X2_92_1 hst ⟨rfl, (Nat.le_of_ble_eq_true rfl)⟩ rfl ?_
  refine zW.aload_n (pc' := 6) dX2_close_5 rfl rfl (zgS (zg0)) rfl ?_
  refine zW.get (pc' := 9) dX2_close_6 rfl f_X2_113_2 hl ⟨rfl, (Nat.le_of_ble_eq_true rfl)⟩ rfl ?_
  refine zW.i2l (pc' := 10) dX2_close_9 rfl ?_
  refine zW.ladd (pc' := 11) dX2_close_10 rfl ?_
  rw [nL_w (by omega), nL_add]
  refine zW.putK (pc' := 14) dX2_close_11 rfl f_X2_92_1 hst ⟨⟨rfl, (Nat.le_of_ble_eq_true rfl)⟩, (Nat.le_of_ble_eq_true rfl)⟩ (zFw.of ft_1_11 rfl rfl) (zsS (zsS (zsS (zsS (zsS (zsS (zsS (zsS (zsS (zsS (zsS (zs0)))))))))))) (fun _ e9 k9 => ?_)
  have hl := zpres e9 (zne hl hst (by decide)) hl
  have zf := zf.put e9 hst (by decide) (Or.inl (Or.inl rfl))
  have hq := e9
  replace hst := k9
  clear e9 k9
  have hQ1 := hQ.mk (h' := _) fun b k' l hk e => zpres hq (zne e hst0 (by rcases hk with q | q <;> subst q <;> decide)) e
  have hI1 := hI.mv (h' := _) fun b k' l hk e => zpres hq (zne e hst0 (by rcases hk with q | q <;> subst q <;> decide)) e
  have haq := hQ1.2.1
  refine zW.aload_n (pc' := 15) dX2_close_14 rfl rfl zg0 rfl ?_
  refine zW.get (pc' := 18) dX2_close_15 rfl f_X2_21_1 hst ⟨rfl, (Nat.le_of_ble_eq_true rfl)⟩ rfl ?_
  refine zW.callV (r' := 1) (pc' := 21) dX2_close_18 rfl l_X2_57 rfl haq ⟨rfl, (Nat.le_of_ble_eq_true rfl)⟩ rfl (w_dqIter hQ1) zc0 rfl (Nat.le_of_ble_eq_true rfl) (Nat.le_of_ble_eq_true rfl) (Nat.le_of_ble_eq_true rfl) (fun _ _ q9 => ?_) (fun _ _ q9 => absurd q9 zO.no)
  obtain ⟨_, q8, it, e1, nit, e9, hit⟩ := q9
  cases q8
  subst e1
  have zn := zfr.rf.new (A := fun _ => False) e9 nit
  have nit0 := zf.nn0 nit
  refine zW.astore_n (pc' := 22) dX2_close_21 rfl rfl (Nat.le_of_ble_eq_true rfl) rfl (zsS (zsS (zs0))) ?_
  exact w_close1 nit0 hx0 hqe hnd qs.length 0 _ _ (Nat.zero_add _) (zn.at hst fun q => q) (zn.at hl fun q => q) (hQ1.fr zn (fun q => q) fun q => q) (hI1.fr zn fun _ _ q => q) (fun i hi => absurd hi (Nat.not_lt_zero i)) hit (zf.tr zn fun _ q => q.elim)
end
