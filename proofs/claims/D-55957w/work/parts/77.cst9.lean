/-! State.remember, addInterest -/
section
set_option maxRecDepth 100000
variable {G : zG} {h h' h0 : zH} {O O' A : Nat → Prop} {st ll aq re rt ea ha er hr c it : Nat} {mc : Int32} {xs ys : List (Nat × Nat)} {qs rs : List Nat} {s : sS} {m : Nat → Nat} {x : sC} {ys' : List Nat}
theorem cIs.init {a b : List Nat} {z w : Nat} (hI : cIs h O (a ++ [z]) (b ++ [w])) : cIs h O a b := by
  have hl : a.length = b.length := by
    have := hI.1
    rw [List.length_append, List.length_append] at this
    simpa using this
  exact ⟨hl, fun i q y e1 e2 => hI.2 i q y (by rw [List.getElem?_append_left (List.getElem?_eq_some_iff.mp e1).1]; exact e1) (by rw [List.getElem?_append_left (List.getElem?_eq_some_iff.mp e2).1]; exact e2)⟩
theorem w_stRem (hk : zkn G h) (hI : zkI G) (hst : h st = some (1, cSf ll aq re rt m)) (hc : h c = some (2, cCl x)) (hQ : cDQ h re er hr rs) (hIs : cIs h O rs ys') (hl : ys'.length ≤ 8) (hx : x 0 < 2 ^ 31) : zK G mX2_remember 4 1 [.ref st, .ref c] h (zO fun v h' => v = none ∧ ∃ hr' rs', cDQ h' re er hr' rs' ∧ cIs h' (zext O h) rs' ((x 0 :: ys').take 8) ∧ zfr (cDf re er) h h') := by
  have hcl := cCl_l hc
  have hn := hQ.nk hst ⟨by decide, by decide⟩
  show zW G mX2_remember 4 1 0 [.ref st, .ref c] [] h _
  refine zW.aload_n (pc' := 1) dX2_remember_0 rfl rfl zg0 rfl ?_
  refine zW.get (pc' := 4) dX2_remember_1 rfl f_X2_25_1 hst ⟨rfl, (Nat.le_of_ble_eq_true rfl)⟩ rfl ?_
  refine zW.aload_n (pc' := 5) dX2_remember_4 rfl rfl (zgS (zg0)) rfl ?_
  refine zW.get (pc' := 8) dX2_remember_5 rfl f_X2_95_2 hcl ⟨rfl, (Nat.le_of_ble_eq_true rfl)⟩ rfl ?_
  refine zW.callS (r' := 1) (pc' := 11) dX2_remember_8 rfl l_X2_64 rfl (w_valueOf2 hk hI hx) (zcc rfl zc0) rfl (Nat.le_of_ble_eq_true rfl) (Nat.le_of_ble_eq_true rfl) (Nat.le_of_ble_eq_true rfl) (fun _ _ q9 => ?_) (fun _ _ q9 => absurd q9 zO.no)
  obtain ⟨_, q8, q1, k1, e1, hc1, ho, zv⟩ := q9
  cases q8
  subst e1
  have hQ1 := hQ.fr zv (fun q => q) fun q => q
  have hre := hQ1.2.1
  have hx1 := hc1.1
  have nq : q1 ≠ re := zne hx1 hre (by rcases hc1.2 with q | q <;> subst q <;> decide)
  have hst := zv.at hst fun q => q
  refine zW.callV (r' := 0) (pc' := 14) dX2_remember_11 rfl l_X2_125 rfl hre ⟨rfl, (Nat.le_of_ble_eq_true rfl)⟩ rfl (w_dqAddFirst hQ1 (by rw [hIs.1]; omega) hx1 hc1.ob nq) (zcc rfl zc0) rfl (Nat.le_of_ble_eq_true rfl) (Nat.le_of_ble_eq_true rfl) (Nat.le_of_ble_eq_true rfl) (fun _ _ q9 => ?_) (fun _ _ q9 => absurd q9 zO.no)
  obtain ⟨_, q8, e1, hQ2, z2⟩ := q9
  cases q8
  subst e1
  have hst := hQ1.out z2 hst ⟨by decide, by decide⟩
  have hre := hQ2.2.1
  have hc2 : cInt _ q1 k1 (x 0) := ⟨hQ1.outI z2 _ _ _ hc1.2 hc1.1, hc1.2⟩
  have hI2 := ((((hIs.fr zv fun _ _ q => q).mv (hQ1.outI z2)).up (O' := zext O h) fun b q => Or.inl q).cons hc2 fun e => Or.inr (ho e))
  have z02 : zfr (cDf re er) h _ := (zv.mono fun _ q => q.elim).tr z2 fun b hb => Or.inl hb
  refine zW.aload_n (pc' := 15) dX2_remember_14 rfl rfl zg0 rfl ?_
  refine zW.get (pc' := 18) dX2_remember_15 rfl f_X2_25_1 hst ⟨rfl, (Nat.le_of_ble_eq_true rfl)⟩ rfl ?_
  refine zW.callV (r' := 0) (pc' := 21) dX2_remember_18 rfl l_X2_128 rfl hre ⟨rfl, (Nat.le_of_ble_eq_true rfl)⟩ rfl (w_dqSize hQ2) zc0 rfl (Nat.le_of_ble_eq_true rfl) (Nat.le_of_ble_eq_true rfl) (Nat.le_of_ble_eq_true rfl) (fun _ _ q9 => ?_) (fun _ _ q9 => by cases q9.1)
  obtain ⟨q8, e9⟩ := q9
  cases q8
  replace e9 := e9.symm
  subst e9
  rw [List.length_cons, hIs.1]
  refine zW.bipush (pc' := 23) (nI 8) dX2_remember_21 rfl (by decide) ?_
  refine zW.icmp_leN (pc' := 26) 34 dX2_remember_23 rfl (by decide) (by omega) (by omega) (fun b1 => ?_) (fun b1 => ?_)
  · refine zW.vret dX2_remember_34 rfl ?_
    rw [List.take_of_length_le (by rw [List.length_cons]; omega)]
    exact ⟨_, rfl, rfl, _, _, hQ2, hI2, z02⟩
  · have h8 : ys'.length = 8 := by omega
    rcases List.eq_nil_or_concat rs with q | ⟨rs0, z, q⟩
    · have := hIs.1
      rw [q] at this
      simp at this
      omega
    rcases List.eq_nil_or_concat ys' with q' | ⟨ys0, w, q'⟩
    · rw [q'] at h8
      simp at h8
    rw [List.concat_eq_append] at q q'
    subst q
    subst q'
    rw [List.length_append, List.length_singleton] at h8
    rw [show q1 :: (rs0 ++ [z]) = (q1 :: rs0) ++ [z] from rfl] at hQ2 hI2
    rw [show x 0 :: (ys0 ++ [w]) = (x 0 :: ys0) ++ [w] from rfl] at hI2 ⊢
    refine zW.aload_n (pc' := 27) dX2_remember_26 rfl rfl zg0 rfl ?_
    refine zW.get (pc' := 30) dX2_remember_27 rfl f_X2_25_1 hst ⟨rfl, (Nat.le_of_ble_eq_true rfl)⟩ rfl ?_
    refine zW.callV (r' := 0) (pc' := 33) dX2_remember_30 rfl l_X2_131 rfl hre ⟨rfl, (Nat.le_of_ble_eq_true rfl)⟩ rfl (w_dqRemLast hQ2) zc0 rfl (Nat.le_of_ble_eq_true rfl) (Nat.le_of_ble_eq_true rfl) (Nat.le_of_ble_eq_true rfl) (fun _ _ q9 => ?_) (fun _ _ q9 => absurd q9 zO.no)
    obtain ⟨_, q8, e1, hQ3, z3⟩ := q9
    cases q8
    subst e1
    refine zW.pop (pc' := 34) dX2_remember_33 rfl rfl ?_
    refine zW.vret dX2_remember_34 rfl ?_
    rw [List.take_append_of_le_length (by rw [List.length_cons]; omega), List.take_of_length_le (by rw [List.length_cons]; omega)]
    exact ⟨_, rfl, rfl, _, _, hQ3, (hI2.mv (hQ2.outI z3)).init, z02.tr z3 fun b hb => Or.inl hb⟩
/-- interest on the claims from k on -/
theorem w_int1 (nit : h it = none) (h12 : s.2.1.length ≤ 12) {p : Nat} (hp20 : p ≤ 20) {tt nn jj : Nat} (hIK : ∀ k, k ≤ s.2.1.length → sI tt nn jj (sIntK p s k)) (hOi : ¬ O it) : ∀ (n k : Nat) (H : zH) (lr v3 : Value), k + n = s.2.1.length → cP H O st ll aq re rt ea ha er hr mc xs qs rs (sIntK p s k) → H it = some (cIt ll mc xs k lr) → zfr O h H → zW G mX2_addInterest 6 0 21 [.ref st, .int (nI p), .ref it, v3] [] H (zO fun v h' => v = none ∧ cP h' O st ll aq re rt ea ha er hr mc xs qs rs (sIntK p s s.2.1.length) ∧ zfr O h h') := by
  intro n
  induction n with
  | zero =>
    intro k H lr v3 hkn hP hit zf
    have hkn : k = s.2.1.length := hkn
    subst hkn
    have hl0 := hP.2.1.1.1
    have hxl := hP.2.1.2.1
    rw [sIntK_len] at hxl
    refine zW.aload_n (pc' := 22) dX2_addInterest_21 rfl rfl (zgS (zgS (zg0))) rfl ?_
    refine zW.callF (r' := 0) (pc' := 27) dX2_addInterest_22 rfl l_X2_37_J25 rfl hit ⟨rfl, (Nat.le_of_ble_eq_true rfl)⟩ rfl (w_itHas hit hl0 (by omega) (by omega)) zc0 rfl (Nat.le_of_ble_eq_true rfl) (Nat.le_of_ble_eq_true rfl) (Nat.le_of_ble_eq_true rfl) (fun _ _ q9 => ?_) (fun _ _ q9 => by cases q9.1)
    obtain ⟨q8, e9⟩ := q9
    cases q8
    replace e9 := e9.symm
    subst e9
    rw [if_neg (by omega)]
    refine zW.if_eqN (pc' := 30) 58 dX2_addInterest_27 rfl (by decide) (by omega) (fun b9 => ?_) (fun b9 => absurd b9 (by omega))
    refine zW.vret dX2_addInterest_58 rfl ?_
    exact ⟨_, rfl, rfl, hP, zf⟩
  | succ n ih =>
    intro k H lr v3 hkn hP hit zf
    have hL := hP.2.1.1
    have hl0 := hL.1
    have hxl := hP.2.1.2.1
    have hO := hP.2.2.2.2.2.2
    rw [sIntK_len] at hxl
    obtain ⟨q, hq0, hc⟩ := hP.2.1.2.at (k := k) (by rw [sIntK_len]; omega)
    have hkl : k < (sIntK p s k).2.1.length := by rw [sIntK_len]; omega
    have hci := (hIK k (by omega)).at hkl
    have h6 : sAt (sIntK p s k).2.1 k 6 < 2 ^ 30 := by have := hci.2.2.2.2.2.2.2.1; omega
    have h3 : sAt (sIntK p s k).2.1 k 3 ≤ 9999 := hci.2.2.2.2.1.2
    have hg := sGrow_le (w := sAt (sIntK p s k).2.1 k 3) (p := p) h3
    have hst := hP.1
    have zz := zfr.rf (A := fun b => b = it) (h := H)
    refine zW.aload_n (pc' := 22) dX2_addInterest_21 rfl rfl (zgS (zgS (zg0))) rfl ?_
    refine zW.callF (r' := 0) (pc' := 27) dX2_addInterest_22 rfl l_X2_37_J25 rfl hit ⟨rfl, (Nat.le_of_ble_eq_true rfl)⟩ rfl (w_itHas hit hl0 (by omega) (by omega)) zc0 rfl (Nat.le_of_ble_eq_true rfl) (Nat.le_of_ble_eq_true rfl) (Nat.le_of_ble_eq_true rfl) (fun _ _ q9 => ?_) (fun _ _ q9 => by cases q9.1)
    obtain ⟨q8, e9⟩ := q9
    cases q8
    replace e9 := e9.symm
    subst e9
    rw [if_pos (by omega)]
    refine zW.if_eqN (pc' := 30) 58 dX2_addInterest_27 rfl (by decide) (by omega) (fun b9 => absurd b9 (by omega)) (fun b9 => ?_)
    refine zW.aload_n (pc' := 31) dX2_addInterest_30 rfl rfl (zgS (zgS (zg0))) rfl ?_
    refine zW.callF (r' := 0) (pc' := 36) dX2_addInterest_31 rfl l_X2_43_J25 rfl hit ⟨rfl, (Nat.le_of_ble_eq_true rfl)⟩ rfl (w_itNext hL hit hq0 (by omega)) zc0 rfl (Nat.le_of_ble_eq_true rfl) (Nat.le_of_ble_eq_true rfl) (Nat.le_of_ble_eq_true rfl) (fun _ _ q9 => ?_) (fun _ _ q9 => absurd q9 zO.no)
    obtain ⟨_, q8, e1, e9, k9⟩ := q9
    cases q8
    subst e1
    have hst := zpres e9 (zne hst hit (by decide)) hst
    have hc := zpres e9 (zne hc hit (by decide)) hc
    have zf := zf.put e9 hit (by decide) (by first | exact Or.inr nit | exact Or.inl rfl)
    have zz := zz.put e9 hit (by decide) (by first | exact Or.inr nit | exact Or.inl rfl)
    replace hit := k9
    clear e9 k9
    have hP1 := hP.fr zz fun b hb z => hOi (by rw [← z]; exact hb)
    refine zW.castS (pc' := 39) dX2_addInterest_36 rfl (lw_all_tbl q1032) hc ⟨rfl, (Nat.le_of_ble_eq_true rfl)⟩ rfl ?_
    refine zW.astore_n (pc' := 40) dX2_addInterest_39 rfl rfl (Nat.le_of_ble_eq_true rfl) rfl (zsS (zsS (zsS (zs0)))) ?_
    refine zW.aload_n (pc' := 41) dX2_addInterest_40 rfl rfl zg0 rfl ?_
    refine zW.dup (pc' := 42) dX2_addInterest_41 rfl rfl ?_
    refine zW.get (pc' := 45) dX2_addInterest_42 rfl f_X2_89_1 hst ⟨rfl, (Nat.le_of_ble_eq_true rfl)⟩ rfl ?_
    refine zW.aload_n (pc' := 46) dX2_addInterest_45 rfl rfl (zgS (zgS (zgS (zg0)))) rfl ?_
    refine zW.iload_n (pc' := 47) dX2_addInterest_46 rfl rfl (zgS (zg0)) ?_
    refine zW.callV (r' := 0) (pc' := 50) dX2_addInterest_47 rfl l_X2_138 rfl hc ⟨rfl, (Nat.le_of_ble_eq_true rfl)⟩ rfl (w_clInterest hc h6 h3 hp20) (zcc rfl zc0) rfl (Nat.le_of_ble_eq_true rfl) (Nat.le_of_ble_eq_true rfl) (Nat.le_of_ble_eq_true rfl) (fun _ _ q9 => ?_) (fun _ _ q9 => absurd q9 zO.no)
    obtain ⟨_, q8, e1, e9, k9⟩ := q9
    cases q8
    subst e1
    have hst := zpres e9 (zne hst hc (by decide)) hst
    have hit := zpres e9 (zne hit hc (by decide)) hit
    have zf := zf.put e9 hc (by decide) (Or.inl (hO.2.2.1 q (List.mem_of_getElem? hq0)))
    have ec := e9
    replace hc := k9
    clear e9 k9
    have hP2 := hP1.claim hq0 ec
    refine zW.i2l (pc' := 51) dX2_addInterest_50 rfl ?_
    refine zW.ladd (pc' := 52) dX2_addInterest_51 rfl ?_
    rw [nL_w (by split <;> omega), nL_add]
    refine zW.putK (pc' := 55) dX2_addInterest_52 rfl f_X2_89_1 hst ⟨⟨rfl, (Nat.le_of_ble_eq_true rfl)⟩, (Nat.le_of_ble_eq_true rfl)⟩ (zFw.of ft_1_10 rfl rfl) (zsS (zsS (zsS (zsS (zsS (zsS (zsS (zsS (zsS (zsS (zs0))))))))))) (fun _ e9 k9 => ?_)
    have hit := zpres e9 (zne hit hst (by decide)) hit
    have hc := zpres e9 (zne hc hst (by decide)) hc
    have zf := zf.put e9 hst (by decide) (Or.inl hO.1)
    have es := e9
    replace hst := k9
    clear e9 k9
    refine zW.goto 21 dX2_addInterest_55 (by decide) ?_
    have hP3 := hP2.num (m' := zu (sIntK p s k).1 3 ((sIntK p s k).1 3 + (if sAt (sIntK p s k).2.1 k 6 = 0 then sGrow (sAt (sIntK p s k).2.1 k 3) p - sAt (sIntK p s k).2.1 k 3 else 0))) es fun i hi => zu_n (by omega)
    have hS : sIntK p s (k + 1) = (zu (sIntK p s k).1 3 ((sIntK p s k).1 3 + (if sAt (sIntK p s k).2.1 k 6 = 0 then sGrow (sAt (sIntK p s k).2.1 k 3) p - sAt (sIntK p s k).2.1 k 3 else 0)), (sIntK p s k).2.1.set k (if sAt (sIntK p s k).2.1 k 6 = 0 then zu (sAt (sIntK p s k).2.1 k) 3 (sGrow (sAt (sIntK p s k).2.1 k 3) p) else sAt (sIntK p s k).2.1 k), (sIntK p s k).2.2) := by
      show sInt1 p k (sIntK p s k) = _
      unfold sInt1
      by_cases z : sAt (sIntK p s k).2.1 k 6 = 0
      · rw [if_pos z, if_pos z, if_pos z]
      · rw [if_neg z, if_neg z, if_neg z, Nat.add_zero]
        have e1 : zu (sIntK p s k).1 3 ((sIntK p s k).1 3) = (sIntK p s k).1 := by
          funext j
          unfold zu
          by_cases z : j = 3
          · rw [if_pos z, z]
          · rw [if_neg z]
        have e2 : (sIntK p s k).2.1.set k (sAt (sIntK p s k).2.1 k) = (sIntK p s k).2.1 := by
          apply List.ext_getElem?
          intro j
          by_cases z : k = j
          · subst z
            rw [List.getElem?_set_self hkl, sAt_get hkl]
          · rw [List.getElem?_set_ne z]
        rw [e1, e2]
    rw [← hS] at hP3
    exact ih (k + 1) _ _ _ (by omega) hP3 hit zf
theorem w_stInt (hP : cP h O st ll aq re rt ea ha er hr mc xs qs rs s) (h12 : s.2.1.length ≤ 12) {tt nn jj : Nat} (hIK : ∀ k, k ≤ s.2.1.length → sI tt nn jj (sIntK (s.1 (10 + s.1 0 / 4 % 4)) s k)) (hr20 : s.1 (10 + s.1 0 / 4 % 4) ≤ 20) (ht : s.1 0 < 2 ^ 30) : zK G mX2_addInterest 6 2 [.ref st] h (zO fun v h' => v = none ∧ cP h' O st ll aq re rt ea ha er hr mc xs qs rs (sInt s) ∧ zfr O h h') := by
  have hP0 := hP.live
  have hst := hP.1
  have hrt := hP.2.2.2.2.2.1
  have hL := hP.2.1.1
  have hl0 := hL.1
  have hxl := hP.2.1.2.1
  have h4 : s.1 0 / 4 % 4 < 4 := Nat.mod_lt _ (by decide)
  show zW G mX2_addInterest 6 2 0 [.ref st, zho, zho, zho] [] h _
  refine zW.aload_n (pc' := 1) dX2_addInterest_0 rfl rfl zg0 rfl ?_
  refine zW.get (pc' := 4) dX2_addInterest_1 rfl f_X2_28_1 hst ⟨rfl, (Nat.le_of_ble_eq_true rfl)⟩ rfl ?_
  refine zW.aload_n (pc' := 5) dX2_addInterest_4 rfl rfl zg0 rfl ?_
  refine zW.get (pc' := 8) dX2_addInterest_5 rfl f_X2_73_1 hst ⟨rfl, (Nat.le_of_ble_eq_true rfl)⟩ rfl ?_
  refine zW.callSN (r' := 0) (pc' := 11) dX2_addInterest_8 rfl l_X2_134 rfl (w_phaseC (by omega)) (zcc rfl zc0) rfl (Nat.le_of_ble_eq_true rfl) (Nat.le_of_ble_eq_true rfl) (Nat.le_of_ble_eq_true rfl) (fun _ _ q9 => ?_) (fun _ _ q9 => by cases q9.1)
  obtain ⟨q8, e9⟩ := q9
  cases q8
  replace e9 := e9.symm
  subst e9
  refine zW.ialdN (pc' := 12) dX2_addInterest_11 rfl hrt rfl (by omega) (Nat.le_of_ble_eq_true rfl) ?_
  refine zW.istore_n (pc' := 13) dX2_addInterest_12 rfl rfl (Nat.le_of_ble_eq_true rfl) (zsS (zs0)) ?_
  refine zW.aload_n (pc' := 14) dX2_addInterest_13 rfl rfl zg0 rfl ?_
  refine zW.get (pc' := 17) dX2_addInterest_14 rfl f_X2_12_1 hst ⟨rfl, (Nat.le_of_ble_eq_true rfl)⟩ rfl ?_
  refine zW.callU (r' := 2) (pc' := 20) dX2_addInterest_17 rfl l_X2_33_J3 rfl hl0 ⟨rfl, (Nat.le_of_ble_eq_true rfl)⟩ rfl (w_llIter hL (by omega)) zc0 rfl (Nat.le_of_ble_eq_true rfl) (Nat.le_of_ble_eq_true rfl) (Nat.le_of_ble_eq_true rfl) (fun _ _ q9 => ?_) (fun _ _ q9 => absurd q9 zO.no)
  obtain ⟨_, q8, it, e1, nit, e9, hit⟩ := q9
  cases q8
  subst e1
  have zn := zfr.rf.new (A := fun _ => False) e9 nit
  refine zW.astore_n (pc' := 21) dX2_addInterest_20 rfl rfl (Nat.le_of_ble_eq_true rfl) rfl (zsS (zsS (zs0))) ?_
  have hP1 := hP0.fr zn fun _ _ q => q
  have hz : zfr (fun b => O b ∧ h b ≠ none) h _ := zn.mono fun _ q => q.elim
  refine zW.post (w_int1 nit h12 hr20 hIK (fun q => q.2 nit) s.2.1.length 0 _ _ _ (Nat.zero_add _) hP1 hit hz) fun o h' ⟨v, e1, e2, e3, e4⟩ => ⟨v, e1, e2, e3.up fun b q => q.1, e4.mono fun b q => Or.inl q.1⟩
end
