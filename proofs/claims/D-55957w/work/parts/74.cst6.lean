/-! a State's copy: the claims; the whole -/
section
set_option maxRecDepth 100000
variable {G : zG} {h h' h0 : zH} {O O' A : Nat → Prop} {st ll aq re rt ea ha er hr : Nat} {mc : Int32} {xs : List (Nat × Nat)} {qs rs : List Nat} {s : sS}
theorem cLL.outC (hL : cLL h ll mc xs) (z : zfr (cLf ll xs) h h') : ∀ b l, h b = some (2, l) → h' b = some (2, l) := fun b l e => hL.out z e ⟨by decide, by decide⟩
theorem w_copy1 (hk : zkn G h) (hI : zkI G) (hP : cP h O st ll aq re rt ea ha er hr mc xs qs rs s) (h12 : s.2.1.length ≤ 12) (hb : ∀ x ∈ s.2.2.1, x < 2 ^ 31) (hl : s.2.2.1.length ≤ 12) (hb3 : ∀ x ∈ s.2.2.2, x < 2 ^ 31) (hl3 : s.2.2.2.length ≤ 8) {it : Nat} (nit : h it = none) : ∀ (m k : Nat) (H : zH) (st' ll' aq' re' rt' ea' ha' er' hr' : Nat) (mc' : Int32) (ys : List (Nat × Nat)) (lr v3 : Value), k + m = s.2.1.length → zfr (fun _ => False) h H → cP H (cNw h it) st' ll' aq' re' rt' ea' ha' er' hr' mc' ys [] [] (sZero, s.2.1.take k, [], []) → H it = some (cIt ll mc xs k lr) → zW G mX2_copy 8 (3 * m + 23) 16 [.ref st, .ref st', .ref it, v3] [] H (cCopy h s) := by
  have hxs := hP.2.1.2.1
  intro m
  induction m with
  | zero =>
    intro k H st' ll' aq' re' rt' ea' ha' er' hr' mc' ys lr v3 hkm zf hN hit
    have hkm : k = s.2.1.length := hkm
    have hPo := hP.fr zf fun _ _ q => q
    have hLo := hPo.2.1.1
    have hl0 := hLo.1
    have hst := hPo.1
    have hQ0 := hPo.2.2.1.1
    have haq := hQ0.2.1
    have hqr := hP.2.2.1.2.1
    refine zW.aload_n (pc' := 17) dX2_copy_16 rfl rfl (zgS (zgS (zg0))) rfl ?_
    refine zW.callF (r' := 0) (pc' := 22) dX2_copy_17 rfl l_X2_37_J25 rfl hit ⟨rfl, (Nat.le_of_ble_eq_true rfl)⟩ rfl (w_itHas hit hl0 (by omega) (by omega)) zc0 rfl (Nat.le_of_ble_eq_true rfl) (Nat.le_of_ble_eq_true rfl) (Nat.le_of_ble_eq_true rfl) (fun _ _ q9 => ?_) (fun _ _ q9 => by cases q9.1)
    obtain ⟨q8, e9⟩ := q9
    cases q8
    replace e9 := e9.symm
    subst e9
    rw [if_neg (by omega)]
    refine zW.if_eqN (pc' := 25) 49 dX2_copy_22 rfl (by decide) (by omega) (fun b9 => ?_) (fun b9 => absurd b9 (by omega))
    have htk : s.2.1.take k = s.2.1 := List.take_of_length_le (by omega)
    rw [htk] at hN
    refine zW.aload_n (pc' := 50) dX2_copy_49 rfl rfl zg0 rfl ?_
    refine zW.get (pc' := 53) dX2_copy_50 rfl f_X2_21_1 hst ⟨rfl, (Nat.le_of_ble_eq_true rfl)⟩ rfl ?_
    refine zW.callV (r' := 1) (pc' := 56) dX2_copy_53 rfl l_X2_57 rfl haq ⟨rfl, (Nat.le_of_ble_eq_true rfl)⟩ rfl (w_dqIter hQ0) zc0 rfl (Nat.le_of_ble_eq_true rfl) (Nat.le_of_ble_eq_true rfl) (Nat.le_of_ble_eq_true rfl) (fun _ _ q9 => ?_) (fun _ _ q9 => absurd q9 zO.no)
    obtain ⟨_, q8, it2, e1, nit2, e9, hit2⟩ := q9
    cases q8
    subst e1
    have zn := zfr.rf.new (A := fun _ => False) e9 nit2
    have hN2 := (hN.live.up (O' := cNw h it2) fun b q => ⟨q.1.1, fun z => q.2 (by rw [z]; exact nit2)⟩).fr zn fun _ _ q => q
    have nit0 := zf.nn0 nit2
    refine zW.astore_n (pc' := 57) dX2_copy_56 rfl rfl (Nat.le_of_ble_eq_true rfl) rfl (zsS (zsS (zs0))) ?_
    exact zW.pay (w_copy2 hk hI hP hb hl nit0 hb3 hl3 qs.length 0 _ st' ll' aq' re' rt' ea' ha' er' hr' mc' ys [] [] _ _ (Nat.zero_add _) (zf.tr zn fun _ q => q.elim) hN2 hit2) (by omega)
  | succ m ih =>
    intro k H st' ll' aq' re' rt' ea' ha' er' hr' mc' ys lr v3 hkm zf hN hit
    have hPo := hP.fr zf fun _ _ q => q
    have hLo := hPo.2.1.1
    have hl0 := hLo.1
    obtain ⟨p, hp, hc⟩ := hPo.2.1.2.at (k := k) (by omega)
    have hne : p.2 ≠ it := zne hc hit (by decide)
    refine zW.pay (r1 := (3 * m + 23) + 3) ?_ (by omega)
    have zi := zfr.rf (A := fun b => b = it) (h := H)
    refine zW.aload_n (pc' := 17) dX2_copy_16 rfl rfl (zgS (zgS (zg0))) rfl ?_
    refine zW.callF (r' := 0) (pc' := 22) dX2_copy_17 rfl l_X2_37_J25 rfl hit ⟨rfl, (Nat.le_of_ble_eq_true rfl)⟩ rfl (w_itHas hit hl0 (by omega) (by omega)) zc0 rfl (Nat.le_of_ble_eq_true rfl) (Nat.le_of_ble_eq_true rfl) (Nat.le_of_ble_eq_true rfl) (fun _ _ q9 => ?_) (fun _ _ q9 => by cases q9.1)
    obtain ⟨q8, e9⟩ := q9
    cases q8
    replace e9 := e9.symm
    subst e9
    rw [if_pos (by omega)]
    refine zW.if_eqN (pc' := 25) 49 dX2_copy_22 rfl (by decide) (by omega) (fun b9 => absurd b9 (by omega)) (fun b9 => ?_)
    refine zW.aload_n (pc' := 26) dX2_copy_25 rfl rfl (zgS (zgS (zg0))) rfl ?_
    refine zW.callF (r' := 0) (pc' := 31) dX2_copy_26 rfl l_X2_43_J25 rfl hit ⟨rfl, (Nat.le_of_ble_eq_true rfl)⟩ rfl (w_itNext hLo hit hp (by omega)) zc0 rfl (Nat.le_of_ble_eq_true rfl) (Nat.le_of_ble_eq_true rfl) (Nat.le_of_ble_eq_true rfl) (fun _ _ q9 => ?_) (fun _ _ q9 => absurd q9 zO.no)
    obtain ⟨_, q8, e1, e9, k9⟩ := q9
    cases q8
    subst e1
    have zi := zi.put e9 hit (by decide) (Or.inl rfl)
    replace hit := k9
    clear e9 k9
    have hN1 := hN.fr zi fun b hb q => hb.2 q
    have hc1 := zi.at hc hne
    have zf1 := zf.tr zi fun b hb => Or.inr (by rw [hb]; exact nit)
    have hst2 := hN1.1
    refine zW.castS (pc' := 34) dX2_copy_31 rfl (lw_all_tbl q1032) hc1 ⟨rfl, (Nat.le_of_ble_eq_true rfl)⟩ rfl ?_
    refine zW.astore_n (pc' := 35) dX2_copy_34 rfl rfl (Nat.le_of_ble_eq_true rfl) rfl (zsS (zsS (zsS (zs0)))) ?_
    refine zW.aload_n (pc' := 36) dX2_copy_35 rfl rfl (zgS (zg0)) rfl ?_
    refine zW.get (pc' := 39) dX2_copy_36 rfl f_X2_12_1 hst2 ⟨rfl, (Nat.le_of_ble_eq_true rfl)⟩ rfl ?_
    refine zW.aload_n (pc' := 40) dX2_copy_39 rfl rfl (zgS (zgS (zgS (zg0)))) rfl ?_
    refine zW.callV (r' := 2) (pc' := 43) dX2_copy_40 rfl l_X2_49 rfl hc1 ⟨rfl, (Nat.le_of_ble_eq_true rfl)⟩ rfl (w_clCopy hc1) zc0 rfl (Nat.le_of_ble_eq_true rfl) (Nat.le_of_ble_eq_true rfl) (Nat.le_of_ble_eq_true rfl) (fun _ _ q9 => ?_) (fun _ _ q9 => absurd q9 zO.no)
    obtain ⟨_, q8, n, e1, nn, e9, hcn⟩ := q9
    cases q8
    subst e1
    have zn := zfr.rf.new (A := fun _ => False) e9 nn
    have hN2 := hN1.fr zn fun _ _ q => q
    have hit2 := zn.at hit fun q => q
    have hL2 := hN2.2.1.1
    have hl2 := hL2.1
    refine zW.callV (r' := 1) (pc' := 46) dX2_copy_43 rfl l_X2_53 rfl hl2 ⟨rfl, (Nat.le_of_ble_eq_true rfl)⟩ rfl (w_addLast hL2 (c := n)) (zcc rfl zc0) rfl (Nat.le_of_ble_eq_true rfl) (Nat.le_of_ble_eq_true rfl) (Nat.le_of_ble_eq_true rfl) (fun _ _ q9 => ?_) (fun _ _ q9 => absurd q9 zO.no)
    obtain ⟨_, q8, e1, nd, nnd, hL3, z3⟩ := q9
    cases q8
    subst e1
    refine zW.goto 16 dX2_copy_46 (by decide) ?_
    have hC3 := (hN1.2.1.2).app (nd := nd) (fun b l e => hL2.outC z3 b l (zn.at e fun q => q)) nn (hL2.outC z3 _ _ hcn)
    have zf2 := zf1.tr zn fun _ q => q.elim
    have nn0 := zf1.nn0 nn
    have nnd0 := zf2.nn0 nnd
    have hnit : n ≠ it := fun q => by rw [q, hit] at nn; cases nn
    have hnit2 : nd ≠ it := fun q => by rw [q, hit2] at nnd; cases nnd
    have oL : ∀ b, cLf ll' ys b → cNw h it b := hN2.2.2.2.2.2.2.2.1
    have oC : ∀ q ∈ ys, cNw h it q.2 := hN2.2.2.2.2.2.2.2.2.1
    have hN3 := hN2.list (O' := cNw h it) z3 hL3 hC3 (fun b hb => by
      rcases hb with q | q
      · exact oL _ (Or.inl q)
      · rw [List.map_append] at q
        rcases List.mem_append.mp q with q | q
        · exact oL _ (Or.inr q)
        · rw [show b = nd from List.mem_singleton.mp q]; exact ⟨nnd0, hnit2⟩) (fun q hq => by
      rcases List.mem_append.mp hq with q1 | q1
      · exact oC _ q1
      · rw [List.mem_singleton.mp q1]; exact ⟨nn0, hnit⟩) fun _ q => q
    dsimp only at hN3
    rw [← take_snoc (sAt_get (show k < s.2.1.length by omega))] at hN3
    have hit3 := hL2.out z3 hit2 ⟨by decide, by decide⟩
    have zf3 := zf2.tr z3 fun b hb => Or.inr (oL b hb).1
    exact ih (k + 1) _ st' ll' aq' re' rt' ea' ha' er' hr' _ _ _ _ (by omega) zf3 hN3 hit3
/-- a State's copy -/
theorem w_stCopy (hk : zkn G h) (hI : zkI G) (hS : cS h O st s) (h12 : s.2.1.length ≤ 12) (hb : ∀ x ∈ s.2.2.1, x < 2 ^ 31) (hl : s.2.2.1.length ≤ 12) (hb3 : ∀ x ∈ s.2.2.2, x < 2 ^ 31) (hl3 : s.2.2.2.length ≤ 8) : zK G mX2_copy 8 78 [.ref st] h (cCopy h s) := by
  obtain ⟨ll, aq, re, rt, ea, ha, er, hr, mc, xs, qs, rs, hP⟩ := hS
  have hxs := hP.2.1.2.1
  have hst := hP.1
  have zf := zfr.rf (A := fun _ => False) (h := h)
  show zW G mX2_copy 8 78 0 [.ref st, zho, zho, zho] [] h _
  refine zW.newK (u := 3) (pc' := 3) dX2_copy_0 rfl n_X2_13 zd_1 (fun sn _ nsn e9 k9 => ?_)
  have osn := zf.nn0 nsn
  have zf := zf.new e9 nsn
  have hsn := k9
  clear k9
  refine zW.dup (pc' := 4) dX2_copy_3 rfl rfl ?_
  refine zW.callI (r' := 14) (pc' := 7) dX2_copy_4 rfl l_X2_32 rfl (w_stInit hsn) zc0 rfl (Nat.le_of_ble_eq_true rfl) (Nat.le_of_ble_eq_true rfl) (Nat.le_of_ble_eq_true rfl) (fun _ _ q9 => ?_) (fun _ _ q9 => absurd q9 zO.no)
  obtain ⟨_, q8, e1, ll', aq', re', rt', ea', er', hN, z1⟩ := q9
  cases q8
  subst e1
  have zf1 := zf.tr z1 fun b hb => Or.inr (by rw [hb]; exact osn)
  have hP1 := hP.fr zf1 fun _ _ q => q
  have hL1 := hP1.2.1.1
  have hl1 := hL1.1
  have hs1 := hP1.1
  refine zW.astore_n (pc' := 8) dX2_copy_7 rfl rfl (Nat.le_of_ble_eq_true rfl) rfl (zsS (zs0)) ?_
  refine zW.aload_n (pc' := 9) dX2_copy_8 rfl rfl zg0 rfl ?_
  refine zW.get (pc' := 12) dX2_copy_9 rfl f_X2_12_1 hs1 ⟨rfl, (Nat.le_of_ble_eq_true rfl)⟩ rfl ?_
  refine zW.callU (r' := 2) (pc' := 15) dX2_copy_12 rfl l_X2_33_J3 rfl hl1 ⟨rfl, (Nat.le_of_ble_eq_true rfl)⟩ rfl (w_llIter hL1 (by omega)) zc0 rfl (Nat.le_of_ble_eq_true rfl) (Nat.le_of_ble_eq_true rfl) (Nat.le_of_ble_eq_true rfl) (fun _ _ q9 => ?_) (fun _ _ q9 => absurd q9 zO.no)
  obtain ⟨_, q8, it, e1, nit, e9, hit⟩ := q9
  cases q8
  subst e1
  have zn := zfr.rf.new (A := fun _ => False) e9 nit
  have nit0 := zf1.nn0 nit
  have hN1 := hN.live.up (O' := cNw h it) fun b q => ⟨q.1.elim (fun w => by rw [w]; exact osn) fun w => zf.nn0 w, fun z => q.2 (by rw [z]; exact nit)⟩
  have hN2 := hN1.fr zn fun _ _ q => q
  refine zW.astore_n (pc' := 16) dX2_copy_15 rfl rfl (Nat.le_of_ble_eq_true rfl) rfl (zsS (zsS (zs0))) ?_
  exact zW.pay (w_copy1 hk hI hP h12 hb hl hb3 hl3 nit0 s.2.1.length 0 _ sn ll' aq' re' rt' ea' 0 er' 0 _ [] _ _ (Nat.zero_add _) (zf1.tr zn fun _ q => q.elim) hN2 hit) (by omega)
end
