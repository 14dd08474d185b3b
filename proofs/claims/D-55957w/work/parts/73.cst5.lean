/-! a State's copy: the deques -/
section
set_option maxRecDepth 100000
variable {G : zG} {h h' h0 : zH} {O O' A : Nat → Prop} {st ll aq re rt ea ha er hr : Nat} {mc : Int32} {xs : List (Nat × Nat)} {qs rs : List Nat} {s : sS}
theorem w_valueOf2 (hk : zkn G h) (hI : zkI G) {x : Nat} (hx : x < 2 ^ 31) : zK G mJ21_valueOf 3 1 [.int (nI x)] h (zO fun v h' => ∃ q k, v = some (.ref q) ∧ cInt h' q k x ∧ (k = 15 → h q = none) ∧ zfr (fun _ => False) h h') :=
  zW.post (w_valueOf hk hI hx) fun o h' ⟨v, e0, q, e1, e2⟩ => by
    rcases e2 with ⟨e3, e4⟩ | ⟨e3, e4, e5⟩
    · subst e3
      exact ⟨v, e0, q, 1015, e1, e4, (fun e => by cases e), zfr.rf⟩
    · exact ⟨v, e0, q, 15, e1, ⟨e5, Or.inl rfl⟩, fun _ => e3, zfr.rf.new e4 e3⟩
theorem cDQ.outI (hQ : cDQ h aq ea ha qs) (z : zfr (cDf aq ea) h h') : ∀ b k l, (k = 15 ∨ k = 1015) → h b = some (k, l) → h' b = some (k, l) := fun b k l hk e => hQ.out z e (by rcases hk with q | q <;> subst q <;> decide)
theorem w_copy3 (hk : zkn G h) (hI : zkI G) (hP : cP h O st ll aq re rt ea ha er hr mc xs qs rs s) (hb : ∀ x ∈ s.2.2.2, x < 2 ^ 31) (hl : s.2.2.2.length ≤ 12) {it : Nat} (nit : h it = none) : ∀ (m k : Nat) (H : zH) (st' ll' aq' re' rt' ea' ha' er' hr' : Nat) (mc' : Int32) (ys : List (Nat × Nat)) (qs' rs' : List Nat) (lr : Int32) (v3 : Value), k + m = rs.length → zfr (fun _ => False) h H → cP H (cNw h it) st' ll' aq' re' rt' ea' ha' er' hr' mc' ys qs' rs' (sZero, s.2.1, s.2.2.1, s.2.2.2.take k) → H it = some (cDi re hr rs.length k lr) → zW G mX2_copy 8 (m + 0) 101 [.ref st, .ref st', .ref it, v3] [] H (cCopy h s) := by
  intro m
  induction m with
  | zero =>
    intro k H st' ll' aq' re' rt' ea' ha' er' hr' mc' ys qs' rs' lr v3 hkm zf hN hit
    have hkm : k = rs.length := hkm
    have hPo := hP.fr zf fun _ _ q => q
    have hQo := hPo.2.2.2.1.1
    have hIo := hPo.2.2.2.1.2
    rw [hkm] at hit
    refine zW.aload_n (pc' := 102) dX2_copy_101 rfl rfl (zgS (zgS (zg0))) rfl ?_
    refine zW.callF (r' := 0) (pc' := 107) dX2_copy_102 rfl l_X2_37_J30 rfl hit ⟨rfl, (Nat.le_of_ble_eq_true rfl)⟩ rfl (w_diHas hit hQo.1.2) zc0 rfl (Nat.le_of_ble_eq_true rfl) (Nat.le_of_ble_eq_true rfl) (Nat.le_of_ble_eq_true rfl) (fun _ _ q9 => ?_) (fun _ _ q9 => by cases q9.1)
    obtain ⟨q8, e9⟩ := q9
    cases q8
    replace e9 := e9.symm
    subst e9
    rw [if_neg (Nat.lt_irrefl _)]
    refine zW.if_eqN (pc' := 110) 137 dX2_copy_107 rfl (by decide) (by omega) (fun b9 => ?_) (fun b9 => absurd b9 (by omega))
    have htk : s.2.2.2.take k = s.2.2.2 := List.take_of_length_le (by rw [← hIo.1]; omega)
    rw [htk] at hN
    exact zW.pay (w_copy4 hP zf (hN.up fun _ q => q.1)) (Nat.zero_le _)
  | succ m ih =>
    intro k H st' ll' aq' re' rt' ea' ha' er' hr' mc' ys qs' rs' lr v3 hkm zf hN hit
    have hPo := hP.fr zf fun _ _ q => q
    have hQo := hPo.2.2.2.1.1
    have hIo := hPo.2.2.2.1.2
    obtain ⟨q0, hq0⟩ : ∃ q, rs[k]? = some q := ⟨_, List.getElem?_eq_getElem (by omega)⟩
    obtain ⟨x0, hx0⟩ : ∃ x, s.2.2.2[k]? = some x := ⟨_, List.getElem?_eq_getElem (by rw [← hIo.1]; omega)⟩
    obtain ⟨kq, hc0, -⟩ := hIo.2 k q0 x0 hq0 hx0
    have hk15 : kq % 1000 = 15 ∧ 15 < 50 := by rcases hc0.2 with q | q <;> subst q <;> decide
    have hne : q0 ≠ it := zne hc0.1 hit (by rcases hc0.2 with q | q <;> subst q <;> decide)
    refine zW.pay (r1 := (m + 0) + 1) ?_ (by omega)
    have zi := zfr.rf (A := fun b => b = it) (h := H)
    refine zW.aload_n (pc' := 102) dX2_copy_101 rfl rfl (zgS (zgS (zg0))) rfl ?_
    refine zW.callF (r' := 0) (pc' := 107) dX2_copy_102 rfl l_X2_37_J30 rfl hit ⟨rfl, (Nat.le_of_ble_eq_true rfl)⟩ rfl (w_diHas hit hQo.1.2) zc0 rfl (Nat.le_of_ble_eq_true rfl) (Nat.le_of_ble_eq_true rfl) (Nat.le_of_ble_eq_true rfl) (fun _ _ q9 => ?_) (fun _ _ q9 => by cases q9.1)
    obtain ⟨q8, e9⟩ := q9
    cases q8
    replace e9 := e9.symm
    subst e9
    rw [if_pos (by omega)]
    refine zW.if_eqN (pc' := 110) 137 dX2_copy_107 rfl (by decide) (by omega) (fun b9 => absurd b9 (by omega)) (fun b9 => ?_)
    refine zW.aload_n (pc' := 111) dX2_copy_110 rfl rfl (zgS (zgS (zg0))) rfl ?_
    refine zW.callF (r' := 0) (pc' := 116) dX2_copy_111 rfl l_X2_43_J30 rfl hit ⟨rfl, (Nat.le_of_ble_eq_true rfl)⟩ rfl (w_diNext hQo hit hq0) zc0 rfl (Nat.le_of_ble_eq_true rfl) (Nat.le_of_ble_eq_true rfl) (Nat.le_of_ble_eq_true rfl) (fun _ _ q9 => ?_) (fun _ _ q9 => absurd q9 zO.no)
    obtain ⟨_, q8, e1, e9, k9⟩ := q9
    cases q8
    subst e1
    have zi := zi.put e9 hit (by decide) (Or.inl rfl)
    replace hit := k9
    clear e9 k9
    have hN1 := hN.fr zi fun b hb q => hb.2 q
    have hc1 : cInt _ q0 kq x0 := ⟨zi.at hc0.1 hne, hc0.2⟩
    have zf1 := zf.tr zi fun b hb => Or.inr (by rw [hb]; exact nit)
    have hcc := hc1.1
    refine zW.castS (pc' := 119) dX2_copy_116 rfl (lw_all_tbl q1138) hcc hk15 rfl ?_
    refine zW.callV (r' := 0) (pc' := 122) dX2_copy_119 rfl l_X2_60 rfl hcc hk15 rfl (w_intValue hc1) zc0 rfl (Nat.le_of_ble_eq_true rfl) (Nat.le_of_ble_eq_true rfl) (Nat.le_of_ble_eq_true rfl) (fun _ _ q9 => ?_) (fun _ _ q9 => by cases q9.1)
    obtain ⟨q8, e9⟩ := q9
    cases q8
    replace e9 := e9.symm
    subst e9
    have hst2 := hN1.1
    refine zW.istore_n (pc' := 123) dX2_copy_122 rfl rfl (Nat.le_of_ble_eq_true rfl) (zsS (zsS (zsS (zs0)))) ?_
    refine zW.aload_n (pc' := 124) dX2_copy_123 rfl rfl (zgS (zg0)) rfl ?_
    refine zW.get (pc' := 127) dX2_copy_124 rfl f_X2_25_1 hst2 ⟨rfl, (Nat.le_of_ble_eq_true rfl)⟩ rfl ?_
    refine zW.iload_n (pc' := 128) dX2_copy_127 rfl rfl (zgS (zgS (zgS (zg0)))) ?_
    refine zW.callS (r' := 1) (pc' := 131) dX2_copy_128 rfl l_X2_64 rfl (w_valueOf2 (zf1.kn hk) hI (hb x0 (List.mem_of_getElem? hx0))) (zcc rfl zc0) rfl (Nat.le_of_ble_eq_true rfl) (Nat.le_of_ble_eq_true rfl) (Nat.le_of_ble_eq_true rfl) (fun _ _ q9 => ?_) (fun _ _ q9 => absurd q9 zO.no)
    obtain ⟨_, q8, q1, k1, e1, hc2, ho, zv⟩ := q9
    cases q8
    subst e1
    have hN2 := hN1.fr zv fun _ _ q => q
    have hQ2 := hN2.2.2.2.1.1
    have hre2 := hQ2.2.1
    have hx2 := hc2.1
    have hit2 := zv.at hit fun q => q
    have nq : q1 ≠ re' := zne hx2 hre2 (by rcases hc2.2 with q | q <;> subst q <;> decide)
    have hl2 : rs'.length = k := by
      rw [(hN2.2.2.2.1.2).1]
      show (s.2.2.2.take k).length = k
      rw [List.length_take, ← hIo.1]
      omega
    refine zW.callV (r' := 0) (pc' := 134) dX2_copy_131 rfl l_X2_68 rfl hre2 ⟨rfl, (Nat.le_of_ble_eq_true rfl)⟩ rfl (w_dqAddLast hQ2 (by rw [hl2]; have := hIo.1; omega) hx2 hc2.ob nq) (zcc rfl zc0) rfl (Nat.le_of_ble_eq_true rfl) (Nat.le_of_ble_eq_true rfl) (Nat.le_of_ble_eq_true rfl) (fun _ _ q9 => ?_) (fun _ _ q9 => absurd q9 zO.no)
    obtain ⟨_, q8, e1, hQ3, z3⟩ := q9
    cases q8
    subst e1
    refine zW.goto 101 dX2_copy_134 (by decide) ?_
    have mvI := hQ2.outI z3
    have oq : k1 = 15 → cNw h it q1 := fun e => ⟨zf1.nn0 (ho e), fun q => by rw [q, hit] at ho; cases ho e⟩
    have hc3 : cInt _ q1 k1 x0 := ⟨mvI _ _ _ hc2.2 hc2.1, hc2.2⟩
    have hN3 := hN2.rec (O' := cNw h it) z3 hQ3 ((((hN2.2.2.2.1.2).mv mvI)).push hc3 oq) fun _ q => q
    have hit3 := hQ2.out z3 hit2 ⟨by decide, by decide⟩
    have zf3 := (zf1.tr zv fun _ q => q.elim).tr z3 fun b hb => Or.inr (hb.elim (fun q => by rw [q]; exact hN2.2.2.2.2.2.2.2.2.2.2.1.1.1) fun q => by rw [q]; exact hN2.2.2.2.2.2.2.2.2.2.2.1.2.1)
    dsimp only at hN3
    rw [← take_snoc hx0] at hN3
    exact ih (k + 1) _ st' ll' aq' re' rt' ea' _ er' _ mc' ys _ _ _ _ (by omega) zf3 hN3 hit3
theorem w_copy2 (hk : zkn G h) (hI : zkI G) (hP : cP h O st ll aq re rt ea ha er hr mc xs qs rs s) (hb : ∀ x ∈ s.2.2.1, x < 2 ^ 31) (hl : s.2.2.1.length ≤ 12) {it : Nat} (nit : h it = none) (hb3 : ∀ x ∈ s.2.2.2, x < 2 ^ 31) (hl3 : s.2.2.2.length ≤ 8) : ∀ (m k : Nat) (H : zH) (st' ll' aq' re' rt' ea' ha' er' hr' : Nat) (mc' : Int32) (ys : List (Nat × Nat)) (qs' rs' : List Nat) (lr : Int32) (v3 : Value), k + m = qs.length → zfr (fun _ => False) h H → cP H (cNw h it) st' ll' aq' re' rt' ea' ha' er' hr' mc' ys qs' rs' (sZero, s.2.1, s.2.2.1.take k, []) → H it = some (cDi aq ha qs.length k lr) → zW G mX2_copy 8 (m + 10) 57 [.ref st, .ref st', .ref it, v3] [] H (cCopy h s) := by
  intro m
  induction m with
  | zero =>
    intro k H st' ll' aq' re' rt' ea' ha' er' hr' mc' ys qs' rs' lr v3 hkm zf hN hit
    have hkm : k = qs.length := hkm
    have hPo := hP.fr zf fun _ _ q => q
    have hQo := hPo.2.2.1.1
    have hIo := hPo.2.2.1.2
    rw [hkm] at hit
    refine zW.aload_n (pc' := 58) dX2_copy_57 rfl rfl (zgS (zgS (zg0))) rfl ?_
    refine zW.callF (r' := 0) (pc' := 63) dX2_copy_58 rfl l_X2_37_J30 rfl hit ⟨rfl, (Nat.le_of_ble_eq_true rfl)⟩ rfl (w_diHas hit hQo.1.2) zc0 rfl (Nat.le_of_ble_eq_true rfl) (Nat.le_of_ble_eq_true rfl) (Nat.le_of_ble_eq_true rfl) (fun _ _ q9 => ?_) (fun _ _ q9 => by cases q9.1)
    obtain ⟨q8, e9⟩ := q9
    cases q8
    replace e9 := e9.symm
    subst e9
    rw [if_neg (Nat.lt_irrefl _)]
    refine zW.if_eqN (pc' := 66) 93 dX2_copy_63 rfl (by decide) (by omega) (fun b9 => ?_) (fun b9 => absurd b9 (by omega))
    have htk : s.2.2.1.take k = s.2.2.1 := List.take_of_length_le (by rw [← hIo.1]; omega)
    rw [htk] at hN
    have hst2 := hPo.1
    have hQ3 := hPo.2.2.2.1.1
    have hre := hQ3.2.1
    refine zW.aload_n (pc' := 94) dX2_copy_93 rfl rfl zg0 rfl ?_
    refine zW.get (pc' := 97) dX2_copy_94 rfl f_X2_25_1 hst2 ⟨rfl, (Nat.le_of_ble_eq_true rfl)⟩ rfl ?_
    refine zW.callV (r' := 1) (pc' := 100) dX2_copy_97 rfl l_X2_57 rfl hre ⟨rfl, (Nat.le_of_ble_eq_true rfl)⟩ rfl (w_dqIter hQ3) zc0 rfl (Nat.le_of_ble_eq_true rfl) (Nat.le_of_ble_eq_true rfl) (Nat.le_of_ble_eq_true rfl) (fun _ _ q9 => ?_) (fun _ _ q9 => absurd q9 zO.no)
    obtain ⟨_, q8, it2, e1, nit2, e9, hit2⟩ := q9
    cases q8
    subst e1
    have zn := zfr.rf.new (A := fun _ => False) e9 nit2
    have hN2 := (hN.live.up (O' := cNw h it2) fun b q => ⟨q.1.1, fun z => q.2 (by rw [z]; exact nit2)⟩).fr zn fun _ _ q => q
    have nit0 := zf.nn0 nit2
    have hlr := hP.2.2.2.1.2.1
    refine zW.astore_n (pc' := 101) dX2_copy_100 rfl rfl (Nat.le_of_ble_eq_true rfl) rfl (zsS (zsS (zs0))) ?_
    exact zW.pay (w_copy3 hk hI hP hb3 (by omega) nit0 rs.length 0 _ st' ll' aq' re' rt' ea' ha' er' hr' mc' ys qs' rs' _ _ (Nat.zero_add _) (zf.tr zn fun _ q => q.elim) hN2 hit2) (by omega)
  | succ m ih =>
    intro k H st' ll' aq' re' rt' ea' ha' er' hr' mc' ys qs' rs' lr v3 hkm zf hN hit
    have hPo := hP.fr zf fun _ _ q => q
    have hQo := hPo.2.2.1.1
    have hIo := hPo.2.2.1.2
    obtain ⟨q0, hq0⟩ : ∃ q, qs[k]? = some q := ⟨_, List.getElem?_eq_getElem (by omega)⟩
    obtain ⟨x0, hx0⟩ : ∃ x, s.2.2.1[k]? = some x := ⟨_, List.getElem?_eq_getElem (by rw [← hIo.1]; omega)⟩
    obtain ⟨kq, hc0, -⟩ := hIo.2 k q0 x0 hq0 hx0
    have hk15 : kq % 1000 = 15 ∧ 15 < 50 := by rcases hc0.2 with q | q <;> subst q <;> decide
    have hne : q0 ≠ it := zne hc0.1 hit (by rcases hc0.2 with q | q <;> subst q <;> decide)
    refine zW.pay (r1 := (m + 10) + 1) ?_ (by omega)
    have zi := zfr.rf (A := fun b => b = it) (h := H)
    refine zW.aload_n (pc' := 58) dX2_copy_57 rfl rfl (zgS (zgS (zg0))) rfl ?_
    refine zW.callF (r' := 0) (pc' := 63) dX2_copy_58 rfl l_X2_37_J30 rfl hit ⟨rfl, (Nat.le_of_ble_eq_true rfl)⟩ rfl (w_diHas hit hQo.1.2) zc0 rfl (Nat.le_of_ble_eq_true rfl) (Nat.le_of_ble_eq_true rfl) (Nat.le_of_ble_eq_true rfl) (fun _ _ q9 => ?_) (fun _ _ q9 => by cases q9.1)
    obtain ⟨q8, e9⟩ := q9
    cases q8
    replace e9 := e9.symm
    subst e9
    rw [if_pos (by omega)]
    refine zW.if_eqN (pc' := 66) 93 dX2_copy_63 rfl (by decide) (by omega) (fun b9 => absurd b9 (by omega)) (fun b9 => ?_)
    refine zW.aload_n (pc' := 67) dX2_copy_66 rfl rfl (zgS (zgS (zg0))) rfl ?_
    refine zW.callF (r' := 0) (pc' := 72) dX2_copy_67 rfl l_X2_43_J30 rfl hit ⟨rfl, (Nat.le_of_ble_eq_true rfl)⟩ rfl (w_diNext hQo hit hq0) zc0 rfl (Nat.le_of_ble_eq_true rfl) (Nat.le_of_ble_eq_true rfl) (Nat.le_of_ble_eq_true rfl) (fun _ _ q9 => ?_) (fun _ _ q9 => absurd q9 zO.no)
    obtain ⟨_, q8, e1, e9, k9⟩ := q9
    cases q8
    subst e1
    have zi := zi.put e9 hit (by decide) (Or.inl rfl)
    replace hit := k9
    clear e9 k9
    have hN1 := hN.fr zi fun b hb q => hb.2 q
    have hc1 : cInt _ q0 kq x0 := ⟨zi.at hc0.1 hne, hc0.2⟩
    have zf1 := zf.tr zi fun b hb => Or.inr (by rw [hb]; exact nit)
    have hcc := hc1.1
    refine zW.castS (pc' := 75) dX2_copy_72 rfl (lw_all_tbl q1138) hcc hk15 rfl ?_
    refine zW.callV (r' := 0) (pc' := 78) dX2_copy_75 rfl l_X2_60 rfl hcc hk15 rfl (w_intValue hc1) zc0 rfl (Nat.le_of_ble_eq_true rfl) (Nat.le_of_ble_eq_true rfl) (Nat.le_of_ble_eq_true rfl) (fun _ _ q9 => ?_) (fun _ _ q9 => by cases q9.1)
    obtain ⟨q8, e9⟩ := q9
    cases q8
    replace e9 := e9.symm
    subst e9
    have hst2 := hN1.1
    refine zW.istore_n (pc' := 79) dX2_copy_78 rfl rfl (Nat.le_of_ble_eq_true rfl) (zsS (zsS (zsS (zs0)))) ?_
    refine zW.aload_n (pc' := 80) dX2_copy_79 rfl rfl (zgS (zg0)) rfl ?_
    refine zW.get (pc' := 83) dX2_copy_80 rfl f_X2_21_1 hst2 ⟨rfl, (Nat.le_of_ble_eq_true rfl)⟩ rfl ?_
    refine zW.iload_n (pc' := 84) dX2_copy_83 rfl rfl (zgS (zgS (zgS (zg0)))) ?_
    refine zW.callS (r' := 1) (pc' := 87) dX2_copy_84 rfl l_X2_64 rfl (w_valueOf2 (zf1.kn hk) hI (hb x0 (List.mem_of_getElem? hx0))) (zcc rfl zc0) rfl (Nat.le_of_ble_eq_true rfl) (Nat.le_of_ble_eq_true rfl) (Nat.le_of_ble_eq_true rfl) (fun _ _ q9 => ?_) (fun _ _ q9 => absurd q9 zO.no)
    obtain ⟨_, q8, q1, k1, e1, hc2, ho, zv⟩ := q9
    cases q8
    subst e1
    have hN2 := hN1.fr zv fun _ _ q => q
    have hQ2 := hN2.2.2.1.1
    have hre2 := hQ2.2.1
    have hx2 := hc2.1
    have hit2 := zv.at hit fun q => q
    have nq : q1 ≠ aq' := zne hx2 hre2 (by rcases hc2.2 with q | q <;> subst q <;> decide)
    have hl2 : qs'.length = k := by
      rw [(hN2.2.2.1.2).1]
      show (s.2.2.1.take k).length = k
      rw [List.length_take, ← hIo.1]
      omega
    refine zW.callV (r' := 0) (pc' := 90) dX2_copy_87 rfl l_X2_68 rfl hre2 ⟨rfl, (Nat.le_of_ble_eq_true rfl)⟩ rfl (w_dqAddLast hQ2 (by rw [hl2]; have := hIo.1; omega) hx2 hc2.ob nq) (zcc rfl zc0) rfl (Nat.le_of_ble_eq_true rfl) (Nat.le_of_ble_eq_true rfl) (Nat.le_of_ble_eq_true rfl) (fun _ _ q9 => ?_) (fun _ _ q9 => absurd q9 zO.no)
    obtain ⟨_, q8, e1, hQ3, z3⟩ := q9
    cases q8
    subst e1
    refine zW.goto 57 dX2_copy_90 (by decide) ?_
    have mvI := hQ2.outI z3
    have oq : k1 = 15 → cNw h it q1 := fun e => ⟨zf1.nn0 (ho e), fun q => by rw [q, hit] at ho; cases ho e⟩
    have hc3 : cInt _ q1 k1 x0 := ⟨mvI _ _ _ hc2.2 hc2.1, hc2.2⟩
    have hN3 := hN2.queue (O' := cNw h it) z3 hQ3 ((((hN2.2.2.1.2).mv mvI)).push hc3 oq) fun _ q => q
    have hit3 := hQ2.out z3 hit2 ⟨by decide, by decide⟩
    have zf3 := (zf1.tr zv fun _ q => q.elim).tr z3 fun b hb => Or.inr (hb.elim (fun q => by rw [q]; exact hN2.2.2.2.2.2.2.2.2.2.1.1.1) fun q => by rw [q]; exact hN2.2.2.2.2.2.2.2.2.2.1.2.1)
    dsimp only at hN3
    rw [← take_snoc hx0] at hN3
    exact ih (k + 1) _ st' ll' aq' re' rt' ea' _ er' _ mc' ys _ _ _ _ (by omega) zf3 hN3 hit3
end
