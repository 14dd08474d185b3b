/-! claims, Integers -/
section
set_option maxRecDepth 100000
variable {G : zG} {h h' h0 : zH} {a : Nat} {c : sC}
/-- a claim's fields -/
def cCl (c : sC) : List Value := [.int (nI (c 0)), .int (nI (c 1)), .int (nI (c 2)), .int (nI (c 3)), .int (nI (c 4)), .int (nI (c 6) - 1), .int (nI (c 7) - 1), .int (nI (c 5))]
theorem zup_self {k : zC} (e : h a = some k) : h = zup h a k := by
  funext b
  unfold zup
  by_cases q : b = a
  · rw [if_pos q, q]; exact e
  · rw [if_neg q]
theorem w_phaseC {t : Nat} (ht : t < 2 ^ 31) : zK G mX1_phaseAt 1 0 [.int (nI t)] h (zPu h (some (.int (nI (t / 4 % 4))))) := by
  show zW G mX1_phaseAt 1 0 0 [.int (nI t)] [] h _
  refine zW.iload_n (pc' := 1) dX1_phaseAt_0 rfl rfl zg0 ?_
  refine zW.iconst (pc' := 2) (nI 4) dX1_phaseAt_1 rfl (by decide) ?_
  refine zW.idivN (pc' := 3) dX1_phaseAt_2 rfl (by omega) (by decide) (by decide) ?_
  refine zW.iconst (pc' := 4) (nI 4) dX1_phaseAt_3 rfl (by decide) ?_
  refine zW.iremN (pc' := 5) dX1_phaseAt_4 rfl (by omega) (by decide) (by decide) ?_
  refine zW.iret dX1_phaseAt_5 rfl (rfl) ?_
  exact ⟨rfl, rfl⟩
theorem w_clInit {i d e w x : Nat} (ha : h a = some (2, [.int 0, .int 0, .int 0, .int 0, .int 0, .int 0, .int 0, .int 0])) : zK G mX4_init 1 0 [.ref a, .int (nI i), .int (nI d), .int (nI e), .int (nI w), .int (nI x)] h (zPk h none a (2, cCl (sNew i d e w x))) := by
  show zW G mX4_init 1 0 0 [.ref a, .int (nI i), .int (nI d), .int (nI e), .int (nI w), .int (nI x)] [] h _
  refine zW.aload_n (pc' := 1) dX4_init_0 rfl rfl zg0 rfl ?_
  refine zW.objInit (pc' := 4) dX4_init_1 rfl (lw_all_tbl q1042) (lw_all_tbl q151) (lw_all_tbl q152) (Nat.le_of_ble_eq_true rfl) (Nat.le_of_ble_eq_true rfl) ?_
  refine zW.aload_n (pc' := 5) dX4_init_4 rfl rfl zg0 rfl ?_
  refine zW.iconst (pc' := 6) (-1) dX4_init_5 rfl (by decide) ?_
  refine zW.putK (pc' := 9) dX4_init_6 rfl f_X4_9_2 ha ⟨⟨rfl, (Nat.le_of_ble_eq_true rfl)⟩, (Nat.le_of_ble_eq_true rfl)⟩ (zFw.of ft_2_5 rfl rfl) (zsS (zsS (zsS (zsS (zsS (zs0)))))) (fun _ e9 k9 => ?_)
  have hq := e9
  replace ha := k9
  clear e9 k9
  refine zW.aload_n (pc' := 10) dX4_init_9 rfl rfl zg0 rfl ?_
  refine zW.iconst (pc' := 11) (-1) dX4_init_10 rfl (by decide) ?_
  refine zW.putK (pc' := 14) dX4_init_11 rfl f_X4_15_2 ha ⟨⟨rfl, (Nat.le_of_ble_eq_true rfl)⟩, (Nat.le_of_ble_eq_true rfl)⟩ (zFw.of ft_2_6 rfl rfl) (zsS (zsS (zsS (zsS (zsS (zsS (zs0))))))) (fun _ e9 k9 => ?_)
  have hq := ztrk hq e9
  replace ha := k9
  clear e9 k9
  refine zW.aload_n (pc' := 15) dX4_init_14 rfl rfl zg0 rfl ?_
  refine zW.iload_n (pc' := 16) dX4_init_15 rfl rfl (zgS (zg0)) ?_
  refine zW.putK (pc' := 19) dX4_init_16 rfl f_X4_18_2 ha ⟨⟨rfl, (Nat.le_of_ble_eq_true rfl)⟩, (Nat.le_of_ble_eq_true rfl)⟩ (zFw.fin ft_2_0 rfl rfl rfl rfl rfl) zs0 (fun _ e9 k9 => ?_)
  have hq := ztrk hq e9
  replace ha := k9
  clear e9 k9
  refine zW.aload_n (pc' := 20) dX4_init_19 rfl rfl zg0 rfl ?_
  refine zW.iload_n (pc' := 21) dX4_init_20 rfl rfl (zgS (zgS (zg0))) ?_
  refine zW.putK (pc' := 24) dX4_init_21 rfl f_X4_21_2 ha ⟨⟨rfl, (Nat.le_of_ble_eq_true rfl)⟩, (Nat.le_of_ble_eq_true rfl)⟩ (zFw.fin ft_2_1 rfl rfl rfl rfl rfl) (zsS (zs0)) (fun _ e9 k9 => ?_)
  have hq := ztrk hq e9
  replace ha := k9
  clear e9 k9
  refine zW.aload_n (pc' := 25) dX4_init_24 rfl rfl zg0 rfl ?_
  refine zW.iload_n (pc' := 26) dX4_init_25 rfl rfl (zgS (zgS (zgS (zg0)))) ?_
  refine zW.putK (pc' := 29) dX4_init_26 rfl f_X4_24_2 ha ⟨⟨rfl, (Nat.le_of_ble_eq_true rfl)⟩, (Nat.le_of_ble_eq_true rfl)⟩ (zFw.fin ft_2_2 rfl rfl rfl rfl rfl) (zsS (zsS (zs0))) (fun _ e9 k9 => ?_)
  have hq := ztrk hq e9
  replace ha := k9
  clear e9 k9
  refine zW.aload_n (pc' := 30) dX4_init_29 rfl rfl zg0 rfl ?_
  refine zW.iload (pc' := 32) dX4_init_30 rfl (zgS (zgS (zgS (zgS (zg0))))) ?_
  refine zW.putK (pc' := 35) dX4_init_32 rfl f_X4_27_2 ha ⟨⟨rfl, (Nat.le_of_ble_eq_true rfl)⟩, (Nat.le_of_ble_eq_true rfl)⟩ (zFw.of ft_2_3 rfl rfl) (zsS (zsS (zsS (zs0)))) (fun _ e9 k9 => ?_)
  have hq := ztrk hq e9
  replace ha := k9
  clear e9 k9
  refine zW.aload_n (pc' := 36) dX4_init_35 rfl rfl zg0 rfl ?_
  refine zW.iload (pc' := 38) dX4_init_36 rfl (zgS (zgS (zgS (zgS (zgS (zg0)))))) ?_
  refine zW.putK (pc' := 41) dX4_init_38 rfl f_X4_30_2 ha ⟨⟨rfl, (Nat.le_of_ble_eq_true rfl)⟩, (Nat.le_of_ble_eq_true rfl)⟩ (zFw.of ft_2_4 rfl rfl) (zsS (zsS (zsS (zsS (zs0))))) (fun _ e9 k9 => ?_)
  have hq := ztrk hq e9
  replace ha := k9
  clear e9 k9
  refine zW.vret dX4_init_41 rfl ?_
  have e1 : cCl (sNew i d e w x) = [.int (nI i), .int (nI d), .int (nI e), .int (nI w), .int (nI x), .int (-1), .int (-1), .int 0] := by
    unfold cCl sNew
    simp only [reduceIte, Nat.reduceEqDiff]
    rfl
  rw [e1]
  exact ⟨_, rfl, rfl, hq, ha⟩
theorem cCl_l (hc : h a = some (2, cCl c)) : h a = some (2, [.int (nI (c 0)), .int (nI (c 1)), .int (nI (c 2)), .int (nI (c 3)), .int (nI (c 4)), .int (nI (c 6) - 1), .int (nI (c 7) - 1), .int (nI (c 5))]) := hc
theorem w_clSigned (hc : h a = some (2, cCl c)) (h6 : c 6 < 2 ^ 30) : zK G mX4_isSigned 1 0 [.ref a] h (zPu h (some (.int (nI (if c 6 = 0 then 0 else 1))))) := by
  have ha := cCl_l hc
  show zW G mX4_isSigned 1 0 0 [.ref a] [] h _
  refine zW.aload_n (pc' := 1) dX4_isSigned_0 rfl rfl zg0 rfl ?_
  refine zW.get (pc' := 4) dX4_isSigned_1 rfl f_X4_9_2 ha ⟨rfl, (Nat.le_of_ble_eq_true rfl)⟩ rfl ?_
  refine zW.iconst (pc' := 5) (-1) dX4_isSigned_4 rfl (by decide) ?_
  refine zW.icmp_eq (pc' := 8) 12 dX4_isSigned_5 rfl (by decide) (fun b1 => ?_) (fun b1 => ?_)
  · refine zW.iconst (pc' := 13) (nI 0) dX4_isSigned_12 rfl (by decide) ?_
    refine zW.iret dX4_isSigned_13 rfl (rfl) ?_
    rw [if_pos ((nI_m1 h6).mp b1)]
    exact ⟨rfl, rfl⟩
  · refine zW.iconst (pc' := 9) (nI 1) dX4_isSigned_8 rfl (by decide) ?_
    refine zW.goto 13 dX4_isSigned_9 (by decide) ?_
    refine zW.iret dX4_isSigned_13 rfl (rfl) ?_
    rw [if_neg (fun q => b1 ((nI_m1 h6).mpr q))]
    exact ⟨rfl, rfl⟩
theorem w_clCosigned (hc : h a = some (2, cCl c)) (h7 : c 7 < 2 ^ 30) : zK G mX4_isCountersigned 1 0 [.ref a] h (zPu h (some (.int (nI (if c 7 = 0 then 0 else 1))))) := by
  have ha := cCl_l hc
  show zW G mX4_isCountersigned 1 0 0 [.ref a] [] h _
  refine zW.aload_n (pc' := 1) dX4_isCountersigned_0 rfl rfl zg0 rfl ?_
  refine zW.get (pc' := 4) dX4_isCountersigned_1 rfl f_X4_15_2 ha ⟨rfl, (Nat.le_of_ble_eq_true rfl)⟩ rfl ?_
  refine zW.iconst (pc' := 5) (-1) dX4_isCountersigned_4 rfl (by decide) ?_
  refine zW.icmp_eq (pc' := 8) 12 dX4_isCountersigned_5 rfl (by decide) (fun b1 => ?_) (fun b1 => ?_)
  · refine zW.iconst (pc' := 13) (nI 0) dX4_isCountersigned_12 rfl (by decide) ?_
    refine zW.iret dX4_isCountersigned_13 rfl (rfl) ?_
    rw [if_pos ((nI_m1 h7).mp b1)]
    exact ⟨rfl, rfl⟩
  · refine zW.iconst (pc' := 9) (nI 1) dX4_isCountersigned_8 rfl (by decide) ?_
    refine zW.goto 13 dX4_isCountersigned_9 (by decide) ?_
    refine zW.iret dX4_isCountersigned_13 rfl (rfl) ?_
    rw [if_neg (fun q => b1 ((nI_m1 h7).mpr q))]
    exact ⟨rfl, rfl⟩
theorem w_clCopy (hc : h a = some (2, cCl c)) : zK G mX4_copy 2 2 [.ref a] h (zO fun v h' => ∃ n, v = some (.ref n) ∧ h n = none ∧ h' = zup h n (2, cCl c) ∧ h' n = some (2, cCl c)) := by
  have ha := cCl_l hc
  show zW G mX4_copy 2 2 0 [.ref a, zho] [] h _
  refine zW.newK (u := 2) (pc' := 3) dX4_copy_0 rfl n_X4_10 zd_2 (fun n _ nn e9 k9 => ?_)
  have q_ha_n := zfresh nn ha
  have ha := zpres e9 (zfresh nn ha) ha
  have hn := k9
  clear k9
  have hna : n ≠ a := fun q => by rw [q, hc] at nn; cases nn
  have en := e9
  refine zW.dup (pc' := 4) dX4_copy_3 rfl rfl ?_
  refine zW.aload_n (pc' := 5) dX4_copy_4 rfl rfl zg0 rfl ?_
  refine zW.get (pc' := 8) dX4_copy_5 rfl f_X4_18_2 ha ⟨rfl, (Nat.le_of_ble_eq_true rfl)⟩ rfl ?_
  refine zW.aload_n (pc' := 9) dX4_copy_8 rfl rfl zg0 rfl ?_
  refine zW.get (pc' := 12) dX4_copy_9 rfl f_X4_21_2 ha ⟨rfl, (Nat.le_of_ble_eq_true rfl)⟩ rfl ?_
  refine zW.aload_n (pc' := 13) dX4_copy_12 rfl rfl zg0 rfl ?_
  refine zW.get (pc' := 16) dX4_copy_13 rfl f_X4_24_2 ha ⟨rfl, (Nat.le_of_ble_eq_true rfl)⟩ rfl ?_
  refine zW.aload_n (pc' := 17) dX4_copy_16 rfl rfl zg0 rfl ?_
  refine zW.get (pc' := 20) dX4_copy_17 rfl f_X4_27_2 ha ⟨rfl, (Nat.le_of_ble_eq_true rfl)⟩ rfl ?_
  refine zW.aload_n (pc' := 21) dX4_copy_20 rfl rfl zg0 rfl ?_
  refine zW.get (pc' := 24) dX4_copy_21 rfl f_X4_30_2 ha ⟨rfl, (Nat.le_of_ble_eq_true rfl)⟩ rfl ?_
  refine zW.callI (r' := 0) (pc' := 27) dX4_copy_24 rfl l_X4_33 rfl (w_clInit hn) (zcc rfl (zcc rfl (zcc rfl (zcc rfl (zcc rfl zc0))))) rfl (Nat.le_of_ble_eq_true rfl) (Nat.le_of_ble_eq_true rfl) (Nat.le_of_ble_eq_true rfl) (fun _ _ q9 => ?_) (fun _ _ q9 => absurd q9 zO.no)
  obtain ⟨_, q8, e1, e9, k9⟩ := q9
  cases q8
  subst e1
  have ha := zpres e9 q_ha_n ha
  have en := ztrk en e9
  replace hn := k9
  clear e9 k9
  have hn := cCl_l hn
  refine zW.astore_n (pc' := 28) dX4_copy_27 rfl rfl (Nat.le_of_ble_eq_true rfl) rfl (zsS (zs0)) ?_
  refine zW.aload_n (pc' := 29) dX4_copy_28 rfl rfl (zgS (zg0)) rfl ?_
  refine zW.aload_n (pc' := 30) dX4_copy_29 rfl rfl zg0 rfl ?_
  refine zW.get (pc' := 33) dX4_copy_30 rfl f_X4_9_2 ha ⟨rfl, (Nat.le_of_ble_eq_true rfl)⟩ rfl ?_
  refine zW.putK (pc' := 36) dX4_copy_33 rfl f_X4_9_2 hn ⟨⟨rfl, (Nat.le_of_ble_eq_true rfl)⟩, (Nat.le_of_ble_eq_true rfl)⟩ (zFw.of ft_2_5 rfl rfl) (zsS (zsS (zsS (zsS (zsS (zs0)))))) (fun _ e9 k9 => ?_)
  have ha := zpres e9 q_ha_n ha
  have en := ztrk en e9
  replace hn := k9
  clear e9 k9
  refine zW.aload_n (pc' := 37) dX4_copy_36 rfl rfl (zgS (zg0)) rfl ?_
  refine zW.aload_n (pc' := 38) dX4_copy_37 rfl rfl zg0 rfl ?_
  refine zW.get (pc' := 41) dX4_copy_38 rfl f_X4_15_2 ha ⟨rfl, (Nat.le_of_ble_eq_true rfl)⟩ rfl ?_
  refine zW.putK (pc' := 44) dX4_copy_41 rfl f_X4_15_2 hn ⟨⟨rfl, (Nat.le_of_ble_eq_true rfl)⟩, (Nat.le_of_ble_eq_true rfl)⟩ (zFw.of ft_2_6 rfl rfl) (zsS (zsS (zsS (zsS (zsS (zsS (zs0))))))) (fun _ e9 k9 => ?_)
  have ha := zpres e9 q_ha_n ha
  have en := ztrk en e9
  replace hn := k9
  clear e9 k9
  refine zW.aload_n (pc' := 45) dX4_copy_44 rfl rfl (zgS (zg0)) rfl ?_
  refine zW.aload_n (pc' := 46) dX4_copy_45 rfl rfl zg0 rfl ?_
  refine zW.get (pc' := 49) dX4_copy_46 rfl f_X4_36_2 ha ⟨rfl, (Nat.le_of_ble_eq_true rfl)⟩ rfl ?_
  refine zW.putK (pc' := 52) dX4_copy_49 rfl f_X4_36_2 hn ⟨⟨rfl, (Nat.le_of_ble_eq_true rfl)⟩, (Nat.le_of_ble_eq_true rfl)⟩ (zFw.of ft_2_7 rfl rfl) (zsS (zsS (zsS (zsS (zsS (zsS (zsS (zs0)))))))) (fun _ e9 k9 => ?_)
  have ha := zpres e9 q_ha_n ha
  have en := ztrk en e9
  replace hn := k9
  clear e9 k9
  refine zW.aload_n (pc' := 53) dX4_copy_52 rfl rfl (zgS (zg0)) rfl ?_
  refine zW.aret dX4_copy_53 rfl (Or.inl ⟨_, rfl⟩) rfl ?_
  exact ⟨_, rfl, n, rfl, nn, en, hn⟩
theorem w_clInterest (hc : h a = some (2, cCl c)) {p : Nat} (h6 : c 6 < 2 ^ 30) (h3 : c 3 ≤ 9999) (hp : p ≤ 20) : zK G mX4_addInterest 2 0 [.ref a, .int (nI p)] h (zPk h (some (.int (nI (if c 6 = 0 then sGrow (c 3) p - c 3 else 0)))) a (2, cCl (if c 6 = 0 then zu c 3 (sGrow (c 3) p) else c))) := by
  have ha := cCl_l hc
  have hb : c 3 * p ≤ 9999 * 20 := Nat.mul_le_mul h3 hp
  have hg := sGrow_le (w := c 3) (p := p) h3
  show zW G mX4_addInterest 2 0 0 [.ref a, .int (nI p), zho] [] h _
  refine zW.aload_n (pc' := 1) dX4_addInterest_0 rfl rfl zg0 rfl ?_
  refine zW.callV (r' := 0) (pc' := 4) dX4_addInterest_1 rfl l_X4_39 rfl ha ⟨rfl, (Nat.le_of_ble_eq_true rfl)⟩ rfl (w_clSigned hc h6) zc0 rfl (Nat.le_of_ble_eq_true rfl) (Nat.le_of_ble_eq_true rfl) (Nat.le_of_ble_eq_true rfl) (fun _ _ q9 => ?_) (fun _ _ q9 => by cases q9.1)
  obtain ⟨q8, e9⟩ := q9
  cases q8
  replace e9 := e9.symm
  subst e9
  by_cases q : c 6 = 0
  · rw [if_pos q, if_pos q, if_pos q]
    refine zW.if_eqN (pc' := 7) 9 dX4_addInterest_4 rfl (by decide) (by omega) (fun b9 => ?_) (fun b9 => absurd b9 (by omega))
    refine zW.aload_n (pc' := 10) dX4_addInterest_9 rfl rfl zg0 rfl ?_
    refine zW.get (pc' := 13) dX4_addInterest_10 rfl f_X4_27_2 ha ⟨rfl, (Nat.le_of_ble_eq_true rfl)⟩ rfl ?_
    refine zW.istore_n (pc' := 14) dX4_addInterest_13 rfl rfl (Nat.le_of_ble_eq_true rfl) (zsS (zsS (zs0))) ?_
    refine zW.aload_n (pc' := 15) dX4_addInterest_14 rfl rfl zg0 rfl ?_
    refine zW.sipush (pc' := 18) (nI 9999) dX4_addInterest_15 rfl (by decide) ?_
    refine zW.aload_n (pc' := 19) dX4_addInterest_18 rfl rfl zg0 rfl ?_
    refine zW.get (pc' := 22) dX4_addInterest_19 rfl f_X4_27_2 ha ⟨rfl, (Nat.le_of_ble_eq_true rfl)⟩ rfl ?_
    refine zW.aload_n (pc' := 23) dX4_addInterest_22 rfl rfl zg0 rfl ?_
    refine zW.get (pc' := 26) dX4_addInterest_23 rfl f_X4_27_2 ha ⟨rfl, (Nat.le_of_ble_eq_true rfl)⟩ rfl ?_
    refine zW.iload_n (pc' := 27) dX4_addInterest_26 rfl rfl (zgS (zg0)) ?_
    refine zW.imulN (pc' := 28) dX4_addInterest_27 rfl ?_
    refine zW.bipush (pc' := 30) (nI 100) dX4_addInterest_28 rfl (by decide) ?_
    refine zW.idivN (pc' := 31) dX4_addInterest_30 rfl (by omega) (by decide) (by decide) ?_
    refine zW.iaddN (pc' := 32) dX4_addInterest_31 rfl ?_
    refine zW.mmin (pc' := 35) dX4_addInterest_32 rfl (lw_all_tbl q1238) (Nat.le_of_ble_eq_true rfl) (Nat.le_of_ble_eq_true rfl) (by omega) (by omega) ?_
    have hm : min 9999 (c 3 + c 3 * p / 100) = sGrow (c 3) p := by
      unfold sGrow
      by_cases q : 9999 < c 3 + c 3 * p / 100
      · rw [if_pos q]; omega
      · rw [if_neg q]; omega
    rw [hm]
    refine zW.putK (pc' := 38) dX4_addInterest_35 rfl f_X4_27_2 ha ⟨⟨rfl, (Nat.le_of_ble_eq_true rfl)⟩, (Nat.le_of_ble_eq_true rfl)⟩ (zFw.of ft_2_3 rfl rfl) (zsS (zsS (zsS (zs0)))) (fun _ e9 k9 => ?_)
    have hq := e9
    replace ha := k9
    clear e9 k9
    refine zW.aload_n (pc' := 39) dX4_addInterest_38 rfl rfl zg0 rfl ?_
    refine zW.get (pc' := 42) dX4_addInterest_39 rfl f_X4_27_2 ha ⟨rfl, (Nat.le_of_ble_eq_true rfl)⟩ rfl ?_
    refine zW.iload_n (pc' := 43) dX4_addInterest_42 rfl rfl (zgS (zgS (zg0))) ?_
    refine zW.isubN (pc' := 44) dX4_addInterest_43 rfl (by omega) ?_
    refine zW.iret dX4_addInterest_44 rfl (rfl) ?_
    have e1 : cCl (zu c 3 (sGrow (c 3) p)) = [.int (nI (c 0)), .int (nI (c 1)), .int (nI (c 2)), .int (nI (sGrow (c 3) p)), .int (nI (c 4)), .int (nI (c 6) - 1), .int (nI (c 7) - 1), .int (nI (c 5))] := rfl
    rw [e1]
    exact ⟨_, rfl, rfl, hq, ha⟩
  · rw [if_neg q, if_neg q, if_neg q]
    refine zW.if_eqN (pc' := 7) 9 dX4_addInterest_4 rfl (by decide) (by omega) (fun b9 => absurd b9 (by omega)) (fun b9 => ?_)
    refine zW.iconst (pc' := 8) (nI 0) dX4_addInterest_7 rfl (by decide) ?_
    refine zW.iret dX4_addInterest_8 rfl (rfl) ?_
    exact ⟨_, rfl, rfl, zup_self hc, hc⟩
theorem w_clVoid (hc : h a = some (2, cCl c)) (h5 : c 5 ≤ 2) (h6 : c 6 < 2 ^ 30) (h7 : c 7 < 2 ^ 30) : zK G mX4_isVoidedByAudit 2 0 [.ref a] h (zPk h (some (.int (nI (if sStrikes c = 3 then 1 else 0)))) a (2, cCl (zu c 5 (sStrikes c)))) := by
  have ha := cCl_l hc
  have e1 : ∀ x, cCl (zu c 5 x) = [.int (nI (c 0)), .int (nI (c 1)), .int (nI (c 2)), .int (nI (c 3)), .int (nI (c 4)), .int (nI (c 6) - 1), .int (nI (c 7) - 1), .int (nI x)] := fun _ => rfl
  have fin : ∀ (h1 : zH) (x : Nat), x ≤ 3 → x = sStrikes c → h1 = zup h a (2, cCl (zu c 5 x)) → h1 a = some (2, cCl (zu c 5 x)) → zW G mX4_isVoidedByAudit 2 0 29 [.ref a] [] h1 (zPk h (some (.int (nI (if sStrikes c = 3 then 1 else 0)))) a (2, cCl (zu c 5 (sStrikes c)))) := by
    intro h1 x hx3 hx hq hc1
    have ha := cCl_l hc1
    rw [← hx]
    refine zW.aload_n (pc' := 30) dX4_isVoidedByAudit_29 rfl rfl zg0 rfl ?_
    refine zW.get (pc' := 33) dX4_isVoidedByAudit_30 rfl f_X4_36_2 ha ⟨rfl, (Nat.le_of_ble_eq_true rfl)⟩ rfl ?_
    refine zW.iconst (pc' := 34) (nI 3) dX4_isVoidedByAudit_33 rfl (by decide) ?_
    rw [show zu c 5 x 5 = x from zu_s]
    refine zW.icmp_neN (pc' := 37) 41 dX4_isVoidedByAudit_34 rfl (by decide) (by omega) (by omega) (fun b1 => ?_) (fun b1 => ?_)
    · refine zW.iconst (pc' := 42) (nI 0) dX4_isVoidedByAudit_41 rfl (by decide) ?_
      refine zW.iret dX4_isVoidedByAudit_42 rfl (rfl) ?_
      rw [if_neg b1]
      exact ⟨_, rfl, rfl, hq, hc1⟩
    · refine zW.iconst (pc' := 38) (nI 1) dX4_isVoidedByAudit_37 rfl (by decide) ?_
      refine zW.goto 42 dX4_isVoidedByAudit_38 (by decide) ?_
      refine zW.iret dX4_isVoidedByAudit_42 rfl (rfl) ?_
      rw [if_pos b1]
      exact ⟨_, rfl, rfl, hq, hc1⟩
  have mid : ∀ (h1 : zH) (x : Nat), x ≤ 3 → sStrikes c = (if c 7 = 0 then x else 0) → h1 = zup h a (2, cCl (zu c 5 x)) → h1 a = some (2, cCl (zu c 5 x)) → zW G mX4_isVoidedByAudit 2 0 17 [.ref a] [] h1 (zPk h (some (.int (nI (if sStrikes c = 3 then 1 else 0)))) a (2, cCl (zu c 5 (sStrikes c)))) := by
    intro h1 x hx3 hx hq hc1
    have ha := cCl_l hc1
    refine zW.aload_n (pc' := 18) dX4_isVoidedByAudit_17 rfl rfl zg0 rfl ?_
    refine zW.callV (r' := 0) (pc' := 21) dX4_isVoidedByAudit_18 rfl l_X4_49 rfl ha ⟨rfl, (Nat.le_of_ble_eq_true rfl)⟩ rfl (w_clCosigned hc1 h7) zc0 rfl (Nat.le_of_ble_eq_true rfl) (Nat.le_of_ble_eq_true rfl) (Nat.le_of_ble_eq_true rfl) (fun _ _ q9 => ?_) (fun _ _ q9 => by cases q9.1)
    obtain ⟨q8, e9⟩ := q9
    cases q8
    replace e9 := e9.symm
    subst e9
    rw [show zu c 5 x 7 = c 7 from zu_n (by decide)]
    by_cases q : c 7 = 0
    · rw [if_pos q] at hx ⊢
      refine zW.if_eqN (pc' := 24) 29 dX4_isVoidedByAudit_21 rfl (by decide) (by omega) (fun b9 => ?_) (fun b9 => absurd b9 (by omega))
      exact fin h1 x hx3 hx.symm hq hc1
    · rw [if_neg q] at hx ⊢
      refine zW.if_eqN (pc' := 24) 29 dX4_isVoidedByAudit_21 rfl (by decide) (by omega) (fun b9 => absurd b9 (by omega)) (fun b9 => ?_)
      refine zW.aload_n (pc' := 25) dX4_isVoidedByAudit_24 rfl rfl zg0 rfl ?_
      refine zW.iconst (pc' := 26) (nI 0) dX4_isVoidedByAudit_25 rfl (by decide) ?_
      refine zW.putK (pc' := 29) dX4_isVoidedByAudit_26 rfl f_X4_36_2 ha ⟨⟨rfl, (Nat.le_of_ble_eq_true rfl)⟩, (Nat.le_of_ble_eq_true rfl)⟩ (zFw.of ft_2_7 rfl rfl) (zsS (zsS (zsS (zsS (zsS (zsS (zsS (zs0)))))))) (fun _ e9 k9 => ?_)
      have hq := ztrk hq e9
      replace ha := k9
      clear e9 k9
      exact fin _ 0 (by decide) hx.symm hq ha
  show zW G mX4_isVoidedByAudit 2 0 0 [.ref a] [] h _
  refine zW.aload_n (pc' := 1) dX4_isVoidedByAudit_0 rfl rfl zg0 rfl ?_
  refine zW.callV (r' := 0) (pc' := 4) dX4_isVoidedByAudit_1 rfl l_X4_39 rfl ha ⟨rfl, (Nat.le_of_ble_eq_true rfl)⟩ rfl (w_clSigned hc h6) zc0 rfl (Nat.le_of_ble_eq_true rfl) (Nat.le_of_ble_eq_true rfl) (Nat.le_of_ble_eq_true rfl) (fun _ _ q9 => ?_) (fun _ _ q9 => by cases q9.1)
  obtain ⟨q8, e9⟩ := q9
  cases q8
  replace e9 := e9.symm
  subst e9
  by_cases q : c 6 = 0
  · rw [if_pos q]
    refine zW.if_neN (pc' := 7) 17 dX4_isVoidedByAudit_4 rfl (by decide) (by omega) (fun b9 => absurd b9 (by omega)) (fun b9 => ?_)
    refine zW.aload_n (pc' := 8) dX4_isVoidedByAudit_7 rfl rfl zg0 rfl ?_
    refine zW.dup (pc' := 9) dX4_isVoidedByAudit_8 rfl rfl ?_
    refine zW.get (pc' := 12) dX4_isVoidedByAudit_9 rfl f_X4_36_2 ha ⟨rfl, (Nat.le_of_ble_eq_true rfl)⟩ rfl ?_
    refine zW.iconst (pc' := 13) (nI 1) dX4_isVoidedByAudit_12 rfl (by decide) ?_
    refine zW.iaddN (pc' := 14) dX4_isVoidedByAudit_13 rfl ?_
    refine zW.putK (pc' := 17) dX4_isVoidedByAudit_14 rfl f_X4_36_2 ha ⟨⟨rfl, (Nat.le_of_ble_eq_true rfl)⟩, (Nat.le_of_ble_eq_true rfl)⟩ (zFw.of ft_2_7 rfl rfl) (zsS (zsS (zsS (zsS (zsS (zsS (zsS (zs0)))))))) (fun _ e9 k9 => ?_)
    have hq := e9
    replace ha := k9
    clear e9 k9
    refine mid _ (c 5 + 1) (by omega) ?_ hq ha
    unfold sStrikes
    by_cases q7 : c 7 = 0
    · rw [if_neg (by omega), if_neg (by omega), if_pos q7]
    · rw [if_pos (by omega), if_neg q7]
  · rw [if_neg q]
    refine zW.if_neN (pc' := 7) 17 dX4_isVoidedByAudit_4 rfl (by decide) (by omega) (fun b9 => ?_) (fun b9 => absurd b9 (by omega))
    have ez : zu c 5 (c 5) = c := by
      funext j
      unfold zu
      by_cases z : j = 5
      · rw [if_pos z, z]
      · rw [if_neg z]
    refine mid h (c 5) (by omega) ?_ (by rw [ez]; exact zup_self hc) (by rw [ez]; exact hc)
    unfold sStrikes
    by_cases q7 : c 7 = 0
    · rw [if_neg (by omega), if_pos (by omega), if_pos q7]
    · rw [if_pos (by omega), if_neg q7]
/-- the cache of small Integers, among what is known of the start -/
def zkI (G : zG) : Prop := zg_k G (zg_a G 0) = some (1105, (List.range 256).map fun i => .ref (zg_a G (1000 + i))) ∧ ∀ i, i < 256 → zg_k G (zg_a G (1000 + i)) = some (1015, [.int (Int32.ofInt ((i : Int) - 128))])
/-- an Integer's cell -/
def cInt (h : zH) (q : Nat) (k x : Nat) : Prop := h q = some (k, [.int (nI x)]) ∧ (k = 15 ∨ k = 1015)
theorem cInt.ob {q k x : Nat} (hq : cInt h q k x) : zObj (k, [.int (nI x)]) := by
  have hk : k % 1000 = 15 := by rcases hq.2 with e | e <;> subst e <;> rfl
  refine ⟨by show k % 1000 < 50; omega, (RJ21, TJ21, 1), ?_, ?_⟩
  · show zcl[k % 1000]? = _
    rw [hk]; rfl
  · exact id q3119
theorem w_intValue {q k x : Nat} (hq : cInt h q k x) : zK G mJ21_intValue 1 0 [.ref q] h (zPu h (some (.int (nI x)))) := by
  obtain ⟨hi, hk⟩ := hq
  show zW G mJ21_intValue 1 0 0 [.ref q] [] h _
  rcases hk with e | e
  · subst e
    refine zW.aload_n (pc' := 1) dJ21_intValue_0 rfl rfl zg0 rfl ?_
    refine zW.get (pc' := 4) dJ21_intValue_1 rfl f_J21_205_15 hi ⟨rfl, (Nat.le_of_ble_eq_true rfl)⟩ rfl ?_
    refine zW.iret dJ21_intValue_4 rfl (rfl) ?_
    exact ⟨rfl, rfl⟩
  · subst e
    refine zW.aload_n (pc' := 1) dJ21_intValue_0 rfl rfl zg0 rfl ?_
    refine zW.get (pc' := 4) dJ21_intValue_1 rfl f_J21_205_15 hi ⟨rfl, (Nat.le_of_ble_eq_true rfl)⟩ rfl ?_
    refine zW.iret dJ21_intValue_4 rfl (rfl) ?_
    exact ⟨rfl, rfl⟩
theorem w_valueOf (hk : zkn G h) (hI : zkI G) {x : Nat} (hx : x < 2 ^ 31) : zK G mJ21_valueOf 3 1 [.int (nI x)] h (zO fun v h' => ∃ q, v = some (.ref q) ∧ ((h' = h ∧ cInt h q 1015 x) ∨ (h q = none ∧ h' = zup h q (15, [.int (nI x)]) ∧ h' q = some (15, [.int (nI x)])))) := by
  have k0 : ∀ (h : zH) (b : Nat), zK G mJ20_init 1 0 [.ref b] h (zPu h none) := by
    intro h b
    show zW G mJ20_init 1 0 0 [.ref b] [] h _
    refine zW.aload_n (pc' := 1) dJ20_init_0 rfl rfl zg0 rfl ?_
    refine zW.objInit (pc' := 4) dJ20_init_1 rfl (lw_all_tbl q1158) (lw_all_tbl q151) (lw_all_tbl q152) (Nat.le_of_ble_eq_true rfl) (Nat.le_of_ble_eq_true rfl) ?_
    refine zW.vret dJ20_init_4 rfl ?_
    exact ⟨rfl, rfl⟩
  have k1 : ∀ (h : zH) (b : Nat), h b = some (15, [.int 0]) → zK G mJ21_init 2 0 [.ref b, .int (nI x)] h (zPk h none b (15, [.int (nI x)])) := by
    intro h b hb
    show zW G mJ21_init 2 0 0 [.ref b, .int (nI x)] [] h _
    refine zW.aload_n (pc' := 1) dJ21_init_0 rfl rfl zg0 rfl ?_
    refine zW.callI (r' := 0) (pc' := 4) dJ21_init_1 rfl l_J21_202 rfl (k0 _ _) zc0 rfl (Nat.le_of_ble_eq_true rfl) (Nat.le_of_ble_eq_true rfl) (Nat.le_of_ble_eq_true rfl) (fun _ _ q9 => ?_) (fun _ _ q9 => by cases q9.1)
    obtain ⟨q8, e9⟩ := q9
    cases q8
    replace e9 := e9.symm
    subst e9
    refine zW.aload_n (pc' := 5) dJ21_init_4 rfl rfl zg0 rfl ?_
    refine zW.iload_n (pc' := 6) dJ21_init_5 rfl rfl (zgS (zg0)) ?_
    refine zW.putK (pc' := 9) dJ21_init_6 rfl f_J21_205_15 hb ⟨⟨rfl, (Nat.le_of_ble_eq_true rfl)⟩, (Nat.le_of_ble_eq_true rfl)⟩ (zFw.fin ft_15_0 rfl rfl rfl rfl rfl) zs0 (fun _ e9 k9 => ?_)
    have hq := e9
    replace hb := k9
    clear e9 k9
    refine zW.vret dJ21_init_9 rfl ?_
    exact ⟨_, rfl, rfl, hq, hb⟩
  show zW G mJ21_valueOf 3 1 0 [.int (nI x)] [] h _
  refine zW.iload_n (pc' := 1) dJ21_valueOf_0 rfl rfl zg0 ?_
  refine zW.bipush (pc' := 3) (-128) dJ21_valueOf_1 rfl (by decide) ?_
  refine zW.icmp_lt (pc' := 6) 23 dJ21_valueOf_3 rfl (by decide) (fun b1 => ?_) (fun b1 => ?_)
  · exact absurd b1 (by
      intro z
      have z1 := Int32.lt_iff_toInt_lt.mp z
      rw [nI_toInt hx] at z1
      have : (-128 : Int32).toInt = -128 := by decide
      omega)
  refine zW.iload_n (pc' := 7) dJ21_valueOf_6 rfl rfl zg0 ?_
  refine zW.gets (pc' := 10) (j := 1) (v := .int (nI 127)) dJ21_valueOf_7 rfl rfl (lw_all_tbl q1146) ?_
  refine zW.icmp_gtN (pc' := 13) 23 dJ21_valueOf_10 rfl (by decide) (by omega) (by omega) (fun b2 => ?_) (fun b2 => ?_)
  · skip
    refine zW.newK (u := 1) (pc' := 26) dJ21_valueOf_23 rfl n_J21_1 zd_15 (fun n _ nn e9 k9 => ?_)
    have hn := k9
    clear k9
    refine zW.dup (pc' := 27) dJ21_valueOf_26 rfl rfl ?_
    refine zW.iload_n (pc' := 28) dJ21_valueOf_27 rfl rfl zg0 ?_
    have en := e9
    refine zW.callI (r' := 0) (pc' := 31) dJ21_valueOf_28 rfl l_J21_199 rfl (k1 _ _ hn) (zcc rfl zc0) rfl (Nat.le_of_ble_eq_true rfl) (Nat.le_of_ble_eq_true rfl) (Nat.le_of_ble_eq_true rfl) (fun _ _ q9 => ?_) (fun _ _ q9 => absurd q9 zO.no)
    obtain ⟨_, q8, e1, e9, k9⟩ := q9
    cases q8
    subst e1
    have en := ztrk en e9
    replace hn := k9
    clear e9 k9
    refine zW.aret dJ21_valueOf_31 rfl (Or.inl ⟨_, rfl⟩) rfl ?_
    exact ⟨_, rfl, n, rfl, Or.inr ⟨nn, en, hn⟩⟩
  · refine zW.gets (pc' := 16) (j := 2) dJ21_valueOf_13 rfl rfl (lw_all_tbl q1148) ?_
    refine zW.iload_n (pc' := 17) dJ21_valueOf_16 rfl rfl zg0 ?_
    refine zW.sipush (pc' := 20) (nI 128) dJ21_valueOf_17 rfl (by decide) ?_
    refine zW.iaddN (pc' := 21) dJ21_valueOf_20 rfl ?_
    have hc := (hk _ _ hI.1).1
    have hi := hk _ _ (hI.2 (x + 128) (by omega))
    refine zW.aald (pc' := 22) dJ21_valueOf_21 rfl hc (by decide) (nI_nn (by omega)) (v := .ref (zg_a G (1000 + (x + 128)))) (by rw [nI_cl (by omega), List.getElem?_map, List.getElem?_range (by omega)]; rfl) ?_
    refine zW.aret dJ21_valueOf_22 rfl (Or.inl ⟨_, rfl⟩) rfl ?_
    refine ⟨_, rfl, zg_a G (1000 + (x + 128)), rfl, Or.inl ⟨rfl, ?_, Or.inr rfl⟩⟩
    rw [hi.1, show (((x + 128 : Nat) : Int) - 128) = (x : Int) by omega]
    rfl
end
