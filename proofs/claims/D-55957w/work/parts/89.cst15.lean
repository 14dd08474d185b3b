/-! the lambdas' bodies -/
section
set_option maxRecDepth 100000
variable {G : zG} {h : zH} {a : Nat} {c : sC} {p q w : Int32}
theorem w_lmWt (hc : h a = some (2, cCl c)) : zK G mX2_lambda_activeWeight_0 4 0 [.ref a] h (zPu h (some (.int (nI (c 3))))) := by
  have ha := cCl_l hc
  show zW G mX2_lambda_activeWeight_0 4 0 0 [.ref a] [] h _
  refine zW.aload_n (pc' := 1) dX2_lambda_activeWeight_0_0 rfl rfl zg0 rfl ?_
  refine zW.get (pc' := 4) dX2_lambda_activeWeight_0_1 rfl f_X2_113_2 ha ⟨rfl, (Nat.le_of_ble_eq_true rfl)⟩ rfl ?_
  refine zW.iret dX2_lambda_activeWeight_0_4 rfl (rfl) ?_
  exact ⟨rfl, rfl⟩
theorem w_lmHvy (hc : h a = some (2, cCl c)) : zK G mX1_lambda_heaviest_5 4 0 [.ref a] h (zPu h (some (.int (-nI (c 3))))) := by
  have ha := cCl_l hc
  show zW G mX1_lambda_heaviest_5 4 0 0 [.ref a] [] h _
  refine zW.aload_n (pc' := 1) dX1_lambda_heaviest_5_0 rfl rfl zg0 rfl ?_
  refine zW.get (pc' := 4) dX1_lambda_heaviest_5_1 rfl f_X1_162_2 ha ⟨rfl, (Nat.le_of_ble_eq_true rfl)⟩ rfl ?_
  refine zW.ineg (pc' := 5) dX1_lambda_heaviest_5_4 rfl ?_
  refine zW.iret dX1_lambda_heaviest_5_5 rfl (rfl) ?_
  exact ⟨rfl, rfl⟩
theorem w_lmExp (hc : h a = some (2, cCl c)) : zK G mX1_expiryOf 4 0 [.ref a] h (zPu h (some (.int (nI (c 4))))) := by
  have ha := cCl_l hc
  show zW G mX1_expiryOf 4 0 0 [.ref a] [] h _
  refine zW.aload_n (pc' := 1) dX1_expiryOf_0 rfl rfl zg0 rfl ?_
  refine zW.get (pc' := 4) dX1_expiryOf_1 rfl f_X1_146_2 ha ⟨rfl, (Nat.le_of_ble_eq_true rfl)⟩ rfl ?_
  refine zW.iret dX1_expiryOf_4 rfl (rfl) ?_
  exact ⟨rfl, rfl⟩
theorem w_lmSig (hc : h a = some (2, cCl c)) : zK G mX1_lambda_signatures_0 4 0 [.int p, .ref a] h (zPu h (some (.int (nI (if decide (nI (c 6) - 1 = p) = true then 1 else 0))))) := by
  have ha := cCl_l hc
  simp only [decide_eq_true_eq]
  show zW G mX1_lambda_signatures_0 4 0 0 [.int p, .ref a] [] h _
  refine zW.aload_n (pc' := 1) dX1_lambda_signatures_0_0 rfl rfl (zgS (zg0)) rfl ?_
  refine zW.get (pc' := 4) dX1_lambda_signatures_0_1 rfl f_X1_143_2 ha ⟨rfl, (Nat.le_of_ble_eq_true rfl)⟩ rfl ?_
  refine zW.iload_n (pc' := 5) dX1_lambda_signatures_0_4 rfl rfl zg0 ?_
  refine zW.icmp_ne (pc' := 8) 12 dX1_lambda_signatures_0_5 rfl (by decide) (fun b1 => ?_) (fun b1 => ?_)
  · refine zW.iconst (pc' := 13) (nI 0) dX1_lambda_signatures_0_12 rfl (by decide) ?_
    refine zW.iret dX1_lambda_signatures_0_13 rfl (rfl) ?_
    rw [if_neg b1]
    exact ⟨rfl, rfl⟩
  · refine zW.iconst (pc' := 9) (nI 1) dX1_lambda_signatures_0_8 rfl (by decide) ?_
    refine zW.goto 13 dX1_lambda_signatures_0_9 (by decide) ?_
    refine zW.iret dX1_lambda_signatures_0_13 rfl (rfl) ?_
    rw [if_pos (b1)]
    exact ⟨rfl, rfl⟩
theorem w_lmCos (hc : h a = some (2, cCl c)) : zK G mX1_lambda_countersignatures_1 4 0 [.int p, .ref a] h (zPu h (some (.int (nI (if decide (nI (c 7) - 1 = p) = true then 1 else 0))))) := by
  have ha := cCl_l hc
  simp only [decide_eq_true_eq]
  show zW G mX1_lambda_countersignatures_1 4 0 0 [.int p, .ref a] [] h _
  refine zW.aload_n (pc' := 1) dX1_lambda_countersignatures_1_0 rfl rfl (zgS (zg0)) rfl ?_
  refine zW.get (pc' := 4) dX1_lambda_countersignatures_1_1 rfl f_X1_155_2 ha ⟨rfl, (Nat.le_of_ble_eq_true rfl)⟩ rfl ?_
  refine zW.iload_n (pc' := 5) dX1_lambda_countersignatures_1_4 rfl rfl zg0 ?_
  refine zW.icmp_ne (pc' := 8) 12 dX1_lambda_countersignatures_1_5 rfl (by decide) (fun b1 => ?_) (fun b1 => ?_)
  · refine zW.iconst (pc' := 13) (nI 0) dX1_lambda_countersignatures_1_12 rfl (by decide) ?_
    refine zW.iret dX1_lambda_countersignatures_1_13 rfl (rfl) ?_
    rw [if_neg b1]
    exact ⟨rfl, rfl⟩
  · refine zW.iconst (pc' := 9) (nI 1) dX1_lambda_countersignatures_1_8 rfl (by decide) ?_
    refine zW.goto 13 dX1_lambda_countersignatures_1_9 (by decide) ?_
    refine zW.iret dX1_lambda_countersignatures_1_13 rfl (rfl) ?_
    rw [if_pos (b1)]
    exact ⟨rfl, rfl⟩
theorem w_lmLim (hc : h a = some (2, cCl c)) : zK G mX1_lambda_expiringByComparison_10 4 0 [.int p, .ref a] h (zPu h (some (.int (nI (if decide (nI (c 4) ≤ p) = true then 1 else 0))))) := by
  have ha := cCl_l hc
  simp only [decide_eq_true_eq]
  show zW G mX1_lambda_expiringByComparison_10 4 0 0 [.int p, .ref a] [] h _
  refine zW.aload_n (pc' := 1) dX1_lambda_expiringByComparison_10_0 rfl rfl (zgS (zg0)) rfl ?_
  refine zW.get (pc' := 4) dX1_lambda_expiringByComparison_10_1 rfl f_X1_146_2 ha ⟨rfl, (Nat.le_of_ble_eq_true rfl)⟩ rfl ?_
  refine zW.iload_n (pc' := 5) dX1_lambda_expiringByComparison_10_4 rfl rfl zg0 ?_
  refine zW.icmp_gt (pc' := 8) 12 dX1_lambda_expiringByComparison_10_5 rfl (by decide) (fun b1 => ?_) (fun b1 => ?_)
  · refine zW.iconst (pc' := 13) (nI 0) dX1_lambda_expiringByComparison_10_12 rfl (by decide) ?_
    refine zW.iret dX1_lambda_expiringByComparison_10_13 rfl (rfl) ?_
    rw [if_neg (fun z => Int32.not_le.mpr b1 z)]
    exact ⟨rfl, rfl⟩
  · refine zW.iconst (pc' := 9) (nI 1) dX1_lambda_expiringByComparison_10_8 rfl (by decide) ?_
    refine zW.goto 13 dX1_lambda_expiringByComparison_10_9 (by decide) ?_
    refine zW.iret dX1_lambda_expiringByComparison_10_13 rfl (rfl) ?_
    rw [if_pos (Int32.not_lt.mp b1)]
    exact ⟨rfl, rfl⟩
theorem w_lmBy (hc : h a = some (2, cCl c)) : zK G mX1_lambda_owedBy_2 4 0 [.int p, .ref a] h (zPu h (some (.int (if nI (c 1) = p then nI (c 3) else 0)))) := by
  have ha := cCl_l hc
  show zW G mX1_lambda_owedBy_2 4 0 0 [.int p, .ref a] [] h _
  refine zW.aload_n (pc' := 1) dX1_lambda_owedBy_2_0 rfl rfl (zgS (zg0)) rfl ?_
  refine zW.get (pc' := 4) dX1_lambda_owedBy_2_1 rfl f_X1_197_2 ha ⟨rfl, (Nat.le_of_ble_eq_true rfl)⟩ rfl ?_
  refine zW.iload_n (pc' := 5) dX1_lambda_owedBy_2_4 rfl rfl zg0 ?_
  refine zW.icmp_ne (pc' := 8) 15 dX1_lambda_owedBy_2_5 rfl (by decide) (fun b1 => ?_) (fun b1 => ?_)
  · refine zW.iconst (pc' := 16) (nI 0) dX1_lambda_owedBy_2_15 rfl (by decide) ?_
    refine zW.iret dX1_lambda_owedBy_2_16 rfl (rfl) ?_
    rw [if_neg b1]
    exact ⟨rfl, rfl⟩
  · refine zW.aload_n (pc' := 9) dX1_lambda_owedBy_2_8 rfl rfl (zgS (zg0)) rfl ?_
    refine zW.get (pc' := 12) dX1_lambda_owedBy_2_9 rfl f_X1_162_2 ha ⟨rfl, (Nat.le_of_ble_eq_true rfl)⟩ rfl ?_
    refine zW.goto 16 dX1_lambda_owedBy_2_12 (by decide) ?_
    refine zW.iret dX1_lambda_owedBy_2_16 rfl (rfl) ?_
    rw [if_pos (b1)]
    exact ⟨rfl, rfl⟩
theorem w_lmTo (hc : h a = some (2, cCl c)) : zK G mX1_lambda_owedTo_3 4 0 [.int p, .ref a] h (zPu h (some (.int (if nI (c 2) = p then nI (c 3) else 0)))) := by
  have ha := cCl_l hc
  show zW G mX1_lambda_owedTo_3 4 0 0 [.int p, .ref a] [] h _
  refine zW.aload_n (pc' := 1) dX1_lambda_owedTo_3_0 rfl rfl (zgS (zg0)) rfl ?_
  refine zW.get (pc' := 4) dX1_lambda_owedTo_3_1 rfl f_X1_200_2 ha ⟨rfl, (Nat.le_of_ble_eq_true rfl)⟩ rfl ?_
  refine zW.iload_n (pc' := 5) dX1_lambda_owedTo_3_4 rfl rfl zg0 ?_
  refine zW.icmp_ne (pc' := 8) 15 dX1_lambda_owedTo_3_5 rfl (by decide) (fun b1 => ?_) (fun b1 => ?_)
  · refine zW.iconst (pc' := 16) (nI 0) dX1_lambda_owedTo_3_15 rfl (by decide) ?_
    refine zW.iret dX1_lambda_owedTo_3_16 rfl (rfl) ?_
    rw [if_neg b1]
    exact ⟨rfl, rfl⟩
  · refine zW.aload_n (pc' := 9) dX1_lambda_owedTo_3_8 rfl rfl (zgS (zg0)) rfl ?_
    refine zW.get (pc' := 12) dX1_lambda_owedTo_3_9 rfl f_X1_162_2 ha ⟨rfl, (Nat.le_of_ble_eq_true rfl)⟩ rfl ?_
    refine zW.goto 16 dX1_lambda_owedTo_3_12 (by decide) ?_
    refine zW.iret dX1_lambda_owedTo_3_16 rfl (rfl) ?_
    rw [if_pos (b1)]
    exact ⟨rfl, rfl⟩
abbrev cSgn (c : sC) (p : Int32) : Int32 := if nI (c 2) = p then 1 else if nI (c 1) = p then -1 else 0
theorem w_signOf (hc : h a = some (2, cCl c)) : zK G mX1_signOf 3 0 [.ref a, .int p] h (zPu h (some (.int (cSgn c p)))) := by
  have ha := cCl_l hc
  unfold cSgn
  show zW G mX1_signOf 3 0 0 [.ref a, .int p] [] h _
  refine zW.aload_n (pc' := 1) dX1_signOf_0 rfl rfl zg0 rfl ?_
  refine zW.get (pc' := 4) dX1_signOf_1 rfl f_X1_200_2 ha ⟨rfl, (Nat.le_of_ble_eq_true rfl)⟩ rfl ?_
  refine zW.iload_n (pc' := 5) dX1_signOf_4 rfl rfl (zgS (zg0)) ?_
  refine zW.icmp_ne (pc' := 8) 10 dX1_signOf_5 rfl (by decide) (fun b1 => ?_) (fun b1 => ?_)
  · rw [if_neg b1]
    refine zW.aload_n (pc' := 11) dX1_signOf_10 rfl rfl zg0 rfl ?_
    refine zW.get (pc' := 14) dX1_signOf_11 rfl f_X1_197_2 ha ⟨rfl, (Nat.le_of_ble_eq_true rfl)⟩ rfl ?_
    refine zW.iload_n (pc' := 15) dX1_signOf_14 rfl rfl (zgS (zg0)) ?_
    refine zW.icmp_ne (pc' := 18) 22 dX1_signOf_15 rfl (by decide) (fun b2 => ?_) (fun b2 => ?_)
    · rw [if_neg b2]
      refine zW.iconst (pc' := 23) (nI 0) dX1_signOf_22 rfl (by decide) ?_
      refine zW.iret dX1_signOf_23 rfl (rfl) ?_
      exact ⟨rfl, rfl⟩
    · rw [if_pos (b2)]
      refine zW.iconst (pc' := 19) (-1) dX1_signOf_18 rfl (by decide) ?_
      refine zW.goto 23 dX1_signOf_19 (by decide) ?_
      refine zW.iret dX1_signOf_23 rfl (rfl) ?_
      exact ⟨rfl, rfl⟩
  · rw [if_pos (b1)]
    refine zW.iconst (pc' := 9) (nI 1) dX1_signOf_8 rfl (by decide) ?_
    refine zW.iret dX1_signOf_9 rfl (rfl) ?_
    exact ⟨rfl, rfl⟩
theorem w_lmBal (hc : h a = some (2, cCl c)) : zK G mX1_lambda_balanceOf_4 4 0 [.int p, .ref a] h (zPu h (some (.int (cSgn c p * nI (c 3))))) := by
  have ha := cCl_l hc
  show zW G mX1_lambda_balanceOf_4 4 0 0 [.int p, .ref a] [] h _
  refine zW.aload_n (pc' := 1) dX1_lambda_balanceOf_4_0 rfl rfl (zgS (zg0)) rfl ?_
  refine zW.iload_n (pc' := 2) dX1_lambda_balanceOf_4_1 rfl rfl zg0 ?_
  refine zW.callS (r' := 0) (pc' := 5) dX1_lambda_balanceOf_4_2 rfl l_X1_462 rfl (w_signOf (p := p) hc) (zcc rfl (zcc rfl zc0)) rfl (Nat.le_of_ble_eq_true rfl) (Nat.le_of_ble_eq_true rfl) (Nat.le_of_ble_eq_true rfl) (fun _ _ q9 => ?_) (fun _ _ q9 => by cases q9.1)
  obtain ⟨q8, e9⟩ := q9
  cases q8
  replace e9 := e9.symm
  subst e9
  refine zW.aload_n (pc' := 6) dX1_lambda_balanceOf_4_5 rfl rfl (zgS (zg0)) rfl ?_
  refine zW.get (pc' := 9) dX1_lambda_balanceOf_4_6 rfl f_X1_162_2 ha ⟨rfl, (Nat.le_of_ble_eq_true rfl)⟩ rfl ?_
  refine zW.imul (pc' := 10) dX1_lambda_balanceOf_4_9 rfl ?_
  refine zW.iret dX1_lambda_balanceOf_4_10 rfl (rfl) ?_
  exact ⟨rfl, rfl⟩
theorem w_lmOwed (hc : h a = some (2, cCl c)) : zK G mX1_lambda_isOwed_6 4 0 [.int p, .int q, .ref a] h (zPu h (some (.int (nI (if decide (nI (c 1) = p ∧ nI (c 2) = q) = true then 1 else 0))))) := by
  have ha := cCl_l hc
  simp only [decide_eq_true_eq]
  show zW G mX1_lambda_isOwed_6 4 0 0 [.int p, .int q, .ref a] [] h _
  refine zW.aload_n (pc' := 1) dX1_lambda_isOwed_6_0 rfl rfl (zgS (zgS (zg0))) rfl ?_
  refine zW.get (pc' := 4) dX1_lambda_isOwed_6_1 rfl f_X1_197_2 ha ⟨rfl, (Nat.le_of_ble_eq_true rfl)⟩ rfl ?_
  refine zW.iload_n (pc' := 5) dX1_lambda_isOwed_6_4 rfl rfl zg0 ?_
  refine zW.icmp_ne (pc' := 8) 20 dX1_lambda_isOwed_6_5 rfl (by decide) (fun b1 => ?_) (fun b1 => ?_)
  · refine zW.iconst (pc' := 21) (nI 0) dX1_lambda_isOwed_6_20 rfl (by decide) ?_
    refine zW.iret dX1_lambda_isOwed_6_21 rfl (rfl) ?_
    rw [if_neg (fun z => b1 z.1)]
    exact ⟨rfl, rfl⟩
  · refine zW.aload_n (pc' := 9) dX1_lambda_isOwed_6_8 rfl rfl (zgS (zgS (zg0))) rfl ?_
    refine zW.get (pc' := 12) dX1_lambda_isOwed_6_9 rfl f_X1_200_2 ha ⟨rfl, (Nat.le_of_ble_eq_true rfl)⟩ rfl ?_
    refine zW.iload_n (pc' := 13) dX1_lambda_isOwed_6_12 rfl rfl (zgS (zg0)) ?_
    refine zW.icmp_ne (pc' := 16) 20 dX1_lambda_isOwed_6_13 rfl (by decide) (fun b2 => ?_) (fun b2 => ?_)
    · refine zW.iconst (pc' := 21) (nI 0) dX1_lambda_isOwed_6_20 rfl (by decide) ?_
      refine zW.iret dX1_lambda_isOwed_6_21 rfl (rfl) ?_
      rw [if_neg (fun z => b2 z.2)]
      exact ⟨rfl, rfl⟩
    · refine zW.iconst (pc' := 17) (nI 1) dX1_lambda_isOwed_6_16 rfl (by decide) ?_
      refine zW.goto 21 dX1_lambda_isOwed_6_17 (by decide) ?_
      refine zW.iret dX1_lambda_isOwed_6_21 rfl (rfl) ?_
      rw [if_pos ⟨b1, b2⟩]
      exact ⟨rfl, rfl⟩
theorem w_lmPr7 (hc : h a = some (2, cCl c)) : zK G mX1_lambda_pairBalance_7 4 0 [.int p, .int q, .ref a] h (zPu h (some (.int (if nI (c 1) = p ∧ nI (c 2) = q then nI (c 3) else 0)))) := by
  have ha := cCl_l hc
  show zW G mX1_lambda_pairBalance_7 4 0 0 [.int p, .int q, .ref a] [] h _
  refine zW.aload_n (pc' := 1) dX1_lambda_pairBalance_7_0 rfl rfl (zgS (zgS (zg0))) rfl ?_
  refine zW.get (pc' := 4) dX1_lambda_pairBalance_7_1 rfl f_X1_197_2 ha ⟨rfl, (Nat.le_of_ble_eq_true rfl)⟩ rfl ?_
  refine zW.iload_n (pc' := 5) dX1_lambda_pairBalance_7_4 rfl rfl zg0 ?_
  refine zW.icmp_ne (pc' := 8) 23 dX1_lambda_pairBalance_7_5 rfl (by decide) (fun b1 => ?_) (fun b1 => ?_)
  · refine zW.iconst (pc' := 24) (nI 0) dX1_lambda_pairBalance_7_23 rfl (by decide) ?_
    refine zW.iret dX1_lambda_pairBalance_7_24 rfl (rfl) ?_
    rw [if_neg (fun z => b1 z.1)]
    exact ⟨rfl, rfl⟩
  · refine zW.aload_n (pc' := 9) dX1_lambda_pairBalance_7_8 rfl rfl (zgS (zgS (zg0))) rfl ?_
    refine zW.get (pc' := 12) dX1_lambda_pairBalance_7_9 rfl f_X1_200_2 ha ⟨rfl, (Nat.le_of_ble_eq_true rfl)⟩ rfl ?_
    refine zW.iload_n (pc' := 13) dX1_lambda_pairBalance_7_12 rfl rfl (zgS (zg0)) ?_
    refine zW.icmp_ne (pc' := 16) 23 dX1_lambda_pairBalance_7_13 rfl (by decide) (fun b2 => ?_) (fun b2 => ?_)
    · refine zW.iconst (pc' := 24) (nI 0) dX1_lambda_pairBalance_7_23 rfl (by decide) ?_
      refine zW.iret dX1_lambda_pairBalance_7_24 rfl (rfl) ?_
      rw [if_neg (fun z => b2 z.2)]
      exact ⟨rfl, rfl⟩
    · refine zW.aload_n (pc' := 17) dX1_lambda_pairBalance_7_16 rfl rfl (zgS (zgS (zg0))) rfl ?_
      refine zW.get (pc' := 20) dX1_lambda_pairBalance_7_17 rfl f_X1_162_2 ha ⟨rfl, (Nat.le_of_ble_eq_true rfl)⟩ rfl ?_
      refine zW.goto 24 dX1_lambda_pairBalance_7_20 (by decide) ?_
      refine zW.iret dX1_lambda_pairBalance_7_24 rfl (rfl) ?_
      rw [if_pos ⟨b1, b2⟩]
      exact ⟨rfl, rfl⟩
theorem w_lmPr8 (hc : h a = some (2, cCl c)) : zK G mX1_lambda_pairBalance_8 4 0 [.int p, .int q, .ref a] h (zPu h (some (.int (if nI (c 1) = p ∧ nI (c 2) = q then nI (c 3) else 0)))) := by
  have ha := cCl_l hc
  show zW G mX1_lambda_pairBalance_8 4 0 0 [.int p, .int q, .ref a] [] h _
  refine zW.aload_n (pc' := 1) dX1_lambda_pairBalance_8_0 rfl rfl (zgS (zgS (zg0))) rfl ?_
  refine zW.get (pc' := 4) dX1_lambda_pairBalance_8_1 rfl f_X1_197_2 ha ⟨rfl, (Nat.le_of_ble_eq_true rfl)⟩ rfl ?_
  refine zW.iload_n (pc' := 5) dX1_lambda_pairBalance_8_4 rfl rfl zg0 ?_
  refine zW.icmp_ne (pc' := 8) 23 dX1_lambda_pairBalance_8_5 rfl (by decide) (fun b1 => ?_) (fun b1 => ?_)
  · refine zW.iconst (pc' := 24) (nI 0) dX1_lambda_pairBalance_8_23 rfl (by decide) ?_
    refine zW.iret dX1_lambda_pairBalance_8_24 rfl (rfl) ?_
    rw [if_neg (fun z => b1 z.1)]
    exact ⟨rfl, rfl⟩
  · refine zW.aload_n (pc' := 9) dX1_lambda_pairBalance_8_8 rfl rfl (zgS (zgS (zg0))) rfl ?_
    refine zW.get (pc' := 12) dX1_lambda_pairBalance_8_9 rfl f_X1_200_2 ha ⟨rfl, (Nat.le_of_ble_eq_true rfl)⟩ rfl ?_
    refine zW.iload_n (pc' := 13) dX1_lambda_pairBalance_8_12 rfl rfl (zgS (zg0)) ?_
    refine zW.icmp_ne (pc' := 16) 23 dX1_lambda_pairBalance_8_13 rfl (by decide) (fun b2 => ?_) (fun b2 => ?_)
    · refine zW.iconst (pc' := 24) (nI 0) dX1_lambda_pairBalance_8_23 rfl (by decide) ?_
      refine zW.iret dX1_lambda_pairBalance_8_24 rfl (rfl) ?_
      rw [if_neg (fun z => b2 z.2)]
      exact ⟨rfl, rfl⟩
    · refine zW.aload_n (pc' := 17) dX1_lambda_pairBalance_8_16 rfl rfl (zgS (zgS (zg0))) rfl ?_
      refine zW.get (pc' := 20) dX1_lambda_pairBalance_8_17 rfl f_X1_162_2 ha ⟨rfl, (Nat.le_of_ble_eq_true rfl)⟩ rfl ?_
      refine zW.goto 24 dX1_lambda_pairBalance_8_20 (by decide) ?_
      refine zW.iret dX1_lambda_pairBalance_8_24 rfl (rfl) ?_
      rw [if_pos ⟨b1, b2⟩]
      exact ⟨rfl, rfl⟩
/-- c stands ahead of e in the order by expiry -/
abbrev cLt (c e : sC) : Prop := c 4 < e 4 ∨ c 4 = e 4 ∧ (e 3 < c 3 ∨ e 3 = c 3 ∧ c 0 < e 0)
theorem w_expB {b : Nat} {e : sC} (hc : h a = some (2, cCl c)) (he : h b = some (2, cCl e)) (hb : (c 0 < 2 ^ 30 ∧ c 3 < 2 ^ 30 ∧ c 4 < 2 ^ 30) ∧ (e 0 < 2 ^ 30 ∧ e 3 < 2 ^ 30 ∧ e 4 < 2 ^ 30)) : zK G mX1_expiresBefore 3 0 [.ref a, .ref b] h (zPu h (some (.int (nI (if decide (cLt c e) = true then 1 else 0))))) := by
  have ha := cCl_l hc
  have hf := cCl_l he
  simp only [decide_eq_true_eq]
  unfold cLt
  show zW G mX1_expiresBefore 3 0 0 [.ref a, .ref b] [] h _
  refine zW.aload_n (pc' := 1) dX1_expiresBefore_0 rfl rfl zg0 rfl ?_
  refine zW.get (pc' := 4) dX1_expiresBefore_1 rfl f_X1_146_2 ha ⟨rfl, (Nat.le_of_ble_eq_true rfl)⟩ rfl ?_
  refine zW.aload_n (pc' := 5) dX1_expiresBefore_4 rfl rfl (zgS (zg0)) rfl ?_
  refine zW.get (pc' := 8) dX1_expiresBefore_5 rfl f_X1_146_2 hf ⟨rfl, (Nat.le_of_ble_eq_true rfl)⟩ rfl ?_
  refine zW.icmp_eqN (pc' := 11) 28 dX1_expiresBefore_8 rfl (by decide) (by omega) (by omega) (fun b1 => ?_) (fun b1 => ?_)
  · refine zW.aload_n (pc' := 29) dX1_expiresBefore_28 rfl rfl zg0 rfl ?_
    refine zW.get (pc' := 32) dX1_expiresBefore_29 rfl f_X1_162_2 ha ⟨rfl, (Nat.le_of_ble_eq_true rfl)⟩ rfl ?_
    refine zW.aload_n (pc' := 33) dX1_expiresBefore_32 rfl rfl (zgS (zg0)) rfl ?_
    refine zW.get (pc' := 36) dX1_expiresBefore_33 rfl f_X1_162_2 hf ⟨rfl, (Nat.le_of_ble_eq_true rfl)⟩ rfl ?_
    refine zW.icmp_eqN (pc' := 39) 56 dX1_expiresBefore_36 rfl (by decide) (by omega) (by omega) (fun b2 => ?_) (fun b2 => ?_)
    · refine zW.aload_n (pc' := 57) dX1_expiresBefore_56 rfl rfl zg0 rfl ?_
      refine zW.get (pc' := 60) dX1_expiresBefore_57 rfl f_X1_194_2 ha ⟨rfl, (Nat.le_of_ble_eq_true rfl)⟩ rfl ?_
      refine zW.aload_n (pc' := 61) dX1_expiresBefore_60 rfl rfl (zgS (zg0)) rfl ?_
      refine zW.get (pc' := 64) dX1_expiresBefore_61 rfl f_X1_194_2 hf ⟨rfl, (Nat.le_of_ble_eq_true rfl)⟩ rfl ?_
      refine zW.icmp_geN (pc' := 67) 71 dX1_expiresBefore_64 rfl (by decide) (by omega) (by omega) (fun b3 => ?_) (fun b3 => ?_)
      · refine zW.iconst (pc' := 72) (nI 0) dX1_expiresBefore_71 rfl (by decide) ?_
        refine zW.iret dX1_expiresBefore_72 rfl (rfl) ?_
        rw [if_neg (by omega)]
        exact ⟨rfl, rfl⟩
      · refine zW.iconst (pc' := 68) (nI 1) dX1_expiresBefore_67 rfl (by decide) ?_
        refine zW.goto 72 dX1_expiresBefore_68 (by decide) ?_
        refine zW.iret dX1_expiresBefore_72 rfl (rfl) ?_
        rw [if_pos (by omega)]
        exact ⟨rfl, rfl⟩
    · refine zW.aload_n (pc' := 40) dX1_expiresBefore_39 rfl rfl zg0 rfl ?_
      refine zW.get (pc' := 43) dX1_expiresBefore_40 rfl f_X1_162_2 ha ⟨rfl, (Nat.le_of_ble_eq_true rfl)⟩ rfl ?_
      refine zW.aload_n (pc' := 44) dX1_expiresBefore_43 rfl rfl (zgS (zg0)) rfl ?_
      refine zW.get (pc' := 47) dX1_expiresBefore_44 rfl f_X1_162_2 hf ⟨rfl, (Nat.le_of_ble_eq_true rfl)⟩ rfl ?_
      refine zW.icmp_leN (pc' := 50) 54 dX1_expiresBefore_47 rfl (by decide) (by omega) (by omega) (fun b3 => ?_) (fun b3 => ?_)
      · refine zW.iconst (pc' := 55) (nI 0) dX1_expiresBefore_54 rfl (by decide) ?_
        refine zW.iret dX1_expiresBefore_55 rfl (rfl) ?_
        rw [if_neg (by omega)]
        exact ⟨rfl, rfl⟩
      · refine zW.iconst (pc' := 51) (nI 1) dX1_expiresBefore_50 rfl (by decide) ?_
        refine zW.goto 55 dX1_expiresBefore_51 (by decide) ?_
        refine zW.iret dX1_expiresBefore_55 rfl (rfl) ?_
        rw [if_pos (by omega)]
        exact ⟨rfl, rfl⟩
  · refine zW.aload_n (pc' := 12) dX1_expiresBefore_11 rfl rfl zg0 rfl ?_
    refine zW.get (pc' := 15) dX1_expiresBefore_12 rfl f_X1_146_2 ha ⟨rfl, (Nat.le_of_ble_eq_true rfl)⟩ rfl ?_
    refine zW.aload_n (pc' := 16) dX1_expiresBefore_15 rfl rfl (zgS (zg0)) rfl ?_
    refine zW.get (pc' := 19) dX1_expiresBefore_16 rfl f_X1_146_2 hf ⟨rfl, (Nat.le_of_ble_eq_true rfl)⟩ rfl ?_
    refine zW.icmp_geN (pc' := 22) 26 dX1_expiresBefore_19 rfl (by decide) (by omega) (by omega) (fun b3 => ?_) (fun b3 => ?_)
    · refine zW.iconst (pc' := 27) (nI 0) dX1_expiresBefore_26 rfl (by decide) ?_
      refine zW.iret dX1_expiresBefore_27 rfl (rfl) ?_
      rw [if_neg (by omega)]
      exact ⟨rfl, rfl⟩
    · refine zW.iconst (pc' := 23) (nI 1) dX1_expiresBefore_22 rfl (by decide) ?_
      refine zW.goto 27 dX1_expiresBefore_23 (by decide) ?_
      refine zW.iret dX1_expiresBefore_27 rfl (rfl) ?_
      rw [if_pos (by omega)]
      exact ⟨rfl, rfl⟩
theorem w_lmRank {b : Nat} {e : sC} (he : h b = some (2, cCl e)) (hc : h a = some (2, cCl c)) (hb : (c 0 < 2 ^ 30 ∧ c 3 < 2 ^ 30 ∧ c 4 < 2 ^ 30) ∧ (e 0 < 2 ^ 30 ∧ e 3 < 2 ^ 30 ∧ e 4 < 2 ^ 30)) : zK G mX1_lambda_expiryRank_9 4 0 [.ref b, .ref a] h (zPu h (some (.int (nI (if decide (cLt c e) = true then 1 else 0))))) := by
  show zW G mX1_lambda_expiryRank_9 4 0 0 [.ref b, .ref a] [] h _
  refine zW.aload_n (pc' := 1) dX1_lambda_expiryRank_9_0 rfl rfl (zgS (zg0)) rfl ?_
  refine zW.aload_n (pc' := 2) dX1_lambda_expiryRank_9_1 rfl rfl zg0 rfl ?_
  refine zW.callS (r' := 0) (pc' := 5) dX1_lambda_expiryRank_9_2 rfl l_X1_287 rfl (w_expB hc he hb) (zcc rfl (zcc rfl zc0)) rfl (Nat.le_of_ble_eq_true rfl) (Nat.le_of_ble_eq_true rfl) (Nat.le_of_ble_eq_true rfl) (fun _ _ q9 => ?_) (fun _ _ q9 => by cases q9.1)
  obtain ⟨q8, e9⟩ := q9
  cases q8
  replace e9 := e9.symm
  subst e9
  refine zW.iret dX1_lambda_expiryRank_9_5 rfl (by split <;> rfl) ?_
  exact ⟨rfl, rfl⟩
end
