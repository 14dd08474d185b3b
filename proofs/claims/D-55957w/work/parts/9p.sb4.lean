/-! StringBuilder: append of a number -/
section
set_option maxRecDepth 100000
variable {G : zG} {h h' h1 : zH} {a v k f : Nat} {l : List Nat}
theorem nN10 : (-10 : Int32) = - nI (10 ^ 1) := by decide
theorem nN100 : (-100 : Int32) = - nI 100 := by decide
theorem nN9 : (-9 : Int32) = - nI 9 := by decide
theorem w_strSz (hf : f ≤ 5) (hk : k < 10 ^ (f + 1)) : zK G mJ21_stringSize 1 0 [.int (nI k)] h (zPu h (some (.int (nI (sDec f k).length)))) := by
  have h6 : 10 ^ (f + 1) ≤ 10 ^ 6 := Nat.pow_le_pow_right (by decide) (by omega)
  have loop : ∀ (m i : Nat), i + m = f + 1 → 1 ≤ i → (i = 1 ∨ 10 ^ (i - 1) ≤ k) → zW G mJ21_stringSize 1 0 16 [.int (- nI k), .int (nI 0), .int (- nI (10 ^ i)), .int (nI i)] [] h (zPu h (some (.int (nI (sDec f k).length)))) := by
    intro m
    induction m with
    | zero =>
      intro i e1 h1 h2
      have e : i = f + 1 := by omega
      refine zW.iload_n (pc' := 17) dJ21_stringSize_16 rfl rfl (zgS (zgS (zgS (zg0)))) ?_
      refine zW.bipush (pc' := 19) (nI 10) dJ21_stringSize_17 rfl (by decide) ?_
      refine zW.icmp_geN (pc' := 22) 42 dJ21_stringSize_19 rfl (by decide) (by omega) (by omega) (fun b9 => absurd b9 (by omega)) (fun b9 => ?_)
      refine zW.iload_n (pc' := 23) dJ21_stringSize_22 rfl rfl zg0 ?_
      refine zW.iload_n (pc' := 24) dJ21_stringSize_23 rfl rfl (zgS (zgS (zg0))) ?_
      refine zW.icmp_le (pc' := 27) 31 dJ21_stringSize_24 rfl (by decide) (fun b1 => ?_) (fun b1 => ?_)
      · exact absurd ((nN_le (by omega) (by rw [e]; omega)).mp b1) (by rw [e]; omega)
      refine zW.iload_n (pc' := 28) dJ21_stringSize_27 rfl rfl (zgS (zgS (zgS (zg0)))) ?_
      refine zW.iload_n (pc' := 29) dJ21_stringSize_28 rfl rfl (zgS (zg0)) ?_
      refine zW.iaddN (pc' := 30) dJ21_stringSize_29 rfl ?_
      refine zW.iret dJ21_stringSize_30 rfl (rfl) ?_
      rw [sDec_lenE h1 (by omega) (by rw [e]; exact hk) h2, Nat.add_zero]
      exact ⟨rfl, rfl⟩
    | succ m ih =>
      intro i e1 h1 h2
      have hp : 10 ^ i ≤ 10 ^ 5 := Nat.pow_le_pow_right (by decide) (by omega)
      refine zW.iload_n (pc' := 17) dJ21_stringSize_16 rfl rfl (zgS (zgS (zgS (zg0)))) ?_
      refine zW.bipush (pc' := 19) (nI 10) dJ21_stringSize_17 rfl (by decide) ?_
      refine zW.icmp_geN (pc' := 22) 42 dJ21_stringSize_19 rfl (by decide) (by omega) (by omega) (fun b9 => absurd b9 (by omega)) (fun b9 => ?_)
      refine zW.iload_n (pc' := 23) dJ21_stringSize_22 rfl rfl zg0 ?_
      refine zW.iload_n (pc' := 24) dJ21_stringSize_23 rfl rfl (zgS (zgS (zg0))) ?_
      refine zW.icmp_le (pc' := 27) 31 dJ21_stringSize_24 rfl (by decide) (fun b1 => ?_) (fun b1 => ?_)
      · have q := (nN_le (by omega) (by omega)).mp b1
        refine zW.bipush (pc' := 33) (nI 10) dJ21_stringSize_31 rfl (by decide) ?_
        refine zW.iload_n (pc' := 34) dJ21_stringSize_33 rfl rfl (zgS (zgS (zg0))) ?_
        refine zW.imul (pc' := 35) dJ21_stringSize_34 rfl ?_
        rw [nN_mul10, show 10 * 10 ^ i = 10 ^ (i + 1) by rw [Nat.pow_succ, Nat.mul_comm]]
        refine zW.istore_n (pc' := 36) dJ21_stringSize_35 rfl rfl (Nat.le_of_ble_eq_true rfl) (zsS (zsS (zs0))) ?_
        refine zW.iincN (pc' := 39) (n := 1) dJ21_stringSize_36 rfl (Nat.le_of_ble_eq_true rfl) (zgS (zgS (zgS (zg0)))) (zsS (zsS (zsS (zs0)))) ?_
        refine zW.goto 16 dJ21_stringSize_39 (by decide) ?_
        exact ih (i + 1) (by omega) (by omega) (Or.inr q)
      · have q : ¬ 10 ^ i ≤ k := fun q => b1 ((nN_le (by omega) (by omega)).mpr q)
        refine zW.iload_n (pc' := 28) dJ21_stringSize_27 rfl rfl (zgS (zgS (zgS (zg0)))) ?_
        refine zW.iload_n (pc' := 29) dJ21_stringSize_28 rfl rfl (zgS (zg0)) ?_
        refine zW.iaddN (pc' := 30) dJ21_stringSize_29 rfl ?_
        refine zW.iret dJ21_stringSize_30 rfl (rfl) ?_
        rw [sDec_lenE h1 (by omega) (by omega) h2, Nat.add_zero]
        exact ⟨rfl, rfl⟩
  show zW G mJ21_stringSize 1 0 0 [.int (nI k), zho, zho, zho] [] h _
  refine zW.iconst (pc' := 1) (nI 1) dJ21_stringSize_0 rfl (by decide) ?_
  refine zW.istore_n (pc' := 2) dJ21_stringSize_1 rfl rfl (Nat.le_of_ble_eq_true rfl) (zsS (zs0)) ?_
  refine zW.iload_n (pc' := 3) dJ21_stringSize_2 rfl rfl zg0 ?_
  refine zW.if_ltN (pc' := 6) (tg := 11) dJ21_stringSize_3 rfl (by decide) (by omega) ?_
  refine zW.iconst (pc' := 7) (nI 0) dJ21_stringSize_6 rfl (by decide) ?_
  refine zW.istore_n (pc' := 8) dJ21_stringSize_7 rfl rfl (Nat.le_of_ble_eq_true rfl) (zsS (zs0)) ?_
  refine zW.iload_n (pc' := 9) dJ21_stringSize_8 rfl rfl zg0 ?_
  refine zW.ineg (pc' := 10) dJ21_stringSize_9 rfl ?_
  refine zW.istore_n (pc' := 11) dJ21_stringSize_10 rfl rfl (Nat.le_of_ble_eq_true rfl) zs0 ?_
  refine zW.bipush (pc' := 13) (-10) dJ21_stringSize_11 rfl (by decide) ?_
  refine zW.istore_n (pc' := 14) dJ21_stringSize_13 rfl rfl (Nat.le_of_ble_eq_true rfl) (zsS (zsS (zs0))) ?_
  refine zW.iconst (pc' := 15) (nI 1) dJ21_stringSize_14 rfl (by decide) ?_
  refine zW.istore_n (pc' := 16) dJ21_stringSize_15 rfl rfl (Nat.le_of_ble_eq_true rfl) (zsS (zsS (zsS (zs0)))) ?_
  rw [nN10]
  exact loop f 1 (by omega) (Nat.le_refl _) (Or.inl rfl)
theorem w_getCh (hk : zkn G h) (hD : zkD G) (hf : f ≤ 5) (hkf : k < 10 ^ (f + 1)) {P M S : List Nat} (hv : h v = some (103, btab (P ++ M ++ S))) (hM : M.length = (sDec f k).length) (hb : (P ++ M ++ S).length < 2 ^ 20) : zK G mJ21_getChars 1 0 [.int (nI k), .int (nI (P ++ M).length), .ref v] h (zO fun o h' => o = some (.int (nI P.length)) ∧ h' = zup h v (103, btab (P ++ sDec f k ++ S)) ∧ h' v = some (103, btab (P ++ sDec f k ++ S))) := by
  have h6 : 10 ^ (f + 1) ≤ 10 ^ 6 := Nat.pow_le_pow_right (by decide) (by omega)
  have ho0 := (hk _ _ hD.1).1
  have ht0 := (hk _ _ hD.2).1
  have lo := zOne_len
  have lt := zTen_len
  have loop : ∀ (f k : Nat), f ≤ 5 → k < 10 ^ (f + 1) → ∀ (M S : List Nat) (H : zH) (v1 v3 v4 : Value), H v = some (103, btab (P ++ M ++ S)) → H (zg_a G 1) = some (1103, btab zOne) → H (zg_a G 2) = some (1103, btab zTen) → H = zup h v (103, btab (P ++ M ++ S)) → M.length = (sDec f k).length → (P ++ M ++ S).length < 2 ^ 20 → zW G mJ21_getChars 1 0 22 [.int (- nI k), v1, .ref v, v3, v4, .int (nI ((P ++ M).length)), .int (nI 0)] [] H (zO fun o h' => o = some (.int (nI P.length)) ∧ h' = zup h v (103, btab (P ++ sDec f k ++ S)) ∧ h' v = some (103, btab (P ++ sDec f k ++ S))) := by
    intro f
    induction f using Nat.strongRecOn with
    | ind f ih =>
      intro k hf hkf M S H v1 v3 v4 hv ho ht eH hM hb
      have h6 : 10 ^ (f + 1) ≤ 10 ^ 6 := Nat.pow_le_pow_right (by decide) (by omega)
      refine zW.iload_n (pc' := 23) dJ21_getChars_22 rfl rfl zg0 ?_
      refine zW.bipush (pc' := 25) (-100) dJ21_getChars_23 rfl (by decide) ?_
      rw [nN100]
      by_cases q : 100 ≤ k
      · refine zW.icmp_gt (pc' := 28) 72 dJ21_getChars_25 rfl (by decide) (fun b1 => ?_) (fun b1 => ?_)
        · exact absurd ((nN_lt (by omega) (by omega)).mp b1) (by omega)
        obtain ⟨g, rfl⟩ : ∃ g, f = g + 2 := by
          match f, hkf with
          | 0, hkf => omega
          | 1, hkf => omega
          | g + 2, _ => exact ⟨g, rfl⟩
        rw [sDec_hun q, List.length_append] at hM
        obtain ⟨M', x, y, rfl, hl⟩ := split2 hM
        have eL : (P ++ (M' ++ [x, y])).length = (P ++ M').length + 1 + 1 := by
          rw [← List.append_assoc, List.length_append]
          rfl
        have hb2 := hb
        rw [List.length_append, eL] at hb2
        have hj1 : (P ++ M').length + 1 < (P ++ (M' ++ [x, y]) ++ S).length := by rw [List.length_append (as := P ++ (M' ++ [x, y])), eL]; omega
        have hj0 : (P ++ M').length < ((P ++ (M' ++ [x, y]) ++ S).set ((P ++ M').length + 1) (48 + k % 100 % 10)).length := by rw [List.length_set]; omega
        rw [eL]
        refine zW.iload_n (pc' := 29) dJ21_getChars_28 rfl rfl zg0 ?_
        refine zW.bipush (pc' := 31) (nI 100) dJ21_getChars_29 rfl (by decide) ?_
        refine zW.idiv (pc' := 32) dJ21_getChars_31 rfl (by decide) ?_
        rw [nN_div (by omega)]
        refine zW.istore_n (pc' := 33) dJ21_getChars_32 rfl rfl (Nat.le_of_ble_eq_true rfl) (zsS (zsS (zsS (zs0)))) ?_
        refine zW.iload_n (pc' := 34) dJ21_getChars_33 rfl rfl (zgS (zgS (zgS (zg0)))) ?_
        refine zW.bipush (pc' := 36) (nI 100) dJ21_getChars_34 rfl (by decide) ?_
        refine zW.imul (pc' := 37) dJ21_getChars_36 rfl ?_
        refine zW.iload_n (pc' := 38) dJ21_getChars_37 rfl rfl zg0 ?_
        refine zW.isub (pc' := 39) dJ21_getChars_38 rfl ?_
        rw [nN_rem]
        refine zW.istore (pc' := 41) dJ21_getChars_39 rfl (Nat.le_of_ble_eq_true rfl) (zsS (zsS (zsS (zsS (zs0))))) ?_
        refine zW.iload_n (pc' := 42) dJ21_getChars_41 rfl rfl (zgS (zgS (zgS (zg0)))) ?_
        refine zW.istore_n (pc' := 43) dJ21_getChars_42 rfl rfl (Nat.le_of_ble_eq_true rfl) zs0 ?_
        refine zW.aload_n (pc' := 44) dJ21_getChars_43 rfl rfl (zgS (zgS (zg0))) rfl ?_
        refine zW.iinc (pc' := 47) (nI ((P ++ M').length + 1)) dJ21_getChars_44 rfl (Nat.le_of_ble_eq_true rfl) (zgS (zgS (zgS (zgS (zgS (zg0)))))) nI_dec (zsS (zsS (zsS (zsS (zsS (zs0)))))) ?_
        refine zW.iload (pc' := 49) dJ21_getChars_47 rfl (zgS (zgS (zgS (zgS (zgS (zg0)))))) ?_
        refine zW.gets (j := 3) (pc' := 52) dJ21_getChars_49 rfl rfl (lw_all_tbl q546) ?_
        refine zW.iload (pc' := 54) dJ21_getChars_52 rfl (zgS (zgS (zgS (zgS (zg0))))) ?_
        refine zW.baldN (pc' := 55) dJ21_getChars_54 rfl ho rfl (zOne_get (by omega)) (by omega) ?_
        refine zW.bastN (pc' := 56) dJ21_getChars_55 rfl hv (hj1) (by omega) (by omega) (fun _ e9 k9 => ?_)
        have ho := zpres e9 (Ne.symm (zne hv ho (by decide))) ho
        have ht := zpres e9 (Ne.symm (zne hv ht (by decide))) ht
        have eH := ztrk eH e9
        replace hv := k9
        clear e9 k9
        refine zW.aload_n (pc' := 57) dJ21_getChars_56 rfl rfl (zgS (zgS (zg0))) rfl ?_
        refine zW.iinc (pc' := 60) (nI ((P ++ M').length)) dJ21_getChars_57 rfl (Nat.le_of_ble_eq_true rfl) (zgS (zgS (zgS (zgS (zgS (zg0)))))) nI_dec (zsS (zsS (zsS (zsS (zsS (zs0)))))) ?_
        refine zW.iload (pc' := 62) dJ21_getChars_60 rfl (zgS (zgS (zgS (zgS (zgS (zg0)))))) ?_
        refine zW.gets (j := 4) (pc' := 65) dJ21_getChars_62 rfl rfl (lw_all_tbl q548) ?_
        refine zW.iload (pc' := 67) dJ21_getChars_65 rfl (zgS (zgS (zgS (zgS (zg0))))) ?_
        refine zW.baldN (pc' := 68) dJ21_getChars_67 rfl ht rfl (zTen_get (by omega)) (by omega) ?_
        refine zW.bastN (pc' := 69) dJ21_getChars_68 rfl hv (hj0) (by omega) (by rw [List.length_set]; omega) (fun _ e9 k9 => ?_)
        have ho := zpres e9 (Ne.symm (zne hv ho (by decide))) ho
        have ht := zpres e9 (Ne.symm (zne hv ht (by decide))) ht
        have eH := ztrk eH e9
        replace hv := k9
        clear e9 k9
        refine zW.goto 22 dJ21_getChars_69 (by decide) ?_
        have eB : ((P ++ (M' ++ [x, y]) ++ S).set ((P ++ M').length + 1) (48 + k % 100 % 10)).set (P ++ M').length (48 + k % 100 / 10) = P ++ M' ++ ([48 + k % 100 / 10, 48 + k % 10] ++ S) := by
          have e1 : P ++ (M' ++ [x, y]) ++ S = (P ++ M' ++ [x]) ++ y :: S := by simp
          have e2 : (P ++ M' ++ [x]) ++ (48 + k % 100 % 10) :: S = (P ++ M') ++ x :: ((48 + k % 100 % 10) :: S) := by simp
          rw [e1, app_set' (show (P ++ M').length + 1 = (P ++ M' ++ [x]).length from (List.length_append (as := P ++ M') (bs := [x])).symm), e2, app_set, show k % 100 % 10 = k % 10 by omega]
          rfl
        rw [eB] at hv eH
        have k9 := ih g (by omega) (k / 100) (by omega) (by rw [Nat.pow_succ, Nat.pow_succ] at hkf; omega) M' _ _ v1 (.int (- nI (k / 100))) (.int (nI (k % 100))) hv ho ht eH hl (by rw [← eB, List.length_set, List.length_set]; exact hb)
        rw [sDec_hun q, ← List.append_assoc, List.append_assoc]
        exact k9
      · refine zW.icmp_gt (pc' := 28) 72 dJ21_getChars_25 rfl (by decide) (fun b1 => ?_) (fun b1 => ?_)
        rotate_left
        · exact absurd ((nN_lt (by omega) (by omega)).mpr (by omega)) b1
        have fin : ∀ (H : zH) (b : List Nat) (v1 v3 v4 : Value), H v = some (103, btab b) → H = zup h v (103, btab b) → b = P ++ sDec f k ++ S → zW G mJ21_getChars 1 0 104 [.int (- nI k), v1, .ref v, v3, v4, .int (nI P.length), .int (nI 0)] [] H (zO fun o h' => o = some (.int (nI P.length)) ∧ h' = zup h v (103, btab (P ++ sDec f k ++ S)) ∧ h' v = some (103, btab (P ++ sDec f k ++ S))) := by
          intro H b v1 v3 v4 hv eH eb
          refine zW.iload (pc' := 106) dJ21_getChars_104 rfl (zgS (zgS (zgS (zgS (zgS (zgS (zg0))))))) ?_
          refine zW.if_eqN (pc' := 109) 118 dJ21_getChars_106 rfl (by decide) (by omega) (fun b9 => ?_) (fun b9 => absurd b9 (by omega))
          refine zW.iload (pc' := 120) dJ21_getChars_118 rfl (zgS (zgS (zgS (zgS (zgS (zg0)))))) ?_
          refine zW.iret dJ21_getChars_120 rfl (rfl) ?_
          rw [← eb]
          exact ⟨_, rfl, rfl, eH, hv⟩
        by_cases q2 : k ≤ 9
        · rw [sDec_lo q2] at hM
          obtain ⟨x, rfl⟩ := split1 hM
          have eL : (P ++ [x]).length = P.length + 1 := List.length_append
          have hb2 := hb
          rw [List.length_append, eL] at hb2
          rw [eL]
          refine zW.aload_n (pc' := 73) dJ21_getChars_72 rfl rfl (zgS (zgS (zg0))) rfl ?_
          refine zW.iinc (pc' := 76) (nI P.length) dJ21_getChars_73 rfl (Nat.le_of_ble_eq_true rfl) (zgS (zgS (zgS (zgS (zgS (zg0)))))) nI_dec (zsS (zsS (zsS (zsS (zsS (zs0)))))) ?_
          refine zW.iload (pc' := 78) dJ21_getChars_76 rfl (zgS (zgS (zgS (zgS (zgS (zg0)))))) ?_
          refine zW.gets (j := 3) (pc' := 81) dJ21_getChars_78 rfl rfl (lw_all_tbl q546) ?_
          refine zW.iload_n (pc' := 82) dJ21_getChars_81 rfl rfl zg0 ?_
          refine zW.ineg (pc' := 83) dJ21_getChars_82 rfl ?_
          rw [nN_neg]
          refine zW.baldN (pc' := 84) dJ21_getChars_83 rfl ho rfl (zOne_get (by omega)) (by omega) ?_
          refine zW.bastN (pc' := 85) dJ21_getChars_84 rfl hv (by rw [List.length_append, eL]; omega) (by omega) (by omega) (fun _ e9 k9 => ?_)
          have ho := zpres e9 (Ne.symm (zne hv ho (by decide))) ho
          have ht := zpres e9 (Ne.symm (zne hv ht (by decide))) ht
          have eH := ztrk eH e9
          replace hv := k9
          clear e9 k9
          refine zW.iload_n (pc' := 86) dJ21_getChars_85 rfl rfl zg0 ?_
          refine zW.bipush (pc' := 88) (-9) dJ21_getChars_86 rfl (by decide) ?_
          rw [nN9]
          refine zW.icmp_ge (pc' := 91) 104 dJ21_getChars_88 rfl (by decide) (fun b2 => ?_) (fun b2 => ?_)
          rotate_left
          · exact absurd ((nN_le (by omega) (by omega)).mpr q2) b2
          refine fin _ _ _ _ _ hv eH ?_
          rw [sDec_lo q2, List.append_assoc, List.append_assoc, show k % 10 = k by omega]
          exact app_set
        · obtain ⟨g, rfl⟩ : ∃ g, f = g + 1 := by
            match f, hkf with
            | 0, hkf => omega
            | g + 1, _ => exact ⟨g, rfl⟩
          rw [sDec_two (by omega) (by omega)] at hM
          obtain ⟨M', x, y, rfl, hl⟩ := split2 (n := 0) hM
          obtain rfl : M' = [] := List.length_eq_zero_iff.mp hl
          have eL : (P ++ ([] ++ [x, y])).length = P.length + 1 + 1 := by
            rw [List.length_append]
            rfl
          have hb2 := hb
          rw [List.length_append, eL] at hb2
          rw [eL]
          refine zW.aload_n (pc' := 73) dJ21_getChars_72 rfl rfl (zgS (zgS (zg0))) rfl ?_
          refine zW.iinc (pc' := 76) (nI (P.length + 1)) dJ21_getChars_73 rfl (Nat.le_of_ble_eq_true rfl) (zgS (zgS (zgS (zgS (zgS (zg0)))))) nI_dec (zsS (zsS (zsS (zsS (zsS (zs0)))))) ?_
          refine zW.iload (pc' := 78) dJ21_getChars_76 rfl (zgS (zgS (zgS (zgS (zgS (zg0)))))) ?_
          refine zW.gets (j := 3) (pc' := 81) dJ21_getChars_78 rfl rfl (lw_all_tbl q546) ?_
          refine zW.iload_n (pc' := 82) dJ21_getChars_81 rfl rfl zg0 ?_
          refine zW.ineg (pc' := 83) dJ21_getChars_82 rfl ?_
          rw [nN_neg]
          refine zW.baldN (pc' := 84) dJ21_getChars_83 rfl ho rfl (zOne_get (by omega)) (by omega) ?_
          refine zW.bastN (pc' := 85) dJ21_getChars_84 rfl hv (by rw [List.length_append, eL]; omega) (by omega) (by omega) (fun _ e9 k9 => ?_)
          have ho := zpres e9 (Ne.symm (zne hv ho (by decide))) ho
          have ht := zpres e9 (Ne.symm (zne hv ht (by decide))) ht
          have eH := ztrk eH e9
          replace hv := k9
          clear e9 k9
          refine zW.iload_n (pc' := 86) dJ21_getChars_85 rfl rfl zg0 ?_
          refine zW.bipush (pc' := 88) (-9) dJ21_getChars_86 rfl (by decide) ?_
          rw [nN9]
          refine zW.icmp_ge (pc' := 91) 104 dJ21_getChars_88 rfl (by decide) (fun b2 => ?_) (fun b2 => ?_)
          · exact absurd ((nN_le (by omega) (by omega)).mp b2) (by omega)
          refine zW.aload_n (pc' := 92) dJ21_getChars_91 rfl rfl (zgS (zgS (zg0))) rfl ?_
          refine zW.iinc (pc' := 95) (nI P.length) dJ21_getChars_92 rfl (Nat.le_of_ble_eq_true rfl) (zgS (zgS (zgS (zgS (zgS (zg0)))))) nI_dec (zsS (zsS (zsS (zsS (zsS (zs0)))))) ?_
          refine zW.iload (pc' := 97) dJ21_getChars_95 rfl (zgS (zgS (zgS (zgS (zgS (zg0)))))) ?_
          refine zW.gets (j := 4) (pc' := 100) dJ21_getChars_97 rfl rfl (lw_all_tbl q548) ?_
          refine zW.iload_n (pc' := 101) dJ21_getChars_100 rfl rfl zg0 ?_
          refine zW.ineg (pc' := 102) dJ21_getChars_101 rfl ?_
          rw [nN_neg]
          refine zW.baldN (pc' := 103) dJ21_getChars_102 rfl ht rfl (zTen_get (by omega)) (by omega) ?_
          refine zW.bastN (pc' := 104) dJ21_getChars_103 rfl hv (by rw [List.length_set, List.length_append, eL]; omega) (by omega) (by rw [List.length_set]; omega) (fun _ e9 k9 => ?_)
          have ho := zpres e9 (Ne.symm (zne hv ho (by decide))) ho
          have ht := zpres e9 (Ne.symm (zne hv ht (by decide))) ht
          have eH := ztrk eH e9
          replace hv := k9
          clear e9 k9
          refine fin _ _ _ _ _ hv eH ?_
          rw [sDec_two (by omega) (by omega)]
          have e1 : P ++ ([] ++ [x, y]) ++ S = (P ++ [x]) ++ y :: S := by simp
          have e2 : (P ++ [x]) ++ (48 + k % 10) :: S = P ++ x :: ((48 + k % 10) :: S) := by simp
          rw [e1, app_set' (by rw [List.length_append]; rfl), e2, app_set, List.append_assoc]
          rfl
  show zW G mJ21_getChars 1 0 0 [.int (nI k), .int (nI (P ++ M).length), .ref v, zho, zho, zho, zho] [] h _
  refine zW.iload_n (pc' := 1) dJ21_getChars_0 rfl rfl (zgS (zg0)) ?_
  refine zW.istore (pc' := 3) dJ21_getChars_1 rfl (Nat.le_of_ble_eq_true rfl) (zsS (zsS (zsS (zsS (zsS (zs0)))))) ?_
  refine zW.iload_n (pc' := 4) dJ21_getChars_3 rfl rfl zg0 ?_
  refine zW.if_geN 11 dJ21_getChars_4 (by decide) (by omega) ?_
  refine zW.iconst (pc' := 12) (nI 0) dJ21_getChars_11 rfl (by decide) ?_
  refine zW.istore (pc' := 14) dJ21_getChars_12 rfl (Nat.le_of_ble_eq_true rfl) (zsS (zsS (zsS (zsS (zsS (zsS (zs0))))))) ?_
  refine zW.iload (pc' := 16) dJ21_getChars_14 rfl (zgS (zgS (zgS (zgS (zgS (zgS (zg0))))))) ?_
  refine zW.if_neN (pc' := 19) 22 dJ21_getChars_16 rfl (by decide) (by omega) (fun b9 => absurd b9 (by omega)) (fun b9 => ?_)
  refine zW.iload_n (pc' := 20) dJ21_getChars_19 rfl rfl zg0 ?_
  refine zW.ineg (pc' := 21) dJ21_getChars_20 rfl ?_
  refine zW.istore_n (pc' := 22) dJ21_getChars_21 rfl rfl (Nat.le_of_ble_eq_true rfl) zs0 ?_
  exact loop f k hf hkf M S h _ _ _ hv ho0 ht0 (zup_self hv) hM hb
theorem w_sbPutN (hk : zkn G h) (hD : zkD G) (kS : cSB h a v l) (hf : f ≤ 5) (hkf : k < 10 ^ (f + 1)) (hl : l.length ≤ 94) (hc : h = h) : zK G mJ5_append_2 6 51 [.ref a, .int (nI k)] h (cSBp h a v (l ++ sDec f k) (some (.ref a))) := by
  obtain ⟨ml, t, k0⟩ := cSBt.of kS
  have ha := k0.1
  have h6 : 10 ^ (f + 1) ≤ 10 ^ 6 := Nat.pow_le_pow_right (by decide) (by omega)
  have hdl := sDec_len (f := f) (v := k)
  show zW G mJ5_append_2 6 51 0 [.ref a, .int (nI k), zho, zho] [] h _
  refine zW.aload_n (pc' := 1) dJ5_append_2_0 rfl rfl zg0 rfl ?_
  refine zW.get (pc' := 4) dJ5_append_2_1 rfl f_J5_79_13 ha ⟨rfl, (Nat.le_of_ble_eq_true rfl)⟩ rfl ?_
  refine zW.istore_n (pc' := 5) dJ5_append_2_4 rfl rfl (Nat.le_of_ble_eq_true rfl) (zsS (zsS (zs0))) ?_
  refine zW.iload_n (pc' := 6) dJ5_append_2_5 rfl rfl (zgS (zgS (zg0))) ?_
  refine zW.iload_n (pc' := 7) dJ5_append_2_6 rfl rfl (zgS (zg0)) ?_
  refine zW.callS (r' := 0) (pc' := 10) dJ5_append_2_7 rfl l_J5_245 rfl (w_strSz hf hkf) (zcc rfl zc0) rfl (Nat.le_of_ble_eq_true rfl) (Nat.le_of_ble_eq_true rfl) (Nat.le_of_ble_eq_true rfl) (fun _ _ q9 => ?_) (fun _ _ q9 => by cases q9.1)
  obtain ⟨q8, e9⟩ := q9
  cases q8
  replace e9 := e9.symm
  subst e9
  refine zW.iaddN (pc' := 11) dJ5_append_2_10 rfl ?_
  refine zW.istore_n (pc' := 12) dJ5_append_2_11 rfl rfl (Nat.le_of_ble_eq_true rfl) (zsS (zsS (zsS (zs0)))) ?_
  refine zW.aload_n (pc' := 13) dJ5_append_2_12 rfl rfl zg0 rfl ?_
  refine zW.iload_n (pc' := 14) dJ5_append_2_13 rfl rfl (zgS (zgS (zgS (zg0)))) ?_
  refine zW.callP (r' := 51) (pc' := 17) dJ5_append_2_14 rfl l_J5_100 rfl ha ⟨rfl, (Nat.le_of_ble_eq_true rfl)⟩ rfl (w_sbEnsure k0 (q := l.length + (sDec f k).length) (by omega)) (zcc rfl zc0) rfl (Nat.le_of_ble_eq_true rfl) (Nat.le_of_ble_eq_true rfl) (Nat.le_of_ble_eq_true rfl) (fun _ _ q9 => ?_) (fun _ _ q9 => absurd q9 zO.no)
  obtain ⟨_, q8, e1, v', z, k1, hz, hv', z1⟩ := q9
  cases q8
  subst e1
  have ha := k1.1
  refine zW.aload_n (pc' := 18) dJ5_append_2_17 rfl rfl zg0 rfl ?_
  refine zW.callU (r' := 0) (pc' := 21) dJ5_append_2_18 rfl l_J5_83_J6 rfl ha ⟨rfl, (Nat.le_of_ble_eq_true rfl)⟩ rfl (w_sbLatin k1) zc0 rfl (Nat.le_of_ble_eq_true rfl) (Nat.le_of_ble_eq_true rfl) (Nat.le_of_ble_eq_true rfl) (fun _ _ q9 => ?_) (fun _ _ q9 => by cases q9.1)
  obtain ⟨q8, e9⟩ := q9
  cases q8
  replace e9 := e9.symm
  subst e9
  refine zW.if_eqN (pc' := 24) 37 dJ5_append_2_21 rfl (by decide) (by omega) (fun b9 => absurd b9 (by omega)) (fun b9 => ?_)
  have hv := k1.2.1
  obtain ⟨-, -, ⟨h1, h2, h3⟩, h4⟩ := k1
  have zf : zfr (fun c => c = a ∨ c = v) h _ := z1.mono fun c hc => Or.inl (Or.inl hc)
  rw [List.append_assoc] at hz h3 h4 hv
  rw [List.length_append] at hz
  have eM : ((t ++ z).take (sDec f k).length).length = (sDec f k).length := by rw [List.length_take]; omega
  have eB : l ++ (t ++ z) = l ++ (t ++ z).take (sDec f k).length ++ (t ++ z).drop (sDec f k).length := by rw [List.append_assoc, List.take_append_drop]
  rw [eB] at hv h3
  have eL : l.length + (sDec f k).length = (l ++ (t ++ z).take (sDec f k).length).length := by rw [List.length_append, eM]
  refine zW.iload_n (pc' := 25) dJ5_append_2_24 rfl rfl (zgS (zg0)) ?_
  refine zW.iload_n (pc' := 26) dJ5_append_2_25 rfl rfl (zgS (zgS (zgS (zg0)))) ?_
  refine zW.aload_n (pc' := 27) dJ5_append_2_26 rfl rfl zg0 rfl ?_
  refine zW.get (pc' := 30) dJ5_append_2_27 rfl f_J5_15_13 ha ⟨rfl, (Nat.le_of_ble_eq_true rfl)⟩ rfl ?_
  rw [eL]
  refine zW.callS (r' := 0) (pc' := 33) dJ5_append_2_30 rfl l_J5_248 rfl (w_getCh (z1.kn hk) hD hf hkf hv eM (by omega)) (zcc rfl (zcc rfl (zcc rfl zc0))) rfl (Nat.le_of_ble_eq_true rfl) (Nat.le_of_ble_eq_true rfl) (Nat.le_of_ble_eq_true rfl) (fun _ _ q9 => ?_) (fun _ _ q9 => absurd q9 zO.no)
  obtain ⟨_, q8, e1, e9, k9⟩ := q9
  cases q8
  cases e1
  have zf := zf.put e9 hv (by decide) (hv'.elim (fun q => Or.inl (Or.inr q)) Or.inr)
  have ha := zpres e9 (zne ha hv (by decide)) ha
  have hv := k9
  clear e9 k9
  refine zW.pop (pc' := 34) dJ5_append_2_33 rfl rfl ?_
  refine zW.goto 48 dJ5_append_2_34 (by decide) ?_
  refine zW.aload_n (pc' := 49) dJ5_append_2_48 rfl rfl zg0 rfl ?_
  refine zW.iload_n (pc' := 50) dJ5_append_2_49 rfl rfl (zgS (zgS (zgS (zg0)))) ?_
  refine zW.putK (pc' := 53) dJ5_append_2_50 rfl f_J5_79_13 ha ⟨⟨rfl, (Nat.le_of_ble_eq_true rfl)⟩, (Nat.le_of_ble_eq_true rfl)⟩ (zFw.of ft_13_3 rfl rfl) (zsS (zsS (zsS (zs0)))) (fun _ e9 k9 => ?_)
  have hv := zpres e9 (zne hv ha (by decide)) hv
  have zf := zf.put e9 ha (by decide) (Or.inl (Or.inl rfl))
  replace ha := k9
  clear e9 k9
  refine zW.aload_n (pc' := 54) dJ5_append_2_53 rfl rfl zg0 rfl ?_
  refine zW.aret dJ5_append_2_54 rfl (Or.inl ⟨_, rfl⟩) rfl ?_
  rw [← eL] at ha
  refine ⟨_, rfl, rfl, v', ⟨ml, (t ++ z).drop (sDec f k).length, ?_, hv, ⟨h1, ?_⟩, fun y hy => ?_⟩, hv', zf⟩
  · rw [List.length_append]; exact ha
  · rw [List.length_append, List.length_append] at h3 ⊢
    rw [eM] at h3
    exact h3
  · rcases List.mem_append.mp hy with q | q
    · rcases List.mem_append.mp q with q | q
      · exact h4 y (List.mem_append_left _ q)
      · exact sDec_ch hkf y q
    · exact h4 y (List.mem_append_right _ (List.mem_of_mem_drop q))
theorem w_sbAppN (hk : zkn G h) (hD : zkD G) (kS : cSB h a v l) (hf : f ≤ 5) (hkf : k < 10 ^ (f + 1)) (hl : l.length ≤ 94) : zK G mJ6_append_2 7 51 [.ref a, .int (nI k)] h (cSBp h a v (l ++ sDec f k) (some (.ref a))) := by
  have ha : ∃ fs, h a = some (13, fs) := by obtain ⟨ml, t, k1, -⟩ := kS; exact ⟨_, k1⟩
  obtain ⟨fs, ha⟩ := ha
  show zW G mJ6_append_2 7 51 0 [.ref a, .int (nI k)] [] h _
  refine zW.aload_n (pc' := 1) dJ6_append_2_0 rfl rfl zg0 rfl ?_
  refine zW.iload_n (pc' := 2) dJ6_append_2_1 rfl rfl (zgS (zg0)) ?_
  refine zW.callSU (r' := 51) (pc' := 5) dJ6_append_2_2 rfl l_J6_53 rfl ha ⟨rfl, (Nat.le_of_ble_eq_true rfl)⟩ rfl (w_sbPutN hk hD kS hf hkf hl rfl) (zcc rfl zc0) rfl (Nat.le_of_ble_eq_true rfl) (Nat.le_of_ble_eq_true rfl) (Nat.le_of_ble_eq_true rfl) (fun _ _ q9 => ?_) (fun _ _ q9 => absurd q9 zO.no)
  obtain ⟨_, q8, e1, k2⟩ := q9
  cases q8
  subst e1
  refine zW.pop (pc' := 6) dJ6_append_2_5 rfl rfl ?_
  refine zW.aload_n (pc' := 7) dJ6_append_2_6 rfl rfl zg0 rfl ?_
  refine zW.aret dJ6_append_2_7 rfl (Or.inl ⟨_, rfl⟩) rfl ?_
  exact ⟨_, rfl, rfl, k2⟩
end
