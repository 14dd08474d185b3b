/-! THE REFERENCE: may one sign, weights to come, pairs, append -/
section
set_option maxRecDepth 100000
variable {G : zG} {h0 : zH} {a : tA} {T : tS} {tt nn n : Nat}
theorem w_canSign (hD : tD a) {w : sW} (hW : tW T w) (hB : tB w.1) {id x : Int32} : zK G mX3_canSign 4 0 [.ref a.1, .int id, .int x] (tH h0 a T) (tAns h0 a w (qCanS w.1 id x)) := by
  unfold qCanS
  show zW G mX3_canSign 4 0 0 [.ref a.1, .int id, .int x, zho] [] (tH h0 a T) _
  rcases sFind_c hW.1 (id := id) with q | ⟨k, q, hk, hk2⟩
  · rw [q]
    refine zW.aload_n (pc' := 1) dX3_canSign_0 rfl rfl zg0 rfl ?_
    refine zW.iload_n (pc' := 2) dX3_canSign_1 rfl rfl (zgS (zg0)) ?_
    refine zT.call (pc' := 5) dX3_canSign_2 rfl l_X3_76 rfl rfl (w_find0 hD hW.1 q) (zcc rfl zc0) rfl (Nat.le_of_ble_eq_true rfl) (Nat.le_of_ble_eq_true rfl) (Nat.le_of_ble_eq_true rfl) (fun _ _ ⟨e1, e2⟩ => ?_)
    subst e1; rw [e2]
    refine zW.istore_n (pc' := 6) dX3_canSign_5 rfl rfl (Nat.le_of_ble_eq_true rfl) (zsS (zsS (zsS (zs0)))) ?_
    refine zW.aload_n (pc' := 7) dX3_canSign_6 rfl rfl zg0 rfl ?_
    refine zW.iload_n (pc' := 8) dX3_canSign_7 rfl rfl (zgS (zgS (zgS (zg0)))) ?_
    refine zW.if_ge (pc' := 11) 15 dX3_canSign_8 rfl (by decide) (fun b1 => ?_) (fun b1 => ?_)
    · exact absurd b1 (by decide)
    refine zW.iconst (pc' := 12) (nI 1) dX3_canSign_11 rfl (by decide) ?_
    refine zW.goto 29 dX3_canSign_12 (by decide) ?_
    refine zT.putN (pc' := 32) dX3_canSign_29 rfl f_X3_30_3 (zFw.of ft_3_0 rfl rfl) rfl ?_
    try dsimp only
    refine zW.aload_n (pc' := 33) dX3_canSign_32 rfl rfl zg0 rfl ?_
    refine zT.get (pc' := 36) dX3_canSign_33 rfl f_X3_30_3 rfl ?_
    try dsimp only
    rw [zu_s]
    refine zW.if_neN (pc' := 39) 52 dX3_canSign_36 rfl (by decide) (by omega) (fun b9 => ?_) (fun b9 => absurd b9 (by omega))
    refine zW.iconst (pc' := 53) (nI 0) dX3_canSign_52 rfl (by decide) ?_
    refine zW.iret dX3_canSign_53 rfl (rfl) ?_
    exact tO.q hW
  · rw [q]
    dsimp only
    refine zW.aload_n (pc' := 1) dX3_canSign_0 rfl rfl zg0 rfl ?_
    refine zW.iload_n (pc' := 2) dX3_canSign_1 rfl rfl (zgS (zg0)) ?_
    refine zT.call (pc' := 5) dX3_canSign_2 rfl l_X3_76 rfl rfl (w_find1 hD hW.1 q) (zcc rfl zc0) rfl (Nat.le_of_ble_eq_true rfl) (Nat.le_of_ble_eq_true rfl) (Nat.le_of_ble_eq_true rfl) (fun _ _ ⟨e1, e2⟩ => ?_)
    subst e1; rw [e2]
    refine zW.istore_n (pc' := 6) dX3_canSign_5 rfl rfl (Nat.le_of_ble_eq_true rfl) (zsS (zsS (zsS (zs0)))) ?_
    refine zW.aload_n (pc' := 7) dX3_canSign_6 rfl rfl zg0 rfl ?_
    refine zW.iload_n (pc' := 8) dX3_canSign_7 rfl rfl (zgS (zgS (zgS (zg0)))) ?_
    refine zW.if_geN 15 dX3_canSign_8 (by decide) (by omega) ?_
    by_cases q2 : sIn x (nI 0) (nI 3) = true
    rotate_left
    · rw [if_neg q2]
      refine zW.iload_n (pc' := 16) dX3_canSign_15 rfl rfl (zgS (zgS (zg0))) ?_
      refine zW.iconst (pc' := 17) (nI 0) dX3_canSign_16 rfl (by decide) ?_
      refine zW.iconst (pc' := 18) (nI 3) dX3_canSign_17 rfl (by decide) ?_
      refine zW.callS (pc' := 21) dX3_canSign_18 rfl l_X3_55 rfl (w_in0 q2) (zcc rfl (zcc rfl (zcc rfl zc0))) rfl (Nat.le_of_ble_eq_true rfl) (Nat.le_of_ble_eq_true rfl) (Nat.le_of_ble_eq_true rfl) (fun _ _ ⟨e1, e3⟩ => ?_) (fun _ _ q9 => by cases q9.1)
      cases e1; subst e3
      refine zW.if_eqN (pc' := 24) 28 dX3_canSign_21 rfl (by decide) (by omega) (fun b9 => ?_) (fun b9 => absurd b9 (by omega))
      refine zW.iconst (pc' := 29) (nI 2) dX3_canSign_28 rfl (by decide) ?_
      refine zT.putN (pc' := 32) dX3_canSign_29 rfl f_X3_30_3 (zFw.of ft_3_0 rfl rfl) rfl ?_
      try dsimp only
      refine zW.aload_n (pc' := 33) dX3_canSign_32 rfl rfl zg0 rfl ?_
      refine zT.get (pc' := 36) dX3_canSign_33 rfl f_X3_30_3 rfl ?_
      try dsimp only
      rw [zu_s]
      refine zW.if_neN (pc' := 39) 52 dX3_canSign_36 rfl (by decide) (by omega) (fun b9 => ?_) (fun b9 => absurd b9 (by omega))
      refine zW.iconst (pc' := 53) (nI 0) dX3_canSign_52 rfl (by decide) ?_
      refine zW.iret dX3_canSign_53 rfl (rfl) ?_
      exact tO.q hW
    · rw [if_pos q2]
      obtain ⟨n, en, -, hn, iw⟩ := sIn_nat q2 (by decide) (by decide)
      rw [iw]
      refine zW.iload_n (pc' := 16) dX3_canSign_15 rfl rfl (zgS (zgS (zg0))) ?_
      refine zW.iconst (pc' := 17) (nI 0) dX3_canSign_16 rfl (by decide) ?_
      refine zW.iconst (pc' := 18) (nI 3) dX3_canSign_17 rfl (by decide) ?_
      refine zW.callS (pc' := 21) dX3_canSign_18 rfl l_X3_55 rfl (w_in1 q2) (zcc rfl (zcc rfl (zcc rfl zc0))) rfl (Nat.le_of_ble_eq_true rfl) (Nat.le_of_ble_eq_true rfl) (Nat.le_of_ble_eq_true rfl) (fun _ _ ⟨e1, e3⟩ => ?_) (fun _ _ q9 => by cases q9.1)
      cases e1; subst e3
      refine zW.if_eqN (pc' := 24) 28 dX3_canSign_21 rfl (by decide) (by omega) (fun b9 => absurd b9 (by omega)) (fun b9 => ?_)
      refine zW.iconst (pc' := 25) (nI 0) dX3_canSign_24 rfl (by decide) ?_
      refine zW.goto 29 dX3_canSign_25 (by decide) ?_
      refine zT.putN (pc' := 32) dX3_canSign_29 rfl f_X3_30_3 (zFw.of ft_3_0 rfl rfl) rfl ?_
      try dsimp only
      refine zW.aload_n (pc' := 33) dX3_canSign_32 rfl rfl zg0 rfl ?_
      refine zT.get (pc' := 36) dX3_canSign_33 rfl f_X3_30_3 rfl ?_
      try dsimp only
      rw [zu_s]
      refine zW.if_neN (pc' := 39) 52 dX3_canSign_36 rfl (by decide) (by omega) (fun b9 => absurd b9 (by omega)) (fun b9 => ?_)
      subst en
      refine zW.aload_n (pc' := 40) dX3_canSign_39 rfl rfl zg0 rfl ?_
      refine zW.iload_n (pc' := 41) dX3_canSign_40 rfl rfl (zgS (zgS (zgS (zg0)))) ?_
      refine zW.iload_n (pc' := 42) dX3_canSign_41 rfl rfl (zgS (zgS (zg0))) ?_
      refine zT.call (pc' := 45) dX3_canSign_42 rfl l_X3_79 rfl rfl (w_maySign (T := (zu T.1 0 0, T.2)) hD hW.1 hB hk (by omega)) (zcc rfl (zcc rfl zc0)) rfl (Nat.le_of_ble_eq_true rfl) (Nat.le_of_ble_eq_true rfl) (Nat.le_of_ble_eq_true rfl) (fun _ _ ⟨e1, e2⟩ => ?_)
      subst e1; rw [e2]
      by_cases q3 : sAt w.1.2.1 k 6 = 0 ∧ sCount w.1.2.1 6 n < 3
      · rw [if_pos q3]
        refine zW.if_eqN (pc' := 48) 52 dX3_canSign_45 rfl (by decide) (by omega) (fun b9 => absurd b9 (by omega)) (fun b9 => ?_)
        refine zW.iconst (pc' := 49) (nI 1) dX3_canSign_48 rfl (by decide) ?_
        refine zW.goto 53 dX3_canSign_49 (by decide) ?_
        refine zW.iret dX3_canSign_53 rfl (rfl) ?_
        exact tO.q hW
      · rw [if_neg q3]
        refine zW.if_eqN (pc' := 48) 52 dX3_canSign_45 rfl (by decide) (by omega) (fun b9 => ?_) (fun b9 => absurd b9 (by omega))
        refine zW.iconst (pc' := 53) (nI 0) dX3_canSign_52 rfl (by decide) ?_
        refine zW.iret dX3_canSign_53 rfl (rfl) ?_
        exact tO.q hW
theorem w_canCountersign (hD : tD a) {w : sW} (hW : tW T w) (hB : tB w.1) {id x : Int32} : zK G mX3_canCountersign 4 0 [.ref a.1, .int id, .int x] (tH h0 a T) (tAns h0 a w (qCanC w.1 id x)) := by
  unfold qCanC
  show zW G mX3_canCountersign 4 0 0 [.ref a.1, .int id, .int x, zho] [] (tH h0 a T) _
  rcases sFind_c hW.1 (id := id) with q | ⟨k, q, hk, hk2⟩
  · rw [q]
    refine zW.aload_n (pc' := 1) dX3_canCountersign_0 rfl rfl zg0 rfl ?_
    refine zW.iload_n (pc' := 2) dX3_canCountersign_1 rfl rfl (zgS (zg0)) ?_
    refine zT.call (pc' := 5) dX3_canCountersign_2 rfl l_X3_76 rfl rfl (w_find0 hD hW.1 q) (zcc rfl zc0) rfl (Nat.le_of_ble_eq_true rfl) (Nat.le_of_ble_eq_true rfl) (Nat.le_of_ble_eq_true rfl) (fun _ _ ⟨e1, e2⟩ => ?_)
    subst e1; rw [e2]
    refine zW.istore_n (pc' := 6) dX3_canCountersign_5 rfl rfl (Nat.le_of_ble_eq_true rfl) (zsS (zsS (zsS (zs0)))) ?_
    refine zW.aload_n (pc' := 7) dX3_canCountersign_6 rfl rfl zg0 rfl ?_
    refine zW.iload_n (pc' := 8) dX3_canCountersign_7 rfl rfl (zgS (zgS (zgS (zg0)))) ?_
    refine zW.if_ge (pc' := 11) 15 dX3_canCountersign_8 rfl (by decide) (fun b1 => ?_) (fun b1 => ?_)
    · exact absurd b1 (by decide)
    refine zW.iconst (pc' := 12) (nI 1) dX3_canCountersign_11 rfl (by decide) ?_
    refine zW.goto 29 dX3_canCountersign_12 (by decide) ?_
    refine zT.putN (pc' := 32) dX3_canCountersign_29 rfl f_X3_30_3 (zFw.of ft_3_0 rfl rfl) rfl ?_
    try dsimp only
    refine zW.aload_n (pc' := 33) dX3_canCountersign_32 rfl rfl zg0 rfl ?_
    refine zT.get (pc' := 36) dX3_canCountersign_33 rfl f_X3_30_3 rfl ?_
    try dsimp only
    rw [zu_s]
    refine zW.if_neN (pc' := 39) 52 dX3_canCountersign_36 rfl (by decide) (by omega) (fun b9 => ?_) (fun b9 => absurd b9 (by omega))
    refine zW.iconst (pc' := 53) (nI 0) dX3_canCountersign_52 rfl (by decide) ?_
    refine zW.iret dX3_canCountersign_53 rfl (rfl) ?_
    exact tO.q hW
  · rw [q]
    dsimp only
    refine zW.aload_n (pc' := 1) dX3_canCountersign_0 rfl rfl zg0 rfl ?_
    refine zW.iload_n (pc' := 2) dX3_canCountersign_1 rfl rfl (zgS (zg0)) ?_
    refine zT.call (pc' := 5) dX3_canCountersign_2 rfl l_X3_76 rfl rfl (w_find1 hD hW.1 q) (zcc rfl zc0) rfl (Nat.le_of_ble_eq_true rfl) (Nat.le_of_ble_eq_true rfl) (Nat.le_of_ble_eq_true rfl) (fun _ _ ⟨e1, e2⟩ => ?_)
    subst e1; rw [e2]
    refine zW.istore_n (pc' := 6) dX3_canCountersign_5 rfl rfl (Nat.le_of_ble_eq_true rfl) (zsS (zsS (zsS (zs0)))) ?_
    refine zW.aload_n (pc' := 7) dX3_canCountersign_6 rfl rfl zg0 rfl ?_
    refine zW.iload_n (pc' := 8) dX3_canCountersign_7 rfl rfl (zgS (zgS (zgS (zg0)))) ?_
    refine zW.if_geN 15 dX3_canCountersign_8 (by decide) (by omega) ?_
    by_cases q2 : sIn x (nI 0) (nI 3) = true
    rotate_left
    · rw [if_neg q2]
      refine zW.iload_n (pc' := 16) dX3_canCountersign_15 rfl rfl (zgS (zgS (zg0))) ?_
      refine zW.iconst (pc' := 17) (nI 0) dX3_canCountersign_16 rfl (by decide) ?_
      refine zW.iconst (pc' := 18) (nI 3) dX3_canCountersign_17 rfl (by decide) ?_
      refine zW.callS (pc' := 21) dX3_canCountersign_18 rfl l_X3_55 rfl (w_in0 q2) (zcc rfl (zcc rfl (zcc rfl zc0))) rfl (Nat.le_of_ble_eq_true rfl) (Nat.le_of_ble_eq_true rfl) (Nat.le_of_ble_eq_true rfl) (fun _ _ ⟨e1, e3⟩ => ?_) (fun _ _ q9 => by cases q9.1)
      cases e1; subst e3
      refine zW.if_eqN (pc' := 24) 28 dX3_canCountersign_21 rfl (by decide) (by omega) (fun b9 => ?_) (fun b9 => absurd b9 (by omega))
      refine zW.iconst (pc' := 29) (nI 2) dX3_canCountersign_28 rfl (by decide) ?_
      refine zT.putN (pc' := 32) dX3_canCountersign_29 rfl f_X3_30_3 (zFw.of ft_3_0 rfl rfl) rfl ?_
      try dsimp only
      refine zW.aload_n (pc' := 33) dX3_canCountersign_32 rfl rfl zg0 rfl ?_
      refine zT.get (pc' := 36) dX3_canCountersign_33 rfl f_X3_30_3 rfl ?_
      try dsimp only
      rw [zu_s]
      refine zW.if_neN (pc' := 39) 52 dX3_canCountersign_36 rfl (by decide) (by omega) (fun b9 => ?_) (fun b9 => absurd b9 (by omega))
      refine zW.iconst (pc' := 53) (nI 0) dX3_canCountersign_52 rfl (by decide) ?_
      refine zW.iret dX3_canCountersign_53 rfl (rfl) ?_
      exact tO.q hW
    · rw [if_pos q2]
      obtain ⟨n, en, -, hn, iw⟩ := sIn_nat q2 (by decide) (by decide)
      rw [iw]
      refine zW.iload_n (pc' := 16) dX3_canCountersign_15 rfl rfl (zgS (zgS (zg0))) ?_
      refine zW.iconst (pc' := 17) (nI 0) dX3_canCountersign_16 rfl (by decide) ?_
      refine zW.iconst (pc' := 18) (nI 3) dX3_canCountersign_17 rfl (by decide) ?_
      refine zW.callS (pc' := 21) dX3_canCountersign_18 rfl l_X3_55 rfl (w_in1 q2) (zcc rfl (zcc rfl (zcc rfl zc0))) rfl (Nat.le_of_ble_eq_true rfl) (Nat.le_of_ble_eq_true rfl) (Nat.le_of_ble_eq_true rfl) (fun _ _ ⟨e1, e3⟩ => ?_) (fun _ _ q9 => by cases q9.1)
      cases e1; subst e3
      refine zW.if_eqN (pc' := 24) 28 dX3_canCountersign_21 rfl (by decide) (by omega) (fun b9 => absurd b9 (by omega)) (fun b9 => ?_)
      refine zW.iconst (pc' := 25) (nI 0) dX3_canCountersign_24 rfl (by decide) ?_
      refine zW.goto 29 dX3_canCountersign_25 (by decide) ?_
      refine zT.putN (pc' := 32) dX3_canCountersign_29 rfl f_X3_30_3 (zFw.of ft_3_0 rfl rfl) rfl ?_
      try dsimp only
      refine zW.aload_n (pc' := 33) dX3_canCountersign_32 rfl rfl zg0 rfl ?_
      refine zT.get (pc' := 36) dX3_canCountersign_33 rfl f_X3_30_3 rfl ?_
      try dsimp only
      rw [zu_s]
      refine zW.if_neN (pc' := 39) 52 dX3_canCountersign_36 rfl (by decide) (by omega) (fun b9 => absurd b9 (by omega)) (fun b9 => ?_)
      subst en
      refine zW.aload_n (pc' := 40) dX3_canCountersign_39 rfl rfl zg0 rfl ?_
      refine zW.iload_n (pc' := 41) dX3_canCountersign_40 rfl rfl (zgS (zgS (zgS (zg0)))) ?_
      refine zW.iload_n (pc' := 42) dX3_canCountersign_41 rfl rfl (zgS (zgS (zg0))) ?_
      refine zT.call (pc' := 45) dX3_canCountersign_42 rfl l_X3_86 rfl rfl (w_mayCountersign (T := (zu T.1 0 0, T.2)) hD hW.1 hB hk (by omega)) (zcc rfl (zcc rfl zc0)) rfl (Nat.le_of_ble_eq_true rfl) (Nat.le_of_ble_eq_true rfl) (Nat.le_of_ble_eq_true rfl) (fun _ _ ⟨e1, e2⟩ => ?_)
      subst e1; rw [e2]
      by_cases q3 : 0 < sAt w.1.2.1 k 6 ∧ sAt w.1.2.1 k 7 = 0 ∧ sCount w.1.2.1 7 n < 2
      · rw [if_pos q3]
        refine zW.if_eqN (pc' := 48) 52 dX3_canCountersign_45 rfl (by decide) (by omega) (fun b9 => absurd b9 (by omega)) (fun b9 => ?_)
        refine zW.iconst (pc' := 49) (nI 1) dX3_canCountersign_48 rfl (by decide) ?_
        refine zW.goto 53 dX3_canCountersign_49 (by decide) ?_
        refine zW.iret dX3_canCountersign_53 rfl (rfl) ?_
        exact tO.q hW
      · rw [if_neg q3]
        refine zW.if_eqN (pc' := 48) 52 dX3_canCountersign_45 rfl (by decide) (by omega) (fun b9 => ?_) (fun b9 => absurd b9 (by omega))
        refine zW.iconst (pc' := 53) (nI 0) dX3_canCountersign_52 rfl (by decide) ?_
        refine zW.iret dX3_canCountersign_53 rfl (rfl) ?_
        exact tO.q hW
def sOwes (s : sS) (f t : Nat) : Nat → Nat → Bool
  | 0, _ => false
  | m + 1, k => if sAt s.2.1 k 1 = f ∧ sAt s.2.1 k 2 = t then true else sOwes s f t m (k + 1)
theorem w_owesNow (hD : tD a) {s : sS} (hR : tR T.2.1 0 s) (hB : tB s) {f t : Nat} (hf : f < 100) (ht : t < 100) : zK G mX3_owesNow 2 0 [.ref a.1, .int (nI f), .int (nI t)] (tH h0 a T) (tQ h0 a fun v T' => v = some (.int (nI (if sOwes s f t s.2.1.length 0 = true then 1 else 0))) ∧ T' = T) := by
  have hac := hR.ac
  have h12 := hR.n12
  have loop : ∀ m k, k + m = s.2.1.length → zW G mX3_owesNow 2 0 2 [.ref a.1, .int (nI f), .int (nI t), .int (nI k)] [] (tH h0 a T) (tQ h0 a fun v T' => v = some (.int (nI (if sOwes s f t m k = true then 1 else 0))) ∧ T' = T) := by
    intro m
    induction m with
    | zero =>
      intro k hk
      have hk : k = s.2.1.length := by omega
      subst hk
      refine zW.iload_n (pc' := 3) dX3_owesNow_2 rfl rfl (zgS (zgS (zgS (zg0)))) ?_
      refine zW.aload_n (pc' := 4) dX3_owesNow_3 rfl rfl zg0 rfl ?_
      refine zT.get (pc' := 7) dX3_owesNow_4 rfl f_X3_9_3 rfl ?_
      try dsimp only
      refine zW.iconst (pc' := 8) (nI 2) dX3_owesNow_7 rfl (by decide) ?_
      first | refine zT.ald1 (pc' := 9) dX3_owesNow_8 rfl hD (by omega) ?_ | refine zT.ald4 (pc' := 9) dX3_owesNow_8 rfl hD (by omega) ?_
      try dsimp only
      refine zW.icmp_geN (pc' := 12) 40 dX3_owesNow_9 rfl (by decide) (by omega) (by omega) (fun b9 => ?_) (fun b9 => absurd b9 (by omega))
      refine zW.iconst (pc' := 41) (nI 0) dX3_owesNow_40 rfl (by decide) ?_
      refine zW.iret dX3_owesNow_41 rfl (rfl) ?_
      exact ⟨_, _, rfl, ⟨rfl, rfl⟩, rfl⟩
    | succ m ih =>
      intro k hk
      have hkl : k < s.2.1.length := by omega
      have b1 := hB.at hkl (f := 1) (by omega)
      have b2 := hB.at hkl (f := 2) (by omega)
      have no : ¬ (sAt s.2.1 k 1 = f ∧ sAt s.2.1 k 2 = t) → zW G mX3_owesNow 2 0 34 [.ref a.1, .int (nI f), .int (nI t), .int (nI k)] [] (tH h0 a T) (tQ h0 a fun v T' => v = some (.int (nI (if sOwes s f t (m + 1) k = true then 1 else 0))) ∧ T' = T) := by
        intro q
        have hs : sOwes s f t (m + 1) k = sOwes s f t m (k + 1) := by rw [sOwes, if_neg q]
        rw [hs]
        refine zW.iincN (pc' := 37) (n := 1) dX3_owesNow_34 rfl (Nat.le_of_ble_eq_true rfl) (zgS (zgS (zgS (zg0)))) (zsS (zsS (zsS (zs0)))) ?_
        refine zW.goto 2 dX3_owesNow_37 (by decide) ?_
        exact ih (k + 1) (by omega)
      refine zW.iload_n (pc' := 3) dX3_owesNow_2 rfl rfl (zgS (zgS (zgS (zg0)))) ?_
      refine zW.aload_n (pc' := 4) dX3_owesNow_3 rfl rfl zg0 rfl ?_
      refine zT.get (pc' := 7) dX3_owesNow_4 rfl f_X3_9_3 rfl ?_
      try dsimp only
      refine zW.iconst (pc' := 8) (nI 2) dX3_owesNow_7 rfl (by decide) ?_
      first | refine zT.ald1 (pc' := 9) dX3_owesNow_8 rfl hD (by omega) ?_ | refine zT.ald4 (pc' := 9) dX3_owesNow_8 rfl hD (by omega) ?_
      try dsimp only
      refine zW.icmp_geN (pc' := 12) 40 dX3_owesNow_9 rfl (by decide) (by omega) (by omega) (fun b9 => absurd b9 (by omega)) (fun b9 => ?_)
      refine zW.aload_n (pc' := 13) dX3_owesNow_12 rfl rfl zg0 rfl ?_
      refine zW.iload_n (pc' := 14) dX3_owesNow_13 rfl rfl (zgS (zgS (zgS (zg0)))) ?_
      refine zW.iconst (pc' := 15) (nI 1) dX3_owesNow_14 rfl (by decide) ?_
      refine zT.call (pc' := 18) dX3_owesNow_15 rfl l_X3_43 rfl rfl (w_cS hD hR hkl (by omega)) (zcc rfl (zcc rfl zc0)) rfl (Nat.le_of_ble_eq_true rfl) (Nat.le_of_ble_eq_true rfl) (Nat.le_of_ble_eq_true rfl) (fun _ _ ⟨e1, e2⟩ => ?_)
      subst e1; rw [e2]
      refine zW.iload_n (pc' := 19) dX3_owesNow_18 rfl rfl (zgS (zg0)) ?_
      refine zW.icmp_neN (pc' := 22) 34 dX3_owesNow_19 rfl (by decide) (by omega) (by omega) (fun c1 => ?_) (fun c1 => ?_)
      · exact no fun q => c1 q.1
      refine zW.aload_n (pc' := 23) dX3_owesNow_22 rfl rfl zg0 rfl ?_
      refine zW.iload_n (pc' := 24) dX3_owesNow_23 rfl rfl (zgS (zgS (zgS (zg0)))) ?_
      refine zW.iconst (pc' := 25) (nI 2) dX3_owesNow_24 rfl (by decide) ?_
      refine zT.call (pc' := 28) dX3_owesNow_25 rfl l_X3_43 rfl rfl (w_cS hD hR hkl (by omega)) (zcc rfl (zcc rfl zc0)) rfl (Nat.le_of_ble_eq_true rfl) (Nat.le_of_ble_eq_true rfl) (Nat.le_of_ble_eq_true rfl) (fun _ _ ⟨e1, e2⟩ => ?_)
      subst e1; rw [e2]
      refine zW.iload_n (pc' := 29) dX3_owesNow_28 rfl rfl (zgS (zgS (zg0))) ?_
      refine zW.icmp_neN (pc' := 32) 34 dX3_owesNow_29 rfl (by decide) (by omega) (by omega) (fun c2 => ?_) (fun c2 => ?_)
      · exact no fun q => c2 q.2
      have hs : sOwes s f t (m + 1) k = true := by rw [sOwes, if_pos ⟨c1, c2⟩]
      rw [hs]
      refine zW.iconst (pc' := 33) (nI 1) dX3_owesNow_32 rfl (by decide) ?_
      refine zW.iret dX3_owesNow_33 rfl (rfl) ?_
      exact ⟨_, _, rfl, ⟨rfl, rfl⟩, rfl⟩
  show zW G mX3_owesNow 2 0 0 [.ref a.1, .int (nI f), .int (nI t), zho] [] (tH h0 a T) _
  refine zW.iconst (pc' := 1) (nI 0) dX3_owesNow_0 rfl (by decide) ?_
  refine zW.istore_n (pc' := 2) dX3_owesNow_1 rfl rfl (Nat.le_of_ble_eq_true rfl) (zsS (zsS (zsS (zs0)))) ?_
  exact loop _ 0 (Nat.zero_add _)
def qOwes (s : sS) (f t : Int32) : Nat × Int32 := if sIn f (nI 0) (nI 7) = true ∧ sIn t (nI 0) (nI 7) = true then (0, nI (if sOwes s (iN f) (iN t) s.2.1.length 0 = true then 1 else 0)) else (1, nI 0)
def sAmong (s : sS) (f t : Nat) : Nat := sUp (fun k => if sAt s.2.1 k 1 = f ∧ sAt s.2.1 k 2 = t then sAt s.2.1 k 3 else 0) s.2.1.length
def qPair (s : sS) (x y : Int32) : Nat × Int32 := if sIn x (nI 0) (nI 7) = true ∧ sIn y (nI 0) (nI 7) = true then (0, nI (sAmong s (iN y) (iN x)) - nI (sAmong s (iN x) (iN y))) else (1, nI 0)
theorem w_owedAmong (hD : tD a) {s : sS} (hR : tR T.2.1 0 s) (hB : tB s) {f t : Nat} (hf : f < 100) (ht : t < 100) : zK G mX3_owedAmong 2 0 [.ref a.1, .int (nI f), .int (nI t)] (tH h0 a T) (tQ h0 a fun v T' => v = some (.int (nI (sAmong s f t))) ∧ T' = T) := by
  have hac := hR.ac
  have h12 := hR.n12
  unfold sAmong
  generalize hg : (fun k => if sAt s.2.1 k 1 = f ∧ sAt s.2.1 k 2 = t then sAt s.2.1 k 3 else 0) = g
  have loop : ∀ m k, k + m = s.2.1.length → zW G mX3_owedAmong 2 0 5 [.ref a.1, .int (nI f), .int (nI t), .int (nI (sUp g k)), .int (nI k)] [] (tH h0 a T) (tQ h0 a fun v T' => v = some (.int (nI (sUp g s.2.1.length))) ∧ T' = T) := by
    intro m
    induction m with
    | zero =>
      intro k hk
      have hk : k = s.2.1.length := by omega
      subst hk
      refine zW.iload (pc' := 7) dX3_owedAmong_5 rfl (zgS (zgS (zgS (zgS (zg0))))) ?_
      refine zW.aload_n (pc' := 8) dX3_owedAmong_7 rfl rfl zg0 rfl ?_
      refine zT.get (pc' := 11) dX3_owedAmong_8 rfl f_X3_9_3 rfl ?_
      try dsimp only
      refine zW.iconst (pc' := 12) (nI 2) dX3_owedAmong_11 rfl (by decide) ?_
      first | refine zT.ald1 (pc' := 13) dX3_owedAmong_12 rfl hD (by omega) ?_ | refine zT.ald4 (pc' := 13) dX3_owedAmong_12 rfl hD (by omega) ?_
      try dsimp only
      refine zW.icmp_geN (pc' := 16) 58 dX3_owedAmong_13 rfl (by decide) (by omega) (by omega) (fun b9 => ?_) (fun b9 => absurd b9 (by omega))
      refine zW.iload_n (pc' := 59) dX3_owedAmong_58 rfl rfl (zgS (zgS (zgS (zg0)))) ?_
      refine zW.iret dX3_owedAmong_59 rfl (rfl) ?_
      exact ⟨_, _, rfl, ⟨rfl, rfl⟩, rfl⟩
    | succ m ih =>
      intro k hk
      have hkl : k < s.2.1.length := by omega
      have b1 := hB.at hkl (f := 1) (by omega)
      have b2 := hB.at hkl (f := 2) (by omega)
      have hgk : g k = if sAt s.2.1 k 1 = f ∧ sAt s.2.1 k 2 = t then sAt s.2.1 k 3 else 0 := by rw [← hg]
      have no : ¬ (sAt s.2.1 k 1 = f ∧ sAt s.2.1 k 2 = t) → zW G mX3_owedAmong 2 0 49 [.ref a.1, .int (nI f), .int (nI t), .int (nI (sUp g k)), .int (nI k)] [.int (nI (sUp g k))] (tH h0 a T) (tQ h0 a fun v T' => v = some (.int (nI (sUp g s.2.1.length))) ∧ T' = T) := by
        intro q
        refine zW.iconst (pc' := 50) (nI 0) dX3_owedAmong_49 rfl (by decide) ?_
        refine zW.iaddN (pc' := 51) dX3_owedAmong_50 rfl ?_
        refine zW.istore_n (pc' := 52) dX3_owedAmong_51 rfl rfl (Nat.le_of_ble_eq_true rfl) (zsS (zsS (zsS (zs0)))) ?_
        refine zW.iincN (pc' := 55) (n := 1) dX3_owedAmong_52 rfl (Nat.le_of_ble_eq_true rfl) (zgS (zgS (zgS (zgS (zg0))))) (zsS (zsS (zsS (zsS (zs0))))) ?_
        refine zW.goto 5 dX3_owedAmong_55 (by decide) ?_
        refine zW.congr (ih (k + 1) (by omega)) ?_ rfl rfl
        show _ = [_, _, _, Value.int (nI (sUp g k + g k)), _]
        rw [hgk, if_neg q]
      refine zW.iload (pc' := 7) dX3_owedAmong_5 rfl (zgS (zgS (zgS (zgS (zg0))))) ?_
      refine zW.aload_n (pc' := 8) dX3_owedAmong_7 rfl rfl zg0 rfl ?_
      refine zT.get (pc' := 11) dX3_owedAmong_8 rfl f_X3_9_3 rfl ?_
      try dsimp only
      refine zW.iconst (pc' := 12) (nI 2) dX3_owedAmong_11 rfl (by decide) ?_
      first | refine zT.ald1 (pc' := 13) dX3_owedAmong_12 rfl hD (by omega) ?_ | refine zT.ald4 (pc' := 13) dX3_owedAmong_12 rfl hD (by omega) ?_
      try dsimp only
      refine zW.icmp_geN (pc' := 16) 58 dX3_owedAmong_13 rfl (by decide) (by omega) (by omega) (fun b9 => absurd b9 (by omega)) (fun b9 => ?_)
      refine zW.iload_n (pc' := 17) dX3_owedAmong_16 rfl rfl (zgS (zgS (zgS (zg0)))) ?_
      refine zW.aload_n (pc' := 18) dX3_owedAmong_17 rfl rfl zg0 rfl ?_
      refine zW.iload (pc' := 20) dX3_owedAmong_18 rfl (zgS (zgS (zgS (zgS (zg0))))) ?_
      refine zW.iconst (pc' := 21) (nI 1) dX3_owedAmong_20 rfl (by decide) ?_
      refine zT.call (pc' := 24) dX3_owedAmong_21 rfl l_X3_43 rfl rfl (w_cS hD hR hkl (by omega)) (zcc rfl (zcc rfl zc0)) rfl (Nat.le_of_ble_eq_true rfl) (Nat.le_of_ble_eq_true rfl) (Nat.le_of_ble_eq_true rfl) (fun _ _ ⟨e1, e2⟩ => ?_)
      subst e1; rw [e2]
      refine zW.iload_n (pc' := 25) dX3_owedAmong_24 rfl rfl (zgS (zg0)) ?_
      refine zW.icmp_neN (pc' := 28) 49 dX3_owedAmong_25 rfl (by decide) (by omega) (by omega) (fun c1 => ?_) (fun c1 => ?_)
      · exact no fun q => c1 q.1
      refine zW.aload_n (pc' := 29) dX3_owedAmong_28 rfl rfl zg0 rfl ?_
      refine zW.iload (pc' := 31) dX3_owedAmong_29 rfl (zgS (zgS (zgS (zgS (zg0))))) ?_
      refine zW.iconst (pc' := 32) (nI 2) dX3_owedAmong_31 rfl (by decide) ?_
      refine zT.call (pc' := 35) dX3_owedAmong_32 rfl l_X3_43 rfl rfl (w_cS hD hR hkl (by omega)) (zcc rfl (zcc rfl zc0)) rfl (Nat.le_of_ble_eq_true rfl) (Nat.le_of_ble_eq_true rfl) (Nat.le_of_ble_eq_true rfl) (fun _ _ ⟨e1, e2⟩ => ?_)
      subst e1; rw [e2]
      refine zW.iload_n (pc' := 36) dX3_owedAmong_35 rfl rfl (zgS (zgS (zg0))) ?_
      refine zW.icmp_neN (pc' := 39) 49 dX3_owedAmong_36 rfl (by decide) (by omega) (by omega) (fun c2 => ?_) (fun c2 => ?_)
      · exact no fun q => c2 q.2
      refine zW.aload_n (pc' := 40) dX3_owedAmong_39 rfl rfl zg0 rfl ?_
      refine zW.iload (pc' := 42) dX3_owedAmong_40 rfl (zgS (zgS (zgS (zgS (zg0))))) ?_
      refine zW.iconst (pc' := 43) (nI 3) dX3_owedAmong_42 rfl (by decide) ?_
      refine zT.call (pc' := 46) dX3_owedAmong_43 rfl l_X3_43 rfl rfl (w_cS hD hR hkl (by omega)) (zcc rfl (zcc rfl zc0)) rfl (Nat.le_of_ble_eq_true rfl) (Nat.le_of_ble_eq_true rfl) (Nat.le_of_ble_eq_true rfl) (fun _ _ ⟨e1, e2⟩ => ?_)
      subst e1; rw [e2]
      refine zW.goto 50 dX3_owedAmong_46 (by decide) ?_
      refine zW.iaddN (pc' := 51) dX3_owedAmong_50 rfl ?_
      refine zW.istore_n (pc' := 52) dX3_owedAmong_51 rfl rfl (Nat.le_of_ble_eq_true rfl) (zsS (zsS (zsS (zs0)))) ?_
      refine zW.iincN (pc' := 55) (n := 1) dX3_owedAmong_52 rfl (Nat.le_of_ble_eq_true rfl) (zgS (zgS (zgS (zgS (zg0))))) (zsS (zsS (zsS (zsS (zs0))))) ?_
      refine zW.goto 5 dX3_owedAmong_55 (by decide) ?_
      refine zW.congr (ih (k + 1) (by omega)) ?_ rfl rfl
      show _ = [_, _, _, Value.int (nI (sUp g k + g k)), _]
      rw [hgk, if_pos ⟨c1, c2⟩]
  show zW G mX3_owedAmong 2 0 0 [.ref a.1, .int (nI f), .int (nI t), zho, zho] [] (tH h0 a T) _
  refine zW.iconst (pc' := 1) (nI 0) dX3_owedAmong_0 rfl (by decide) ?_
  refine zW.istore_n (pc' := 2) dX3_owedAmong_1 rfl rfl (Nat.le_of_ble_eq_true rfl) (zsS (zsS (zsS (zs0)))) ?_
  refine zW.iconst (pc' := 3) (nI 0) dX3_owedAmong_2 rfl (by decide) ?_
  refine zW.istore (pc' := 5) dX3_owedAmong_3 rfl (Nat.le_of_ble_eq_true rfl) (zsS (zsS (zsS (zsS (zs0))))) ?_
  exact loop _ 0 (Nat.zero_add _)
theorem w_owes (hD : tD a) {w : sW} (hW : tW T w) (hB : tB w.1) {x y : Int32} : zK G mX3_owes 4 0 [.ref a.1, .int x, .int y] (tH h0 a T) (tAns h0 a w (qOwes w.1 x y)) := by
  have bad : ¬ (sIn x (nI 0) (nI 7) = true ∧ sIn y (nI 0) (nI 7) = true) → zW G mX3_owes 4 0 19 [.ref a.1, .int x, .int y] [.ref a.1] (tH h0 a T) (tAns h0 a w (qOwes w.1 x y)) := by
    intro q
    unfold qOwes
    rw [if_neg q]
    refine zW.iconst (pc' := 20) (nI 0) dX3_owes_19 rfl (by decide) ?_
    refine zT.call (pc' := 23) dX3_owes_20 rfl l_X3_124 rfl rfl (w_fine0) (zcc rfl zc0) rfl (Nat.le_of_ble_eq_true rfl) (Nat.le_of_ble_eq_true rfl) (Nat.le_of_ble_eq_true rfl) (fun _ _ ⟨e1, e2⟩ => ?_)
    subst e1; rw [e2]
    refine zW.if_eqN (pc' := 26) 39 dX3_owes_23 rfl (by decide) (by omega) (fun b9 => ?_) (fun b9 => absurd b9 (by omega))
    refine zW.iconst (pc' := 40) (nI 0) dX3_owes_39 rfl (by decide) ?_
    refine zW.iret dX3_owes_40 rfl (rfl) ?_
    exact tO.q hW
  show zW G mX3_owes 4 0 0 [.ref a.1, .int x, .int y] [] (tH h0 a T) _
  by_cases q1 : sIn x (nI 0) (nI 7) = true
  rotate_left
  · refine zW.aload_n (pc' := 1) dX3_owes_0 rfl rfl zg0 rfl ?_
    refine zW.iload_n (pc' := 2) dX3_owes_1 rfl rfl (zgS (zg0)) ?_
    refine zW.callS (pc' := 5) dX3_owes_2 rfl l_X3_59 rfl (w_pers0 q1) (zcc rfl zc0) rfl (Nat.le_of_ble_eq_true rfl) (Nat.le_of_ble_eq_true rfl) (Nat.le_of_ble_eq_true rfl) (fun _ _ ⟨e1, e3⟩ => ?_) (fun _ _ q9 => by cases q9.1)
    cases e1; subst e3
    refine zW.if_eqN (pc' := 8) 19 dX3_owes_5 rfl (by decide) (by omega) (fun b9 => ?_) (fun b9 => absurd b9 (by omega))
    exact bad fun q => q1 q.1
  by_cases q2 : sIn y (nI 0) (nI 7) = true
  rotate_left
  · refine zW.aload_n (pc' := 1) dX3_owes_0 rfl rfl zg0 rfl ?_
    refine zW.iload_n (pc' := 2) dX3_owes_1 rfl rfl (zgS (zg0)) ?_
    refine zW.callS (pc' := 5) dX3_owes_2 rfl l_X3_59 rfl (w_pers1 q1) (zcc rfl zc0) rfl (Nat.le_of_ble_eq_true rfl) (Nat.le_of_ble_eq_true rfl) (Nat.le_of_ble_eq_true rfl) (fun _ _ ⟨e1, e3⟩ => ?_) (fun _ _ q9 => by cases q9.1)
    cases e1; subst e3
    refine zW.if_eqN (pc' := 8) 19 dX3_owes_5 rfl (by decide) (by omega) (fun b9 => absurd b9 (by omega)) (fun b9 => ?_)
    refine zW.iload_n (pc' := 9) dX3_owes_8 rfl rfl (zgS (zgS (zg0))) ?_
    refine zW.callS (pc' := 12) dX3_owes_9 rfl l_X3_59 rfl (w_pers0 q2) (zcc rfl zc0) rfl (Nat.le_of_ble_eq_true rfl) (Nat.le_of_ble_eq_true rfl) (Nat.le_of_ble_eq_true rfl) (fun _ _ ⟨e1, e3⟩ => ?_) (fun _ _ q9 => by cases q9.1)
    cases e1; subst e3
    refine zW.if_eqN (pc' := 15) 19 dX3_owes_12 rfl (by decide) (by omega) (fun b9 => ?_) (fun b9 => absurd b9 (by omega))
    exact bad fun q => q2 q.2
  unfold qOwes
  rw [if_pos ⟨q1, q2⟩]
  clear bad
  refine zW.aload_n (pc' := 1) dX3_owes_0 rfl rfl zg0 rfl ?_
  refine zW.iload_n (pc' := 2) dX3_owes_1 rfl rfl (zgS (zg0)) ?_
  refine zW.callS (pc' := 5) dX3_owes_2 rfl l_X3_59 rfl (w_pers1 q1) (zcc rfl zc0) rfl (Nat.le_of_ble_eq_true rfl) (Nat.le_of_ble_eq_true rfl) (Nat.le_of_ble_eq_true rfl) (fun _ _ ⟨e1, e3⟩ => ?_) (fun _ _ q9 => by cases q9.1)
  cases e1; subst e3
  refine zW.if_eqN (pc' := 8) 19 dX3_owes_5 rfl (by decide) (by omega) (fun b9 => absurd b9 (by omega)) (fun b9 => ?_)
  refine zW.iload_n (pc' := 9) dX3_owes_8 rfl rfl (zgS (zgS (zg0))) ?_
  refine zW.callS (pc' := 12) dX3_owes_9 rfl l_X3_59 rfl (w_pers1 q2) (zcc rfl zc0) rfl (Nat.le_of_ble_eq_true rfl) (Nat.le_of_ble_eq_true rfl) (Nat.le_of_ble_eq_true rfl) (fun _ _ ⟨e1, e3⟩ => ?_) (fun _ _ q9 => by cases q9.1)
  cases e1; subst e3
  refine zW.if_eqN (pc' := 15) 19 dX3_owes_12 rfl (by decide) (by omega) (fun b9 => absurd b9 (by omega)) (fun b9 => ?_)
  obtain ⟨x, ex, -, hx, ix⟩ := sIn_nat q1 (by decide) (by decide)
  obtain ⟨y, ey, -, hy, iy⟩ := sIn_nat q2 (by decide) (by decide)
  rw [ix, iy]
  clear q1 q2 ix iy
  subst ex ey
  refine zW.iconst (pc' := 16) (nI 1) dX3_owes_15 rfl (by decide) ?_
  refine zW.goto 20 dX3_owes_16 (by decide) ?_
  refine zT.call (pc' := 23) dX3_owes_20 rfl l_X3_124 rfl rfl (w_fine1) (zcc rfl zc0) rfl (Nat.le_of_ble_eq_true rfl) (Nat.le_of_ble_eq_true rfl) (Nat.le_of_ble_eq_true rfl) (fun _ _ ⟨e1, e2⟩ => ?_)
  subst e1; rw [e2]
  refine zW.if_eqN (pc' := 26) 39 dX3_owes_23 rfl (by decide) (by omega) (fun b9 => absurd b9 (by omega)) (fun b9 => ?_)
  refine zW.aload_n (pc' := 27) dX3_owes_26 rfl rfl zg0 rfl ?_
  refine zW.iload_n (pc' := 28) dX3_owes_27 rfl rfl (zgS (zg0)) ?_
  refine zW.iload_n (pc' := 29) dX3_owes_28 rfl rfl (zgS (zgS (zg0))) ?_
  refine zT.call (pc' := 32) dX3_owes_29 rfl l_X3_140 rfl rfl (w_owesNow (T := (zu T.1 0 0, T.2)) hD hW.1 hB (by omega) (by omega)) (zcc rfl (zcc rfl zc0)) rfl (Nat.le_of_ble_eq_true rfl) (Nat.le_of_ble_eq_true rfl) (Nat.le_of_ble_eq_true rfl) (fun _ _ ⟨e1, e2⟩ => ?_)
  subst e1; rw [e2]
  by_cases q3 : sOwes w.1 x y w.1.2.1.length 0 = true
  · rw [if_pos q3]
    refine zW.if_eqN (pc' := 35) 39 dX3_owes_32 rfl (by decide) (by omega) (fun b9 => absurd b9 (by omega)) (fun b9 => ?_)
    refine zW.iconst (pc' := 36) (nI 1) dX3_owes_35 rfl (by decide) ?_
    refine zW.goto 40 dX3_owes_36 (by decide) ?_
    refine zW.iret dX3_owes_40 rfl (rfl) ?_
    exact tO.q hW
  · rw [if_neg q3]
    refine zW.if_eqN (pc' := 35) 39 dX3_owes_32 rfl (by decide) (by omega) (fun b9 => ?_) (fun b9 => absurd b9 (by omega))
    refine zW.iconst (pc' := 40) (nI 0) dX3_owes_39 rfl (by decide) ?_
    refine zW.iret dX3_owes_40 rfl (rfl) ?_
    exact tO.q hW
theorem w_pairBalance (hD : tD a) {w : sW} (hW : tW T w) (hB : tB w.1) {x y : Int32} : zK G mX3_pairBalance 4 0 [.ref a.1, .int x, .int y] (tH h0 a T) (tAns h0 a w (qPair w.1 x y)) := by
  have bad : ¬ (sIn x (nI 0) (nI 7) = true ∧ sIn y (nI 0) (nI 7) = true) → zW G mX3_pairBalance 4 0 19 [.ref a.1, .int x, .int y] [.ref a.1] (tH h0 a T) (tAns h0 a w (qPair w.1 x y)) := by
    intro q
    unfold qPair
    rw [if_neg q]
    refine zW.iconst (pc' := 20) (nI 0) dX3_pairBalance_19 rfl (by decide) ?_
    refine zT.call (pc' := 23) dX3_pairBalance_20 rfl l_X3_124 rfl rfl (w_fine0) (zcc rfl zc0) rfl (Nat.le_of_ble_eq_true rfl) (Nat.le_of_ble_eq_true rfl) (Nat.le_of_ble_eq_true rfl) (fun _ _ ⟨e1, e2⟩ => ?_)
    subst e1; rw [e2]
    refine zW.if_eqN (pc' := 26) 42 dX3_pairBalance_23 rfl (by decide) (by omega) (fun b9 => ?_) (fun b9 => absurd b9 (by omega))
    refine zW.iconst (pc' := 43) (nI 0) dX3_pairBalance_42 rfl (by decide) ?_
    refine zW.iret dX3_pairBalance_43 rfl (rfl) ?_
    exact tO.q hW
  show zW G mX3_pairBalance 4 0 0 [.ref a.1, .int x, .int y] [] (tH h0 a T) _
  by_cases q1 : sIn x (nI 0) (nI 7) = true
  rotate_left
  · refine zW.aload_n (pc' := 1) dX3_pairBalance_0 rfl rfl zg0 rfl ?_
    refine zW.iload_n (pc' := 2) dX3_pairBalance_1 rfl rfl (zgS (zg0)) ?_
    refine zW.callS (pc' := 5) dX3_pairBalance_2 rfl l_X3_59 rfl (w_pers0 q1) (zcc rfl zc0) rfl (Nat.le_of_ble_eq_true rfl) (Nat.le_of_ble_eq_true rfl) (Nat.le_of_ble_eq_true rfl) (fun _ _ ⟨e1, e3⟩ => ?_) (fun _ _ q9 => by cases q9.1)
    cases e1; subst e3
    refine zW.if_eqN (pc' := 8) 19 dX3_pairBalance_5 rfl (by decide) (by omega) (fun b9 => ?_) (fun b9 => absurd b9 (by omega))
    exact bad fun q => q1 q.1
  by_cases q2 : sIn y (nI 0) (nI 7) = true
  rotate_left
  · refine zW.aload_n (pc' := 1) dX3_pairBalance_0 rfl rfl zg0 rfl ?_
    refine zW.iload_n (pc' := 2) dX3_pairBalance_1 rfl rfl (zgS (zg0)) ?_
    refine zW.callS (pc' := 5) dX3_pairBalance_2 rfl l_X3_59 rfl (w_pers1 q1) (zcc rfl zc0) rfl (Nat.le_of_ble_eq_true rfl) (Nat.le_of_ble_eq_true rfl) (Nat.le_of_ble_eq_true rfl) (fun _ _ ⟨e1, e3⟩ => ?_) (fun _ _ q9 => by cases q9.1)
    cases e1; subst e3
    refine zW.if_eqN (pc' := 8) 19 dX3_pairBalance_5 rfl (by decide) (by omega) (fun b9 => absurd b9 (by omega)) (fun b9 => ?_)
    refine zW.iload_n (pc' := 9) dX3_pairBalance_8 rfl rfl (zgS (zgS (zg0))) ?_
    refine zW.callS (pc' := 12) dX3_pairBalance_9 rfl l_X3_59 rfl (w_pers0 q2) (zcc rfl zc0) rfl (Nat.le_of_ble_eq_true rfl) (Nat.le_of_ble_eq_true rfl) (Nat.le_of_ble_eq_true rfl) (fun _ _ ⟨e1, e3⟩ => ?_) (fun _ _ q9 => by cases q9.1)
    cases e1; subst e3
    refine zW.if_eqN (pc' := 15) 19 dX3_pairBalance_12 rfl (by decide) (by omega) (fun b9 => ?_) (fun b9 => absurd b9 (by omega))
    exact bad fun q => q2 q.2
  unfold qPair
  rw [if_pos ⟨q1, q2⟩]
  clear bad
  refine zW.aload_n (pc' := 1) dX3_pairBalance_0 rfl rfl zg0 rfl ?_
  refine zW.iload_n (pc' := 2) dX3_pairBalance_1 rfl rfl (zgS (zg0)) ?_
  refine zW.callS (pc' := 5) dX3_pairBalance_2 rfl l_X3_59 rfl (w_pers1 q1) (zcc rfl zc0) rfl (Nat.le_of_ble_eq_true rfl) (Nat.le_of_ble_eq_true rfl) (Nat.le_of_ble_eq_true rfl) (fun _ _ ⟨e1, e3⟩ => ?_) (fun _ _ q9 => by cases q9.1)
  cases e1; subst e3
  refine zW.if_eqN (pc' := 8) 19 dX3_pairBalance_5 rfl (by decide) (by omega) (fun b9 => absurd b9 (by omega)) (fun b9 => ?_)
  refine zW.iload_n (pc' := 9) dX3_pairBalance_8 rfl rfl (zgS (zgS (zg0))) ?_
  refine zW.callS (pc' := 12) dX3_pairBalance_9 rfl l_X3_59 rfl (w_pers1 q2) (zcc rfl zc0) rfl (Nat.le_of_ble_eq_true rfl) (Nat.le_of_ble_eq_true rfl) (Nat.le_of_ble_eq_true rfl) (fun _ _ ⟨e1, e3⟩ => ?_) (fun _ _ q9 => by cases q9.1)
  cases e1; subst e3
  refine zW.if_eqN (pc' := 15) 19 dX3_pairBalance_12 rfl (by decide) (by omega) (fun b9 => absurd b9 (by omega)) (fun b9 => ?_)
  obtain ⟨x, ex, -, hx, ix⟩ := sIn_nat q1 (by decide) (by decide)
  obtain ⟨y, ey, -, hy, iy⟩ := sIn_nat q2 (by decide) (by decide)
  rw [ix, iy]
  clear q1 q2 ix iy
  subst ex ey
  refine zW.iconst (pc' := 16) (nI 1) dX3_pairBalance_15 rfl (by decide) ?_
  refine zW.goto 20 dX3_pairBalance_16 (by decide) ?_
  refine zT.call (pc' := 23) dX3_pairBalance_20 rfl l_X3_124 rfl rfl (w_fine1) (zcc rfl zc0) rfl (Nat.le_of_ble_eq_true rfl) (Nat.le_of_ble_eq_true rfl) (Nat.le_of_ble_eq_true rfl) (fun _ _ ⟨e1, e2⟩ => ?_)
  subst e1; rw [e2]
  refine zW.if_eqN (pc' := 26) 42 dX3_pairBalance_23 rfl (by decide) (by omega) (fun b9 => absurd b9 (by omega)) (fun b9 => ?_)
  refine zW.aload_n (pc' := 27) dX3_pairBalance_26 rfl rfl zg0 rfl ?_
  refine zW.iload_n (pc' := 28) dX3_pairBalance_27 rfl rfl (zgS (zgS (zg0))) ?_
  refine zW.iload_n (pc' := 29) dX3_pairBalance_28 rfl rfl (zgS (zg0)) ?_
  refine zT.call (pc' := 32) dX3_pairBalance_29 rfl l_X3_143 rfl rfl (w_owedAmong (T := (zu T.1 0 0, T.2)) hD hW.1 hB (by omega) (by omega)) (zcc rfl (zcc rfl zc0)) rfl (Nat.le_of_ble_eq_true rfl) (Nat.le_of_ble_eq_true rfl) (Nat.le_of_ble_eq_true rfl) (fun _ _ ⟨e1, e2⟩ => ?_)
  subst e1; rw [e2]
  refine zW.aload_n (pc' := 33) dX3_pairBalance_32 rfl rfl zg0 rfl ?_
  refine zW.iload_n (pc' := 34) dX3_pairBalance_33 rfl rfl (zgS (zg0)) ?_
  refine zW.iload_n (pc' := 35) dX3_pairBalance_34 rfl rfl (zgS (zgS (zg0))) ?_
  refine zT.call (pc' := 38) dX3_pairBalance_35 rfl l_X3_143 rfl rfl (w_owedAmong (T := (zu T.1 0 0, T.2)) hD hW.1 hB (by omega) (by omega)) (zcc rfl (zcc rfl zc0)) rfl (Nat.le_of_ble_eq_true rfl) (Nat.le_of_ble_eq_true rfl) (Nat.le_of_ble_eq_true rfl) (fun _ _ ⟨e1, e2⟩ => ?_)
  subst e1; rw [e2]
  refine zW.isub (pc' := 39) dX3_pairBalance_38 rfl ?_
  refine zW.goto 43 dX3_pairBalance_39 (by decide) ?_
  refine zW.iret dX3_pairBalance_43 rfl (rfl) ?_
  exact tO.q hW
end
