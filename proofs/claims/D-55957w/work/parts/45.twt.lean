/-! THE REFERENCE: weights to come, append -/
section
set_option maxRecDepth 100000
variable {G : zG} {h0 : zH} {a : tA} {T : tS} {tt nn n : Nat}
theorem sAft_le {s : sS} (hI : sI tt nn n s) {i : Nat} (hi : i < s.2.1.length) {k : Nat} : sAft s i k ≤ 9999 := by
  induction k with
  | zero => exact (hI.at hi).2.2.2.2.1.2
  | succ k ih =>
    rw [sAft]
    split
    · exact (sGrow_le ih).2
    · exact ih
theorem sAft_no {s : sS} {i k : Nat} (h : ¬ sAt s.2.1 i 6 = 0) : sAft s i k = sAft s i 0 := by
  induction k with
  | zero => rfl
  | succ k ih =>
    show (if sAt s.2.1 i 6 = 0 then sGrow (sAft s i k) (s.1 (10 + (s.1 0 + (k + 1)) / 4 % 4)) else sAft s i k) = _
    rw [if_neg h, ih]
theorem w_weightAfter (hD : tD a) {w : sW} (hW : tW T w) (hI : sI tt nn n w.1) (hT : tt < 100000) (hN : nn ≤ 10000) {id t : Int32} : zK G mX3_weightAfter 4 0 [.ref a.1, .int id, .int t] (tH h0 a T) (tAns h0 a w (qAfter w.1 id t)) := by
  have hB := hI.tB (by omega) hN
  have ht0 : w.1.1 0 ≤ tt := hI.1.1
  have e0 := hW.1.sc (i := 0) (by omega) (by omega) (by omega)
  unfold qAfter
  show zW G mX3_weightAfter 4 0 0 [.ref a.1, .int id, .int t, zho, zho, zho] [] (tH h0 a T) _
  rcases sFind_c hW.1 (id := id) with q | ⟨k, q, hk, hk2⟩
  · rw [q]
    refine zW.aload_n (pc' := 1) dX3_weightAfter_0 rfl rfl zg0 rfl ?_
    refine zW.iload_n (pc' := 2) dX3_weightAfter_1 rfl rfl (zgS (zg0)) ?_
    refine zT.call (pc' := 5) dX3_weightAfter_2 rfl l_X3_76 rfl rfl (w_find0 hD hW.1 q) (zcc rfl zc0) rfl (Nat.le_of_ble_eq_true rfl) (Nat.le_of_ble_eq_true rfl) (Nat.le_of_ble_eq_true rfl) (fun _ _ ⟨e1, e2⟩ => ?_)
    subst e1; rw [e2]
    refine zW.istore_n (pc' := 6) dX3_weightAfter_5 rfl rfl (Nat.le_of_ble_eq_true rfl) (zsS (zsS (zsS (zs0)))) ?_
    refine zW.aload_n (pc' := 7) dX3_weightAfter_6 rfl rfl zg0 rfl ?_
    refine zW.iload_n (pc' := 8) dX3_weightAfter_7 rfl rfl (zgS (zgS (zgS (zg0)))) ?_
    refine zW.if_ge (pc' := 11) 15 dX3_weightAfter_8 rfl (by decide) (fun b1 => ?_) (fun b1 => ?_)
    · exact absurd b1 (by decide)
    refine zW.iconst (pc' := 12) (nI 1) dX3_weightAfter_11 rfl (by decide) ?_
    refine zW.goto 30 dX3_weightAfter_12 (by decide) ?_
    refine zT.putN (pc' := 33) dX3_weightAfter_30 rfl f_X3_30_3 (zFw.of ft_3_0 rfl rfl) rfl ?_
    try dsimp only
    refine zW.aload_n (pc' := 34) dX3_weightAfter_33 rfl rfl zg0 rfl ?_
    refine zT.get (pc' := 37) dX3_weightAfter_34 rfl f_X3_30_3 rfl ?_
    try dsimp only
    rw [zu_s]
    refine zW.if_eqN (pc' := 40) 42 dX3_weightAfter_37 rfl (by decide) (by omega) (fun b9 => absurd b9 (by omega)) (fun b9 => ?_)
    refine zW.iconst (pc' := 41) (nI 0) dX3_weightAfter_40 rfl (by decide) ?_
    refine zW.iret dX3_weightAfter_41 rfl (rfl) ?_
    exact tO.q hW
  · rw [q]
    dsimp only
    refine zW.aload_n (pc' := 1) dX3_weightAfter_0 rfl rfl zg0 rfl ?_
    refine zW.iload_n (pc' := 2) dX3_weightAfter_1 rfl rfl (zgS (zg0)) ?_
    refine zT.call (pc' := 5) dX3_weightAfter_2 rfl l_X3_76 rfl rfl (w_find1 hD hW.1 q) (zcc rfl zc0) rfl (Nat.le_of_ble_eq_true rfl) (Nat.le_of_ble_eq_true rfl) (Nat.le_of_ble_eq_true rfl) (fun _ _ ⟨e1, e2⟩ => ?_)
    subst e1; rw [e2]
    refine zW.istore_n (pc' := 6) dX3_weightAfter_5 rfl rfl (Nat.le_of_ble_eq_true rfl) (zsS (zsS (zsS (zs0)))) ?_
    refine zW.aload_n (pc' := 7) dX3_weightAfter_6 rfl rfl zg0 rfl ?_
    refine zW.iload_n (pc' := 8) dX3_weightAfter_7 rfl rfl (zgS (zgS (zgS (zg0)))) ?_
    refine zW.if_geN 15 dX3_weightAfter_8 (by decide) (by omega) ?_
    by_cases q2 : sIn t (nI 0) (nI 50) = true
    rotate_left
    · rw [if_neg q2]
      refine zW.iload_n (pc' := 16) dX3_weightAfter_15 rfl rfl (zgS (zgS (zg0))) ?_
      refine zW.iconst (pc' := 17) (nI 0) dX3_weightAfter_16 rfl (by decide) ?_
      refine zW.bipush (pc' := 19) (nI 50) dX3_weightAfter_17 rfl (by decide) ?_
      refine zW.callS (pc' := 22) dX3_weightAfter_19 rfl l_X3_55 rfl (w_in0 q2) (zcc rfl (zcc rfl (zcc rfl zc0))) rfl (Nat.le_of_ble_eq_true rfl) (Nat.le_of_ble_eq_true rfl) (Nat.le_of_ble_eq_true rfl) (fun _ _ ⟨e1, e3⟩ => ?_) (fun _ _ q9 => by cases q9.1)
      cases e1; subst e3
      refine zW.if_eqN (pc' := 25) 29 dX3_weightAfter_22 rfl (by decide) (by omega) (fun b9 => ?_) (fun b9 => absurd b9 (by omega))
      refine zW.iconst (pc' := 30) (nI 2) dX3_weightAfter_29 rfl (by decide) ?_
      refine zT.putN (pc' := 33) dX3_weightAfter_30 rfl f_X3_30_3 (zFw.of ft_3_0 rfl rfl) rfl ?_
      try dsimp only
      refine zW.aload_n (pc' := 34) dX3_weightAfter_33 rfl rfl zg0 rfl ?_
      refine zT.get (pc' := 37) dX3_weightAfter_34 rfl f_X3_30_3 rfl ?_
      try dsimp only
      rw [zu_s]
      refine zW.if_eqN (pc' := 40) 42 dX3_weightAfter_37 rfl (by decide) (by omega) (fun b9 => absurd b9 (by omega)) (fun b9 => ?_)
      refine zW.iconst (pc' := 41) (nI 0) dX3_weightAfter_40 rfl (by decide) ?_
      refine zW.iret dX3_weightAfter_41 rfl (rfl) ?_
      exact tO.q hW
    · rw [if_pos q2]
      obtain ⟨t, en, -, hn, iw⟩ := sIn_nat q2 (by decide) (by decide)
      rw [iw]
      refine zW.iload_n (pc' := 16) dX3_weightAfter_15 rfl rfl (zgS (zgS (zg0))) ?_
      refine zW.iconst (pc' := 17) (nI 0) dX3_weightAfter_16 rfl (by decide) ?_
      refine zW.bipush (pc' := 19) (nI 50) dX3_weightAfter_17 rfl (by decide) ?_
      refine zW.callS (pc' := 22) dX3_weightAfter_19 rfl l_X3_55 rfl (w_in1 q2) (zcc rfl (zcc rfl (zcc rfl zc0))) rfl (Nat.le_of_ble_eq_true rfl) (Nat.le_of_ble_eq_true rfl) (Nat.le_of_ble_eq_true rfl) (fun _ _ ⟨e1, e3⟩ => ?_) (fun _ _ q9 => by cases q9.1)
      cases e1; subst e3
      refine zW.if_eqN (pc' := 25) 29 dX3_weightAfter_22 rfl (by decide) (by omega) (fun b9 => absurd b9 (by omega)) (fun b9 => ?_)
      subst en
      refine zW.iconst (pc' := 26) (nI 0) dX3_weightAfter_25 rfl (by decide) ?_
      refine zW.goto 30 dX3_weightAfter_26 (by decide) ?_
      refine zT.putN (pc' := 33) dX3_weightAfter_30 rfl f_X3_30_3 (zFw.of ft_3_0 rfl rfl) rfl ?_
      try dsimp only
      refine zW.aload_n (pc' := 34) dX3_weightAfter_33 rfl rfl zg0 rfl ?_
      refine zT.get (pc' := 37) dX3_weightAfter_34 rfl f_X3_30_3 rfl ?_
      try dsimp only
      rw [zu_s]
      refine zW.if_eqN (pc' := 40) 42 dX3_weightAfter_37 rfl (by decide) (by omega) (fun b9 => ?_) (fun b9 => absurd b9 (by omega))
      have c6 := hB.at hk (f := 6) (by omega)
      refine zW.aload_n (pc' := 43) dX3_weightAfter_42 rfl rfl zg0 rfl ?_
      refine zW.iload_n (pc' := 44) dX3_weightAfter_43 rfl rfl (zgS (zgS (zgS (zg0)))) ?_
      refine zW.iconst (pc' := 45) (nI 3) dX3_weightAfter_44 rfl (by decide) ?_
      refine zT.call (pc' := 48) dX3_weightAfter_45 rfl l_X3_43 rfl rfl (w_cS (T := (zu T.1 0 0, T.2)) hD hW.1 hk (f := 3) (by omega)) (zcc rfl (zcc rfl zc0)) rfl (Nat.le_of_ble_eq_true rfl) (Nat.le_of_ble_eq_true rfl) (Nat.le_of_ble_eq_true rfl) (fun _ _ ⟨e1, e2⟩ => ?_)
      subst e1; rw [e2]
      refine zW.istore (pc' := 50) dX3_weightAfter_48 rfl (Nat.le_of_ble_eq_true rfl) (zsS (zsS (zsS (zsS (zs0))))) ?_
      refine zW.iconst (pc' := 51) (nI 1) dX3_weightAfter_50 rfl (by decide) ?_
      refine zW.istore (pc' := 53) dX3_weightAfter_51 rfl (Nat.le_of_ble_eq_true rfl) (zsS (zsS (zsS (zsS (zsS (zs0)))))) ?_
      have loop : ∀ m j, j + m = t → (sAt w.1.2.1 k 6 = 0 ∨ j = 0) → zW G mX3_weightAfter 4 0 53 [.ref a.1, .int id, .int (nI t), .int (nI k), .int (nI (sAft w.1 k j)), .int (nI (j + 1))] [] (tH h0 a (zu T.1 0 0, T.2)) (tAns h0 a w (0, nI (sAft w.1 k t))) := by
        intro m
        induction m with
        | zero =>
          intro j hj h6
          have hj : j = t := by omega
          subst hj
          refine zW.aload_n (pc' := 54) dX3_weightAfter_53 rfl rfl zg0 rfl ?_
          refine zW.iload_n (pc' := 55) dX3_weightAfter_54 rfl rfl (zgS (zgS (zgS (zg0)))) ?_
          refine zW.bipush (pc' := 57) (nI 6) dX3_weightAfter_55 rfl (by decide) ?_
          refine zT.call (pc' := 60) dX3_weightAfter_57 rfl l_X3_43 rfl rfl (w_cS (T := (zu T.1 0 0, T.2)) hD hW.1 hk (f := 6) (by omega)) (zcc rfl (zcc rfl zc0)) rfl (Nat.le_of_ble_eq_true rfl) (Nat.le_of_ble_eq_true rfl) (Nat.le_of_ble_eq_true rfl) (fun _ _ ⟨e1, e2⟩ => ?_)
          subst e1; rw [e2]
          refine zW.if_neN (pc' := 63) 103 dX3_weightAfter_60 rfl (by decide) (by omega) (fun b1 => ?_) (fun b1 => ?_)
          · refine zW.iload (pc' := 105) dX3_weightAfter_103 rfl (zgS (zgS (zgS (zgS (zg0))))) ?_
            refine zW.iret dX3_weightAfter_105 rfl (rfl) ?_
            exact tO.q hW
          · refine zW.iload (pc' := 65) dX3_weightAfter_63 rfl (zgS (zgS (zgS (zgS (zgS (zg0)))))) ?_
            refine zW.iload_n (pc' := 66) dX3_weightAfter_65 rfl rfl (zgS (zgS (zg0))) ?_
            refine zW.icmp_gtN (pc' := 69) 103 dX3_weightAfter_66 rfl (by decide) (by omega) (by omega) (fun b9 => ?_) (fun b9 => absurd b9 (by omega))
            refine zW.iload (pc' := 105) dX3_weightAfter_103 rfl (zgS (zgS (zgS (zgS (zg0))))) ?_
            refine zW.iret dX3_weightAfter_105 rfl (rfl) ?_
            exact tO.q hW
        | succ m ih =>
          intro j hj h6
          have hle := sAft_le hI hk (k := j)
          have hp20 := hI.1.2.2.2.2 ((w.1.1 0 + (j + 1)) / 4 % 4) (Nat.mod_lt _ (by decide))
          have hmod : (w.1.1 0 + (j + 1)) / 4 % 4 < 4 := Nat.mod_lt _ (by decide)
          have ep : T.2.1 (10 + (w.1.1 0 + (j + 1)) / 4 % 4) = w.1.1 (10 + (w.1.1 0 + (j + 1)) / 4 % 4) := hW.1.sc (by omega) (by omega) (by omega)
          refine zW.aload_n (pc' := 54) dX3_weightAfter_53 rfl rfl zg0 rfl ?_
          refine zW.iload_n (pc' := 55) dX3_weightAfter_54 rfl rfl (zgS (zgS (zgS (zg0)))) ?_
          refine zW.bipush (pc' := 57) (nI 6) dX3_weightAfter_55 rfl (by decide) ?_
          refine zT.call (pc' := 60) dX3_weightAfter_57 rfl l_X3_43 rfl rfl (w_cS (T := (zu T.1 0 0, T.2)) hD hW.1 hk (f := 6) (by omega)) (zcc rfl (zcc rfl zc0)) rfl (Nat.le_of_ble_eq_true rfl) (Nat.le_of_ble_eq_true rfl) (Nat.le_of_ble_eq_true rfl) (fun _ _ ⟨e1, e2⟩ => ?_)
          subst e1; rw [e2]
          refine zW.if_neN (pc' := 63) 103 dX3_weightAfter_60 rfl (by decide) (by omega) (fun b1 => ?_) (fun b1 => ?_)
          · refine zW.iload (pc' := 105) dX3_weightAfter_103 rfl (zgS (zgS (zgS (zgS (zg0))))) ?_
            refine zW.iret dX3_weightAfter_105 rfl (rfl) ?_
            have ej : sAft w.1 k t = sAft w.1 k j := by rw [sAft_no b1, ← sAft_no (k := j) b1]
            rw [ej]
            exact tO.q hW
          · refine zW.iload (pc' := 65) dX3_weightAfter_63 rfl (zgS (zgS (zgS (zgS (zgS (zg0)))))) ?_
            refine zW.iload_n (pc' := 66) dX3_weightAfter_65 rfl rfl (zgS (zgS (zg0))) ?_
            refine zW.icmp_gtN (pc' := 69) 103 dX3_weightAfter_66 rfl (by decide) (by omega) (by omega) (fun b9 => absurd b9 (by omega)) (fun b9 => ?_)
            refine zW.iload (pc' := 71) dX3_weightAfter_69 rfl (zgS (zgS (zgS (zgS (zg0))))) ?_
            refine zW.aload_n (pc' := 72) dX3_weightAfter_71 rfl rfl zg0 rfl ?_
            refine zT.get (pc' := 75) dX3_weightAfter_72 rfl f_X3_9_3 rfl ?_
            try dsimp only
            refine zW.bipush (pc' := 77) (nI 10) dX3_weightAfter_75 rfl (by decide) ?_
            refine zW.aload_n (pc' := 78) dX3_weightAfter_77 rfl rfl zg0 rfl ?_
            refine zW.aload_n (pc' := 79) dX3_weightAfter_78 rfl rfl zg0 rfl ?_
            refine zT.get (pc' := 82) dX3_weightAfter_79 rfl f_X3_9_3 rfl ?_
            try dsimp only
            refine zW.iconst (pc' := 83) (nI 0) dX3_weightAfter_82 rfl (by decide) ?_
            first | refine zT.ald1 (pc' := 84) dX3_weightAfter_83 rfl hD (by omega) ?_ | refine zT.ald4 (pc' := 84) dX3_weightAfter_83 rfl hD (by omega) ?_
            try dsimp only
            rw [e0]
            refine zW.iload (pc' := 86) dX3_weightAfter_84 rfl (zgS (zgS (zgS (zgS (zgS (zg0)))))) ?_
            refine zW.iaddN (pc' := 87) dX3_weightAfter_86 rfl ?_
            refine zT.call (pc' := 90) dX3_weightAfter_87 rfl l_X3_99 rfl rfl (w_phaseAt (T := (zu T.1 0 0, T.2)) (by omega)) (zcc rfl zc0) rfl (Nat.le_of_ble_eq_true rfl) (Nat.le_of_ble_eq_true rfl) (Nat.le_of_ble_eq_true rfl) (fun _ _ ⟨e1, e2⟩ => ?_)
            subst e1; rw [e2]
            refine zW.iaddN (pc' := 91) dX3_weightAfter_90 rfl ?_
            first | refine zT.ald1 (pc' := 92) dX3_weightAfter_91 rfl hD (by omega) ?_ | refine zT.ald4 (pc' := 92) dX3_weightAfter_91 rfl hD (by omega) ?_
            try dsimp only
            rw [ep]
            refine zW.callS (pc' := 95) dX3_weightAfter_92 rfl l_X3_102 rfl (w_grown hle hp20) (zcc rfl (zcc rfl zc0)) rfl (Nat.le_of_ble_eq_true rfl) (Nat.le_of_ble_eq_true rfl) (Nat.le_of_ble_eq_true rfl) (fun _ _ ⟨e1, e3⟩ => ?_) (fun _ _ q9 => by cases q9.1)
            cases e1; subst e3
            refine zW.istore (pc' := 97) dX3_weightAfter_95 rfl (Nat.le_of_ble_eq_true rfl) (zsS (zsS (zsS (zsS (zs0))))) ?_
            refine zW.iincN (pc' := 100) (n := 1) dX3_weightAfter_97 rfl (Nat.le_of_ble_eq_true rfl) (zgS (zgS (zgS (zgS (zgS (zg0)))))) (zsS (zsS (zsS (zsS (zsS (zs0)))))) ?_
            refine zW.goto 53 dX3_weightAfter_100 (by decide) ?_
            refine zW.congr (ih (j + 1) (by omega) (Or.inl b1)) ?_ rfl rfl
            show _ = [_, _, _, _, Value.int (nI (sAft w.1 k (j + 1))), _]
            rw [sAft, if_pos b1]
      exact loop t 0 (Nat.zero_add _) (Or.inr rfl)
/-- a char is typed -/
def sAppend (w : sW) (c : Int32) : Nat × Int32 × sW := if sIn c (nI 32) (nI 126) = true then (if w.2.2.2.2.1.length = 60 then (2, nI 0, w) else (0, nI (w.2.2.2.2.1.length + 1), (w.1, w.2.1, w.2.2.1, w.2.2.2.1, w.2.2.2.2.1 ++ [iN c], w.2.2.2.2.2))) else (1, nI 0, w)
theorem w_append (hD : tD a) {w : sW} (hW : tW T w) {c : Int32} : zK G mX3_append 4 0 [.ref a.1, .int c] (tH h0 a T) (tO h0 a (sAppend w c).1 (.int (sAppend w c).2.1) (sAppend w c).2.2) := by
  have h8 := hW.2.2.2.2.1.1
  have h60 := hW.2.2.2.2.1.2.1
  unfold sAppend
  show zW G mX3_append 4 0 0 [.ref a.1, .int c] [] (tH h0 a T) _
  by_cases q : sIn c (nI 32) (nI 126) = true
  rotate_left
  · rw [if_neg q]
    refine zW.aload_n (pc' := 1) dX3_append_0 rfl rfl zg0 rfl ?_
    refine zW.iload_n (pc' := 2) dX3_append_1 rfl rfl (zgS (zg0)) ?_
    refine zW.bipush (pc' := 4) (nI 32) dX3_append_2 rfl (by decide) ?_
    refine zW.bipush (pc' := 6) (nI 126) dX3_append_4 rfl (by decide) ?_
    refine zW.callS (pc' := 9) dX3_append_6 rfl l_X3_55 rfl (w_in0 q) (zcc rfl (zcc rfl (zcc rfl zc0))) rfl (Nat.le_of_ble_eq_true rfl) (Nat.le_of_ble_eq_true rfl) (Nat.le_of_ble_eq_true rfl) (fun _ _ ⟨e1, e3⟩ => ?_) (fun _ _ q9 => by cases q9.1)
    cases e1; subst e3
    refine zW.if_neN (pc' := 12) 16 dX3_append_9 rfl (by decide) (by omega) (fun b9 => absurd b9 (by omega)) (fun b9 => ?_)
    refine zW.iconst (pc' := 13) (nI 1) dX3_append_12 rfl (by decide) ?_
    refine zW.goto 30 dX3_append_13 (by decide) ?_
    refine zT.putN (pc' := 33) dX3_append_30 rfl f_X3_30_3 (zFw.of ft_3_0 rfl rfl) rfl ?_
    try dsimp only
    refine zW.aload_n (pc' := 34) dX3_append_33 rfl rfl zg0 rfl ?_
    refine zT.get (pc' := 37) dX3_append_34 rfl f_X3_30_3 rfl ?_
    try dsimp only
    rw [zu_s]
    refine zW.if_eqN (pc' := 40) 42 dX3_append_37 rfl (by decide) (by omega) (fun b9 => absurd b9 (by omega)) (fun b9 => ?_)
    refine zW.iconst (pc' := 41) (nI 0) dX3_append_40 rfl (by decide) ?_
    refine zW.iret dX3_append_41 rfl (rfl) ?_
    exact tO.q hW
  · rw [if_pos q]
    obtain ⟨k, ek, hk1, hk, ik⟩ := sIn_nat q (by decide) (by decide)
    rw [ik]
    refine zW.aload_n (pc' := 1) dX3_append_0 rfl rfl zg0 rfl ?_
    refine zW.iload_n (pc' := 2) dX3_append_1 rfl rfl (zgS (zg0)) ?_
    refine zW.bipush (pc' := 4) (nI 32) dX3_append_2 rfl (by decide) ?_
    refine zW.bipush (pc' := 6) (nI 126) dX3_append_4 rfl (by decide) ?_
    refine zW.callS (pc' := 9) dX3_append_6 rfl l_X3_55 rfl (w_in1 q) (zcc rfl (zcc rfl (zcc rfl zc0))) rfl (Nat.le_of_ble_eq_true rfl) (Nat.le_of_ble_eq_true rfl) (Nat.le_of_ble_eq_true rfl) (fun _ _ ⟨e1, e3⟩ => ?_) (fun _ _ q9 => by cases q9.1)
    cases e1; subst e3
    refine zW.if_neN (pc' := 12) 16 dX3_append_9 rfl (by decide) (by omega) (fun b9 => ?_) (fun b9 => absurd b9 (by omega))
    refine zW.aload_n (pc' := 17) dX3_append_16 rfl rfl zg0 rfl ?_
    refine zT.get (pc' := 20) dX3_append_17 rfl f_X3_170_3 rfl ?_
    try dsimp only
    rw [h8]
    refine zW.bipush (pc' := 22) (nI 60) dX3_append_20 rfl (by decide) ?_
    subst ek
    by_cases q2 : w.2.2.2.2.1.length = 60
    · rw [if_pos q2]
      refine zW.icmp_neN (pc' := 25) 29 dX3_append_22 rfl (by decide) (by omega) (by omega) (fun b9 => absurd b9 (by omega)) (fun b9 => ?_)
      refine zW.iconst (pc' := 26) (nI 2) dX3_append_25 rfl (by decide) ?_
      refine zW.goto 30 dX3_append_26 (by decide) ?_
      refine zT.putN (pc' := 33) dX3_append_30 rfl f_X3_30_3 (zFw.of ft_3_0 rfl rfl) rfl ?_
      try dsimp only
      refine zW.aload_n (pc' := 34) dX3_append_33 rfl rfl zg0 rfl ?_
      refine zT.get (pc' := 37) dX3_append_34 rfl f_X3_30_3 rfl ?_
      try dsimp only
      rw [zu_s]
      refine zW.if_eqN (pc' := 40) 42 dX3_append_37 rfl (by decide) (by omega) (fun b9 => absurd b9 (by omega)) (fun b9 => ?_)
      refine zW.iconst (pc' := 41) (nI 0) dX3_append_40 rfl (by decide) ?_
      refine zW.iret dX3_append_41 rfl (rfl) ?_
      exact tO.q hW
    · rw [if_neg q2]
      refine zW.icmp_neN (pc' := 25) 29 dX3_append_22 rfl (by decide) (by omega) (by omega) (fun b9 => ?_) (fun b9 => absurd b9 (by omega))
      refine zW.iconst (pc' := 30) (nI 0) dX3_append_29 rfl (by decide) ?_
      refine zT.putN (pc' := 33) dX3_append_30 rfl f_X3_30_3 (zFw.of ft_3_0 rfl rfl) rfl ?_
      try dsimp only
      refine zW.aload_n (pc' := 34) dX3_append_33 rfl rfl zg0 rfl ?_
      refine zT.get (pc' := 37) dX3_append_34 rfl f_X3_30_3 rfl ?_
      try dsimp only
      rw [zu_s]
      refine zW.if_eqN (pc' := 40) 42 dX3_append_37 rfl (by decide) (by omega) (fun b9 => ?_) (fun b9 => absurd b9 (by omega))
      refine zW.aload_n (pc' := 43) dX3_append_42 rfl rfl zg0 rfl ?_
      refine zT.get (pc' := 46) dX3_append_43 rfl f_X3_17_3 rfl ?_
      try dsimp only
      refine zW.aload_n (pc' := 47) dX3_append_46 rfl rfl zg0 rfl ?_
      refine zT.get (pc' := 50) dX3_append_47 rfl f_X3_170_3 rfl ?_
      try dsimp only
      rw [zu_n (show (8 : Nat) ≠ 0 by decide), h8]
      refine zW.iload_n (pc' := 51) dX3_append_50 rfl rfl (zgS (zg0)) ?_
      first | refine zT.ast2 (pc' := 52) dX3_append_51 rfl hD (by omega) (by omega) ?_ | refine zT.ast3 (pc' := 52) dX3_append_51 rfl hD (by omega) (by omega) ?_
      try dsimp only
      refine zW.aload_n (pc' := 53) dX3_append_52 rfl rfl zg0 rfl ?_
      refine zW.dup (pc' := 54) dX3_append_53 rfl rfl ?_
      refine zT.get (pc' := 57) dX3_append_54 rfl f_X3_170_3 rfl ?_
      try dsimp only
      rw [zu_n (show (8 : Nat) ≠ 0 by decide), h8]
      refine zW.iconst (pc' := 58) (nI 1) dX3_append_57 rfl (by decide) ?_
      refine zW.iaddN (pc' := 59) dX3_append_58 rfl ?_
      refine zT.putN (pc' := 62) dX3_append_59 rfl f_X3_170_3 (zFw.of ft_3_8 rfl rfl) rfl ?_
      try dsimp only
      refine zW.aload_n (pc' := 63) dX3_append_62 rfl rfl zg0 rfl ?_
      refine zT.get (pc' := 66) dX3_append_63 rfl f_X3_170_3 rfl ?_
      try dsimp only
      rw [zu_s]
      refine zW.iret dX3_append_66 rfl (rfl) ?_
      obtain ⟨hR0, ⟨⟨a1, a2, a3⟩, ⟨a4, a5⟩, ⟨a6, a7, a8⟩, ⟨a9, a10, a11⟩, a12, a13⟩⟩ := hW
      have hz : ∀ f, f ≠ 0 → f ≠ 8 → zu (zu T.1 0 0) 8 (w.2.2.2.2.1.length + 1) f = T.1 f := fun f h h' => (zu_n h').trans (zu_n h)
      have hz0 : zu (zu T.1 0 0) 8 (w.2.2.2.2.1.length + 1) 0 = 0 := (zu_n (by decide)).trans zu_s
      have hz8 : zu (zu T.1 0 0) 8 (w.2.2.2.2.1.length + 1) 8 = w.2.2.2.2.1.length + 1 := zu_s
      refine ⟨_, (zu (zu T.1 0 0) 8 (w.2.2.2.2.1.length + 1), T.2.1, T.2.2.1, zu T.2.2.2.1 w.2.2.2.2.1.length k, T.2.2.2.2), rfl, ⟨rfl, hz0, hR0, ⟨(hz 2 (by decide) (by decide)).trans a1, a2, a3⟩, ⟨(hz 3 (by decide) (by decide)).trans a4, a5⟩, ⟨(hz 6 (by decide) (by decide)).trans a6, a7, a8⟩, ⟨by rw [List.length_append]; exact hz8, by rw [List.length_append, List.length_singleton]; omega, fun i x hx => ?_⟩, (hz 11 (by decide) (by decide)).trans a12, (hz 12 (by decide) (by decide)).trans a13⟩, rfl⟩
      show zu T.2.2.2.1 w.2.2.2.2.1.length k i = x
      have hx : (w.2.2.2.2.1 ++ [k])[i]? = some x := hx
      by_cases hil : i < w.2.2.2.2.1.length
      · rw [List.getElem?_append_left hil] at hx
        rw [zu_n (by omega)]
        exact a11 i x hx
      · rw [List.getElem?_append_right (by omega)] at hx
        have hi1 := (List.getElem?_eq_some_iff.mp hx).1
        rw [List.length_singleton] at hi1
        have hi2 : i = w.2.2.2.2.1.length := by omega
        subst hi2
        rw [Nat.sub_self] at hx
        cases hx
        exact zu_s
end
