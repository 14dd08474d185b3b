/-! THE REFERENCE's questions: sums, the lowest, the queue -/
section
set_option maxRecDepth 100000
variable {G : zG} {h0 : zH} {a : tA} {T : tS} {tt nn n : Nat}
/-- a sum over the first ones -/
def sUp (g : Nat → Nat) : Nat → Nat
  | 0 => 0
  | k + 1 => sUp g k + g k
def sSum (s : sS) (f p : Nat) : Nat := sUp (fun k => if sAt s.2.1 k f = p then sAt s.2.1 k 3 else 0) s.2.1.length
theorem w_sumOf (hD : tD a) {s : sS} (hR : tR T.2.1 0 s) (hB : tB s) {f p : Nat} (hf : f < 8) (hp : p < 100) : zK G mX3_sumOf 2 0 [.ref a.1, .int (nI f), .int (nI p)] (tH h0 a T) (tQ h0 a fun v T' => v = some (.int (nI (sSum s f p))) ∧ T' = T) := by
  have hac := hR.ac
  have h12 := hR.n12
  unfold sSum
  generalize hg : (fun k => if sAt s.2.1 k f = p then sAt s.2.1 k 3 else 0) = g
  have loop : ∀ n k, k + n = s.2.1.length → zW G mX3_sumOf 2 0 5 [.ref a.1, .int (nI f), .int (nI p), .int (nI (sUp g k)), .int (nI k)] [] (tH h0 a T) (tQ h0 a fun v T' => v = some (.int (nI (sUp g s.2.1.length))) ∧ T' = T) := by
    intro n
    induction n with
    | zero =>
      intro k hk
      have hk : k = s.2.1.length := by omega
      subst hk
      refine zW.iload (pc' := 7) dX3_sumOf_5 rfl (zgS (zgS (zgS (zgS (zg0))))) ?_
      refine zW.aload_n (pc' := 8) dX3_sumOf_7 rfl rfl zg0 rfl ?_
      refine zT.get (pc' := 11) dX3_sumOf_8 rfl f_X3_9_3 rfl ?_
      try dsimp only
      refine zW.iconst (pc' := 12) (nI 2) dX3_sumOf_11 rfl (by decide) ?_
      first | refine zT.ald1 (pc' := 13) dX3_sumOf_12 rfl hD (by omega) ?_ | refine zT.ald4 (pc' := 13) dX3_sumOf_12 rfl hD (by omega) ?_
      try dsimp only
      refine zW.icmp_geN (pc' := 16) 47 dX3_sumOf_13 rfl (by decide) (by omega) (by omega) (fun b9 => ?_) (fun b9 => absurd b9 (by omega))
      refine zW.iload_n (pc' := 48) dX3_sumOf_47 rfl rfl (zgS (zgS (zgS (zg0)))) ?_
      refine zW.iret dX3_sumOf_48 rfl (rfl) ?_
      exact ⟨_, _, rfl, ⟨rfl, rfl⟩, rfl⟩
    | succ n ih =>
      intro k hk
      have hkl : k < s.2.1.length := by omega
      have hcf := hB.at hkl hf
      have hgk : g k = if sAt s.2.1 k f = p then sAt s.2.1 k 3 else 0 := by rw [← hg]
      refine zW.iload (pc' := 7) dX3_sumOf_5 rfl (zgS (zgS (zgS (zgS (zg0))))) ?_
      refine zW.aload_n (pc' := 8) dX3_sumOf_7 rfl rfl zg0 rfl ?_
      refine zT.get (pc' := 11) dX3_sumOf_8 rfl f_X3_9_3 rfl ?_
      try dsimp only
      refine zW.iconst (pc' := 12) (nI 2) dX3_sumOf_11 rfl (by decide) ?_
      first | refine zT.ald1 (pc' := 13) dX3_sumOf_12 rfl hD (by omega) ?_ | refine zT.ald4 (pc' := 13) dX3_sumOf_12 rfl hD (by omega) ?_
      try dsimp only
      refine zW.icmp_geN (pc' := 16) 47 dX3_sumOf_13 rfl (by decide) (by omega) (by omega) (fun b9 => absurd b9 (by omega)) (fun b9 => ?_)
      refine zW.iload_n (pc' := 17) dX3_sumOf_16 rfl rfl (zgS (zgS (zgS (zg0)))) ?_
      refine zW.aload_n (pc' := 18) dX3_sumOf_17 rfl rfl zg0 rfl ?_
      refine zW.iload (pc' := 20) dX3_sumOf_18 rfl (zgS (zgS (zgS (zgS (zg0))))) ?_
      refine zW.iload_n (pc' := 21) dX3_sumOf_20 rfl rfl (zgS (zg0)) ?_
      refine zT.call (pc' := 24) dX3_sumOf_21 rfl l_X3_43 rfl rfl (w_cS hD hR hkl hf) (zcc rfl (zcc rfl zc0)) rfl (Nat.le_of_ble_eq_true rfl) (Nat.le_of_ble_eq_true rfl) (Nat.le_of_ble_eq_true rfl) (fun _ _ ⟨e1, e2⟩ => ?_)
      subst e1; rw [e2]
      refine zW.iload_n (pc' := 25) dX3_sumOf_24 rfl rfl (zgS (zgS (zg0))) ?_
      refine zW.icmp_neN (pc' := 28) 38 dX3_sumOf_25 rfl (by decide) (by omega) (by omega) (fun h2 => ?_) (fun h2 => ?_)
      · refine zW.iconst (pc' := 39) (nI 0) dX3_sumOf_38 rfl (by decide) ?_
        refine zW.iaddN (pc' := 40) dX3_sumOf_39 rfl ?_
        refine zW.istore_n (pc' := 41) dX3_sumOf_40 rfl rfl (Nat.le_of_ble_eq_true rfl) (zsS (zsS (zsS (zs0)))) ?_
        refine zW.iincN (pc' := 44) (n := 1) dX3_sumOf_41 rfl (Nat.le_of_ble_eq_true rfl) (zgS (zgS (zgS (zgS (zg0))))) (zsS (zsS (zsS (zsS (zs0))))) ?_
        refine zW.goto 5 dX3_sumOf_44 (by decide) ?_
        refine zW.congr (ih (k + 1) (by omega)) ?_ rfl rfl
        show _ = [_, _, _, Value.int (nI (sUp g k + g k)), _]
        rw [hgk, if_neg h2]
      · refine zW.aload_n (pc' := 29) dX3_sumOf_28 rfl rfl zg0 rfl ?_
        refine zW.iload (pc' := 31) dX3_sumOf_29 rfl (zgS (zgS (zgS (zgS (zg0))))) ?_
        refine zW.iconst (pc' := 32) (nI 3) dX3_sumOf_31 rfl (by decide) ?_
        refine zT.call (pc' := 35) dX3_sumOf_32 rfl l_X3_43 rfl rfl (w_cS hD hR hkl (by omega)) (zcc rfl (zcc rfl zc0)) rfl (Nat.le_of_ble_eq_true rfl) (Nat.le_of_ble_eq_true rfl) (Nat.le_of_ble_eq_true rfl) (fun _ _ ⟨e1, e2⟩ => ?_)
        subst e1; rw [e2]
        refine zW.goto 39 dX3_sumOf_35 (by decide) ?_
        refine zW.iaddN (pc' := 40) dX3_sumOf_39 rfl ?_
        refine zW.istore_n (pc' := 41) dX3_sumOf_40 rfl rfl (Nat.le_of_ble_eq_true rfl) (zsS (zsS (zsS (zs0)))) ?_
        refine zW.iincN (pc' := 44) (n := 1) dX3_sumOf_41 rfl (Nat.le_of_ble_eq_true rfl) (zgS (zgS (zgS (zgS (zg0))))) (zsS (zsS (zsS (zsS (zs0))))) ?_
        refine zW.goto 5 dX3_sumOf_44 (by decide) ?_
        refine zW.congr (ih (k + 1) (by omega)) ?_ rfl rfl
        show _ = [_, _, _, Value.int (nI (sUp g k + g k)), _]
        rw [hgk, if_pos h2]
  show zW G mX3_sumOf 2 0 0 [.ref a.1, .int (nI f), .int (nI p), zho, zho] [] (tH h0 a T) _
  refine zW.iconst (pc' := 1) (nI 0) dX3_sumOf_0 rfl (by decide) ?_
  refine zW.istore_n (pc' := 2) dX3_sumOf_1 rfl rfl (Nat.le_of_ble_eq_true rfl) (zsS (zsS (zsS (zs0)))) ?_
  refine zW.iconst (pc' := 3) (nI 0) dX3_sumOf_2 rfl (by decide) ?_
  refine zW.istore (pc' := 5) dX3_sumOf_3 rfl (Nat.le_of_ble_eq_true rfl) (zsS (zsS (zsS (zsS (zs0))))) ?_
  exact loop _ 0 (Nat.zero_add _)
def qOwed (s : sS) (f : Nat) (p : Int32) : Nat × Int32 := if sIn p (nI 0) (nI 7) = true then (0, nI (sSum s f (iN p))) else (1, nI 0)
def sBal (s : sS) (p : Nat) : Int32 := nI (sSum s 2 p) - nI (sSum s 1 p)
def qBalance (s : sS) (p : Int32) : Nat × Int32 := if sIn p (nI 0) (nI 7) = true then (0, sBal s (iN p)) else (1, nI 0)
theorem w_owedBy (hD : tD a) {w : sW} (hW : tW T w) (hB : tB w.1) {p : Int32} : zK G mX3_owedBy 3 0 [.ref a.1, .int p] (tH h0 a T) (tAns h0 a w (qOwed w.1 1 p)) := by
  show zW G mX3_owedBy 3 0 0 [.ref a.1, .int p] [] (tH h0 a T) _
  unfold qOwed
  by_cases q : sIn p (nI 0) (nI 7) = true
  rotate_left
  · rw [if_neg q]
    refine zW.aload_n (pc' := 1) dX3_owedBy_0 rfl rfl zg0 rfl ?_
    refine zW.iload_n (pc' := 2) dX3_owedBy_1 rfl rfl (zgS (zg0)) ?_
    refine zW.callS (pc' := 5) dX3_owedBy_2 rfl l_X3_59 rfl (w_pers0 q) (zcc rfl zc0) rfl (Nat.le_of_ble_eq_true rfl) (Nat.le_of_ble_eq_true rfl) (Nat.le_of_ble_eq_true rfl) (fun _ _ ⟨e1, e3⟩ => ?_) (fun _ _ q9 => by cases q9.1)
    cases e1; subst e3
    refine zT.call (pc' := 8) dX3_owedBy_5 rfl l_X3_124 rfl rfl (w_fine0) (zcc rfl zc0) rfl (Nat.le_of_ble_eq_true rfl) (Nat.le_of_ble_eq_true rfl) (Nat.le_of_ble_eq_true rfl) (fun _ _ ⟨e1, e2⟩ => ?_)
    subst e1; rw [e2]
    refine zW.if_eqN (pc' := 11) 20 dX3_owedBy_8 rfl (by decide) (by omega) (fun b9 => ?_) (fun b9 => absurd b9 (by omega))
    refine zW.iconst (pc' := 21) (nI 0) dX3_owedBy_20 rfl (by decide) ?_
    refine zW.iret dX3_owedBy_21 rfl (rfl) ?_
    exact tO.q hW
  · rw [if_pos q]
    obtain ⟨n, en, -, hn, iw⟩ := sIn_nat q (by decide) (by decide)
    rw [iw]
    refine zW.aload_n (pc' := 1) dX3_owedBy_0 rfl rfl zg0 rfl ?_
    refine zW.iload_n (pc' := 2) dX3_owedBy_1 rfl rfl (zgS (zg0)) ?_
    refine zW.callS (pc' := 5) dX3_owedBy_2 rfl l_X3_59 rfl (w_pers1 q) (zcc rfl zc0) rfl (Nat.le_of_ble_eq_true rfl) (Nat.le_of_ble_eq_true rfl) (Nat.le_of_ble_eq_true rfl) (fun _ _ ⟨e1, e3⟩ => ?_) (fun _ _ q9 => by cases q9.1)
    cases e1; subst e3
    refine zT.call (pc' := 8) dX3_owedBy_5 rfl l_X3_124 rfl rfl (w_fine1) (zcc rfl zc0) rfl (Nat.le_of_ble_eq_true rfl) (Nat.le_of_ble_eq_true rfl) (Nat.le_of_ble_eq_true rfl) (fun _ _ ⟨e1, e2⟩ => ?_)
    subst e1; rw [e2]
    refine zW.if_eqN (pc' := 11) 20 dX3_owedBy_8 rfl (by decide) (by omega) (fun b9 => absurd b9 (by omega)) (fun b9 => ?_)
    subst en
    refine zW.aload_n (pc' := 12) dX3_owedBy_11 rfl rfl zg0 rfl ?_
    refine zW.iconst (pc' := 13) (nI 1) dX3_owedBy_12 rfl (by decide) ?_
    refine zW.iload_n (pc' := 14) dX3_owedBy_13 rfl rfl (zgS (zg0)) ?_
    refine zT.call (pc' := 17) dX3_owedBy_14 rfl l_X3_134 rfl rfl (w_sumOf (T := (zu T.1 0 0, T.2)) hD hW.1 hB (f := 1) (by omega) (by omega)) (zcc rfl (zcc rfl zc0)) rfl (Nat.le_of_ble_eq_true rfl) (Nat.le_of_ble_eq_true rfl) (Nat.le_of_ble_eq_true rfl) (fun _ _ ⟨e1, e2⟩ => ?_)
    subst e1; rw [e2]
    refine zW.goto 21 dX3_owedBy_17 (by decide) ?_
    refine zW.iret dX3_owedBy_21 rfl (rfl) ?_
    exact tO.q hW
theorem w_owedTo (hD : tD a) {w : sW} (hW : tW T w) (hB : tB w.1) {p : Int32} : zK G mX3_owedTo 3 0 [.ref a.1, .int p] (tH h0 a T) (tAns h0 a w (qOwed w.1 2 p)) := by
  show zW G mX3_owedTo 3 0 0 [.ref a.1, .int p] [] (tH h0 a T) _
  unfold qOwed
  by_cases q : sIn p (nI 0) (nI 7) = true
  rotate_left
  · rw [if_neg q]
    refine zW.aload_n (pc' := 1) dX3_owedTo_0 rfl rfl zg0 rfl ?_
    refine zW.iload_n (pc' := 2) dX3_owedTo_1 rfl rfl (zgS (zg0)) ?_
    refine zW.callS (pc' := 5) dX3_owedTo_2 rfl l_X3_59 rfl (w_pers0 q) (zcc rfl zc0) rfl (Nat.le_of_ble_eq_true rfl) (Nat.le_of_ble_eq_true rfl) (Nat.le_of_ble_eq_true rfl) (fun _ _ ⟨e1, e3⟩ => ?_) (fun _ _ q9 => by cases q9.1)
    cases e1; subst e3
    refine zT.call (pc' := 8) dX3_owedTo_5 rfl l_X3_124 rfl rfl (w_fine0) (zcc rfl zc0) rfl (Nat.le_of_ble_eq_true rfl) (Nat.le_of_ble_eq_true rfl) (Nat.le_of_ble_eq_true rfl) (fun _ _ ⟨e1, e2⟩ => ?_)
    subst e1; rw [e2]
    refine zW.if_eqN (pc' := 11) 20 dX3_owedTo_8 rfl (by decide) (by omega) (fun b9 => ?_) (fun b9 => absurd b9 (by omega))
    refine zW.iconst (pc' := 21) (nI 0) dX3_owedTo_20 rfl (by decide) ?_
    refine zW.iret dX3_owedTo_21 rfl (rfl) ?_
    exact tO.q hW
  · rw [if_pos q]
    obtain ⟨n, en, -, hn, iw⟩ := sIn_nat q (by decide) (by decide)
    rw [iw]
    refine zW.aload_n (pc' := 1) dX3_owedTo_0 rfl rfl zg0 rfl ?_
    refine zW.iload_n (pc' := 2) dX3_owedTo_1 rfl rfl (zgS (zg0)) ?_
    refine zW.callS (pc' := 5) dX3_owedTo_2 rfl l_X3_59 rfl (w_pers1 q) (zcc rfl zc0) rfl (Nat.le_of_ble_eq_true rfl) (Nat.le_of_ble_eq_true rfl) (Nat.le_of_ble_eq_true rfl) (fun _ _ ⟨e1, e3⟩ => ?_) (fun _ _ q9 => by cases q9.1)
    cases e1; subst e3
    refine zT.call (pc' := 8) dX3_owedTo_5 rfl l_X3_124 rfl rfl (w_fine1) (zcc rfl zc0) rfl (Nat.le_of_ble_eq_true rfl) (Nat.le_of_ble_eq_true rfl) (Nat.le_of_ble_eq_true rfl) (fun _ _ ⟨e1, e2⟩ => ?_)
    subst e1; rw [e2]
    refine zW.if_eqN (pc' := 11) 20 dX3_owedTo_8 rfl (by decide) (by omega) (fun b9 => absurd b9 (by omega)) (fun b9 => ?_)
    subst en
    refine zW.aload_n (pc' := 12) dX3_owedTo_11 rfl rfl zg0 rfl ?_
    refine zW.iconst (pc' := 13) (nI 2) dX3_owedTo_12 rfl (by decide) ?_
    refine zW.iload_n (pc' := 14) dX3_owedTo_13 rfl rfl (zgS (zg0)) ?_
    refine zT.call (pc' := 17) dX3_owedTo_14 rfl l_X3_134 rfl rfl (w_sumOf (T := (zu T.1 0 0, T.2)) hD hW.1 hB (f := 2) (by omega) (by omega)) (zcc rfl (zcc rfl zc0)) rfl (Nat.le_of_ble_eq_true rfl) (Nat.le_of_ble_eq_true rfl) (Nat.le_of_ble_eq_true rfl) (fun _ _ ⟨e1, e2⟩ => ?_)
    subst e1; rw [e2]
    refine zW.goto 21 dX3_owedTo_17 (by decide) ?_
    refine zW.iret dX3_owedTo_21 rfl (rfl) ?_
    exact tO.q hW
theorem w_balanceOf (hD : tD a) {s : sS} (hR : tR T.2.1 0 s) (hB : tB s) {p : Nat} (hp : p < 100) : zK G mX3_balanceOf 3 0 [.ref a.1, .int (nI p)] (tH h0 a T) (tQ h0 a fun v T' => v = some (.int (sBal s p)) ∧ T' = T) := by
  show zW G mX3_balanceOf 3 0 0 [.ref a.1, .int (nI p)] [] (tH h0 a T) _
  refine zW.aload_n (pc' := 1) dX3_balanceOf_0 rfl rfl zg0 rfl ?_
  refine zW.iconst (pc' := 2) (nI 2) dX3_balanceOf_1 rfl (by decide) ?_
  refine zW.iload_n (pc' := 3) dX3_balanceOf_2 rfl rfl (zgS (zg0)) ?_
  refine zT.call (pc' := 6) dX3_balanceOf_3 rfl l_X3_134 rfl rfl (w_sumOf hD hR hB (f := 2) (by omega) hp) (zcc rfl (zcc rfl zc0)) rfl (Nat.le_of_ble_eq_true rfl) (Nat.le_of_ble_eq_true rfl) (Nat.le_of_ble_eq_true rfl) (fun _ _ ⟨e1, e2⟩ => ?_)
  subst e1; rw [e2]
  refine zW.aload_n (pc' := 7) dX3_balanceOf_6 rfl rfl zg0 rfl ?_
  refine zW.iconst (pc' := 8) (nI 1) dX3_balanceOf_7 rfl (by decide) ?_
  refine zW.iload_n (pc' := 9) dX3_balanceOf_8 rfl rfl (zgS (zg0)) ?_
  refine zT.call (pc' := 12) dX3_balanceOf_9 rfl l_X3_134 rfl rfl (w_sumOf hD hR hB (f := 1) (by omega) hp) (zcc rfl (zcc rfl zc0)) rfl (Nat.le_of_ble_eq_true rfl) (Nat.le_of_ble_eq_true rfl) (Nat.le_of_ble_eq_true rfl) (fun _ _ ⟨e1, e2⟩ => ?_)
  subst e1; rw [e2]
  refine zW.isub (pc' := 13) dX3_balanceOf_12 rfl ?_
  refine zW.iret dX3_balanceOf_13 rfl (rfl) ?_
  exact ⟨_, _, rfl, ⟨rfl, rfl⟩, rfl⟩
theorem w_balance (hD : tD a) {w : sW} (hW : tW T w) (hB : tB w.1) {p : Int32} : zK G mX3_balance 4 0 [.ref a.1, .int p] (tH h0 a T) (tAns h0 a w (qBalance w.1 p)) := by
  show zW G mX3_balance 4 0 0 [.ref a.1, .int p] [] (tH h0 a T) _
  unfold qBalance
  by_cases q : sIn p (nI 0) (nI 7) = true
  rotate_left
  · rw [if_neg q]
    refine zW.aload_n (pc' := 1) dX3_balance_0 rfl rfl zg0 rfl ?_
    refine zW.iload_n (pc' := 2) dX3_balance_1 rfl rfl (zgS (zg0)) ?_
    refine zW.callS (pc' := 5) dX3_balance_2 rfl l_X3_59 rfl (w_pers0 q) (zcc rfl zc0) rfl (Nat.le_of_ble_eq_true rfl) (Nat.le_of_ble_eq_true rfl) (Nat.le_of_ble_eq_true rfl) (fun _ _ ⟨e1, e3⟩ => ?_) (fun _ _ q9 => by cases q9.1)
    cases e1; subst e3
    refine zT.call (pc' := 8) dX3_balance_5 rfl l_X3_124 rfl rfl (w_fine0) (zcc rfl zc0) rfl (Nat.le_of_ble_eq_true rfl) (Nat.le_of_ble_eq_true rfl) (Nat.le_of_ble_eq_true rfl) (fun _ _ ⟨e1, e2⟩ => ?_)
    subst e1; rw [e2]
    refine zW.if_eqN (pc' := 11) 19 dX3_balance_8 rfl (by decide) (by omega) (fun b9 => ?_) (fun b9 => absurd b9 (by omega))
    refine zW.iconst (pc' := 20) (nI 0) dX3_balance_19 rfl (by decide) ?_
    refine zW.iret dX3_balance_20 rfl (rfl) ?_
    exact tO.q hW
  · rw [if_pos q]
    obtain ⟨n, en, -, hn, iw⟩ := sIn_nat q (by decide) (by decide)
    rw [iw]
    refine zW.aload_n (pc' := 1) dX3_balance_0 rfl rfl zg0 rfl ?_
    refine zW.iload_n (pc' := 2) dX3_balance_1 rfl rfl (zgS (zg0)) ?_
    refine zW.callS (pc' := 5) dX3_balance_2 rfl l_X3_59 rfl (w_pers1 q) (zcc rfl zc0) rfl (Nat.le_of_ble_eq_true rfl) (Nat.le_of_ble_eq_true rfl) (Nat.le_of_ble_eq_true rfl) (fun _ _ ⟨e1, e3⟩ => ?_) (fun _ _ q9 => by cases q9.1)
    cases e1; subst e3
    refine zT.call (pc' := 8) dX3_balance_5 rfl l_X3_124 rfl rfl (w_fine1) (zcc rfl zc0) rfl (Nat.le_of_ble_eq_true rfl) (Nat.le_of_ble_eq_true rfl) (Nat.le_of_ble_eq_true rfl) (fun _ _ ⟨e1, e2⟩ => ?_)
    subst e1; rw [e2]
    refine zW.if_eqN (pc' := 11) 19 dX3_balance_8 rfl (by decide) (by omega) (fun b9 => absurd b9 (by omega)) (fun b9 => ?_)
    subst en
    refine zW.aload_n (pc' := 12) dX3_balance_11 rfl rfl zg0 rfl ?_
    refine zW.iload_n (pc' := 13) dX3_balance_12 rfl rfl (zgS (zg0)) ?_
    refine zT.call (pc' := 16) dX3_balance_13 rfl l_X3_137 rfl rfl (w_balanceOf (T := (zu T.1 0 0, T.2)) hD hW.1 hB (by omega)) (zcc rfl zc0) rfl (Nat.le_of_ble_eq_true rfl) (Nat.le_of_ble_eq_true rfl) (Nat.le_of_ble_eq_true rfl) (fun _ _ ⟨e1, e2⟩ => ?_)
    subst e1; rw [e2]
    refine zW.goto 20 dX3_balance_16 (by decide) ?_
    refine zW.iret dX3_balance_20 rfl (rfl) ?_
    exact tO.q hW
def sMost (s : sS) : Nat → Nat
  | 0 => 0
  | k + 1 => if sBal s (k + 1) < sBal s (sMost s k) then k + 1 else sMost s k
theorem sMost_le {s : sS} {k : Nat} : sMost s k ≤ k := by
  induction k with
  | zero => exact Nat.le_refl _
  | succ k ih => unfold sMost; split <;> omega
def qMost (s : sS) : Nat × Int32 := if s.2.1.length = 0 then (1, nI 0) else (0, nI (sMost s 7))
theorem w_mostIndebted (hD : tD a) {w : sW} (hW : tW T w) (hB : tB w.1) : zK G mX3_mostIndebted 4 0 [.ref a.1] (tH h0 a T) (tAns h0 a w (qMost w.1)) := by
  have hac := hW.1.ac
  have h12 := hW.1.n12
  have loop : ∀ n k, k + n = 7 → zW G mX3_mostIndebted 4 0 27 [.ref a.1, .int (nI (sMost w.1 k)), .int (nI (k + 1))] [] (tH h0 a (zu T.1 0 0, T.2)) (tAns h0 a w (0, nI (sMost w.1 7))) := by
    intro n
    induction n with
    | zero =>
      intro k hk
      have hk : k = 7 := by omega
      subst hk
      refine zW.iload_n (pc' := 28) dX3_mostIndebted_27 rfl rfl (zgS (zgS (zg0))) ?_
      refine zW.bipush (pc' := 30) (nI 8) dX3_mostIndebted_28 rfl (by decide) ?_
      refine zW.icmp_geN (pc' := 33) 58 dX3_mostIndebted_30 rfl (by decide) (by omega) (by omega) (fun b9 => ?_) (fun b9 => absurd b9 (by omega))
      refine zW.iload_n (pc' := 59) dX3_mostIndebted_58 rfl rfl (zgS (zg0)) ?_
      refine zW.iret dX3_mostIndebted_59 rfl (rfl) ?_
      exact tO.q hW
    | succ n ih =>
      intro k hk
      have hle := sMost_le (s := w.1) (k := k)
      refine zW.iload_n (pc' := 28) dX3_mostIndebted_27 rfl rfl (zgS (zgS (zg0))) ?_
      refine zW.bipush (pc' := 30) (nI 8) dX3_mostIndebted_28 rfl (by decide) ?_
      refine zW.icmp_geN (pc' := 33) 58 dX3_mostIndebted_30 rfl (by decide) (by omega) (by omega) (fun b9 => absurd b9 (by omega)) (fun b9 => ?_)
      refine zW.aload_n (pc' := 34) dX3_mostIndebted_33 rfl rfl zg0 rfl ?_
      refine zW.iload_n (pc' := 35) dX3_mostIndebted_34 rfl rfl (zgS (zgS (zg0))) ?_
      refine zT.call (pc' := 38) dX3_mostIndebted_35 rfl l_X3_137 rfl rfl (w_balanceOf (T := (zu T.1 0 0, T.2)) hD hW.1 hB (by omega)) (zcc rfl zc0) rfl (Nat.le_of_ble_eq_true rfl) (Nat.le_of_ble_eq_true rfl) (Nat.le_of_ble_eq_true rfl) (fun _ _ ⟨e1, e2⟩ => ?_)
      subst e1; rw [e2]
      refine zW.aload_n (pc' := 39) dX3_mostIndebted_38 rfl rfl zg0 rfl ?_
      refine zW.iload_n (pc' := 40) dX3_mostIndebted_39 rfl rfl (zgS (zg0)) ?_
      refine zT.call (pc' := 43) dX3_mostIndebted_40 rfl l_X3_137 rfl rfl (w_balanceOf (T := (zu T.1 0 0, T.2)) hD hW.1 hB (by omega)) (zcc rfl zc0) rfl (Nat.le_of_ble_eq_true rfl) (Nat.le_of_ble_eq_true rfl) (Nat.le_of_ble_eq_true rfl) (fun _ _ ⟨e1, e2⟩ => ?_)
      subst e1; rw [e2]
      refine zW.icmp_ge (pc' := 46) 50 dX3_mostIndebted_43 rfl (by decide) (fun b1 => ?_) (fun b1 => ?_)
      · refine zW.iload_n (pc' := 51) dX3_mostIndebted_50 rfl rfl (zgS (zg0)) ?_
        refine zW.istore_n (pc' := 52) dX3_mostIndebted_51 rfl rfl (Nat.le_of_ble_eq_true rfl) (zsS (zs0)) ?_
        refine zW.iincN (pc' := 55) (n := 1) dX3_mostIndebted_52 rfl (Nat.le_of_ble_eq_true rfl) (zgS (zgS (zg0))) (zsS (zsS (zs0))) ?_
        refine zW.goto 27 dX3_mostIndebted_55 (by decide) ?_
        refine zW.congr (ih (k + 1) (by omega)) ?_ rfl rfl
        show _ = [_, Value.int (nI (sMost w.1 (k + 1))), _]
        rw [sMost, if_neg (fun q => absurd b1 (Int32.not_le.mpr q))]
      · refine zW.iload_n (pc' := 47) dX3_mostIndebted_46 rfl rfl (zgS (zgS (zg0))) ?_
        refine zW.goto 51 dX3_mostIndebted_47 (by decide) ?_
        refine zW.istore_n (pc' := 52) dX3_mostIndebted_51 rfl rfl (Nat.le_of_ble_eq_true rfl) (zsS (zs0)) ?_
        refine zW.iincN (pc' := 55) (n := 1) dX3_mostIndebted_52 rfl (Nat.le_of_ble_eq_true rfl) (zgS (zgS (zg0))) (zsS (zsS (zs0))) ?_
        refine zW.goto 27 dX3_mostIndebted_55 (by decide) ?_
        refine zW.congr (ih (k + 1) (by omega)) ?_ rfl rfl
        show _ = [_, Value.int (nI (sMost w.1 (k + 1))), _]
        rw [sMost, if_pos (Int32.not_le.mp b1)]
  show zW G mX3_mostIndebted 4 0 0 [.ref a.1, zho, zho] [] (tH h0 a T) _
  unfold qMost
  refine zW.aload_n (pc' := 1) dX3_mostIndebted_0 rfl rfl zg0 rfl ?_
  refine zW.aload_n (pc' := 2) dX3_mostIndebted_1 rfl rfl zg0 rfl ?_
  refine zT.get (pc' := 5) dX3_mostIndebted_2 rfl f_X3_9_3 rfl ?_
  try dsimp only
  refine zW.iconst (pc' := 6) (nI 2) dX3_mostIndebted_5 rfl (by decide) ?_
  first | refine zT.ald1 (pc' := 7) dX3_mostIndebted_6 rfl hD (by omega) ?_ | refine zT.ald4 (pc' := 7) dX3_mostIndebted_6 rfl hD (by omega) ?_
  try dsimp only
  rw [hac]
  refine zW.if_leN (pc' := 10) 14 dX3_mostIndebted_7 rfl (by decide) (by omega) (fun b1 => ?_) (fun b1 => ?_)
  · rw [if_pos b1]
    refine zW.iconst (pc' := 15) (nI 0) dX3_mostIndebted_14 rfl (by decide) ?_
    refine zT.call (pc' := 18) dX3_mostIndebted_15 rfl l_X3_124 rfl rfl (w_fine0) (zcc rfl zc0) rfl (Nat.le_of_ble_eq_true rfl) (Nat.le_of_ble_eq_true rfl) (Nat.le_of_ble_eq_true rfl) (fun _ _ ⟨e1, e2⟩ => ?_)
    subst e1; rw [e2]
    refine zW.if_neN (pc' := 21) 23 dX3_mostIndebted_18 rfl (by decide) (by omega) (fun b9 => absurd b9 (by omega)) (fun b9 => ?_)
    refine zW.iconst (pc' := 22) (nI 0) dX3_mostIndebted_21 rfl (by decide) ?_
    refine zW.iret dX3_mostIndebted_22 rfl (rfl) ?_
    exact tO.q hW
  · rw [if_neg b1]
    refine zW.iconst (pc' := 11) (nI 1) dX3_mostIndebted_10 rfl (by decide) ?_
    refine zW.goto 15 dX3_mostIndebted_11 (by decide) ?_
    refine zT.call (pc' := 18) dX3_mostIndebted_15 rfl l_X3_124 rfl rfl (w_fine1) (zcc rfl zc0) rfl (Nat.le_of_ble_eq_true rfl) (Nat.le_of_ble_eq_true rfl) (Nat.le_of_ble_eq_true rfl) (fun _ _ ⟨e1, e2⟩ => ?_)
    subst e1; rw [e2]
    refine zW.if_neN (pc' := 21) 23 dX3_mostIndebted_18 rfl (by decide) (by omega) (fun b9 => ?_) (fun b9 => absurd b9 (by omega))
    refine zW.iconst (pc' := 24) (nI 0) dX3_mostIndebted_23 rfl (by decide) ?_
    refine zW.istore_n (pc' := 25) dX3_mostIndebted_24 rfl rfl (Nat.le_of_ble_eq_true rfl) (zsS (zs0)) ?_
    refine zW.iconst (pc' := 26) (nI 1) dX3_mostIndebted_25 rfl (by decide) ?_
    refine zW.istore_n (pc' := 27) dX3_mostIndebted_26 rfl rfl (Nat.le_of_ble_eq_true rfl) (zsS (zsS (zs0))) ?_
    exact loop 7 0 rfl
def sHvy (s : sS) : Nat → Nat
  | 0 => 0
  | k + 1 => if sAt s.2.1 (sHvy s k) 3 < sAt s.2.1 (k + 1) 3 then k + 1 else sHvy s k
theorem sHvy_le {s : sS} {k : Nat} : sHvy s k ≤ k := by
  induction k with
  | zero => exact Nat.le_refl _
  | succ k ih => unfold sHvy; split <;> omega
def qHeaviest (s : sS) : Nat × Int32 := if s.2.1.length = 0 then (1, nI 0) else (0, nI (sAt s.2.1 (sHvy s (s.2.1.length - 1)) 0))
theorem w_heaviest (hD : tD a) {w : sW} (hW : tW T w) (hB : tB w.1) : zK G mX3_heaviest 4 0 [.ref a.1] (tH h0 a T) (tAns h0 a w (qHeaviest w.1)) := by
  have hac := hW.1.ac
  have h12 := hW.1.n12
  have loop : ∀ n k, k + n + 1 = w.1.2.1.length → zW G mX3_heaviest 4 0 27 [.ref a.1, .int (nI (sHvy w.1 k)), .int (nI (k + 1))] [] (tH h0 a (zu T.1 0 0, T.2)) (tAns h0 a w (0, nI (sAt w.1.2.1 (sHvy w.1 (w.1.2.1.length - 1)) 0))) := by
    intro n
    induction n with
    | zero =>
      intro k hk
      have hk : k = w.1.2.1.length - 1 := by omega
      have hle := sHvy_le (s := w.1) (k := k)
      subst hk
      refine zW.iload_n (pc' := 28) dX3_heaviest_27 rfl rfl (zgS (zgS (zg0))) ?_
      refine zW.aload_n (pc' := 29) dX3_heaviest_28 rfl rfl zg0 rfl ?_
      refine zT.get (pc' := 32) dX3_heaviest_29 rfl f_X3_9_3 rfl ?_
      try dsimp only
      refine zW.iconst (pc' := 33) (nI 2) dX3_heaviest_32 rfl (by decide) ?_
      first | refine zT.ald1 (pc' := 34) dX3_heaviest_33 rfl hD (by omega) ?_ | refine zT.ald4 (pc' := 34) dX3_heaviest_33 rfl hD (by omega) ?_
      try dsimp only
      refine zW.icmp_geN (pc' := 37) 64 dX3_heaviest_34 rfl (by decide) (by omega) (by omega) (fun b9 => ?_) (fun b9 => absurd b9 (by omega))
      refine zW.aload_n (pc' := 65) dX3_heaviest_64 rfl rfl zg0 rfl ?_
      refine zW.iload_n (pc' := 66) dX3_heaviest_65 rfl rfl (zgS (zg0)) ?_
      refine zW.iconst (pc' := 67) (nI 0) dX3_heaviest_66 rfl (by decide) ?_
      refine zT.call (pc' := 70) dX3_heaviest_67 rfl l_X3_43 rfl rfl (w_cS (T := (zu T.1 0 0, T.2)) hD hW.1 (k := sHvy w.1 (w.1.2.1.length - 1)) (f := 0) (by omega) (by omega)) (zcc rfl (zcc rfl zc0)) rfl (Nat.le_of_ble_eq_true rfl) (Nat.le_of_ble_eq_true rfl) (Nat.le_of_ble_eq_true rfl) (fun _ _ ⟨e1, e2⟩ => ?_)
      subst e1; rw [e2]
      refine zW.iret dX3_heaviest_70 rfl (rfl) ?_
      exact tO.q hW
    | succ n ih =>
      intro k hk
      have hle := sHvy_le (s := w.1) (k := k)
      have c1 := hB.at (i := k + 1) (f := 3) (by omega) (by omega)
      have c2 := hB.at (i := sHvy w.1 k) (f := 3) (by omega) (by omega)
      refine zW.iload_n (pc' := 28) dX3_heaviest_27 rfl rfl (zgS (zgS (zg0))) ?_
      refine zW.aload_n (pc' := 29) dX3_heaviest_28 rfl rfl zg0 rfl ?_
      refine zT.get (pc' := 32) dX3_heaviest_29 rfl f_X3_9_3 rfl ?_
      try dsimp only
      refine zW.iconst (pc' := 33) (nI 2) dX3_heaviest_32 rfl (by decide) ?_
      first | refine zT.ald1 (pc' := 34) dX3_heaviest_33 rfl hD (by omega) ?_ | refine zT.ald4 (pc' := 34) dX3_heaviest_33 rfl hD (by omega) ?_
      try dsimp only
      refine zW.icmp_geN (pc' := 37) 64 dX3_heaviest_34 rfl (by decide) (by omega) (by omega) (fun b9 => absurd b9 (by omega)) (fun b9 => ?_)
      refine zW.aload_n (pc' := 38) dX3_heaviest_37 rfl rfl zg0 rfl ?_
      refine zW.iload_n (pc' := 39) dX3_heaviest_38 rfl rfl (zgS (zgS (zg0))) ?_
      refine zW.iconst (pc' := 40) (nI 3) dX3_heaviest_39 rfl (by decide) ?_
      refine zT.call (pc' := 43) dX3_heaviest_40 rfl l_X3_43 rfl rfl (w_cS (T := (zu T.1 0 0, T.2)) hD hW.1 (k := k + 1) (f := 3) (by omega) (by omega)) (zcc rfl (zcc rfl zc0)) rfl (Nat.le_of_ble_eq_true rfl) (Nat.le_of_ble_eq_true rfl) (Nat.le_of_ble_eq_true rfl) (fun _ _ ⟨e1, e2⟩ => ?_)
      subst e1; rw [e2]
      refine zW.aload_n (pc' := 44) dX3_heaviest_43 rfl rfl zg0 rfl ?_
      refine zW.iload_n (pc' := 45) dX3_heaviest_44 rfl rfl (zgS (zg0)) ?_
      refine zW.iconst (pc' := 46) (nI 3) dX3_heaviest_45 rfl (by decide) ?_
      refine zT.call (pc' := 49) dX3_heaviest_46 rfl l_X3_43 rfl rfl (w_cS (T := (zu T.1 0 0, T.2)) hD hW.1 (k := sHvy w.1 k) (f := 3) (by omega) (by omega)) (zcc rfl (zcc rfl zc0)) rfl (Nat.le_of_ble_eq_true rfl) (Nat.le_of_ble_eq_true rfl) (Nat.le_of_ble_eq_true rfl) (fun _ _ ⟨e1, e2⟩ => ?_)
      subst e1; rw [e2]
      refine zW.icmp_leN (pc' := 52) 56 dX3_heaviest_49 rfl (by decide) (by omega) (by omega) (fun b1 => ?_) (fun b1 => ?_)
      · refine zW.iload_n (pc' := 57) dX3_heaviest_56 rfl rfl (zgS (zg0)) ?_
        refine zW.istore_n (pc' := 58) dX3_heaviest_57 rfl rfl (Nat.le_of_ble_eq_true rfl) (zsS (zs0)) ?_
        refine zW.iincN (pc' := 61) (n := 1) dX3_heaviest_58 rfl (Nat.le_of_ble_eq_true rfl) (zgS (zgS (zg0))) (zsS (zsS (zs0))) ?_
        refine zW.goto 27 dX3_heaviest_61 (by decide) ?_
        refine zW.congr (ih (k + 1) (by omega)) ?_ rfl rfl
        show _ = [_, Value.int (nI (sHvy w.1 (k + 1))), _]
        rw [sHvy, if_neg (by omega)]
      · refine zW.iload_n (pc' := 53) dX3_heaviest_52 rfl rfl (zgS (zgS (zg0))) ?_
        refine zW.goto 57 dX3_heaviest_53 (by decide) ?_
        refine zW.istore_n (pc' := 58) dX3_heaviest_57 rfl rfl (Nat.le_of_ble_eq_true rfl) (zsS (zs0)) ?_
        refine zW.iincN (pc' := 61) (n := 1) dX3_heaviest_58 rfl (Nat.le_of_ble_eq_true rfl) (zgS (zgS (zg0))) (zsS (zsS (zs0))) ?_
        refine zW.goto 27 dX3_heaviest_61 (by decide) ?_
        refine zW.congr (ih (k + 1) (by omega)) ?_ rfl rfl
        show _ = [_, Value.int (nI (sHvy w.1 (k + 1))), _]
        rw [sHvy, if_pos (by omega)]
  show zW G mX3_heaviest 4 0 0 [.ref a.1, zho, zho] [] (tH h0 a T) _
  unfold qHeaviest
  refine zW.aload_n (pc' := 1) dX3_heaviest_0 rfl rfl zg0 rfl ?_
  refine zW.aload_n (pc' := 2) dX3_heaviest_1 rfl rfl zg0 rfl ?_
  refine zT.get (pc' := 5) dX3_heaviest_2 rfl f_X3_9_3 rfl ?_
  try dsimp only
  refine zW.iconst (pc' := 6) (nI 2) dX3_heaviest_5 rfl (by decide) ?_
  first | refine zT.ald1 (pc' := 7) dX3_heaviest_6 rfl hD (by omega) ?_ | refine zT.ald4 (pc' := 7) dX3_heaviest_6 rfl hD (by omega) ?_
  try dsimp only
  rw [hac]
  refine zW.if_leN (pc' := 10) 14 dX3_heaviest_7 rfl (by decide) (by omega) (fun b1 => ?_) (fun b1 => ?_)
  · rw [if_pos b1]
    refine zW.iconst (pc' := 15) (nI 0) dX3_heaviest_14 rfl (by decide) ?_
    refine zT.call (pc' := 18) dX3_heaviest_15 rfl l_X3_124 rfl rfl (w_fine0) (zcc rfl zc0) rfl (Nat.le_of_ble_eq_true rfl) (Nat.le_of_ble_eq_true rfl) (Nat.le_of_ble_eq_true rfl) (fun _ _ ⟨e1, e2⟩ => ?_)
    subst e1; rw [e2]
    refine zW.if_neN (pc' := 21) 23 dX3_heaviest_18 rfl (by decide) (by omega) (fun b9 => absurd b9 (by omega)) (fun b9 => ?_)
    refine zW.iconst (pc' := 22) (nI 0) dX3_heaviest_21 rfl (by decide) ?_
    refine zW.iret dX3_heaviest_22 rfl (rfl) ?_
    exact tO.q hW
  · rw [if_neg b1]
    refine zW.iconst (pc' := 11) (nI 1) dX3_heaviest_10 rfl (by decide) ?_
    refine zW.goto 15 dX3_heaviest_11 (by decide) ?_
    refine zT.call (pc' := 18) dX3_heaviest_15 rfl l_X3_124 rfl rfl (w_fine1) (zcc rfl zc0) rfl (Nat.le_of_ble_eq_true rfl) (Nat.le_of_ble_eq_true rfl) (Nat.le_of_ble_eq_true rfl) (fun _ _ ⟨e1, e2⟩ => ?_)
    subst e1; rw [e2]
    refine zW.if_neN (pc' := 21) 23 dX3_heaviest_18 rfl (by decide) (by omega) (fun b9 => ?_) (fun b9 => absurd b9 (by omega))
    refine zW.iconst (pc' := 24) (nI 0) dX3_heaviest_23 rfl (by decide) ?_
    refine zW.istore_n (pc' := 25) dX3_heaviest_24 rfl rfl (Nat.le_of_ble_eq_true rfl) (zsS (zs0)) ?_
    refine zW.iconst (pc' := 26) (nI 1) dX3_heaviest_25 rfl (by decide) ?_
    refine zW.istore_n (pc' := 27) dX3_heaviest_26 rfl rfl (Nat.le_of_ble_eq_true rfl) (zsS (zsS (zs0))) ?_
    exact loop (w.1.2.1.length - 1) 0 (by omega)
end
