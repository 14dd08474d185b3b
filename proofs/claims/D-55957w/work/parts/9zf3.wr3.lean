/-! THE LAW: its wrappers (printed by mk9zf.py) -/
section
set_option maxRecDepth 100000
variable {G : zG} {h h' : zH} {U : Nat → Prop} {x o R : Nat} {fs : List Value} {lv : Int64}
theorem x_expiryRank {q : Nat × Int32 × sW} {y1 : Int32} (hx : h x = some (0, fs)) (ho : h o = some (101, [.long lv])) (nO : ¬ U o) (hc : zK G mX1_expiryRank 40 R [.ref x, .int y1] h (cOut x U h [eElt] q)) : zK G mX0_expiryRank 41 R [.ref x, .int y1, .ref o] h (cWp x o U h q) := by
  have lO : ¬ U o ∧ h o ≠ none := ⟨nO, by rw [ho]; exact fun z => by cases z⟩
  show zW G mX0_expiryRank 41 R 0 [.ref x, .int y1, .ref o, zho] [] h _
  refine zW.aload_n (pc' := 1) dX0_expiryRank_0 rfl rfl (zgS (zgS (zg0))) rfl ?_
  refine zW.iconst (pc' := 2) (nI 0) dX0_expiryRank_1 rfl (by decide) ?_
  refine zW.aload_n (pc' := 3) dX0_expiryRank_2 rfl rfl zg0 rfl ?_
  refine zW.iload_n (pc' := 4) dX0_expiryRank_3 rfl rfl (zgS (zg0)) ?_
  refine zW.pay (r1 := 0 + R) ?_ (by omega)
  refine zW.callV (r' := _) (pc' := 7) dX0_expiryRank_4 rfl l_X0_125 rfl hx ⟨rfl, (Nat.le_of_ble_eq_true rfl)⟩ rfl (hc) (zcc rfl zc0) rfl (Nat.le_of_ble_eq_true rfl) (Nat.le_of_ble_eq_true rfl) (Nat.le_of_ble_eq_true rfl) ?_ ?_
  · intro v9 h9 q9
    obtain ⟨k9, e0, e1⟩ := q9.l
    subst e1
    have ho9 := k9.2.at ho nO
    refine zW.i2l (pc' := 8) dX0_expiryRank_7 rfl ?_
    refine zW.last (pc' := 9) dX0_expiryRank_8 rfl ho9 (by decide) zl01 rfl ?_
    refine zW.goto 15 dX0_expiryRank_9 (by decide) ?_
    refine zW.iconst (pc' := 16) (nI 0) dX0_expiryRank_15 rfl (by decide) ?_
    refine zW.iret dX0_expiryRank_16 rfl (rfl) ?_
    exact cWp.ok k9 e0 ho9 lO rfl
  · intro E h9 q9
    obtain ⟨k9, n, e0, e1⟩ := q9.r
    have ho9 := k9.2.at ho nO
    match n, e0, e1 with
    | 0, e0, e1 =>
      cases e1
      refine zX.catch (name := eElt) [] _ _ rfl 12 rfl (fun z hz => ?_) rfl (by decide) (lw_all_tbl q1538) q835 (fun qq => ?_)
      · cases hz
      · refine zW.astore_n (pc' := 13) dX0_expiryRank_12 rfl rfl (Nat.le_of_ble_eq_true rfl) rfl (zsS (zsS (zsS (zs0)))) ?_
        refine zW.iconst (pc' := 14) (nI 1) dX0_expiryRank_13 rfl (by decide) ?_
        refine zW.iret dX0_expiryRank_14 rfl (rfl) ?_
        exact cWp.no k9 e0 (by decide) ho9
    | n + 1, e0, e1 => cases e1
theorem x_expiringWithin {q : Nat × Int32 × sW} {y1 : Int32} (hx : h x = some (0, fs)) (ho : h o = some (101, [.long lv])) (nO : ¬ U o) (hc : zK G mX1_expiringWithin 40 R [.ref x, .int y1] h (cOut x U h [eArg] q)) : zK G mX0_expiringWithin 41 R [.ref x, .int y1, .ref o] h (cWp x o U h q) := by
  have lO : ¬ U o ∧ h o ≠ none := ⟨nO, by rw [ho]; exact fun z => by cases z⟩
  show zW G mX0_expiringWithin 41 R 0 [.ref x, .int y1, .ref o, zho] [] h _
  refine zW.aload_n (pc' := 1) dX0_expiringWithin_0 rfl rfl (zgS (zgS (zg0))) rfl ?_
  refine zW.iconst (pc' := 2) (nI 0) dX0_expiringWithin_1 rfl (by decide) ?_
  refine zW.aload_n (pc' := 3) dX0_expiringWithin_2 rfl rfl zg0 rfl ?_
  refine zW.iload_n (pc' := 4) dX0_expiringWithin_3 rfl rfl (zgS (zg0)) ?_
  refine zW.pay (r1 := 0 + R) ?_ (by omega)
  refine zW.callV (r' := _) (pc' := 7) dX0_expiringWithin_4 rfl l_X0_128 rfl hx ⟨rfl, (Nat.le_of_ble_eq_true rfl)⟩ rfl (hc) (zcc rfl zc0) rfl (Nat.le_of_ble_eq_true rfl) (Nat.le_of_ble_eq_true rfl) (Nat.le_of_ble_eq_true rfl) ?_ ?_
  · intro v9 h9 q9
    obtain ⟨k9, e0, e1⟩ := q9.l
    subst e1
    have ho9 := k9.2.at ho nO
    refine zW.i2l (pc' := 8) dX0_expiringWithin_7 rfl ?_
    refine zW.last (pc' := 9) dX0_expiringWithin_8 rfl ho9 (by decide) zl01 rfl ?_
    refine zW.goto 15 dX0_expiringWithin_9 (by decide) ?_
    refine zW.iconst (pc' := 16) (nI 0) dX0_expiringWithin_15 rfl (by decide) ?_
    refine zW.iret dX0_expiringWithin_16 rfl (rfl) ?_
    exact cWp.ok k9 e0 ho9 lO rfl
  · intro E h9 q9
    obtain ⟨k9, n, e0, e1⟩ := q9.r
    have ho9 := k9.2.at ho nO
    match n, e0, e1 with
    | 0, e0, e1 =>
      cases e1
      refine zX.catch (name := eArg) [] _ _ rfl 12 rfl (fun z hz => ?_) rfl (by decide) (lw_all_tbl q1505) q597 (fun qq => ?_)
      · cases hz
      · refine zW.astore_n (pc' := 13) dX0_expiringWithin_12 rfl rfl (Nat.le_of_ble_eq_true rfl) rfl (zsS (zsS (zsS (zs0)))) ?_
        refine zW.iconst (pc' := 14) (nI 1) dX0_expiringWithin_13 rfl (by decide) ?_
        refine zW.iret dX0_expiringWithin_14 rfl (rfl) ?_
        exact cWp.no k9 e0 (by decide) ho9
    | n + 1, e0, e1 => cases e1
theorem x_expiringBySimulation {q : Nat × Int32 × sW} {y1 : Int32} (hx : h x = some (0, fs)) (ho : h o = some (101, [.long lv])) (nO : ¬ U o) (hc : zK G mX1_expiringBySimulation 40 R [.ref x, .int y1] h (cOut x U h [eArg] q)) : zK G mX0_expiringBySimulation 41 R [.ref x, .int y1, .ref o] h (cWp x o U h q) := by
  have lO : ¬ U o ∧ h o ≠ none := ⟨nO, by rw [ho]; exact fun z => by cases z⟩
  show zW G mX0_expiringBySimulation 41 R 0 [.ref x, .int y1, .ref o, zho] [] h _
  refine zW.aload_n (pc' := 1) dX0_expiringBySimulation_0 rfl rfl (zgS (zgS (zg0))) rfl ?_
  refine zW.iconst (pc' := 2) (nI 0) dX0_expiringBySimulation_1 rfl (by decide) ?_
  refine zW.aload_n (pc' := 3) dX0_expiringBySimulation_2 rfl rfl zg0 rfl ?_
  refine zW.iload_n (pc' := 4) dX0_expiringBySimulation_3 rfl rfl (zgS (zg0)) ?_
  refine zW.pay (r1 := 0 + R) ?_ (by omega)
  refine zW.callV (r' := _) (pc' := 7) dX0_expiringBySimulation_4 rfl l_X0_131 rfl hx ⟨rfl, (Nat.le_of_ble_eq_true rfl)⟩ rfl (hc) (zcc rfl zc0) rfl (Nat.le_of_ble_eq_true rfl) (Nat.le_of_ble_eq_true rfl) (Nat.le_of_ble_eq_true rfl) ?_ ?_
  · intro v9 h9 q9
    obtain ⟨k9, e0, e1⟩ := q9.l
    subst e1
    have ho9 := k9.2.at ho nO
    refine zW.i2l (pc' := 8) dX0_expiringBySimulation_7 rfl ?_
    refine zW.last (pc' := 9) dX0_expiringBySimulation_8 rfl ho9 (by decide) zl01 rfl ?_
    refine zW.goto 15 dX0_expiringBySimulation_9 (by decide) ?_
    refine zW.iconst (pc' := 16) (nI 0) dX0_expiringBySimulation_15 rfl (by decide) ?_
    refine zW.iret dX0_expiringBySimulation_16 rfl (rfl) ?_
    exact cWp.ok k9 e0 ho9 lO rfl
  · intro E h9 q9
    obtain ⟨k9, n, e0, e1⟩ := q9.r
    have ho9 := k9.2.at ho nO
    match n, e0, e1 with
    | 0, e0, e1 =>
      cases e1
      refine zX.catch (name := eArg) [] _ _ rfl 12 rfl (fun z hz => ?_) rfl (by decide) (lw_all_tbl q1505) q597 (fun qq => ?_)
      · cases hz
      · refine zW.astore_n (pc' := 13) dX0_expiringBySimulation_12 rfl rfl (Nat.le_of_ble_eq_true rfl) rfl (zsS (zsS (zsS (zs0)))) ?_
        refine zW.iconst (pc' := 14) (nI 1) dX0_expiringBySimulation_13 rfl (by decide) ?_
        refine zW.iret dX0_expiringBySimulation_14 rfl (rfl) ?_
        exact cWp.no k9 e0 (by decide) ho9
    | n + 1, e0, e1 => cases e1
theorem x_weightAfter {q : Nat × Int32 × sW} {y1 : Int32} {y2 : Int32} (hx : h x = some (0, fs)) (ho : h o = some (101, [.long lv])) (nO : ¬ U o) (hc : zK G mX1_weightAfter 40 R [.ref x, .int y1, .int y2] h (cOut x U h [eElt, eArg] q)) : zK G mX0_weightAfter 41 R [.ref x, .int y1, .int y2, .ref o] h (cWp x o U h q) := by
  have lO : ¬ U o ∧ h o ≠ none := ⟨nO, by rw [ho]; exact fun z => by cases z⟩
  show zW G mX0_weightAfter 41 R 0 [.ref x, .int y1, .int y2, .ref o, zho] [] h _
  refine zW.aload_n (pc' := 1) dX0_weightAfter_0 rfl rfl (zgS (zgS (zgS (zg0)))) rfl ?_
  refine zW.iconst (pc' := 2) (nI 0) dX0_weightAfter_1 rfl (by decide) ?_
  refine zW.aload_n (pc' := 3) dX0_weightAfter_2 rfl rfl zg0 rfl ?_
  refine zW.iload_n (pc' := 4) dX0_weightAfter_3 rfl rfl (zgS (zg0)) ?_
  refine zW.iload_n (pc' := 5) dX0_weightAfter_4 rfl rfl (zgS (zgS (zg0))) ?_
  refine zW.pay (r1 := 0 + R) ?_ (by omega)
  refine zW.callV (r' := _) (pc' := 8) dX0_weightAfter_5 rfl l_X0_134 rfl hx ⟨rfl, (Nat.le_of_ble_eq_true rfl)⟩ rfl (hc) (zcc rfl (zcc rfl zc0)) rfl (Nat.le_of_ble_eq_true rfl) (Nat.le_of_ble_eq_true rfl) (Nat.le_of_ble_eq_true rfl) ?_ ?_
  · intro v9 h9 q9
    obtain ⟨k9, e0, e1⟩ := q9.l
    subst e1
    have ho9 := k9.2.at ho nO
    refine zW.i2l (pc' := 9) dX0_weightAfter_8 rfl ?_
    refine zW.last (pc' := 10) dX0_weightAfter_9 rfl ho9 (by decide) zl01 rfl ?_
    refine zW.goto 21 dX0_weightAfter_10 (by decide) ?_
    refine zW.iconst (pc' := 22) (nI 0) dX0_weightAfter_21 rfl (by decide) ?_
    refine zW.iret dX0_weightAfter_22 rfl (rfl) ?_
    exact cWp.ok k9 e0 ho9 lO rfl
  · intro E h9 q9
    obtain ⟨k9, n, e0, e1⟩ := q9.r
    have ho9 := k9.2.at ho nO
    match n, e0, e1 with
    | 0, e0, e1 =>
      cases e1
      refine zX.catch (name := eElt) [] _ _ rfl 13 rfl (fun z hz => ?_) rfl (by decide) (lw_all_tbl q1538) q835 (fun qq => ?_)
      · cases hz
      · refine zW.astore (pc' := 15) dX0_weightAfter_13 rfl (Nat.le_of_ble_eq_true rfl) rfl (zsS (zsS (zsS (zsS (zs0))))) ?_
        refine zW.iconst (pc' := 16) (nI 1) dX0_weightAfter_15 rfl (by decide) ?_
        refine zW.iret dX0_weightAfter_16 rfl (rfl) ?_
        exact cWp.no k9 e0 (by decide) ho9
    | 1, e0, e1 =>
      cases e1
      refine zX.catch (name := eArg) [_] _ _ rfl 17 rfl (fun z hz => ?_) rfl (by decide) (lw_all_tbl q1505) q597 (fun qq => ?_)
      · rw [List.mem_singleton.mp hz]
        exact Or.inr ⟨by decide, eElt, (lw_all_tbl q1538), fun s hT => ncOf (eArg, eElt) (by decide) hT⟩
      · refine zW.astore (pc' := 19) dX0_weightAfter_17 rfl (Nat.le_of_ble_eq_true rfl) rfl (zsS (zsS (zsS (zsS (zs0))))) ?_
        refine zW.iconst (pc' := 20) (nI 2) dX0_weightAfter_19 rfl (by decide) ?_
        refine zW.iret dX0_weightAfter_20 rfl (rfl) ?_
        exact cWp.no k9 e0 (by decide) ho9
    | n + 2, e0, e1 => cases e1
theorem x_canSign {q : Nat × Int32 × sW} {y1 : Int32} {y2 : Int32} (hx : h x = some (0, fs)) (ho : h o = some (101, [.long lv])) (nO : ¬ U o) (hb : q.1 = 0 → q.2.1 = nI 0 ∨ q.2.1 = nI 1) (hc : zK G mX1_canSign 40 R [.ref x, .int y1, .int y2] h (cOut x U h [eElt, eArg] q)) : zK G mX0_canSign 41 R [.ref x, .int y1, .int y2, .ref o] h (cWp x o U h q) := by
  have lO : ¬ U o ∧ h o ≠ none := ⟨nO, by rw [ho]; exact fun z => by cases z⟩
  show zW G mX0_canSign 41 R 0 [.ref x, .int y1, .int y2, .ref o, zho] [] h _
  refine zW.aload_n (pc' := 1) dX0_canSign_0 rfl rfl (zgS (zgS (zgS (zg0)))) rfl ?_
  refine zW.iconst (pc' := 2) (nI 0) dX0_canSign_1 rfl (by decide) ?_
  refine zW.aload_n (pc' := 3) dX0_canSign_2 rfl rfl zg0 rfl ?_
  refine zW.iload_n (pc' := 4) dX0_canSign_3 rfl rfl (zgS (zg0)) ?_
  refine zW.iload_n (pc' := 5) dX0_canSign_4 rfl rfl (zgS (zgS (zg0))) ?_
  refine zW.pay (r1 := 0 + R) ?_ (by omega)
  refine zW.callV (r' := _) (pc' := 8) dX0_canSign_5 rfl l_X0_137 rfl hx ⟨rfl, (Nat.le_of_ble_eq_true rfl)⟩ rfl (hc) (zcc rfl (zcc rfl zc0)) rfl (Nat.le_of_ble_eq_true rfl) (Nat.le_of_ble_eq_true rfl) (Nat.le_of_ble_eq_true rfl) ?_ ?_
  · intro v9 h9 q9
    obtain ⟨k9, e0, e1⟩ := q9.l
    subst e1
    have ho9 := k9.2.at ho nO
    rcases hb e0 with e2 | e2
    · show zW G mX0_canSign 41 _ 8 _ (.int q.2.1 :: _) _ _
      rw [e2]
      refine zW.if_eqN (pc' := 11) 15 dX0_canSign_8 rfl (by decide) (by omega) (fun b9 => ?_) (fun b9 => absurd b9 (by omega))
      refine zW.lconst (pc' := 16) 0 dX0_canSign_15 rfl (by decide) ?_
      refine zW.last (pc' := 17) dX0_canSign_16 rfl ho9 (by decide) zl01 rfl ?_
      refine zW.goto 28 dX0_canSign_17 (by decide) ?_
      refine zW.iconst (pc' := 29) (nI 0) dX0_canSign_28 rfl (by decide) ?_
      refine zW.iret dX0_canSign_29 rfl (rfl) ?_
      exact cWp.ok k9 e0 ho9 lO (by rw [e2]; decide)
    · show zW G mX0_canSign 41 _ 8 _ (.int q.2.1 :: _) _ _
      rw [e2]
      refine zW.if_eqN (pc' := 11) 15 dX0_canSign_8 rfl (by decide) (by omega) (fun b9 => absurd b9 (by omega)) (fun b9 => ?_)
      refine zW.lconst (pc' := 12) 1 dX0_canSign_11 rfl (by decide) ?_
      refine zW.goto 16 dX0_canSign_12 (by decide) ?_
      refine zW.last (pc' := 17) dX0_canSign_16 rfl ho9 (by decide) zl01 rfl ?_
      refine zW.goto 28 dX0_canSign_17 (by decide) ?_
      refine zW.iconst (pc' := 29) (nI 0) dX0_canSign_28 rfl (by decide) ?_
      refine zW.iret dX0_canSign_29 rfl (rfl) ?_
      exact cWp.ok k9 e0 ho9 lO (by rw [e2]; decide)
  · intro E h9 q9
    obtain ⟨k9, n, e0, e1⟩ := q9.r
    have ho9 := k9.2.at ho nO
    match n, e0, e1 with
    | 0, e0, e1 =>
      cases e1
      refine zX.catch (name := eElt) [] _ _ rfl 20 rfl (fun z hz => ?_) rfl (by decide) (lw_all_tbl q1538) q835 (fun qq => ?_)
      · cases hz
      · refine zW.astore (pc' := 22) dX0_canSign_20 rfl (Nat.le_of_ble_eq_true rfl) rfl (zsS (zsS (zsS (zsS (zs0))))) ?_
        refine zW.iconst (pc' := 23) (nI 1) dX0_canSign_22 rfl (by decide) ?_
        refine zW.iret dX0_canSign_23 rfl (rfl) ?_
        exact cWp.no k9 e0 (by decide) ho9
    | 1, e0, e1 =>
      cases e1
      refine zX.catch (name := eArg) [_] _ _ rfl 24 rfl (fun z hz => ?_) rfl (by decide) (lw_all_tbl q1505) q597 (fun qq => ?_)
      · rw [List.mem_singleton.mp hz]
        exact Or.inr ⟨by decide, eElt, (lw_all_tbl q1538), fun s hT => ncOf (eArg, eElt) (by decide) hT⟩
      · refine zW.astore (pc' := 26) dX0_canSign_24 rfl (Nat.le_of_ble_eq_true rfl) rfl (zsS (zsS (zsS (zsS (zs0))))) ?_
        refine zW.iconst (pc' := 27) (nI 2) dX0_canSign_26 rfl (by decide) ?_
        refine zW.iret dX0_canSign_27 rfl (rfl) ?_
        exact cWp.no k9 e0 (by decide) ho9
    | n + 2, e0, e1 => cases e1
theorem x_canCountersign {q : Nat × Int32 × sW} {y1 : Int32} {y2 : Int32} (hx : h x = some (0, fs)) (ho : h o = some (101, [.long lv])) (nO : ¬ U o) (hb : q.1 = 0 → q.2.1 = nI 0 ∨ q.2.1 = nI 1) (hc : zK G mX1_canCountersign 40 R [.ref x, .int y1, .int y2] h (cOut x U h [eElt, eArg] q)) : zK G mX0_canCountersign 41 R [.ref x, .int y1, .int y2, .ref o] h (cWp x o U h q) := by
  have lO : ¬ U o ∧ h o ≠ none := ⟨nO, by rw [ho]; exact fun z => by cases z⟩
  show zW G mX0_canCountersign 41 R 0 [.ref x, .int y1, .int y2, .ref o, zho] [] h _
  refine zW.aload_n (pc' := 1) dX0_canCountersign_0 rfl rfl (zgS (zgS (zgS (zg0)))) rfl ?_
  refine zW.iconst (pc' := 2) (nI 0) dX0_canCountersign_1 rfl (by decide) ?_
  refine zW.aload_n (pc' := 3) dX0_canCountersign_2 rfl rfl zg0 rfl ?_
  refine zW.iload_n (pc' := 4) dX0_canCountersign_3 rfl rfl (zgS (zg0)) ?_
  refine zW.iload_n (pc' := 5) dX0_canCountersign_4 rfl rfl (zgS (zgS (zg0))) ?_
  refine zW.pay (r1 := 0 + R) ?_ (by omega)
  refine zW.callV (r' := _) (pc' := 8) dX0_canCountersign_5 rfl l_X0_140 rfl hx ⟨rfl, (Nat.le_of_ble_eq_true rfl)⟩ rfl (hc) (zcc rfl (zcc rfl zc0)) rfl (Nat.le_of_ble_eq_true rfl) (Nat.le_of_ble_eq_true rfl) (Nat.le_of_ble_eq_true rfl) ?_ ?_
  · intro v9 h9 q9
    obtain ⟨k9, e0, e1⟩ := q9.l
    subst e1
    have ho9 := k9.2.at ho nO
    rcases hb e0 with e2 | e2
    · show zW G mX0_canCountersign 41 _ 8 _ (.int q.2.1 :: _) _ _
      rw [e2]
      refine zW.if_eqN (pc' := 11) 15 dX0_canCountersign_8 rfl (by decide) (by omega) (fun b9 => ?_) (fun b9 => absurd b9 (by omega))
      refine zW.lconst (pc' := 16) 0 dX0_canCountersign_15 rfl (by decide) ?_
      refine zW.last (pc' := 17) dX0_canCountersign_16 rfl ho9 (by decide) zl01 rfl ?_
      refine zW.goto 28 dX0_canCountersign_17 (by decide) ?_
      refine zW.iconst (pc' := 29) (nI 0) dX0_canCountersign_28 rfl (by decide) ?_
      refine zW.iret dX0_canCountersign_29 rfl (rfl) ?_
      exact cWp.ok k9 e0 ho9 lO (by rw [e2]; decide)
    · show zW G mX0_canCountersign 41 _ 8 _ (.int q.2.1 :: _) _ _
      rw [e2]
      refine zW.if_eqN (pc' := 11) 15 dX0_canCountersign_8 rfl (by decide) (by omega) (fun b9 => absurd b9 (by omega)) (fun b9 => ?_)
      refine zW.lconst (pc' := 12) 1 dX0_canCountersign_11 rfl (by decide) ?_
      refine zW.goto 16 dX0_canCountersign_12 (by decide) ?_
      refine zW.last (pc' := 17) dX0_canCountersign_16 rfl ho9 (by decide) zl01 rfl ?_
      refine zW.goto 28 dX0_canCountersign_17 (by decide) ?_
      refine zW.iconst (pc' := 29) (nI 0) dX0_canCountersign_28 rfl (by decide) ?_
      refine zW.iret dX0_canCountersign_29 rfl (rfl) ?_
      exact cWp.ok k9 e0 ho9 lO (by rw [e2]; decide)
  · intro E h9 q9
    obtain ⟨k9, n, e0, e1⟩ := q9.r
    have ho9 := k9.2.at ho nO
    match n, e0, e1 with
    | 0, e0, e1 =>
      cases e1
      refine zX.catch (name := eElt) [] _ _ rfl 20 rfl (fun z hz => ?_) rfl (by decide) (lw_all_tbl q1538) q835 (fun qq => ?_)
      · cases hz
      · refine zW.astore (pc' := 22) dX0_canCountersign_20 rfl (Nat.le_of_ble_eq_true rfl) rfl (zsS (zsS (zsS (zsS (zs0))))) ?_
        refine zW.iconst (pc' := 23) (nI 1) dX0_canCountersign_22 rfl (by decide) ?_
        refine zW.iret dX0_canCountersign_23 rfl (rfl) ?_
        exact cWp.no k9 e0 (by decide) ho9
    | 1, e0, e1 =>
      cases e1
      refine zX.catch (name := eArg) [_] _ _ rfl 24 rfl (fun z hz => ?_) rfl (by decide) (lw_all_tbl q1505) q597 (fun qq => ?_)
      · rw [List.mem_singleton.mp hz]
        exact Or.inr ⟨by decide, eElt, (lw_all_tbl q1538), fun s hT => ncOf (eArg, eElt) (by decide) hT⟩
      · refine zW.astore (pc' := 26) dX0_canCountersign_24 rfl (Nat.le_of_ble_eq_true rfl) rfl (zsS (zsS (zsS (zsS (zs0))))) ?_
        refine zW.iconst (pc' := 27) (nI 2) dX0_canCountersign_26 rfl (by decide) ?_
        refine zW.iret dX0_canCountersign_27 rfl (rfl) ?_
        exact cWp.no k9 e0 (by decide) ho9
    | n + 2, e0, e1 => cases e1
theorem x_recentlyExpired {q : Nat × Int32 × sW} {y1 : Int32} (hx : h x = some (0, fs)) (ho : h o = some (101, [.long lv])) (nO : ¬ U o) (hc : zK G mX1_recentlyExpired 40 R [.ref x, .int y1] h (cOut x U h [eElt] q)) : zK G mX0_recentlyExpired 41 R [.ref x, .int y1, .ref o] h (cWp x o U h q) := by
  have lO : ¬ U o ∧ h o ≠ none := ⟨nO, by rw [ho]; exact fun z => by cases z⟩
  show zW G mX0_recentlyExpired 41 R 0 [.ref x, .int y1, .ref o, zho] [] h _
  refine zW.aload_n (pc' := 1) dX0_recentlyExpired_0 rfl rfl (zgS (zgS (zg0))) rfl ?_
  refine zW.iconst (pc' := 2) (nI 0) dX0_recentlyExpired_1 rfl (by decide) ?_
  refine zW.aload_n (pc' := 3) dX0_recentlyExpired_2 rfl rfl zg0 rfl ?_
  refine zW.iload_n (pc' := 4) dX0_recentlyExpired_3 rfl rfl (zgS (zg0)) ?_
  refine zW.pay (r1 := 0 + R) ?_ (by omega)
  refine zW.callV (r' := _) (pc' := 7) dX0_recentlyExpired_4 rfl l_X0_143 rfl hx ⟨rfl, (Nat.le_of_ble_eq_true rfl)⟩ rfl (hc) (zcc rfl zc0) rfl (Nat.le_of_ble_eq_true rfl) (Nat.le_of_ble_eq_true rfl) (Nat.le_of_ble_eq_true rfl) ?_ ?_
  · intro v9 h9 q9
    obtain ⟨k9, e0, e1⟩ := q9.l
    subst e1
    have ho9 := k9.2.at ho nO
    refine zW.i2l (pc' := 8) dX0_recentlyExpired_7 rfl ?_
    refine zW.last (pc' := 9) dX0_recentlyExpired_8 rfl ho9 (by decide) zl01 rfl ?_
    refine zW.goto 15 dX0_recentlyExpired_9 (by decide) ?_
    refine zW.iconst (pc' := 16) (nI 0) dX0_recentlyExpired_15 rfl (by decide) ?_
    refine zW.iret dX0_recentlyExpired_16 rfl (rfl) ?_
    exact cWp.ok k9 e0 ho9 lO rfl
  · intro E h9 q9
    obtain ⟨k9, n, e0, e1⟩ := q9.r
    have ho9 := k9.2.at ho nO
    match n, e0, e1 with
    | 0, e0, e1 =>
      cases e1
      refine zX.catch (name := eElt) [] _ _ rfl 12 rfl (fun z hz => ?_) rfl (by decide) (lw_all_tbl q1538) q835 (fun qq => ?_)
      · cases hz
      · refine zW.astore_n (pc' := 13) dX0_recentlyExpired_12 rfl rfl (Nat.le_of_ble_eq_true rfl) rfl (zsS (zsS (zsS (zs0)))) ?_
        refine zW.iconst (pc' := 14) (nI 1) dX0_recentlyExpired_13 rfl (by decide) ?_
        refine zW.iret dX0_recentlyExpired_14 rfl (rfl) ?_
        exact cWp.no k9 e0 (by decide) ho9
    | n + 1, e0, e1 => cases e1
theorem x_format {q : Nat × Int32 × sW} {y1 : Int32} (hx : h x = some (0, fs)) (ho : h o = some (101, [.long lv])) (nO : ¬ U o) (hc : zK G mX1_format 40 R [.ref x, .int y1] h (cOut x U h [eElt] q)) : zK G mX0_format 41 R [.ref x, .int y1, .ref o] h (cWp x o U h q) := by
  have lO : ¬ U o ∧ h o ≠ none := ⟨nO, by rw [ho]; exact fun z => by cases z⟩
  show zW G mX0_format 41 R 0 [.ref x, .int y1, .ref o, zho] [] h _
  refine zW.aload_n (pc' := 1) dX0_format_0 rfl rfl (zgS (zgS (zg0))) rfl ?_
  refine zW.iconst (pc' := 2) (nI 0) dX0_format_1 rfl (by decide) ?_
  refine zW.aload_n (pc' := 3) dX0_format_2 rfl rfl zg0 rfl ?_
  refine zW.iload_n (pc' := 4) dX0_format_3 rfl rfl (zgS (zg0)) ?_
  refine zW.pay (r1 := 0 + R) ?_ (by omega)
  refine zW.callV (r' := _) (pc' := 7) dX0_format_4 rfl l_X0_146 rfl hx ⟨rfl, (Nat.le_of_ble_eq_true rfl)⟩ rfl (hc) (zcc rfl zc0) rfl (Nat.le_of_ble_eq_true rfl) (Nat.le_of_ble_eq_true rfl) (Nat.le_of_ble_eq_true rfl) ?_ ?_
  · intro v9 h9 q9
    obtain ⟨k9, e0, e1⟩ := q9.l
    subst e1
    have ho9 := k9.2.at ho nO
    refine zW.i2l (pc' := 8) dX0_format_7 rfl ?_
    refine zW.last (pc' := 9) dX0_format_8 rfl ho9 (by decide) zl01 rfl ?_
    refine zW.goto 15 dX0_format_9 (by decide) ?_
    refine zW.iconst (pc' := 16) (nI 0) dX0_format_15 rfl (by decide) ?_
    refine zW.iret dX0_format_16 rfl (rfl) ?_
    exact cWp.ok k9 e0 ho9 lO rfl
  · intro E h9 q9
    obtain ⟨k9, n, e0, e1⟩ := q9.r
    have ho9 := k9.2.at ho nO
    match n, e0, e1 with
    | 0, e0, e1 =>
      cases e1
      refine zX.catch (name := eElt) [] _ _ rfl 12 rfl (fun z hz => ?_) rfl (by decide) (lw_all_tbl q1538) q835 (fun qq => ?_)
      · cases hz
      · refine zW.astore_n (pc' := 13) dX0_format_12 rfl rfl (Nat.le_of_ble_eq_true rfl) rfl (zsS (zsS (zsS (zs0)))) ?_
        refine zW.iconst (pc' := 14) (nI 1) dX0_format_13 rfl (by decide) ?_
        refine zW.iret dX0_format_14 rfl (rfl) ?_
        exact cWp.no k9 e0 (by decide) ho9
    | n + 1, e0, e1 => cases e1
theorem x_lineChar {q : Nat × Int32 × sW} {y1 : Int32} (hx : h x = some (0, fs)) (ho : h o = some (101, [.long lv])) (nO : ¬ U o) (hc : zK G mX1_lineChar 40 R [.ref x, .int y1] h (cOut x U h [eIdx] q)) : zK G mX0_lineChar 41 R [.ref x, .int y1, .ref o] h (cWp x o U h q) := by
  have lO : ¬ U o ∧ h o ≠ none := ⟨nO, by rw [ho]; exact fun z => by cases z⟩
  show zW G mX0_lineChar 41 R 0 [.ref x, .int y1, .ref o, zho] [] h _
  refine zW.aload_n (pc' := 1) dX0_lineChar_0 rfl rfl (zgS (zgS (zg0))) rfl ?_
  refine zW.iconst (pc' := 2) (nI 0) dX0_lineChar_1 rfl (by decide) ?_
  refine zW.aload_n (pc' := 3) dX0_lineChar_2 rfl rfl zg0 rfl ?_
  refine zW.iload_n (pc' := 4) dX0_lineChar_3 rfl rfl (zgS (zg0)) ?_
  refine zW.pay (r1 := 0 + R) ?_ (by omega)
  refine zW.callV (r' := _) (pc' := 7) dX0_lineChar_4 rfl l_X0_149 rfl hx ⟨rfl, (Nat.le_of_ble_eq_true rfl)⟩ rfl (hc) (zcc rfl zc0) rfl (Nat.le_of_ble_eq_true rfl) (Nat.le_of_ble_eq_true rfl) (Nat.le_of_ble_eq_true rfl) ?_ ?_
  · intro v9 h9 q9
    obtain ⟨k9, e0, e1⟩ := q9.l
    subst e1
    have ho9 := k9.2.at ho nO
    refine zW.i2l (pc' := 8) dX0_lineChar_7 rfl ?_
    refine zW.last (pc' := 9) dX0_lineChar_8 rfl ho9 (by decide) zl01 rfl ?_
    refine zW.goto 15 dX0_lineChar_9 (by decide) ?_
    refine zW.iconst (pc' := 16) (nI 0) dX0_lineChar_15 rfl (by decide) ?_
    refine zW.iret dX0_lineChar_16 rfl (rfl) ?_
    exact cWp.ok k9 e0 ho9 lO rfl
  · intro E h9 q9
    obtain ⟨k9, n, e0, e1⟩ := q9.r
    have ho9 := k9.2.at ho nO
    match n, e0, e1 with
    | 0, e0, e1 =>
      cases e1
      refine zX.catch (name := eIdx) [] _ _ rfl 12 rfl (fun z hz => ?_) rfl (by decide) (lw_all_tbl q1656) q363 (fun qq => ?_)
      · cases hz
      · refine zW.astore_n (pc' := 13) dX0_lineChar_12 rfl rfl (Nat.le_of_ble_eq_true rfl) rfl (zsS (zsS (zsS (zs0)))) ?_
        refine zW.iconst (pc' := 14) (nI 1) dX0_lineChar_13 rfl (by decide) ?_
        refine zW.iret dX0_lineChar_14 rfl (rfl) ?_
        exact cWp.no k9 e0 (by decide) ho9
    | n + 1, e0, e1 => cases e1
theorem x_append {q : Nat × Int32 × sW} {y1 : Int32} (hx : h x = some (0, fs)) (ho : h o = some (101, [.long lv])) (nO : ¬ U o) (hc : zK G mX1_append 40 R [.ref x, .int y1] h (cOut x U h [eArg, eSta] q)) : zK G mX0_append 41 R [.ref x, .int y1, .ref o] h (cWp x o U h q) := by
  have lO : ¬ U o ∧ h o ≠ none := ⟨nO, by rw [ho]; exact fun z => by cases z⟩
  show zW G mX0_append 41 R 0 [.ref x, .int y1, .ref o, zho] [] h _
  refine zW.aload_n (pc' := 1) dX0_append_0 rfl rfl (zgS (zgS (zg0))) rfl ?_
  refine zW.iconst (pc' := 2) (nI 0) dX0_append_1 rfl (by decide) ?_
  refine zW.aload_n (pc' := 3) dX0_append_2 rfl rfl zg0 rfl ?_
  refine zW.iload_n (pc' := 4) dX0_append_3 rfl rfl (zgS (zg0)) ?_
  refine zW.pay (r1 := 0 + R) ?_ (by omega)
  refine zW.callV (r' := _) (pc' := 7) dX0_append_4 rfl l_X0_153 rfl hx ⟨rfl, (Nat.le_of_ble_eq_true rfl)⟩ rfl (hc) (zcc rfl zc0) rfl (Nat.le_of_ble_eq_true rfl) (Nat.le_of_ble_eq_true rfl) (Nat.le_of_ble_eq_true rfl) ?_ ?_
  · intro v9 h9 q9
    obtain ⟨k9, e0, e1⟩ := q9.l
    subst e1
    have ho9 := k9.2.at ho nO
    refine zW.i2l (pc' := 8) dX0_append_7 rfl ?_
    refine zW.last (pc' := 9) dX0_append_8 rfl ho9 (by decide) zl01 rfl ?_
    refine zW.goto 18 dX0_append_9 (by decide) ?_
    refine zW.iconst (pc' := 19) (nI 0) dX0_append_18 rfl (by decide) ?_
    refine zW.iret dX0_append_19 rfl (rfl) ?_
    exact cWp.ok k9 e0 ho9 lO rfl
  · intro E h9 q9
    obtain ⟨k9, n, e0, e1⟩ := q9.r
    have ho9 := k9.2.at ho nO
    match n, e0, e1 with
    | 0, e0, e1 =>
      cases e1
      refine zX.catch (name := eArg) [] _ _ rfl 12 rfl (fun z hz => ?_) rfl (by decide) (lw_all_tbl q1505) q597 (fun qq => ?_)
      · cases hz
      · refine zW.astore_n (pc' := 13) dX0_append_12 rfl rfl (Nat.le_of_ble_eq_true rfl) rfl (zsS (zsS (zsS (zs0)))) ?_
        refine zW.iconst (pc' := 14) (nI 1) dX0_append_13 rfl (by decide) ?_
        refine zW.iret dX0_append_14 rfl (rfl) ?_
        exact cWp.no k9 e0 (by decide) ho9
    | 1, e0, e1 =>
      cases e1
      refine zX.catch (name := eSta) [_] _ _ rfl 15 rfl (fun z hz => ?_) rfl (by decide) (lw_all_tbl q1506) q1179 (fun qq => ?_)
      · rw [List.mem_singleton.mp hz]
        exact Or.inr ⟨by decide, eArg, (lw_all_tbl q1505), fun s hT => ncOf (eSta, eArg) (by decide) hT⟩
      · refine zW.astore_n (pc' := 16) dX0_append_15 rfl rfl (Nat.le_of_ble_eq_true rfl) rfl (zsS (zsS (zsS (zs0)))) ?_
        refine zW.iconst (pc' := 17) (nI 2) dX0_append_16 rfl (by decide) ?_
        refine zW.iret dX0_append_17 rfl (rfl) ?_
        exact cWp.no k9 e0 (by decide) ho9
    | n + 2, e0, e1 => cases e1
theorem x_run {q : Nat × Int32 × sW} (hx : h x = some (0, fs)) (ho : h o = some (101, [.long lv])) (nO : ¬ U o) (hc : zK G mX1_run 40 R [.ref x] h (cOut x U h [eArg, eSta] q)) : zK G mX0_run 41 R [.ref x, .ref o] h (cWp x o U h q) := by
  have lO : ¬ U o ∧ h o ≠ none := ⟨nO, by rw [ho]; exact fun z => by cases z⟩
  show zW G mX0_run 41 R 0 [.ref x, .ref o, zho] [] h _
  refine zW.aload_n (pc' := 1) dX0_run_0 rfl rfl (zgS (zg0)) rfl ?_
  refine zW.iconst (pc' := 2) (nI 0) dX0_run_1 rfl (by decide) ?_
  refine zW.aload_n (pc' := 3) dX0_run_2 rfl rfl zg0 rfl ?_
  refine zW.pay (r1 := 0 + R) ?_ (by omega)
  refine zW.callV (r' := _) (pc' := 6) dX0_run_3 rfl l_X0_157 rfl hx ⟨rfl, (Nat.le_of_ble_eq_true rfl)⟩ rfl (hc) zc0 rfl (Nat.le_of_ble_eq_true rfl) (Nat.le_of_ble_eq_true rfl) (Nat.le_of_ble_eq_true rfl) ?_ ?_
  · intro v9 h9 q9
    obtain ⟨k9, e0, e1⟩ := q9.l
    subst e1
    have ho9 := k9.2.at ho nO
    refine zW.i2l (pc' := 7) dX0_run_6 rfl ?_
    refine zW.last (pc' := 8) dX0_run_7 rfl ho9 (by decide) zl01 rfl ?_
    refine zW.goto 17 dX0_run_8 (by decide) ?_
    refine zW.iconst (pc' := 18) (nI 0) dX0_run_17 rfl (by decide) ?_
    refine zW.iret dX0_run_18 rfl (rfl) ?_
    exact cWp.ok k9 e0 ho9 lO rfl
  · intro E h9 q9
    obtain ⟨k9, n, e0, e1⟩ := q9.r
    have ho9 := k9.2.at ho nO
    match n, e0, e1 with
    | 0, e0, e1 =>
      cases e1
      refine zX.catch (name := eArg) [] _ _ rfl 11 rfl (fun z hz => ?_) rfl (by decide) (lw_all_tbl q1505) q597 (fun qq => ?_)
      · cases hz
      · refine zW.astore_n (pc' := 12) dX0_run_11 rfl rfl (Nat.le_of_ble_eq_true rfl) rfl (zsS (zsS (zs0))) ?_
        refine zW.iconst (pc' := 13) (nI 1) dX0_run_12 rfl (by decide) ?_
        refine zW.iret dX0_run_13 rfl (rfl) ?_
        exact cWp.no k9 e0 (by decide) ho9
    | 1, e0, e1 =>
      cases e1
      refine zX.catch (name := eSta) [_] _ _ rfl 14 rfl (fun z hz => ?_) rfl (by decide) (lw_all_tbl q1506) q1179 (fun qq => ?_)
      · rw [List.mem_singleton.mp hz]
        exact Or.inr ⟨by decide, eArg, (lw_all_tbl q1505), fun s hT => ncOf (eSta, eArg) (by decide) hT⟩
      · refine zW.astore_n (pc' := 15) dX0_run_14 rfl rfl (Nat.le_of_ble_eq_true rfl) rfl (zsS (zsS (zs0))) ?_
        refine zW.iconst (pc' := 16) (nI 2) dX0_run_15 rfl (by decide) ?_
        refine zW.iret dX0_run_16 rfl (rfl) ?_
        exact cWp.no k9 e0 (by decide) ho9
    | n + 2, e0, e1 => cases e1
theorem x_errorPosition {q : Nat × Int32 × sW} (hx : h x = some (0, fs)) (ho : h o = some (101, [.long lv])) (nO : ¬ U o) (hc : zK G mX1_errorPosition 40 R [.ref x] h (cOut x U h [eElt] q)) : zK G mX0_errorPosition 41 R [.ref x, .ref o] h (cWp x o U h q) := by
  have lO : ¬ U o ∧ h o ≠ none := ⟨nO, by rw [ho]; exact fun z => by cases z⟩
  show zW G mX0_errorPosition 41 R 0 [.ref x, .ref o, zho] [] h _
  refine zW.aload_n (pc' := 1) dX0_errorPosition_0 rfl rfl (zgS (zg0)) rfl ?_
  refine zW.iconst (pc' := 2) (nI 0) dX0_errorPosition_1 rfl (by decide) ?_
  refine zW.aload_n (pc' := 3) dX0_errorPosition_2 rfl rfl zg0 rfl ?_
  refine zW.pay (r1 := 0 + R) ?_ (by omega)
  refine zW.callV (r' := _) (pc' := 6) dX0_errorPosition_3 rfl l_X0_160 rfl hx ⟨rfl, (Nat.le_of_ble_eq_true rfl)⟩ rfl (hc) zc0 rfl (Nat.le_of_ble_eq_true rfl) (Nat.le_of_ble_eq_true rfl) (Nat.le_of_ble_eq_true rfl) ?_ ?_
  · intro v9 h9 q9
    obtain ⟨k9, e0, e1⟩ := q9.l
    subst e1
    have ho9 := k9.2.at ho nO
    refine zW.i2l (pc' := 7) dX0_errorPosition_6 rfl ?_
    refine zW.last (pc' := 8) dX0_errorPosition_7 rfl ho9 (by decide) zl01 rfl ?_
    refine zW.goto 14 dX0_errorPosition_8 (by decide) ?_
    refine zW.iconst (pc' := 15) (nI 0) dX0_errorPosition_14 rfl (by decide) ?_
    refine zW.iret dX0_errorPosition_15 rfl (rfl) ?_
    exact cWp.ok k9 e0 ho9 lO rfl
  · intro E h9 q9
    obtain ⟨k9, n, e0, e1⟩ := q9.r
    have ho9 := k9.2.at ho nO
    match n, e0, e1 with
    | 0, e0, e1 =>
      cases e1
      refine zX.catch (name := eElt) [] _ _ rfl 11 rfl (fun z hz => ?_) rfl (by decide) (lw_all_tbl q1538) q835 (fun qq => ?_)
      · cases hz
      · refine zW.astore_n (pc' := 12) dX0_errorPosition_11 rfl rfl (Nat.le_of_ble_eq_true rfl) rfl (zsS (zsS (zs0))) ?_
        refine zW.iconst (pc' := 13) (nI 1) dX0_errorPosition_12 rfl (by decide) ?_
        refine zW.iret dX0_errorPosition_13 rfl (rfl) ?_
        exact cWp.no k9 e0 (by decide) ho9
    | n + 1, e0, e1 => cases e1
theorem x_failedCommand {q : Nat × Int32 × sW} (hx : h x = some (0, fs)) (ho : h o = some (101, [.long lv])) (nO : ¬ U o) (hc : zK G mX1_failedCommand 40 R [.ref x] h (cOut x U h [eElt] q)) : zK G mX0_failedCommand 41 R [.ref x, .ref o] h (cWp x o U h q) := by
  have lO : ¬ U o ∧ h o ≠ none := ⟨nO, by rw [ho]; exact fun z => by cases z⟩
  show zW G mX0_failedCommand 41 R 0 [.ref x, .ref o, zho] [] h _
  refine zW.aload_n (pc' := 1) dX0_failedCommand_0 rfl rfl (zgS (zg0)) rfl ?_
  refine zW.iconst (pc' := 2) (nI 0) dX0_failedCommand_1 rfl (by decide) ?_
  refine zW.aload_n (pc' := 3) dX0_failedCommand_2 rfl rfl zg0 rfl ?_
  refine zW.pay (r1 := 0 + R) ?_ (by omega)
  refine zW.callV (r' := _) (pc' := 6) dX0_failedCommand_3 rfl l_X0_163 rfl hx ⟨rfl, (Nat.le_of_ble_eq_true rfl)⟩ rfl (hc) zc0 rfl (Nat.le_of_ble_eq_true rfl) (Nat.le_of_ble_eq_true rfl) (Nat.le_of_ble_eq_true rfl) ?_ ?_
  · intro v9 h9 q9
    obtain ⟨k9, e0, e1⟩ := q9.l
    subst e1
    have ho9 := k9.2.at ho nO
    refine zW.i2l (pc' := 7) dX0_failedCommand_6 rfl ?_
    refine zW.last (pc' := 8) dX0_failedCommand_7 rfl ho9 (by decide) zl01 rfl ?_
    refine zW.goto 14 dX0_failedCommand_8 (by decide) ?_
    refine zW.iconst (pc' := 15) (nI 0) dX0_failedCommand_14 rfl (by decide) ?_
    refine zW.iret dX0_failedCommand_15 rfl (rfl) ?_
    exact cWp.ok k9 e0 ho9 lO rfl
  · intro E h9 q9
    obtain ⟨k9, n, e0, e1⟩ := q9.r
    have ho9 := k9.2.at ho nO
    match n, e0, e1 with
    | 0, e0, e1 =>
      cases e1
      refine zX.catch (name := eElt) [] _ _ rfl 11 rfl (fun z hz => ?_) rfl (by decide) (lw_all_tbl q1538) q835 (fun qq => ?_)
      · cases hz
      · refine zW.astore_n (pc' := 12) dX0_failedCommand_11 rfl rfl (Nat.le_of_ble_eq_true rfl) rfl (zsS (zsS (zs0))) ?_
        refine zW.iconst (pc' := 13) (nI 1) dX0_failedCommand_12 rfl (by decide) ?_
        refine zW.iret dX0_failedCommand_13 rfl (rfl) ?_
        exact cWp.no k9 e0 (by decide) ho9
    | n + 1, e0, e1 => cases e1
theorem x_undo {q : Nat × Int32 × sW} (hx : h x = some (0, fs)) (ho : h o = some (101, [.long lv])) (nO : ¬ U o) (hc : zK G mX1_undo 40 R [.ref x] h (cOut x U h [eSta] q)) : zK G mX0_undo 41 R [.ref x, .ref o] h (cWp x o U h q) := by
  have lO : ¬ U o ∧ h o ≠ none := ⟨nO, by rw [ho]; exact fun z => by cases z⟩
  show zW G mX0_undo 41 R 0 [.ref x, .ref o, zho] [] h _
  refine zW.aload_n (pc' := 1) dX0_undo_0 rfl rfl (zgS (zg0)) rfl ?_
  refine zW.iconst (pc' := 2) (nI 0) dX0_undo_1 rfl (by decide) ?_
  refine zW.aload_n (pc' := 3) dX0_undo_2 rfl rfl zg0 rfl ?_
  refine zW.pay (r1 := 0 + R) ?_ (by omega)
  refine zW.callV (r' := _) (pc' := 6) dX0_undo_3 rfl l_X0_166 rfl hx ⟨rfl, (Nat.le_of_ble_eq_true rfl)⟩ rfl (hc) zc0 rfl (Nat.le_of_ble_eq_true rfl) (Nat.le_of_ble_eq_true rfl) (Nat.le_of_ble_eq_true rfl) ?_ ?_
  · intro v9 h9 q9
    obtain ⟨k9, e0, e1⟩ := q9.l
    subst e1
    have ho9 := k9.2.at ho nO
    refine zW.i2l (pc' := 7) dX0_undo_6 rfl ?_
    refine zW.last (pc' := 8) dX0_undo_7 rfl ho9 (by decide) zl01 rfl ?_
    refine zW.goto 14 dX0_undo_8 (by decide) ?_
    refine zW.iconst (pc' := 15) (nI 0) dX0_undo_14 rfl (by decide) ?_
    refine zW.iret dX0_undo_15 rfl (rfl) ?_
    exact cWp.ok k9 e0 ho9 lO rfl
  · intro E h9 q9
    obtain ⟨k9, n, e0, e1⟩ := q9.r
    have ho9 := k9.2.at ho nO
    match n, e0, e1 with
    | 0, e0, e1 =>
      cases e1
      refine zX.catch (name := eSta) [] _ _ rfl 11 rfl (fun z hz => ?_) rfl (by decide) (lw_all_tbl q1506) q1179 (fun qq => ?_)
      · cases hz
      · refine zW.astore_n (pc' := 12) dX0_undo_11 rfl rfl (Nat.le_of_ble_eq_true rfl) rfl (zsS (zsS (zs0))) ?_
        refine zW.iconst (pc' := 13) (nI 1) dX0_undo_12 rfl (by decide) ?_
        refine zW.iret dX0_undo_13 rfl (rfl) ?_
        exact cWp.no k9 e0 (by decide) ho9
    | n + 1, e0, e1 => cases e1
theorem x_restore {q : Nat × Int32 × sW} (hx : h x = some (0, fs)) (ho : h o = some (101, [.long lv])) (nO : ¬ U o) (hc : zK G mX1_restore 40 R [.ref x] h (cOut x U h [eSta] q)) : zK G mX0_restore 41 R [.ref x, .ref o] h (cWp x o U h q) := by
  have lO : ¬ U o ∧ h o ≠ none := ⟨nO, by rw [ho]; exact fun z => by cases z⟩
  show zW G mX0_restore 41 R 0 [.ref x, .ref o, zho] [] h _
  refine zW.aload_n (pc' := 1) dX0_restore_0 rfl rfl (zgS (zg0)) rfl ?_
  refine zW.iconst (pc' := 2) (nI 0) dX0_restore_1 rfl (by decide) ?_
  refine zW.aload_n (pc' := 3) dX0_restore_2 rfl rfl zg0 rfl ?_
  refine zW.pay (r1 := 0 + R) ?_ (by omega)
  refine zW.callV (r' := _) (pc' := 6) dX0_restore_3 rfl l_X0_169 rfl hx ⟨rfl, (Nat.le_of_ble_eq_true rfl)⟩ rfl (hc) zc0 rfl (Nat.le_of_ble_eq_true rfl) (Nat.le_of_ble_eq_true rfl) (Nat.le_of_ble_eq_true rfl) ?_ ?_
  · intro v9 h9 q9
    obtain ⟨k9, e0, e1⟩ := q9.l
    subst e1
    have ho9 := k9.2.at ho nO
    refine zW.i2l (pc' := 7) dX0_restore_6 rfl ?_
    refine zW.last (pc' := 8) dX0_restore_7 rfl ho9 (by decide) zl01 rfl ?_
    refine zW.goto 14 dX0_restore_8 (by decide) ?_
    refine zW.iconst (pc' := 15) (nI 0) dX0_restore_14 rfl (by decide) ?_
    refine zW.iret dX0_restore_15 rfl (rfl) ?_
    exact cWp.ok k9 e0 ho9 lO rfl
  · intro E h9 q9
    obtain ⟨k9, n, e0, e1⟩ := q9.r
    have ho9 := k9.2.at ho nO
    match n, e0, e1 with
    | 0, e0, e1 =>
      cases e1
      refine zX.catch (name := eSta) [] _ _ rfl 11 rfl (fun z hz => ?_) rfl (by decide) (lw_all_tbl q1506) q1179 (fun qq => ?_)
      · cases hz
      · refine zW.astore_n (pc' := 12) dX0_restore_11 rfl rfl (Nat.le_of_ble_eq_true rfl) rfl (zsS (zsS (zs0))) ?_
        refine zW.iconst (pc' := 13) (nI 1) dX0_restore_12 rfl (by decide) ?_
        refine zW.iret dX0_restore_13 rfl (rfl) ?_
        exact cWp.no k9 e0 (by decide) ho9
    | n + 1, e0, e1 => cases e1
end
