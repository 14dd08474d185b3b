/-! THE LAW: its wrappers (printed by mk9zf.py) -/
section
set_option maxRecDepth 100000
variable {G : zG} {h h' : zH} {U : Nat → Prop} {x o R : Nat} {fs : List Value} {lv : Int64}
theorem x_countersigner {q : Nat × Int32 × sW} {y1 : Int32} (hx : h x = some (0, fs)) (ho : h o = some (101, [.long lv])) (nO : ¬ U o) (hc : zK G mX1_countersigner 40 R [.ref x, .int y1] h (cOut x U h [eElt, eSta] q)) : zK G mX0_countersigner 41 R [.ref x, .int y1, .ref o] h (cWp x o U h q) := by
  have lO : ¬ U o ∧ h o ≠ none := ⟨nO, by rw [ho]; exact fun z => by cases z⟩
  show zW G mX0_countersigner 41 R 0 [.ref x, .int y1, .ref o, zho] [] h _
  refine zW.aload_n (pc' := 1) dX0_countersigner_0 rfl rfl (zgS (zgS (zg0))) rfl ?_
  refine zW.iconst (pc' := 2) (nI 0) dX0_countersigner_1 rfl (by decide) ?_
  refine zW.aload_n (pc' := 3) dX0_countersigner_2 rfl rfl zg0 rfl ?_
  refine zW.iload_n (pc' := 4) dX0_countersigner_3 rfl rfl (zgS (zg0)) ?_
  refine zW.pay (r1 := 0 + R) ?_ (by omega)
  refine zW.callV (r' := _) (pc' := 7) dX0_countersigner_4 rfl l_X0_72 rfl hx ⟨rfl, (Nat.le_of_ble_eq_true rfl)⟩ rfl (hc) (zcc rfl zc0) rfl (Nat.le_of_ble_eq_true rfl) (Nat.le_of_ble_eq_true rfl) (Nat.le_of_ble_eq_true rfl) ?_ ?_
  · intro v9 h9 q9
    obtain ⟨k9, e0, e1⟩ := q9.l
    subst e1
    have ho9 := k9.2.at ho nO
    refine zW.i2l (pc' := 8) dX0_countersigner_7 rfl ?_
    refine zW.last (pc' := 9) dX0_countersigner_8 rfl ho9 (by decide) zl01 rfl ?_
    refine zW.goto 18 dX0_countersigner_9 (by decide) ?_
    refine zW.iconst (pc' := 19) (nI 0) dX0_countersigner_18 rfl (by decide) ?_
    refine zW.iret dX0_countersigner_19 rfl (rfl) ?_
    exact cWp.ok k9 e0 ho9 lO rfl
  · intro E h9 q9
    obtain ⟨k9, n, e0, e1⟩ := q9.r
    have ho9 := k9.2.at ho nO
    match n, e0, e1 with
    | 0, e0, e1 =>
      cases e1
      refine zX.catch (name := eElt) [] _ _ rfl 12 rfl (fun z hz => ?_) rfl (by decide) (lw_all_tbl q1538) q835 (fun qq => ?_)
      · cases hz
      · refine zW.astore_n (pc' := 13) dX0_countersigner_12 rfl rfl (Nat.le_of_ble_eq_true rfl) rfl (zsS (zsS (zsS (zs0)))) ?_
        refine zW.iconst (pc' := 14) (nI 1) dX0_countersigner_13 rfl (by decide) ?_
        refine zW.iret dX0_countersigner_14 rfl (rfl) ?_
        exact cWp.no k9 e0 (by decide) ho9
    | 1, e0, e1 =>
      cases e1
      refine zX.catch (name := eSta) [_] _ _ rfl 15 rfl (fun z hz => ?_) rfl (by decide) (lw_all_tbl q1506) q1179 (fun qq => ?_)
      · rw [List.mem_singleton.mp hz]
        exact Or.inr ⟨by decide, eElt, (lw_all_tbl q1538), fun s hT => ncOf (eSta, eElt) (by decide) hT⟩
      · refine zW.astore_n (pc' := 16) dX0_countersigner_15 rfl rfl (Nat.le_of_ble_eq_true rfl) rfl (zsS (zsS (zsS (zs0)))) ?_
        refine zW.iconst (pc' := 17) (nI 2) dX0_countersigner_16 rfl (by decide) ?_
        refine zW.iret dX0_countersigner_17 rfl (rfl) ?_
        exact cWp.no k9 e0 (by decide) ho9
    | n + 2, e0, e1 => cases e1
theorem x_signaturesOf {q : Nat × Int32 × sW} {y1 : Int32} (hx : h x = some (0, fs)) (ho : h o = some (101, [.long lv])) (nO : ¬ U o) (hc : zK G mX1_signaturesOf 40 R [.ref x, .int y1] h (cOut x U h [eArg] q)) : zK G mX0_signaturesOf 41 R [.ref x, .int y1, .ref o] h (cWp x o U h q) := by
  have lO : ¬ U o ∧ h o ≠ none := ⟨nO, by rw [ho]; exact fun z => by cases z⟩
  show zW G mX0_signaturesOf 41 R 0 [.ref x, .int y1, .ref o, zho] [] h _
  refine zW.aload_n (pc' := 1) dX0_signaturesOf_0 rfl rfl (zgS (zgS (zg0))) rfl ?_
  refine zW.iconst (pc' := 2) (nI 0) dX0_signaturesOf_1 rfl (by decide) ?_
  refine zW.aload_n (pc' := 3) dX0_signaturesOf_2 rfl rfl zg0 rfl ?_
  refine zW.iload_n (pc' := 4) dX0_signaturesOf_3 rfl rfl (zgS (zg0)) ?_
  refine zW.pay (r1 := 0 + R) ?_ (by omega)
  refine zW.callV (r' := _) (pc' := 7) dX0_signaturesOf_4 rfl l_X0_75 rfl hx ⟨rfl, (Nat.le_of_ble_eq_true rfl)⟩ rfl (hc) (zcc rfl zc0) rfl (Nat.le_of_ble_eq_true rfl) (Nat.le_of_ble_eq_true rfl) (Nat.le_of_ble_eq_true rfl) ?_ ?_
  · intro v9 h9 q9
    obtain ⟨k9, e0, e1⟩ := q9.l
    subst e1
    have ho9 := k9.2.at ho nO
    refine zW.i2l (pc' := 8) dX0_signaturesOf_7 rfl ?_
    refine zW.last (pc' := 9) dX0_signaturesOf_8 rfl ho9 (by decide) zl01 rfl ?_
    refine zW.goto 15 dX0_signaturesOf_9 (by decide) ?_
    refine zW.iconst (pc' := 16) (nI 0) dX0_signaturesOf_15 rfl (by decide) ?_
    refine zW.iret dX0_signaturesOf_16 rfl (rfl) ?_
    exact cWp.ok k9 e0 ho9 lO rfl
  · intro E h9 q9
    obtain ⟨k9, n, e0, e1⟩ := q9.r
    have ho9 := k9.2.at ho nO
    match n, e0, e1 with
    | 0, e0, e1 =>
      cases e1
      refine zX.catch (name := eArg) [] _ _ rfl 12 rfl (fun z hz => ?_) rfl (by decide) (lw_all_tbl q1505) q597 (fun qq => ?_)
      · cases hz
      · refine zW.astore_n (pc' := 13) dX0_signaturesOf_12 rfl rfl (Nat.le_of_ble_eq_true rfl) rfl (zsS (zsS (zsS (zs0)))) ?_
        refine zW.iconst (pc' := 14) (nI 1) dX0_signaturesOf_13 rfl (by decide) ?_
        refine zW.iret dX0_signaturesOf_14 rfl (rfl) ?_
        exact cWp.no k9 e0 (by decide) ho9
    | n + 1, e0, e1 => cases e1
theorem x_countersignaturesOf {q : Nat × Int32 × sW} {y1 : Int32} (hx : h x = some (0, fs)) (ho : h o = some (101, [.long lv])) (nO : ¬ U o) (hc : zK G mX1_countersignaturesOf 40 R [.ref x, .int y1] h (cOut x U h [eArg] q)) : zK G mX0_countersignaturesOf 41 R [.ref x, .int y1, .ref o] h (cWp x o U h q) := by
  have lO : ¬ U o ∧ h o ≠ none := ⟨nO, by rw [ho]; exact fun z => by cases z⟩
  show zW G mX0_countersignaturesOf 41 R 0 [.ref x, .int y1, .ref o, zho] [] h _
  refine zW.aload_n (pc' := 1) dX0_countersignaturesOf_0 rfl rfl (zgS (zgS (zg0))) rfl ?_
  refine zW.iconst (pc' := 2) (nI 0) dX0_countersignaturesOf_1 rfl (by decide) ?_
  refine zW.aload_n (pc' := 3) dX0_countersignaturesOf_2 rfl rfl zg0 rfl ?_
  refine zW.iload_n (pc' := 4) dX0_countersignaturesOf_3 rfl rfl (zgS (zg0)) ?_
  refine zW.pay (r1 := 0 + R) ?_ (by omega)
  refine zW.callV (r' := _) (pc' := 7) dX0_countersignaturesOf_4 rfl l_X0_78 rfl hx ⟨rfl, (Nat.le_of_ble_eq_true rfl)⟩ rfl (hc) (zcc rfl zc0) rfl (Nat.le_of_ble_eq_true rfl) (Nat.le_of_ble_eq_true rfl) (Nat.le_of_ble_eq_true rfl) ?_ ?_
  · intro v9 h9 q9
    obtain ⟨k9, e0, e1⟩ := q9.l
    subst e1
    have ho9 := k9.2.at ho nO
    refine zW.i2l (pc' := 8) dX0_countersignaturesOf_7 rfl ?_
    refine zW.last (pc' := 9) dX0_countersignaturesOf_8 rfl ho9 (by decide) zl01 rfl ?_
    refine zW.goto 15 dX0_countersignaturesOf_9 (by decide) ?_
    refine zW.iconst (pc' := 16) (nI 0) dX0_countersignaturesOf_15 rfl (by decide) ?_
    refine zW.iret dX0_countersignaturesOf_16 rfl (rfl) ?_
    exact cWp.ok k9 e0 ho9 lO rfl
  · intro E h9 q9
    obtain ⟨k9, n, e0, e1⟩ := q9.r
    have ho9 := k9.2.at ho nO
    match n, e0, e1 with
    | 0, e0, e1 =>
      cases e1
      refine zX.catch (name := eArg) [] _ _ rfl 12 rfl (fun z hz => ?_) rfl (by decide) (lw_all_tbl q1505) q597 (fun qq => ?_)
      · cases hz
      · refine zW.astore_n (pc' := 13) dX0_countersignaturesOf_12 rfl rfl (Nat.le_of_ble_eq_true rfl) rfl (zsS (zsS (zsS (zs0)))) ?_
        refine zW.iconst (pc' := 14) (nI 1) dX0_countersignaturesOf_13 rfl (by decide) ?_
        refine zW.iret dX0_countersignaturesOf_14 rfl (rfl) ?_
        exact cWp.no k9 e0 (by decide) ho9
    | n + 1, e0, e1 => cases e1
theorem x_owedBy {q : Nat × Int32 × sW} {y1 : Int32} (hx : h x = some (0, fs)) (ho : h o = some (101, [.long lv])) (nO : ¬ U o) (hc : zK G mX1_owedBy 40 R [.ref x, .int y1] h (cOut x U h [eArg] q)) : zK G mX0_owedBy 41 R [.ref x, .int y1, .ref o] h (cWp x o U h q) := by
  have lO : ¬ U o ∧ h o ≠ none := ⟨nO, by rw [ho]; exact fun z => by cases z⟩
  show zW G mX0_owedBy 41 R 0 [.ref x, .int y1, .ref o, zho] [] h _
  refine zW.aload_n (pc' := 1) dX0_owedBy_0 rfl rfl (zgS (zgS (zg0))) rfl ?_
  refine zW.iconst (pc' := 2) (nI 0) dX0_owedBy_1 rfl (by decide) ?_
  refine zW.aload_n (pc' := 3) dX0_owedBy_2 rfl rfl zg0 rfl ?_
  refine zW.iload_n (pc' := 4) dX0_owedBy_3 rfl rfl (zgS (zg0)) ?_
  refine zW.pay (r1 := 0 + R) ?_ (by omega)
  refine zW.callV (r' := _) (pc' := 7) dX0_owedBy_4 rfl l_X0_81 rfl hx ⟨rfl, (Nat.le_of_ble_eq_true rfl)⟩ rfl (hc) (zcc rfl zc0) rfl (Nat.le_of_ble_eq_true rfl) (Nat.le_of_ble_eq_true rfl) (Nat.le_of_ble_eq_true rfl) ?_ ?_
  · intro v9 h9 q9
    obtain ⟨k9, e0, e1⟩ := q9.l
    subst e1
    have ho9 := k9.2.at ho nO
    refine zW.i2l (pc' := 8) dX0_owedBy_7 rfl ?_
    refine zW.last (pc' := 9) dX0_owedBy_8 rfl ho9 (by decide) zl01 rfl ?_
    refine zW.goto 15 dX0_owedBy_9 (by decide) ?_
    refine zW.iconst (pc' := 16) (nI 0) dX0_owedBy_15 rfl (by decide) ?_
    refine zW.iret dX0_owedBy_16 rfl (rfl) ?_
    exact cWp.ok k9 e0 ho9 lO rfl
  · intro E h9 q9
    obtain ⟨k9, n, e0, e1⟩ := q9.r
    have ho9 := k9.2.at ho nO
    match n, e0, e1 with
    | 0, e0, e1 =>
      cases e1
      refine zX.catch (name := eArg) [] _ _ rfl 12 rfl (fun z hz => ?_) rfl (by decide) (lw_all_tbl q1505) q597 (fun qq => ?_)
      · cases hz
      · refine zW.astore_n (pc' := 13) dX0_owedBy_12 rfl rfl (Nat.le_of_ble_eq_true rfl) rfl (zsS (zsS (zsS (zs0)))) ?_
        refine zW.iconst (pc' := 14) (nI 1) dX0_owedBy_13 rfl (by decide) ?_
        refine zW.iret dX0_owedBy_14 rfl (rfl) ?_
        exact cWp.no k9 e0 (by decide) ho9
    | n + 1, e0, e1 => cases e1
theorem x_owedTo {q : Nat × Int32 × sW} {y1 : Int32} (hx : h x = some (0, fs)) (ho : h o = some (101, [.long lv])) (nO : ¬ U o) (hc : zK G mX1_owedTo 40 R [.ref x, .int y1] h (cOut x U h [eArg] q)) : zK G mX0_owedTo 41 R [.ref x, .int y1, .ref o] h (cWp x o U h q) := by
  have lO : ¬ U o ∧ h o ≠ none := ⟨nO, by rw [ho]; exact fun z => by cases z⟩
  show zW G mX0_owedTo 41 R 0 [.ref x, .int y1, .ref o, zho] [] h _
  refine zW.aload_n (pc' := 1) dX0_owedTo_0 rfl rfl (zgS (zgS (zg0))) rfl ?_
  refine zW.iconst (pc' := 2) (nI 0) dX0_owedTo_1 rfl (by decide) ?_
  refine zW.aload_n (pc' := 3) dX0_owedTo_2 rfl rfl zg0 rfl ?_
  refine zW.iload_n (pc' := 4) dX0_owedTo_3 rfl rfl (zgS (zg0)) ?_
  refine zW.pay (r1 := 0 + R) ?_ (by omega)
  refine zW.callV (r' := _) (pc' := 7) dX0_owedTo_4 rfl l_X0_84 rfl hx ⟨rfl, (Nat.le_of_ble_eq_true rfl)⟩ rfl (hc) (zcc rfl zc0) rfl (Nat.le_of_ble_eq_true rfl) (Nat.le_of_ble_eq_true rfl) (Nat.le_of_ble_eq_true rfl) ?_ ?_
  · intro v9 h9 q9
    obtain ⟨k9, e0, e1⟩ := q9.l
    subst e1
    have ho9 := k9.2.at ho nO
    refine zW.i2l (pc' := 8) dX0_owedTo_7 rfl ?_
    refine zW.last (pc' := 9) dX0_owedTo_8 rfl ho9 (by decide) zl01 rfl ?_
    refine zW.goto 15 dX0_owedTo_9 (by decide) ?_
    refine zW.iconst (pc' := 16) (nI 0) dX0_owedTo_15 rfl (by decide) ?_
    refine zW.iret dX0_owedTo_16 rfl (rfl) ?_
    exact cWp.ok k9 e0 ho9 lO rfl
  · intro E h9 q9
    obtain ⟨k9, n, e0, e1⟩ := q9.r
    have ho9 := k9.2.at ho nO
    match n, e0, e1 with
    | 0, e0, e1 =>
      cases e1
      refine zX.catch (name := eArg) [] _ _ rfl 12 rfl (fun z hz => ?_) rfl (by decide) (lw_all_tbl q1505) q597 (fun qq => ?_)
      · cases hz
      · refine zW.astore_n (pc' := 13) dX0_owedTo_12 rfl rfl (Nat.le_of_ble_eq_true rfl) rfl (zsS (zsS (zsS (zs0)))) ?_
        refine zW.iconst (pc' := 14) (nI 1) dX0_owedTo_13 rfl (by decide) ?_
        refine zW.iret dX0_owedTo_14 rfl (rfl) ?_
        exact cWp.no k9 e0 (by decide) ho9
    | n + 1, e0, e1 => cases e1
theorem x_balance {q : Nat × Int32 × sW} {y1 : Int32} (hx : h x = some (0, fs)) (ho : h o = some (101, [.long lv])) (nO : ¬ U o) (hc : zK G mX1_balance 40 R [.ref x, .int y1] h (cOut x U h [eArg] q)) : zK G mX0_balance 41 R [.ref x, .int y1, .ref o] h (cWp x o U h q) := by
  have lO : ¬ U o ∧ h o ≠ none := ⟨nO, by rw [ho]; exact fun z => by cases z⟩
  show zW G mX0_balance 41 R 0 [.ref x, .int y1, .ref o, zho] [] h _
  refine zW.aload_n (pc' := 1) dX0_balance_0 rfl rfl (zgS (zgS (zg0))) rfl ?_
  refine zW.iconst (pc' := 2) (nI 0) dX0_balance_1 rfl (by decide) ?_
  refine zW.aload_n (pc' := 3) dX0_balance_2 rfl rfl zg0 rfl ?_
  refine zW.iload_n (pc' := 4) dX0_balance_3 rfl rfl (zgS (zg0)) ?_
  refine zW.pay (r1 := 0 + R) ?_ (by omega)
  refine zW.callV (r' := _) (pc' := 7) dX0_balance_4 rfl l_X0_87 rfl hx ⟨rfl, (Nat.le_of_ble_eq_true rfl)⟩ rfl (hc) (zcc rfl zc0) rfl (Nat.le_of_ble_eq_true rfl) (Nat.le_of_ble_eq_true rfl) (Nat.le_of_ble_eq_true rfl) ?_ ?_
  · intro v9 h9 q9
    obtain ⟨k9, e0, e1⟩ := q9.l
    subst e1
    have ho9 := k9.2.at ho nO
    refine zW.i2l (pc' := 8) dX0_balance_7 rfl ?_
    refine zW.last (pc' := 9) dX0_balance_8 rfl ho9 (by decide) zl01 rfl ?_
    refine zW.goto 15 dX0_balance_9 (by decide) ?_
    refine zW.iconst (pc' := 16) (nI 0) dX0_balance_15 rfl (by decide) ?_
    refine zW.iret dX0_balance_16 rfl (rfl) ?_
    exact cWp.ok k9 e0 ho9 lO rfl
  · intro E h9 q9
    obtain ⟨k9, n, e0, e1⟩ := q9.r
    have ho9 := k9.2.at ho nO
    match n, e0, e1 with
    | 0, e0, e1 =>
      cases e1
      refine zX.catch (name := eArg) [] _ _ rfl 12 rfl (fun z hz => ?_) rfl (by decide) (lw_all_tbl q1505) q597 (fun qq => ?_)
      · cases hz
      · refine zW.astore_n (pc' := 13) dX0_balance_12 rfl rfl (Nat.le_of_ble_eq_true rfl) rfl (zsS (zsS (zsS (zs0)))) ?_
        refine zW.iconst (pc' := 14) (nI 1) dX0_balance_13 rfl (by decide) ?_
        refine zW.iret dX0_balance_14 rfl (rfl) ?_
        exact cWp.no k9 e0 (by decide) ho9
    | n + 1, e0, e1 => cases e1
theorem x_mostIndebted {q : Nat × Int32 × sW} (hx : h x = some (0, fs)) (ho : h o = some (101, [.long lv])) (nO : ¬ U o) (hc : zK G mX1_mostIndebted 40 R [.ref x] h (cOut x U h [eElt] q)) : zK G mX0_mostIndebted 41 R [.ref x, .ref o] h (cWp x o U h q) := by
  have lO : ¬ U o ∧ h o ≠ none := ⟨nO, by rw [ho]; exact fun z => by cases z⟩
  show zW G mX0_mostIndebted 41 R 0 [.ref x, .ref o, zho] [] h _
  refine zW.aload_n (pc' := 1) dX0_mostIndebted_0 rfl rfl (zgS (zg0)) rfl ?_
  refine zW.iconst (pc' := 2) (nI 0) dX0_mostIndebted_1 rfl (by decide) ?_
  refine zW.aload_n (pc' := 3) dX0_mostIndebted_2 rfl rfl zg0 rfl ?_
  refine zW.pay (r1 := 0 + R) ?_ (by omega)
  refine zW.callV (r' := _) (pc' := 6) dX0_mostIndebted_3 rfl l_X0_90 rfl hx ⟨rfl, (Nat.le_of_ble_eq_true rfl)⟩ rfl (hc) zc0 rfl (Nat.le_of_ble_eq_true rfl) (Nat.le_of_ble_eq_true rfl) (Nat.le_of_ble_eq_true rfl) ?_ ?_
  · intro v9 h9 q9
    obtain ⟨k9, e0, e1⟩ := q9.l
    subst e1
    have ho9 := k9.2.at ho nO
    refine zW.i2l (pc' := 7) dX0_mostIndebted_6 rfl ?_
    refine zW.last (pc' := 8) dX0_mostIndebted_7 rfl ho9 (by decide) zl01 rfl ?_
    refine zW.goto 14 dX0_mostIndebted_8 (by decide) ?_
    refine zW.iconst (pc' := 15) (nI 0) dX0_mostIndebted_14 rfl (by decide) ?_
    refine zW.iret dX0_mostIndebted_15 rfl (rfl) ?_
    exact cWp.ok k9 e0 ho9 lO rfl
  · intro E h9 q9
    obtain ⟨k9, n, e0, e1⟩ := q9.r
    have ho9 := k9.2.at ho nO
    match n, e0, e1 with
    | 0, e0, e1 =>
      cases e1
      refine zX.catch (name := eElt) [] _ _ rfl 11 rfl (fun z hz => ?_) rfl (by decide) (lw_all_tbl q1538) q835 (fun qq => ?_)
      · cases hz
      · refine zW.astore_n (pc' := 12) dX0_mostIndebted_11 rfl rfl (Nat.le_of_ble_eq_true rfl) rfl (zsS (zsS (zs0))) ?_
        refine zW.iconst (pc' := 13) (nI 1) dX0_mostIndebted_12 rfl (by decide) ?_
        refine zW.iret dX0_mostIndebted_13 rfl (rfl) ?_
        exact cWp.no k9 e0 (by decide) ho9
    | n + 1, e0, e1 => cases e1
theorem x_heaviest {q : Nat × Int32 × sW} (hx : h x = some (0, fs)) (ho : h o = some (101, [.long lv])) (nO : ¬ U o) (hc : zK G mX1_heaviest 40 R [.ref x] h (cOut x U h [eElt] q)) : zK G mX0_heaviest 41 R [.ref x, .ref o] h (cWp x o U h q) := by
  have lO : ¬ U o ∧ h o ≠ none := ⟨nO, by rw [ho]; exact fun z => by cases z⟩
  show zW G mX0_heaviest 41 R 0 [.ref x, .ref o, zho] [] h _
  refine zW.aload_n (pc' := 1) dX0_heaviest_0 rfl rfl (zgS (zg0)) rfl ?_
  refine zW.iconst (pc' := 2) (nI 0) dX0_heaviest_1 rfl (by decide) ?_
  refine zW.aload_n (pc' := 3) dX0_heaviest_2 rfl rfl zg0 rfl ?_
  refine zW.pay (r1 := 0 + R) ?_ (by omega)
  refine zW.callV (r' := _) (pc' := 6) dX0_heaviest_3 rfl l_X0_94 rfl hx ⟨rfl, (Nat.le_of_ble_eq_true rfl)⟩ rfl (hc) zc0 rfl (Nat.le_of_ble_eq_true rfl) (Nat.le_of_ble_eq_true rfl) (Nat.le_of_ble_eq_true rfl) ?_ ?_
  · intro v9 h9 q9
    obtain ⟨k9, e0, e1⟩ := q9.l
    subst e1
    have ho9 := k9.2.at ho nO
    refine zW.i2l (pc' := 7) dX0_heaviest_6 rfl ?_
    refine zW.last (pc' := 8) dX0_heaviest_7 rfl ho9 (by decide) zl01 rfl ?_
    refine zW.goto 14 dX0_heaviest_8 (by decide) ?_
    refine zW.iconst (pc' := 15) (nI 0) dX0_heaviest_14 rfl (by decide) ?_
    refine zW.iret dX0_heaviest_15 rfl (rfl) ?_
    exact cWp.ok k9 e0 ho9 lO rfl
  · intro E h9 q9
    obtain ⟨k9, n, e0, e1⟩ := q9.r
    have ho9 := k9.2.at ho nO
    match n, e0, e1 with
    | 0, e0, e1 =>
      cases e1
      refine zX.catch (name := eElt) [] _ _ rfl 11 rfl (fun z hz => ?_) rfl (by decide) (lw_all_tbl q1538) q835 (fun qq => ?_)
      · cases hz
      · refine zW.astore_n (pc' := 12) dX0_heaviest_11 rfl rfl (Nat.le_of_ble_eq_true rfl) rfl (zsS (zsS (zs0))) ?_
        refine zW.iconst (pc' := 13) (nI 1) dX0_heaviest_12 rfl (by decide) ?_
        refine zW.iret dX0_heaviest_13 rfl (rfl) ?_
        exact cWp.no k9 e0 (by decide) ho9
    | n + 1, e0, e1 => cases e1
theorem x_nextExpiry {q : Nat × Int32 × sW} (hx : h x = some (0, fs)) (ho : h o = some (101, [.long lv])) (nO : ¬ U o) (hc : zK G mX1_nextExpiry 40 R [.ref x] h (cOut x U h [eElt] q)) : zK G mX0_nextExpiry 41 R [.ref x, .ref o] h (cWp x o U h q) := by
  have lO : ¬ U o ∧ h o ≠ none := ⟨nO, by rw [ho]; exact fun z => by cases z⟩
  show zW G mX0_nextExpiry 41 R 0 [.ref x, .ref o, zho] [] h _
  refine zW.aload_n (pc' := 1) dX0_nextExpiry_0 rfl rfl (zgS (zg0)) rfl ?_
  refine zW.iconst (pc' := 2) (nI 0) dX0_nextExpiry_1 rfl (by decide) ?_
  refine zW.aload_n (pc' := 3) dX0_nextExpiry_2 rfl rfl zg0 rfl ?_
  refine zW.pay (r1 := 0 + R) ?_ (by omega)
  refine zW.callV (r' := _) (pc' := 6) dX0_nextExpiry_3 rfl l_X0_97 rfl hx ⟨rfl, (Nat.le_of_ble_eq_true rfl)⟩ rfl (hc) zc0 rfl (Nat.le_of_ble_eq_true rfl) (Nat.le_of_ble_eq_true rfl) (Nat.le_of_ble_eq_true rfl) ?_ ?_
  · intro v9 h9 q9
    obtain ⟨k9, e0, e1⟩ := q9.l
    subst e1
    have ho9 := k9.2.at ho nO
    refine zW.i2l (pc' := 7) dX0_nextExpiry_6 rfl ?_
    refine zW.last (pc' := 8) dX0_nextExpiry_7 rfl ho9 (by decide) zl01 rfl ?_
    refine zW.goto 14 dX0_nextExpiry_8 (by decide) ?_
    refine zW.iconst (pc' := 15) (nI 0) dX0_nextExpiry_14 rfl (by decide) ?_
    refine zW.iret dX0_nextExpiry_15 rfl (rfl) ?_
    exact cWp.ok k9 e0 ho9 lO rfl
  · intro E h9 q9
    obtain ⟨k9, n, e0, e1⟩ := q9.r
    have ho9 := k9.2.at ho nO
    match n, e0, e1 with
    | 0, e0, e1 =>
      cases e1
      refine zX.catch (name := eElt) [] _ _ rfl 11 rfl (fun z hz => ?_) rfl (by decide) (lw_all_tbl q1538) q835 (fun qq => ?_)
      · cases hz
      · refine zW.astore_n (pc' := 12) dX0_nextExpiry_11 rfl rfl (Nat.le_of_ble_eq_true rfl) rfl (zsS (zsS (zs0))) ?_
        refine zW.iconst (pc' := 13) (nI 1) dX0_nextExpiry_12 rfl (by decide) ?_
        refine zW.iret dX0_nextExpiry_13 rfl (rfl) ?_
        exact cWp.no k9 e0 (by decide) ho9
    | n + 1, e0, e1 => cases e1
theorem x_nextToAudit {q : Nat × Int32 × sW} (hx : h x = some (0, fs)) (ho : h o = some (101, [.long lv])) (nO : ¬ U o) (hc : zK G mX1_nextToAudit 40 R [.ref x] h (cOut x U h [eElt] q)) : zK G mX0_nextToAudit 41 R [.ref x, .ref o] h (cWp x o U h q) := by
  have lO : ¬ U o ∧ h o ≠ none := ⟨nO, by rw [ho]; exact fun z => by cases z⟩
  show zW G mX0_nextToAudit 41 R 0 [.ref x, .ref o, zho] [] h _
  refine zW.aload_n (pc' := 1) dX0_nextToAudit_0 rfl rfl (zgS (zg0)) rfl ?_
  refine zW.iconst (pc' := 2) (nI 0) dX0_nextToAudit_1 rfl (by decide) ?_
  refine zW.aload_n (pc' := 3) dX0_nextToAudit_2 rfl rfl zg0 rfl ?_
  refine zW.pay (r1 := 0 + R) ?_ (by omega)
  refine zW.callV (r' := _) (pc' := 6) dX0_nextToAudit_3 rfl l_X0_100 rfl hx ⟨rfl, (Nat.le_of_ble_eq_true rfl)⟩ rfl (hc) zc0 rfl (Nat.le_of_ble_eq_true rfl) (Nat.le_of_ble_eq_true rfl) (Nat.le_of_ble_eq_true rfl) ?_ ?_
  · intro v9 h9 q9
    obtain ⟨k9, e0, e1⟩ := q9.l
    subst e1
    have ho9 := k9.2.at ho nO
    refine zW.i2l (pc' := 7) dX0_nextToAudit_6 rfl ?_
    refine zW.last (pc' := 8) dX0_nextToAudit_7 rfl ho9 (by decide) zl01 rfl ?_
    refine zW.goto 14 dX0_nextToAudit_8 (by decide) ?_
    refine zW.iconst (pc' := 15) (nI 0) dX0_nextToAudit_14 rfl (by decide) ?_
    refine zW.iret dX0_nextToAudit_15 rfl (rfl) ?_
    exact cWp.ok k9 e0 ho9 lO rfl
  · intro E h9 q9
    obtain ⟨k9, n, e0, e1⟩ := q9.r
    have ho9 := k9.2.at ho nO
    match n, e0, e1 with
    | 0, e0, e1 =>
      cases e1
      refine zX.catch (name := eElt) [] _ _ rfl 11 rfl (fun z hz => ?_) rfl (by decide) (lw_all_tbl q1538) q835 (fun qq => ?_)
      · cases hz
      · refine zW.astore_n (pc' := 12) dX0_nextToAudit_11 rfl rfl (Nat.le_of_ble_eq_true rfl) rfl (zsS (zsS (zs0))) ?_
        refine zW.iconst (pc' := 13) (nI 1) dX0_nextToAudit_12 rfl (by decide) ?_
        refine zW.iret dX0_nextToAudit_13 rfl (rfl) ?_
        exact cWp.no k9 e0 (by decide) ho9
    | n + 1, e0, e1 => cases e1
theorem x_auditPosition {q : Nat × Int32 × sW} {y1 : Int32} (hx : h x = some (0, fs)) (ho : h o = some (101, [.long lv])) (nO : ¬ U o) (hc : zK G mX1_auditPosition 40 R [.ref x, .int y1] h (cOut x U h [eElt] q)) : zK G mX0_auditPosition 41 R [.ref x, .int y1, .ref o] h (cWp x o U h q) := by
  have lO : ¬ U o ∧ h o ≠ none := ⟨nO, by rw [ho]; exact fun z => by cases z⟩
  show zW G mX0_auditPosition 41 R 0 [.ref x, .int y1, .ref o, zho] [] h _
  refine zW.aload_n (pc' := 1) dX0_auditPosition_0 rfl rfl (zgS (zgS (zg0))) rfl ?_
  refine zW.iconst (pc' := 2) (nI 0) dX0_auditPosition_1 rfl (by decide) ?_
  refine zW.aload_n (pc' := 3) dX0_auditPosition_2 rfl rfl zg0 rfl ?_
  refine zW.iload_n (pc' := 4) dX0_auditPosition_3 rfl rfl (zgS (zg0)) ?_
  refine zW.pay (r1 := 0 + R) ?_ (by omega)
  refine zW.callV (r' := _) (pc' := 7) dX0_auditPosition_4 rfl l_X0_103 rfl hx ⟨rfl, (Nat.le_of_ble_eq_true rfl)⟩ rfl (hc) (zcc rfl zc0) rfl (Nat.le_of_ble_eq_true rfl) (Nat.le_of_ble_eq_true rfl) (Nat.le_of_ble_eq_true rfl) ?_ ?_
  · intro v9 h9 q9
    obtain ⟨k9, e0, e1⟩ := q9.l
    subst e1
    have ho9 := k9.2.at ho nO
    refine zW.i2l (pc' := 8) dX0_auditPosition_7 rfl ?_
    refine zW.last (pc' := 9) dX0_auditPosition_8 rfl ho9 (by decide) zl01 rfl ?_
    refine zW.goto 15 dX0_auditPosition_9 (by decide) ?_
    refine zW.iconst (pc' := 16) (nI 0) dX0_auditPosition_15 rfl (by decide) ?_
    refine zW.iret dX0_auditPosition_16 rfl (rfl) ?_
    exact cWp.ok k9 e0 ho9 lO rfl
  · intro E h9 q9
    obtain ⟨k9, n, e0, e1⟩ := q9.r
    have ho9 := k9.2.at ho nO
    match n, e0, e1 with
    | 0, e0, e1 =>
      cases e1
      refine zX.catch (name := eElt) [] _ _ rfl 12 rfl (fun z hz => ?_) rfl (by decide) (lw_all_tbl q1538) q835 (fun qq => ?_)
      · cases hz
      · refine zW.astore_n (pc' := 13) dX0_auditPosition_12 rfl rfl (Nat.le_of_ble_eq_true rfl) rfl (zsS (zsS (zsS (zs0)))) ?_
        refine zW.iconst (pc' := 14) (nI 1) dX0_auditPosition_13 rfl (by decide) ?_
        refine zW.iret dX0_auditPosition_14 rfl (rfl) ?_
        exact cWp.no k9 e0 (by decide) ho9
    | n + 1, e0, e1 => cases e1
theorem x_owes {q : Nat × Int32 × sW} {y1 : Int32} {y2 : Int32} (hx : h x = some (0, fs)) (ho : h o = some (101, [.long lv])) (nO : ¬ U o) (hb : q.1 = 0 → q.2.1 = nI 0 ∨ q.2.1 = nI 1) (hc : zK G mX1_owes 40 R [.ref x, .int y1, .int y2] h (cOut x U h [eArg] q)) : zK G mX0_owes 41 R [.ref x, .int y1, .int y2, .ref o] h (cWp x o U h q) := by
  have lO : ¬ U o ∧ h o ≠ none := ⟨nO, by rw [ho]; exact fun z => by cases z⟩
  show zW G mX0_owes 41 R 0 [.ref x, .int y1, .int y2, .ref o, zho] [] h _
  refine zW.aload_n (pc' := 1) dX0_owes_0 rfl rfl (zgS (zgS (zgS (zg0)))) rfl ?_
  refine zW.iconst (pc' := 2) (nI 0) dX0_owes_1 rfl (by decide) ?_
  refine zW.aload_n (pc' := 3) dX0_owes_2 rfl rfl zg0 rfl ?_
  refine zW.iload_n (pc' := 4) dX0_owes_3 rfl rfl (zgS (zg0)) ?_
  refine zW.iload_n (pc' := 5) dX0_owes_4 rfl rfl (zgS (zgS (zg0))) ?_
  refine zW.pay (r1 := 0 + R) ?_ (by omega)
  refine zW.callV (r' := _) (pc' := 8) dX0_owes_5 rfl l_X0_106 rfl hx ⟨rfl, (Nat.le_of_ble_eq_true rfl)⟩ rfl (hc) (zcc rfl (zcc rfl zc0)) rfl (Nat.le_of_ble_eq_true rfl) (Nat.le_of_ble_eq_true rfl) (Nat.le_of_ble_eq_true rfl) ?_ ?_
  · intro v9 h9 q9
    obtain ⟨k9, e0, e1⟩ := q9.l
    subst e1
    have ho9 := k9.2.at ho nO
    rcases hb e0 with e2 | e2
    · show zW G mX0_owes 41 _ 8 _ (.int q.2.1 :: _) _ _
      rw [e2]
      refine zW.if_eqN (pc' := 11) 15 dX0_owes_8 rfl (by decide) (by omega) (fun b9 => ?_) (fun b9 => absurd b9 (by omega))
      refine zW.lconst (pc' := 16) 0 dX0_owes_15 rfl (by decide) ?_
      refine zW.last (pc' := 17) dX0_owes_16 rfl ho9 (by decide) zl01 rfl ?_
      refine zW.goto 24 dX0_owes_17 (by decide) ?_
      refine zW.iconst (pc' := 25) (nI 0) dX0_owes_24 rfl (by decide) ?_
      refine zW.iret dX0_owes_25 rfl (rfl) ?_
      exact cWp.ok k9 e0 ho9 lO (by rw [e2]; decide)
    · show zW G mX0_owes 41 _ 8 _ (.int q.2.1 :: _) _ _
      rw [e2]
      refine zW.if_eqN (pc' := 11) 15 dX0_owes_8 rfl (by decide) (by omega) (fun b9 => absurd b9 (by omega)) (fun b9 => ?_)
      refine zW.lconst (pc' := 12) 1 dX0_owes_11 rfl (by decide) ?_
      refine zW.goto 16 dX0_owes_12 (by decide) ?_
      refine zW.last (pc' := 17) dX0_owes_16 rfl ho9 (by decide) zl01 rfl ?_
      refine zW.goto 24 dX0_owes_17 (by decide) ?_
      refine zW.iconst (pc' := 25) (nI 0) dX0_owes_24 rfl (by decide) ?_
      refine zW.iret dX0_owes_25 rfl (rfl) ?_
      exact cWp.ok k9 e0 ho9 lO (by rw [e2]; decide)
  · intro E h9 q9
    obtain ⟨k9, n, e0, e1⟩ := q9.r
    have ho9 := k9.2.at ho nO
    match n, e0, e1 with
    | 0, e0, e1 =>
      cases e1
      refine zX.catch (name := eArg) [] _ _ rfl 20 rfl (fun z hz => ?_) rfl (by decide) (lw_all_tbl q1505) q597 (fun qq => ?_)
      · cases hz
      · refine zW.astore (pc' := 22) dX0_owes_20 rfl (Nat.le_of_ble_eq_true rfl) rfl (zsS (zsS (zsS (zsS (zs0))))) ?_
        refine zW.iconst (pc' := 23) (nI 1) dX0_owes_22 rfl (by decide) ?_
        refine zW.iret dX0_owes_23 rfl (rfl) ?_
        exact cWp.no k9 e0 (by decide) ho9
    | n + 1, e0, e1 => cases e1
theorem x_pairBalance {q : Nat × Int32 × sW} {y1 : Int32} {y2 : Int32} (hx : h x = some (0, fs)) (ho : h o = some (101, [.long lv])) (nO : ¬ U o) (hc : zK G mX1_pairBalance 40 R [.ref x, .int y1, .int y2] h (cOut x U h [eArg] q)) : zK G mX0_pairBalance 41 R [.ref x, .int y1, .int y2, .ref o] h (cWp x o U h q) := by
  have lO : ¬ U o ∧ h o ≠ none := ⟨nO, by rw [ho]; exact fun z => by cases z⟩
  show zW G mX0_pairBalance 41 R 0 [.ref x, .int y1, .int y2, .ref o, zho] [] h _
  refine zW.aload_n (pc' := 1) dX0_pairBalance_0 rfl rfl (zgS (zgS (zgS (zg0)))) rfl ?_
  refine zW.iconst (pc' := 2) (nI 0) dX0_pairBalance_1 rfl (by decide) ?_
  refine zW.aload_n (pc' := 3) dX0_pairBalance_2 rfl rfl zg0 rfl ?_
  refine zW.iload_n (pc' := 4) dX0_pairBalance_3 rfl rfl (zgS (zg0)) ?_
  refine zW.iload_n (pc' := 5) dX0_pairBalance_4 rfl rfl (zgS (zgS (zg0))) ?_
  refine zW.pay (r1 := 0 + R) ?_ (by omega)
  refine zW.callV (r' := _) (pc' := 8) dX0_pairBalance_5 rfl l_X0_110 rfl hx ⟨rfl, (Nat.le_of_ble_eq_true rfl)⟩ rfl (hc) (zcc rfl (zcc rfl zc0)) rfl (Nat.le_of_ble_eq_true rfl) (Nat.le_of_ble_eq_true rfl) (Nat.le_of_ble_eq_true rfl) ?_ ?_
  · intro v9 h9 q9
    obtain ⟨k9, e0, e1⟩ := q9.l
    subst e1
    have ho9 := k9.2.at ho nO
    refine zW.i2l (pc' := 9) dX0_pairBalance_8 rfl ?_
    refine zW.last (pc' := 10) dX0_pairBalance_9 rfl ho9 (by decide) zl01 rfl ?_
    refine zW.goto 17 dX0_pairBalance_10 (by decide) ?_
    refine zW.iconst (pc' := 18) (nI 0) dX0_pairBalance_17 rfl (by decide) ?_
    refine zW.iret dX0_pairBalance_18 rfl (rfl) ?_
    exact cWp.ok k9 e0 ho9 lO rfl
  · intro E h9 q9
    obtain ⟨k9, n, e0, e1⟩ := q9.r
    have ho9 := k9.2.at ho nO
    match n, e0, e1 with
    | 0, e0, e1 =>
      cases e1
      refine zX.catch (name := eArg) [] _ _ rfl 13 rfl (fun z hz => ?_) rfl (by decide) (lw_all_tbl q1505) q597 (fun qq => ?_)
      · cases hz
      · refine zW.astore (pc' := 15) dX0_pairBalance_13 rfl (Nat.le_of_ble_eq_true rfl) rfl (zsS (zsS (zsS (zsS (zs0))))) ?_
        refine zW.iconst (pc' := 16) (nI 1) dX0_pairBalance_15 rfl (by decide) ?_
        refine zW.iret dX0_pairBalance_16 rfl (rfl) ?_
        exact cWp.no k9 e0 (by decide) ho9
    | n + 1, e0, e1 => cases e1
theorem x_chainLength {q : Nat × Int32 × sW} {y1 : Int32} {y2 : Int32} (hx : h x = some (0, fs)) (ho : h o = some (101, [.long lv])) (nO : ¬ U o) (hc : zK G mX1_chainLength 40 R [.ref x, .int y1, .int y2] h (cOut x U h [eArg, eElt] q)) : zK G mX0_chainLength 41 R [.ref x, .int y1, .int y2, .ref o] h (cWp x o U h q) := by
  have lO : ¬ U o ∧ h o ≠ none := ⟨nO, by rw [ho]; exact fun z => by cases z⟩
  show zW G mX0_chainLength 41 R 0 [.ref x, .int y1, .int y2, .ref o, zho] [] h _
  refine zW.aload_n (pc' := 1) dX0_chainLength_0 rfl rfl (zgS (zgS (zgS (zg0)))) rfl ?_
  refine zW.iconst (pc' := 2) (nI 0) dX0_chainLength_1 rfl (by decide) ?_
  refine zW.aload_n (pc' := 3) dX0_chainLength_2 rfl rfl zg0 rfl ?_
  refine zW.iload_n (pc' := 4) dX0_chainLength_3 rfl rfl (zgS (zg0)) ?_
  refine zW.iload_n (pc' := 5) dX0_chainLength_4 rfl rfl (zgS (zgS (zg0))) ?_
  refine zW.pay (r1 := 0 + R) ?_ (by omega)
  refine zW.callV (r' := _) (pc' := 8) dX0_chainLength_5 rfl l_X0_113 rfl hx ⟨rfl, (Nat.le_of_ble_eq_true rfl)⟩ rfl (hc) (zcc rfl (zcc rfl zc0)) rfl (Nat.le_of_ble_eq_true rfl) (Nat.le_of_ble_eq_true rfl) (Nat.le_of_ble_eq_true rfl) ?_ ?_
  · intro v9 h9 q9
    obtain ⟨k9, e0, e1⟩ := q9.l
    subst e1
    have ho9 := k9.2.at ho nO
    refine zW.i2l (pc' := 9) dX0_chainLength_8 rfl ?_
    refine zW.last (pc' := 10) dX0_chainLength_9 rfl ho9 (by decide) zl01 rfl ?_
    refine zW.goto 21 dX0_chainLength_10 (by decide) ?_
    refine zW.iconst (pc' := 22) (nI 0) dX0_chainLength_21 rfl (by decide) ?_
    refine zW.iret dX0_chainLength_22 rfl (rfl) ?_
    exact cWp.ok k9 e0 ho9 lO rfl
  · intro E h9 q9
    obtain ⟨k9, n, e0, e1⟩ := q9.r
    have ho9 := k9.2.at ho nO
    match n, e0, e1 with
    | 0, e0, e1 =>
      cases e1
      refine zX.catch (name := eArg) [] _ _ rfl 13 rfl (fun z hz => ?_) rfl (by decide) (lw_all_tbl q1505) q597 (fun qq => ?_)
      · cases hz
      · refine zW.astore (pc' := 15) dX0_chainLength_13 rfl (Nat.le_of_ble_eq_true rfl) rfl (zsS (zsS (zsS (zsS (zs0))))) ?_
        refine zW.iconst (pc' := 16) (nI 1) dX0_chainLength_15 rfl (by decide) ?_
        refine zW.iret dX0_chainLength_16 rfl (rfl) ?_
        exact cWp.no k9 e0 (by decide) ho9
    | 1, e0, e1 =>
      cases e1
      refine zX.catch (name := eElt) [_] _ _ rfl 17 rfl (fun z hz => ?_) rfl (by decide) (lw_all_tbl q1538) q835 (fun qq => ?_)
      · rw [List.mem_singleton.mp hz]
        exact Or.inr ⟨by decide, eArg, (lw_all_tbl q1505), fun s hT => ncOf (eElt, eArg) (by decide) hT⟩
      · refine zW.astore (pc' := 19) dX0_chainLength_17 rfl (Nat.le_of_ble_eq_true rfl) rfl (zsS (zsS (zsS (zsS (zs0))))) ?_
        refine zW.iconst (pc' := 20) (nI 2) dX0_chainLength_19 rfl (by decide) ?_
        refine zW.iret dX0_chainLength_20 rfl (rfl) ?_
        exact cWp.no k9 e0 (by decide) ho9
    | n + 2, e0, e1 => cases e1
theorem x_chainLengthByRounds {q : Nat × Int32 × sW} {y1 : Int32} {y2 : Int32} (hx : h x = some (0, fs)) (ho : h o = some (101, [.long lv])) (nO : ¬ U o) (hc : zK G mX1_chainLengthByRounds 40 R [.ref x, .int y1, .int y2] h (cOut x U h [eArg, eElt] q)) : zK G mX0_chainLengthByRounds 41 R [.ref x, .int y1, .int y2, .ref o] h (cWp x o U h q) := by
  have lO : ¬ U o ∧ h o ≠ none := ⟨nO, by rw [ho]; exact fun z => by cases z⟩
  show zW G mX0_chainLengthByRounds 41 R 0 [.ref x, .int y1, .int y2, .ref o, zho] [] h _
  refine zW.aload_n (pc' := 1) dX0_chainLengthByRounds_0 rfl rfl (zgS (zgS (zgS (zg0)))) rfl ?_
  refine zW.iconst (pc' := 2) (nI 0) dX0_chainLengthByRounds_1 rfl (by decide) ?_
  refine zW.aload_n (pc' := 3) dX0_chainLengthByRounds_2 rfl rfl zg0 rfl ?_
  refine zW.iload_n (pc' := 4) dX0_chainLengthByRounds_3 rfl rfl (zgS (zg0)) ?_
  refine zW.iload_n (pc' := 5) dX0_chainLengthByRounds_4 rfl rfl (zgS (zgS (zg0))) ?_
  refine zW.pay (r1 := 0 + R) ?_ (by omega)
  refine zW.callV (r' := _) (pc' := 8) dX0_chainLengthByRounds_5 rfl l_X0_116 rfl hx ⟨rfl, (Nat.le_of_ble_eq_true rfl)⟩ rfl (hc) (zcc rfl (zcc rfl zc0)) rfl (Nat.le_of_ble_eq_true rfl) (Nat.le_of_ble_eq_true rfl) (Nat.le_of_ble_eq_true rfl) ?_ ?_
  · intro v9 h9 q9
    obtain ⟨k9, e0, e1⟩ := q9.l
    subst e1
    have ho9 := k9.2.at ho nO
    refine zW.i2l (pc' := 9) dX0_chainLengthByRounds_8 rfl ?_
    refine zW.last (pc' := 10) dX0_chainLengthByRounds_9 rfl ho9 (by decide) zl01 rfl ?_
    refine zW.goto 21 dX0_chainLengthByRounds_10 (by decide) ?_
    refine zW.iconst (pc' := 22) (nI 0) dX0_chainLengthByRounds_21 rfl (by decide) ?_
    refine zW.iret dX0_chainLengthByRounds_22 rfl (rfl) ?_
    exact cWp.ok k9 e0 ho9 lO rfl
  · intro E h9 q9
    obtain ⟨k9, n, e0, e1⟩ := q9.r
    have ho9 := k9.2.at ho nO
    match n, e0, e1 with
    | 0, e0, e1 =>
      cases e1
      refine zX.catch (name := eArg) [] _ _ rfl 13 rfl (fun z hz => ?_) rfl (by decide) (lw_all_tbl q1505) q597 (fun qq => ?_)
      · cases hz
      · refine zW.astore (pc' := 15) dX0_chainLengthByRounds_13 rfl (Nat.le_of_ble_eq_true rfl) rfl (zsS (zsS (zsS (zsS (zs0))))) ?_
        refine zW.iconst (pc' := 16) (nI 1) dX0_chainLengthByRounds_15 rfl (by decide) ?_
        refine zW.iret dX0_chainLengthByRounds_16 rfl (rfl) ?_
        exact cWp.no k9 e0 (by decide) ho9
    | 1, e0, e1 =>
      cases e1
      refine zX.catch (name := eElt) [_] _ _ rfl 17 rfl (fun z hz => ?_) rfl (by decide) (lw_all_tbl q1538) q835 (fun qq => ?_)
      · rw [List.mem_singleton.mp hz]
        exact Or.inr ⟨by decide, eArg, (lw_all_tbl q1505), fun s hT => ncOf (eElt, eArg) (by decide) hT⟩
      · refine zW.astore (pc' := 19) dX0_chainLengthByRounds_17 rfl (Nat.le_of_ble_eq_true rfl) rfl (zsS (zsS (zsS (zsS (zs0))))) ?_
        refine zW.iconst (pc' := 20) (nI 2) dX0_chainLengthByRounds_19 rfl (by decide) ?_
        refine zW.iret dX0_chainLengthByRounds_20 rfl (rfl) ?_
        exact cWp.no k9 e0 (by decide) ho9
    | n + 2, e0, e1 => cases e1
theorem x_reachableFrom {q : Nat × Int32 × sW} {y1 : Int32} (hx : h x = some (0, fs)) (ho : h o = some (101, [.long lv])) (nO : ¬ U o) (hc : zK G mX1_reachableFrom 40 R [.ref x, .int y1] h (cOut x U h [eArg] q)) : zK G mX0_reachableFrom 41 R [.ref x, .int y1, .ref o] h (cWp x o U h q) := by
  have lO : ¬ U o ∧ h o ≠ none := ⟨nO, by rw [ho]; exact fun z => by cases z⟩
  show zW G mX0_reachableFrom 41 R 0 [.ref x, .int y1, .ref o, zho] [] h _
  refine zW.aload_n (pc' := 1) dX0_reachableFrom_0 rfl rfl (zgS (zgS (zg0))) rfl ?_
  refine zW.iconst (pc' := 2) (nI 0) dX0_reachableFrom_1 rfl (by decide) ?_
  refine zW.aload_n (pc' := 3) dX0_reachableFrom_2 rfl rfl zg0 rfl ?_
  refine zW.iload_n (pc' := 4) dX0_reachableFrom_3 rfl rfl (zgS (zg0)) ?_
  refine zW.pay (r1 := 0 + R) ?_ (by omega)
  refine zW.callV (r' := _) (pc' := 7) dX0_reachableFrom_4 rfl l_X0_119 rfl hx ⟨rfl, (Nat.le_of_ble_eq_true rfl)⟩ rfl (hc) (zcc rfl zc0) rfl (Nat.le_of_ble_eq_true rfl) (Nat.le_of_ble_eq_true rfl) (Nat.le_of_ble_eq_true rfl) ?_ ?_
  · intro v9 h9 q9
    obtain ⟨k9, e0, e1⟩ := q9.l
    subst e1
    have ho9 := k9.2.at ho nO
    refine zW.i2l (pc' := 8) dX0_reachableFrom_7 rfl ?_
    refine zW.last (pc' := 9) dX0_reachableFrom_8 rfl ho9 (by decide) zl01 rfl ?_
    refine zW.goto 15 dX0_reachableFrom_9 (by decide) ?_
    refine zW.iconst (pc' := 16) (nI 0) dX0_reachableFrom_15 rfl (by decide) ?_
    refine zW.iret dX0_reachableFrom_16 rfl (rfl) ?_
    exact cWp.ok k9 e0 ho9 lO rfl
  · intro E h9 q9
    obtain ⟨k9, n, e0, e1⟩ := q9.r
    have ho9 := k9.2.at ho nO
    match n, e0, e1 with
    | 0, e0, e1 =>
      cases e1
      refine zX.catch (name := eArg) [] _ _ rfl 12 rfl (fun z hz => ?_) rfl (by decide) (lw_all_tbl q1505) q597 (fun qq => ?_)
      · cases hz
      · refine zW.astore_n (pc' := 13) dX0_reachableFrom_12 rfl rfl (Nat.le_of_ble_eq_true rfl) rfl (zsS (zsS (zsS (zs0)))) ?_
        refine zW.iconst (pc' := 14) (nI 1) dX0_reachableFrom_13 rfl (by decide) ?_
        refine zW.iret dX0_reachableFrom_14 rfl (rfl) ?_
        exact cWp.no k9 e0 (by decide) ho9
    | n + 1, e0, e1 => cases e1
theorem x_idByExpiry {q : Nat × Int32 × sW} {y1 : Int32} (hx : h x = some (0, fs)) (ho : h o = some (101, [.long lv])) (nO : ¬ U o) (hc : zK G mX1_idByExpiry 40 R [.ref x, .int y1] h (cOut x U h [eIdx] q)) : zK G mX0_idByExpiry 41 R [.ref x, .int y1, .ref o] h (cWp x o U h q) := by
  have lO : ¬ U o ∧ h o ≠ none := ⟨nO, by rw [ho]; exact fun z => by cases z⟩
  show zW G mX0_idByExpiry 41 R 0 [.ref x, .int y1, .ref o, zho] [] h _
  refine zW.aload_n (pc' := 1) dX0_idByExpiry_0 rfl rfl (zgS (zgS (zg0))) rfl ?_
  refine zW.iconst (pc' := 2) (nI 0) dX0_idByExpiry_1 rfl (by decide) ?_
  refine zW.aload_n (pc' := 3) dX0_idByExpiry_2 rfl rfl zg0 rfl ?_
  refine zW.iload_n (pc' := 4) dX0_idByExpiry_3 rfl rfl (zgS (zg0)) ?_
  refine zW.pay (r1 := 0 + R) ?_ (by omega)
  refine zW.callV (r' := _) (pc' := 7) dX0_idByExpiry_4 rfl l_X0_122 rfl hx ⟨rfl, (Nat.le_of_ble_eq_true rfl)⟩ rfl (hc) (zcc rfl zc0) rfl (Nat.le_of_ble_eq_true rfl) (Nat.le_of_ble_eq_true rfl) (Nat.le_of_ble_eq_true rfl) ?_ ?_
  · intro v9 h9 q9
    obtain ⟨k9, e0, e1⟩ := q9.l
    subst e1
    have ho9 := k9.2.at ho nO
    refine zW.i2l (pc' := 8) dX0_idByExpiry_7 rfl ?_
    refine zW.last (pc' := 9) dX0_idByExpiry_8 rfl ho9 (by decide) zl01 rfl ?_
    refine zW.goto 15 dX0_idByExpiry_9 (by decide) ?_
    refine zW.iconst (pc' := 16) (nI 0) dX0_idByExpiry_15 rfl (by decide) ?_
    refine zW.iret dX0_idByExpiry_16 rfl (rfl) ?_
    exact cWp.ok k9 e0 ho9 lO rfl
  · intro E h9 q9
    obtain ⟨k9, n, e0, e1⟩ := q9.r
    have ho9 := k9.2.at ho nO
    match n, e0, e1 with
    | 0, e0, e1 =>
      cases e1
      refine zX.catch (name := eIdx) [] _ _ rfl 12 rfl (fun z hz => ?_) rfl (by decide) (lw_all_tbl q1656) q363 (fun qq => ?_)
      · cases hz
      · refine zW.astore_n (pc' := 13) dX0_idByExpiry_12 rfl rfl (Nat.le_of_ble_eq_true rfl) rfl (zsS (zsS (zsS (zs0)))) ?_
        refine zW.iconst (pc' := 14) (nI 1) dX0_idByExpiry_13 rfl (by decide) ?_
        refine zW.iret dX0_idByExpiry_14 rfl (rfl) ?_
        exact cWp.no k9 e0 (by decide) ho9
    | n + 1, e0, e1 => cases e1
end
