/-! THE LAW: its wrappers (printed by mk9zf.py) -/
section
set_option maxRecDepth 100000
variable {G : zG} {h h' : zH} {U : Nat → Prop} {x o R : Nat} {fs : List Value} {lv : Int64}
theorem x_add {q : Nat × Int32 × sW} {y1 : Int32} {y2 : Int32} {y3 : Int32} {y4 : Int32} (hx : h x = some (0, fs)) (ho : h o = some (101, [.long lv])) (nO : ¬ U o) (hc : zK G mX1_add 40 R [.ref x, .int y1, .int y2, .int y3, .int y4] h (cOut x U h [eArg, eSta] q)) : zK G mX0_add 41 R [.ref x, .int y1, .int y2, .int y3, .int y4, .ref o] h (cWp x o U h q) := by
  have lO : ¬ U o ∧ h o ≠ none := ⟨nO, by rw [ho]; exact fun z => by cases z⟩
  show zW G mX0_add 41 R 0 [.ref x, .int y1, .int y2, .int y3, .int y4, .ref o, zho] [] h _
  refine zW.aload (pc' := 2) dX0_add_0 rfl (zgS (zgS (zgS (zgS (zgS (zg0)))))) rfl ?_
  refine zW.iconst (pc' := 3) (nI 0) dX0_add_2 rfl (by decide) ?_
  refine zW.aload_n (pc' := 4) dX0_add_3 rfl rfl zg0 rfl ?_
  refine zW.iload_n (pc' := 5) dX0_add_4 rfl rfl (zgS (zg0)) ?_
  refine zW.iload_n (pc' := 6) dX0_add_5 rfl rfl (zgS (zgS (zg0))) ?_
  refine zW.iload_n (pc' := 7) dX0_add_6 rfl rfl (zgS (zgS (zgS (zg0)))) ?_
  refine zW.iload (pc' := 9) dX0_add_7 rfl (zgS (zgS (zgS (zgS (zg0))))) ?_
  refine zW.pay (r1 := 0 + R) ?_ (by omega)
  refine zW.callV (r' := _) (pc' := 12) dX0_add_9 rfl l_X0_7 rfl hx ⟨rfl, (Nat.le_of_ble_eq_true rfl)⟩ rfl (hc) (zcc rfl (zcc rfl (zcc rfl (zcc rfl zc0)))) rfl (Nat.le_of_ble_eq_true rfl) (Nat.le_of_ble_eq_true rfl) (Nat.le_of_ble_eq_true rfl) ?_ ?_
  · intro v9 h9 q9
    obtain ⟨k9, e0, e1⟩ := q9.l
    subst e1
    have ho9 := k9.2.at ho nO
    refine zW.i2l (pc' := 13) dX0_add_12 rfl ?_
    refine zW.last (pc' := 14) dX0_add_13 rfl ho9 (by decide) zl01 rfl ?_
    refine zW.goto 25 dX0_add_14 (by decide) ?_
    refine zW.iconst (pc' := 26) (nI 0) dX0_add_25 rfl (by decide) ?_
    refine zW.iret dX0_add_26 rfl (rfl) ?_
    exact cWp.ok k9 e0 ho9 lO rfl
  · intro E h9 q9
    obtain ⟨k9, n, e0, e1⟩ := q9.r
    have ho9 := k9.2.at ho nO
    match n, e0, e1 with
    | 0, e0, e1 =>
      cases e1
      refine zX.catch (name := eArg) [] _ _ rfl 17 rfl (fun z hz => ?_) rfl (by decide) (lw_all_tbl q1505) q597 (fun qq => ?_)
      · cases hz
      · refine zW.astore (pc' := 19) dX0_add_17 rfl (Nat.le_of_ble_eq_true rfl) rfl (zsS (zsS (zsS (zsS (zsS (zsS (zs0))))))) ?_
        refine zW.iconst (pc' := 20) (nI 1) dX0_add_19 rfl (by decide) ?_
        refine zW.iret dX0_add_20 rfl (rfl) ?_
        exact cWp.no k9 e0 (by decide) ho9
    | 1, e0, e1 =>
      cases e1
      refine zX.catch (name := eSta) [_] _ _ rfl 21 rfl (fun z hz => ?_) rfl (by decide) (lw_all_tbl q1506) q1179 (fun qq => ?_)
      · rw [List.mem_singleton.mp hz]
        exact Or.inr ⟨by decide, eArg, (lw_all_tbl q1505), fun s hT => ncOf (eSta, eArg) (by decide) hT⟩
      · refine zW.astore (pc' := 23) dX0_add_21 rfl (Nat.le_of_ble_eq_true rfl) rfl (zsS (zsS (zsS (zsS (zsS (zsS (zs0))))))) ?_
        refine zW.iconst (pc' := 24) (nI 2) dX0_add_23 rfl (by decide) ?_
        refine zW.iret dX0_add_24 rfl (rfl) ?_
        exact cWp.no k9 e0 (by decide) ho9
    | n + 2, e0, e1 => cases e1
theorem x_sign {q : Nat × Int32 × sW} {y1 : Int32} {y2 : Int32} (hx : h x = some (0, fs)) (ho : h o = some (101, [.long lv])) (nO : ¬ U o) (hc : zK G mX1_sign 40 R [.ref x, .int y1, .int y2] h (cOut x U h [eElt, eArg, eSta] q)) : zK G mX0_sign 41 R [.ref x, .int y1, .int y2, .ref o] h (cWp x o U h q) := by
  have lO : ¬ U o ∧ h o ≠ none := ⟨nO, by rw [ho]; exact fun z => by cases z⟩
  show zW G mX0_sign 41 R 0 [.ref x, .int y1, .int y2, .ref o, zho] [] h _
  refine zW.aload_n (pc' := 1) dX0_sign_0 rfl rfl (zgS (zgS (zgS (zg0)))) rfl ?_
  refine zW.iconst (pc' := 2) (nI 0) dX0_sign_1 rfl (by decide) ?_
  refine zW.aload_n (pc' := 3) dX0_sign_2 rfl rfl zg0 rfl ?_
  refine zW.iload_n (pc' := 4) dX0_sign_3 rfl rfl (zgS (zg0)) ?_
  refine zW.iload_n (pc' := 5) dX0_sign_4 rfl rfl (zgS (zgS (zg0))) ?_
  refine zW.pay (r1 := 0 + R) ?_ (by omega)
  refine zW.callV (r' := _) (pc' := 8) dX0_sign_5 rfl l_X0_17 rfl hx ⟨rfl, (Nat.le_of_ble_eq_true rfl)⟩ rfl (hc) (zcc rfl (zcc rfl zc0)) rfl (Nat.le_of_ble_eq_true rfl) (Nat.le_of_ble_eq_true rfl) (Nat.le_of_ble_eq_true rfl) ?_ ?_
  · intro v9 h9 q9
    obtain ⟨k9, e0, e1⟩ := q9.l
    subst e1
    have ho9 := k9.2.at ho nO
    refine zW.i2l (pc' := 9) dX0_sign_8 rfl ?_
    refine zW.last (pc' := 10) dX0_sign_9 rfl ho9 (by decide) zl01 rfl ?_
    refine zW.goto 25 dX0_sign_10 (by decide) ?_
    refine zW.iconst (pc' := 26) (nI 0) dX0_sign_25 rfl (by decide) ?_
    refine zW.iret dX0_sign_26 rfl (rfl) ?_
    exact cWp.ok k9 e0 ho9 lO rfl
  · intro E h9 q9
    obtain ⟨k9, n, e0, e1⟩ := q9.r
    have ho9 := k9.2.at ho nO
    match n, e0, e1 with
    | 0, e0, e1 =>
      cases e1
      refine zX.catch (name := eElt) [] _ _ rfl 13 rfl (fun z hz => ?_) rfl (by decide) (lw_all_tbl q1538) q835 (fun qq => ?_)
      · cases hz
      · refine zW.astore (pc' := 15) dX0_sign_13 rfl (Nat.le_of_ble_eq_true rfl) rfl (zsS (zsS (zsS (zsS (zs0))))) ?_
        refine zW.iconst (pc' := 16) (nI 1) dX0_sign_15 rfl (by decide) ?_
        refine zW.iret dX0_sign_16 rfl (rfl) ?_
        exact cWp.no k9 e0 (by decide) ho9
    | 1, e0, e1 =>
      cases e1
      refine zX.catch (name := eArg) [_] _ _ rfl 17 rfl (fun z hz => ?_) rfl (by decide) (lw_all_tbl q1505) q597 (fun qq => ?_)
      · rw [List.mem_singleton.mp hz]
        exact Or.inr ⟨by decide, eElt, (lw_all_tbl q1538), fun s hT => ncOf (eArg, eElt) (by decide) hT⟩
      · refine zW.astore (pc' := 19) dX0_sign_17 rfl (Nat.le_of_ble_eq_true rfl) rfl (zsS (zsS (zsS (zsS (zs0))))) ?_
        refine zW.iconst (pc' := 20) (nI 2) dX0_sign_19 rfl (by decide) ?_
        refine zW.iret dX0_sign_20 rfl (rfl) ?_
        exact cWp.no k9 e0 (by decide) ho9
    | 2, e0, e1 =>
      cases e1
      refine zX.catch (name := eSta) [_, _] _ _ rfl 21 rfl (fun z hz => ?_) rfl (by decide) (lw_all_tbl q1506) q1179 (fun qq => ?_)
      · rcases List.mem_cons.mp hz with hz | hz
        · rw [hz]
          exact Or.inr ⟨by decide, eElt, (lw_all_tbl q1538), fun s hT => ncOf (eSta, eElt) (by decide) hT⟩
        · rw [List.mem_singleton.mp hz]
          exact Or.inr ⟨by decide, eArg, (lw_all_tbl q1505), fun s hT => ncOf (eSta, eArg) (by decide) hT⟩
      · refine zW.astore (pc' := 23) dX0_sign_21 rfl (Nat.le_of_ble_eq_true rfl) rfl (zsS (zsS (zsS (zsS (zs0))))) ?_
        refine zW.iconst (pc' := 24) (nI 3) dX0_sign_23 rfl (by decide) ?_
        refine zW.iret dX0_sign_24 rfl (rfl) ?_
        exact cWp.no k9 e0 (by decide) ho9
    | n + 3, e0, e1 => cases e1
theorem x_countersign {q : Nat × Int32 × sW} {y1 : Int32} {y2 : Int32} (hx : h x = some (0, fs)) (ho : h o = some (101, [.long lv])) (nO : ¬ U o) (hc : zK G mX1_countersign 40 R [.ref x, .int y1, .int y2] h (cOut x U h [eElt, eArg, eSta] q)) : zK G mX0_countersign 41 R [.ref x, .int y1, .int y2, .ref o] h (cWp x o U h q) := by
  have lO : ¬ U o ∧ h o ≠ none := ⟨nO, by rw [ho]; exact fun z => by cases z⟩
  show zW G mX0_countersign 41 R 0 [.ref x, .int y1, .int y2, .ref o, zho] [] h _
  refine zW.aload_n (pc' := 1) dX0_countersign_0 rfl rfl (zgS (zgS (zgS (zg0)))) rfl ?_
  refine zW.iconst (pc' := 2) (nI 0) dX0_countersign_1 rfl (by decide) ?_
  refine zW.aload_n (pc' := 3) dX0_countersign_2 rfl rfl zg0 rfl ?_
  refine zW.iload_n (pc' := 4) dX0_countersign_3 rfl rfl (zgS (zg0)) ?_
  refine zW.iload_n (pc' := 5) dX0_countersign_4 rfl rfl (zgS (zgS (zg0))) ?_
  refine zW.pay (r1 := 0 + R) ?_ (by omega)
  refine zW.callV (r' := _) (pc' := 8) dX0_countersign_5 rfl l_X0_23 rfl hx ⟨rfl, (Nat.le_of_ble_eq_true rfl)⟩ rfl (hc) (zcc rfl (zcc rfl zc0)) rfl (Nat.le_of_ble_eq_true rfl) (Nat.le_of_ble_eq_true rfl) (Nat.le_of_ble_eq_true rfl) ?_ ?_
  · intro v9 h9 q9
    obtain ⟨k9, e0, e1⟩ := q9.l
    subst e1
    have ho9 := k9.2.at ho nO
    refine zW.i2l (pc' := 9) dX0_countersign_8 rfl ?_
    refine zW.last (pc' := 10) dX0_countersign_9 rfl ho9 (by decide) zl01 rfl ?_
    refine zW.goto 25 dX0_countersign_10 (by decide) ?_
    refine zW.iconst (pc' := 26) (nI 0) dX0_countersign_25 rfl (by decide) ?_
    refine zW.iret dX0_countersign_26 rfl (rfl) ?_
    exact cWp.ok k9 e0 ho9 lO rfl
  · intro E h9 q9
    obtain ⟨k9, n, e0, e1⟩ := q9.r
    have ho9 := k9.2.at ho nO
    match n, e0, e1 with
    | 0, e0, e1 =>
      cases e1
      refine zX.catch (name := eElt) [] _ _ rfl 13 rfl (fun z hz => ?_) rfl (by decide) (lw_all_tbl q1538) q835 (fun qq => ?_)
      · cases hz
      · refine zW.astore (pc' := 15) dX0_countersign_13 rfl (Nat.le_of_ble_eq_true rfl) rfl (zsS (zsS (zsS (zsS (zs0))))) ?_
        refine zW.iconst (pc' := 16) (nI 1) dX0_countersign_15 rfl (by decide) ?_
        refine zW.iret dX0_countersign_16 rfl (rfl) ?_
        exact cWp.no k9 e0 (by decide) ho9
    | 1, e0, e1 =>
      cases e1
      refine zX.catch (name := eArg) [_] _ _ rfl 17 rfl (fun z hz => ?_) rfl (by decide) (lw_all_tbl q1505) q597 (fun qq => ?_)
      · rw [List.mem_singleton.mp hz]
        exact Or.inr ⟨by decide, eElt, (lw_all_tbl q1538), fun s hT => ncOf (eArg, eElt) (by decide) hT⟩
      · refine zW.astore (pc' := 19) dX0_countersign_17 rfl (Nat.le_of_ble_eq_true rfl) rfl (zsS (zsS (zsS (zsS (zs0))))) ?_
        refine zW.iconst (pc' := 20) (nI 2) dX0_countersign_19 rfl (by decide) ?_
        refine zW.iret dX0_countersign_20 rfl (rfl) ?_
        exact cWp.no k9 e0 (by decide) ho9
    | 2, e0, e1 =>
      cases e1
      refine zX.catch (name := eSta) [_, _] _ _ rfl 21 rfl (fun z hz => ?_) rfl (by decide) (lw_all_tbl q1506) q1179 (fun qq => ?_)
      · rcases List.mem_cons.mp hz with hz | hz
        · rw [hz]
          exact Or.inr ⟨by decide, eElt, (lw_all_tbl q1538), fun s hT => ncOf (eSta, eElt) (by decide) hT⟩
        · rw [List.mem_singleton.mp hz]
          exact Or.inr ⟨by decide, eArg, (lw_all_tbl q1505), fun s hT => ncOf (eSta, eArg) (by decide) hT⟩
      · refine zW.astore (pc' := 23) dX0_countersign_21 rfl (Nat.le_of_ble_eq_true rfl) rfl (zsS (zsS (zsS (zsS (zs0))))) ?_
        refine zW.iconst (pc' := 24) (nI 3) dX0_countersign_23 rfl (by decide) ?_
        refine zW.iret dX0_countersign_24 rfl (rfl) ?_
        exact cWp.no k9 e0 (by decide) ho9
    | n + 3, e0, e1 => cases e1
theorem x_settle {q : Nat × Int32 × sW} {y1 : Int32} (hx : h x = some (0, fs)) (ho : h o = some (101, [.long lv])) (nO : ¬ U o) (hc : zK G mX1_settle 40 R [.ref x, .int y1] h (cOut x U h [eElt, eSta] q)) : zK G mX0_settle 41 R [.ref x, .int y1, .ref o] h (cWp x o U h q) := by
  have lO : ¬ U o ∧ h o ≠ none := ⟨nO, by rw [ho]; exact fun z => by cases z⟩
  show zW G mX0_settle 41 R 0 [.ref x, .int y1, .ref o, zho] [] h _
  refine zW.aload_n (pc' := 1) dX0_settle_0 rfl rfl (zgS (zgS (zg0))) rfl ?_
  refine zW.iconst (pc' := 2) (nI 0) dX0_settle_1 rfl (by decide) ?_
  refine zW.aload_n (pc' := 3) dX0_settle_2 rfl rfl zg0 rfl ?_
  refine zW.iload_n (pc' := 4) dX0_settle_3 rfl rfl (zgS (zg0)) ?_
  refine zW.pay (r1 := 0 + R) ?_ (by omega)
  refine zW.callV (r' := _) (pc' := 7) dX0_settle_4 rfl l_X0_26 rfl hx ⟨rfl, (Nat.le_of_ble_eq_true rfl)⟩ rfl (hc) (zcc rfl zc0) rfl (Nat.le_of_ble_eq_true rfl) (Nat.le_of_ble_eq_true rfl) (Nat.le_of_ble_eq_true rfl) ?_ ?_
  · intro v9 h9 q9
    obtain ⟨k9, e0, e1⟩ := q9.l
    subst e1
    have ho9 := k9.2.at ho nO
    refine zW.i2l (pc' := 8) dX0_settle_7 rfl ?_
    refine zW.last (pc' := 9) dX0_settle_8 rfl ho9 (by decide) zl01 rfl ?_
    refine zW.goto 18 dX0_settle_9 (by decide) ?_
    refine zW.iconst (pc' := 19) (nI 0) dX0_settle_18 rfl (by decide) ?_
    refine zW.iret dX0_settle_19 rfl (rfl) ?_
    exact cWp.ok k9 e0 ho9 lO rfl
  · intro E h9 q9
    obtain ⟨k9, n, e0, e1⟩ := q9.r
    have ho9 := k9.2.at ho nO
    match n, e0, e1 with
    | 0, e0, e1 =>
      cases e1
      refine zX.catch (name := eElt) [] _ _ rfl 12 rfl (fun z hz => ?_) rfl (by decide) (lw_all_tbl q1538) q835 (fun qq => ?_)
      · cases hz
      · refine zW.astore_n (pc' := 13) dX0_settle_12 rfl rfl (Nat.le_of_ble_eq_true rfl) rfl (zsS (zsS (zsS (zs0)))) ?_
        refine zW.iconst (pc' := 14) (nI 1) dX0_settle_13 rfl (by decide) ?_
        refine zW.iret dX0_settle_14 rfl (rfl) ?_
        exact cWp.no k9 e0 (by decide) ho9
    | 1, e0, e1 =>
      cases e1
      refine zX.catch (name := eSta) [_] _ _ rfl 15 rfl (fun z hz => ?_) rfl (by decide) (lw_all_tbl q1506) q1179 (fun qq => ?_)
      · rw [List.mem_singleton.mp hz]
        exact Or.inr ⟨by decide, eElt, (lw_all_tbl q1538), fun s hT => ncOf (eSta, eElt) (by decide) hT⟩
      · refine zW.astore_n (pc' := 16) dX0_settle_15 rfl rfl (Nat.le_of_ble_eq_true rfl) rfl (zsS (zsS (zsS (zs0)))) ?_
        refine zW.iconst (pc' := 17) (nI 2) dX0_settle_16 rfl (by decide) ?_
        refine zW.iret dX0_settle_17 rfl (rfl) ?_
        exact cWp.no k9 e0 (by decide) ho9
    | n + 2, e0, e1 => cases e1
theorem x_advance {q : Nat × Int32 × sW} {y1 : Int32} (hx : h x = some (0, fs)) (ho : h o = some (101, [.long lv])) (nO : ¬ U o) (hc : zK G mX1_advance 40 R [.ref x, .int y1] h (cOut x U h [eArg] q)) : zK G mX0_advance 41 R [.ref x, .int y1, .ref o] h (cWp x o U h q) := by
  have lO : ¬ U o ∧ h o ≠ none := ⟨nO, by rw [ho]; exact fun z => by cases z⟩
  show zW G mX0_advance 41 R 0 [.ref x, .int y1, .ref o, zho] [] h _
  refine zW.aload_n (pc' := 1) dX0_advance_0 rfl rfl (zgS (zgS (zg0))) rfl ?_
  refine zW.iconst (pc' := 2) (nI 0) dX0_advance_1 rfl (by decide) ?_
  refine zW.aload_n (pc' := 3) dX0_advance_2 rfl rfl zg0 rfl ?_
  refine zW.iload_n (pc' := 4) dX0_advance_3 rfl rfl (zgS (zg0)) ?_
  refine zW.pay (r1 := 0 + R) ?_ (by omega)
  refine zW.callV (r' := _) (pc' := 7) dX0_advance_4 rfl l_X0_30 rfl hx ⟨rfl, (Nat.le_of_ble_eq_true rfl)⟩ rfl (hc) (zcc rfl zc0) rfl (Nat.le_of_ble_eq_true rfl) (Nat.le_of_ble_eq_true rfl) (Nat.le_of_ble_eq_true rfl) ?_ ?_
  · intro v9 h9 q9
    obtain ⟨k9, e0, e1⟩ := q9.l
    subst e1
    have ho9 := k9.2.at ho nO
    refine zW.i2l (pc' := 8) dX0_advance_7 rfl ?_
    refine zW.last (pc' := 9) dX0_advance_8 rfl ho9 (by decide) zl01 rfl ?_
    refine zW.goto 15 dX0_advance_9 (by decide) ?_
    refine zW.iconst (pc' := 16) (nI 0) dX0_advance_15 rfl (by decide) ?_
    refine zW.iret dX0_advance_16 rfl (rfl) ?_
    exact cWp.ok k9 e0 ho9 lO rfl
  · intro E h9 q9
    obtain ⟨k9, n, e0, e1⟩ := q9.r
    have ho9 := k9.2.at ho nO
    match n, e0, e1 with
    | 0, e0, e1 =>
      cases e1
      refine zX.catch (name := eArg) [] _ _ rfl 12 rfl (fun z hz => ?_) rfl (by decide) (lw_all_tbl q1505) q597 (fun qq => ?_)
      · cases hz
      · refine zW.astore_n (pc' := 13) dX0_advance_12 rfl rfl (Nat.le_of_ble_eq_true rfl) rfl (zsS (zsS (zsS (zs0)))) ?_
        refine zW.iconst (pc' := 14) (nI 1) dX0_advance_13 rfl (by decide) ?_
        refine zW.iret dX0_advance_14 rfl (rfl) ?_
        exact cWp.no k9 e0 (by decide) ho9
    | n + 1, e0, e1 => cases e1
theorem x_audit {q : Nat × Int32 × sW} {y1 : Int32} (hx : h x = some (0, fs)) (ho : h o = some (101, [.long lv])) (nO : ¬ U o) (hc : zK G mX1_audit 40 R [.ref x, .int y1] h (cOut x U h [eArg] q)) : zK G mX0_audit 41 R [.ref x, .int y1, .ref o] h (cWp x o U h q) := by
  have lO : ¬ U o ∧ h o ≠ none := ⟨nO, by rw [ho]; exact fun z => by cases z⟩
  show zW G mX0_audit 41 R 0 [.ref x, .int y1, .ref o, zho] [] h _
  refine zW.aload_n (pc' := 1) dX0_audit_0 rfl rfl (zgS (zgS (zg0))) rfl ?_
  refine zW.iconst (pc' := 2) (nI 0) dX0_audit_1 rfl (by decide) ?_
  refine zW.aload_n (pc' := 3) dX0_audit_2 rfl rfl zg0 rfl ?_
  refine zW.iload_n (pc' := 4) dX0_audit_3 rfl rfl (zgS (zg0)) ?_
  refine zW.pay (r1 := 0 + R) ?_ (by omega)
  refine zW.callV (r' := _) (pc' := 7) dX0_audit_4 rfl l_X0_33 rfl hx ⟨rfl, (Nat.le_of_ble_eq_true rfl)⟩ rfl (hc) (zcc rfl zc0) rfl (Nat.le_of_ble_eq_true rfl) (Nat.le_of_ble_eq_true rfl) (Nat.le_of_ble_eq_true rfl) ?_ ?_
  · intro v9 h9 q9
    obtain ⟨k9, e0, e1⟩ := q9.l
    subst e1
    have ho9 := k9.2.at ho nO
    refine zW.i2l (pc' := 8) dX0_audit_7 rfl ?_
    refine zW.last (pc' := 9) dX0_audit_8 rfl ho9 (by decide) zl01 rfl ?_
    refine zW.goto 15 dX0_audit_9 (by decide) ?_
    refine zW.iconst (pc' := 16) (nI 0) dX0_audit_15 rfl (by decide) ?_
    refine zW.iret dX0_audit_16 rfl (rfl) ?_
    exact cWp.ok k9 e0 ho9 lO rfl
  · intro E h9 q9
    obtain ⟨k9, n, e0, e1⟩ := q9.r
    have ho9 := k9.2.at ho nO
    match n, e0, e1 with
    | 0, e0, e1 =>
      cases e1
      refine zX.catch (name := eArg) [] _ _ rfl 12 rfl (fun z hz => ?_) rfl (by decide) (lw_all_tbl q1505) q597 (fun qq => ?_)
      · cases hz
      · refine zW.astore_n (pc' := 13) dX0_audit_12 rfl rfl (Nat.le_of_ble_eq_true rfl) rfl (zsS (zsS (zsS (zs0)))) ?_
        refine zW.iconst (pc' := 14) (nI 1) dX0_audit_13 rfl (by decide) ?_
        refine zW.iret dX0_audit_14 rfl (rfl) ?_
        exact cWp.no k9 e0 (by decide) ho9
    | n + 1, e0, e1 => cases e1
theorem x_setRate {q : Nat × Int32 × sW} {y1 : Int32} {y2 : Int32} (hx : h x = some (0, fs)) (ho : h o = some (101, [.long lv])) (nO : ¬ U o) (hc : zK G mX1_setRate 40 R [.ref x, .int y1, .int y2] h (cOut x U h [eArg] q)) : zK G mX0_setRate 41 R [.ref x, .int y1, .int y2, .ref o] h (cWp x o U h q) := by
  have lO : ¬ U o ∧ h o ≠ none := ⟨nO, by rw [ho]; exact fun z => by cases z⟩
  show zW G mX0_setRate 41 R 0 [.ref x, .int y1, .int y2, .ref o, zho] [] h _
  refine zW.aload_n (pc' := 1) dX0_setRate_0 rfl rfl (zgS (zgS (zgS (zg0)))) rfl ?_
  refine zW.iconst (pc' := 2) (nI 0) dX0_setRate_1 rfl (by decide) ?_
  refine zW.aload_n (pc' := 3) dX0_setRate_2 rfl rfl zg0 rfl ?_
  refine zW.iload_n (pc' := 4) dX0_setRate_3 rfl rfl (zgS (zg0)) ?_
  refine zW.iload_n (pc' := 5) dX0_setRate_4 rfl rfl (zgS (zgS (zg0))) ?_
  refine zW.pay (r1 := 0 + R) ?_ (by omega)
  refine zW.callV (r' := _) (pc' := 8) dX0_setRate_5 rfl l_X0_36 rfl hx ⟨rfl, (Nat.le_of_ble_eq_true rfl)⟩ rfl (hc) (zcc rfl (zcc rfl zc0)) rfl (Nat.le_of_ble_eq_true rfl) (Nat.le_of_ble_eq_true rfl) (Nat.le_of_ble_eq_true rfl) ?_ ?_
  · intro v9 h9 q9
    obtain ⟨k9, e0, e1⟩ := q9.l
    subst e1
    have ho9 := k9.2.at ho nO
    refine zW.i2l (pc' := 9) dX0_setRate_8 rfl ?_
    refine zW.last (pc' := 10) dX0_setRate_9 rfl ho9 (by decide) zl01 rfl ?_
    refine zW.goto 17 dX0_setRate_10 (by decide) ?_
    refine zW.iconst (pc' := 18) (nI 0) dX0_setRate_17 rfl (by decide) ?_
    refine zW.iret dX0_setRate_18 rfl (rfl) ?_
    exact cWp.ok k9 e0 ho9 lO rfl
  · intro E h9 q9
    obtain ⟨k9, n, e0, e1⟩ := q9.r
    have ho9 := k9.2.at ho nO
    match n, e0, e1 with
    | 0, e0, e1 =>
      cases e1
      refine zX.catch (name := eArg) [] _ _ rfl 13 rfl (fun z hz => ?_) rfl (by decide) (lw_all_tbl q1505) q597 (fun qq => ?_)
      · cases hz
      · refine zW.astore (pc' := 15) dX0_setRate_13 rfl (Nat.le_of_ble_eq_true rfl) rfl (zsS (zsS (zsS (zsS (zs0))))) ?_
        refine zW.iconst (pc' := 16) (nI 1) dX0_setRate_15 rfl (by decide) ?_
        refine zW.iret dX0_setRate_16 rfl (rfl) ?_
        exact cWp.no k9 e0 (by decide) ho9
    | n + 1, e0, e1 => cases e1
theorem x_rate {q : Nat × Int32 × sW} {y1 : Int32} (hx : h x = some (0, fs)) (ho : h o = some (101, [.long lv])) (nO : ¬ U o) (hc : zK G mX1_rate 40 R [.ref x, .int y1] h (cOut x U h [eArg] q)) : zK G mX0_rate 41 R [.ref x, .int y1, .ref o] h (cWp x o U h q) := by
  have lO : ¬ U o ∧ h o ≠ none := ⟨nO, by rw [ho]; exact fun z => by cases z⟩
  show zW G mX0_rate 41 R 0 [.ref x, .int y1, .ref o, zho] [] h _
  refine zW.aload_n (pc' := 1) dX0_rate_0 rfl rfl (zgS (zgS (zg0))) rfl ?_
  refine zW.iconst (pc' := 2) (nI 0) dX0_rate_1 rfl (by decide) ?_
  refine zW.aload_n (pc' := 3) dX0_rate_2 rfl rfl zg0 rfl ?_
  refine zW.iload_n (pc' := 4) dX0_rate_3 rfl rfl (zgS (zg0)) ?_
  refine zW.pay (r1 := 0 + R) ?_ (by omega)
  refine zW.callV (r' := _) (pc' := 7) dX0_rate_4 rfl l_X0_39 rfl hx ⟨rfl, (Nat.le_of_ble_eq_true rfl)⟩ rfl (hc) (zcc rfl zc0) rfl (Nat.le_of_ble_eq_true rfl) (Nat.le_of_ble_eq_true rfl) (Nat.le_of_ble_eq_true rfl) ?_ ?_
  · intro v9 h9 q9
    obtain ⟨k9, e0, e1⟩ := q9.l
    subst e1
    have ho9 := k9.2.at ho nO
    refine zW.i2l (pc' := 8) dX0_rate_7 rfl ?_
    refine zW.last (pc' := 9) dX0_rate_8 rfl ho9 (by decide) zl01 rfl ?_
    refine zW.goto 15 dX0_rate_9 (by decide) ?_
    refine zW.iconst (pc' := 16) (nI 0) dX0_rate_15 rfl (by decide) ?_
    refine zW.iret dX0_rate_16 rfl (rfl) ?_
    exact cWp.ok k9 e0 ho9 lO rfl
  · intro E h9 q9
    obtain ⟨k9, n, e0, e1⟩ := q9.r
    have ho9 := k9.2.at ho nO
    match n, e0, e1 with
    | 0, e0, e1 =>
      cases e1
      refine zX.catch (name := eArg) [] _ _ rfl 12 rfl (fun z hz => ?_) rfl (by decide) (lw_all_tbl q1505) q597 (fun qq => ?_)
      · cases hz
      · refine zW.astore_n (pc' := 13) dX0_rate_12 rfl rfl (Nat.le_of_ble_eq_true rfl) rfl (zsS (zsS (zsS (zs0)))) ?_
        refine zW.iconst (pc' := 14) (nI 1) dX0_rate_13 rfl (by decide) ?_
        refine zW.iret dX0_rate_14 rfl (rfl) ?_
        exact cWp.no k9 e0 (by decide) ho9
    | n + 1, e0, e1 => cases e1
theorem x_idAt {q : Nat × Int32 × sW} {y1 : Int32} (hx : h x = some (0, fs)) (ho : h o = some (101, [.long lv])) (nO : ¬ U o) (hc : zK G mX1_idAt 40 R [.ref x, .int y1] h (cOut x U h [eIdx] q)) : zK G mX0_idAt 41 R [.ref x, .int y1, .ref o] h (cWp x o U h q) := by
  have lO : ¬ U o ∧ h o ≠ none := ⟨nO, by rw [ho]; exact fun z => by cases z⟩
  show zW G mX0_idAt 41 R 0 [.ref x, .int y1, .ref o, zho] [] h _
  refine zW.aload_n (pc' := 1) dX0_idAt_0 rfl rfl (zgS (zgS (zg0))) rfl ?_
  refine zW.iconst (pc' := 2) (nI 0) dX0_idAt_1 rfl (by decide) ?_
  refine zW.aload_n (pc' := 3) dX0_idAt_2 rfl rfl zg0 rfl ?_
  refine zW.iload_n (pc' := 4) dX0_idAt_3 rfl rfl (zgS (zg0)) ?_
  refine zW.pay (r1 := 0 + R) ?_ (by omega)
  refine zW.callV (r' := _) (pc' := 7) dX0_idAt_4 rfl l_X0_42 rfl hx ⟨rfl, (Nat.le_of_ble_eq_true rfl)⟩ rfl (hc) (zcc rfl zc0) rfl (Nat.le_of_ble_eq_true rfl) (Nat.le_of_ble_eq_true rfl) (Nat.le_of_ble_eq_true rfl) ?_ ?_
  · intro v9 h9 q9
    obtain ⟨k9, e0, e1⟩ := q9.l
    subst e1
    have ho9 := k9.2.at ho nO
    refine zW.i2l (pc' := 8) dX0_idAt_7 rfl ?_
    refine zW.last (pc' := 9) dX0_idAt_8 rfl ho9 (by decide) zl01 rfl ?_
    refine zW.goto 15 dX0_idAt_9 (by decide) ?_
    refine zW.iconst (pc' := 16) (nI 0) dX0_idAt_15 rfl (by decide) ?_
    refine zW.iret dX0_idAt_16 rfl (rfl) ?_
    exact cWp.ok k9 e0 ho9 lO rfl
  · intro E h9 q9
    obtain ⟨k9, n, e0, e1⟩ := q9.r
    have ho9 := k9.2.at ho nO
    match n, e0, e1 with
    | 0, e0, e1 =>
      cases e1
      refine zX.catch (name := eIdx) [] _ _ rfl 12 rfl (fun z hz => ?_) rfl (by decide) (lw_all_tbl q1656) q363 (fun qq => ?_)
      · cases hz
      · refine zW.astore_n (pc' := 13) dX0_idAt_12 rfl rfl (Nat.le_of_ble_eq_true rfl) rfl (zsS (zsS (zsS (zs0)))) ?_
        refine zW.iconst (pc' := 14) (nI 1) dX0_idAt_13 rfl (by decide) ?_
        refine zW.iret dX0_idAt_14 rfl (rfl) ?_
        exact cWp.no k9 e0 (by decide) ho9
    | n + 1, e0, e1 => cases e1
theorem x_debtor {q : Nat × Int32 × sW} {y1 : Int32} (hx : h x = some (0, fs)) (ho : h o = some (101, [.long lv])) (nO : ¬ U o) (hc : zK G mX1_debtor 40 R [.ref x, .int y1] h (cOut x U h [eElt] q)) : zK G mX0_debtor 41 R [.ref x, .int y1, .ref o] h (cWp x o U h q) := by
  have lO : ¬ U o ∧ h o ≠ none := ⟨nO, by rw [ho]; exact fun z => by cases z⟩
  show zW G mX0_debtor 41 R 0 [.ref x, .int y1, .ref o, zho] [] h _
  refine zW.aload_n (pc' := 1) dX0_debtor_0 rfl rfl (zgS (zgS (zg0))) rfl ?_
  refine zW.iconst (pc' := 2) (nI 0) dX0_debtor_1 rfl (by decide) ?_
  refine zW.aload_n (pc' := 3) dX0_debtor_2 rfl rfl zg0 rfl ?_
  refine zW.iload_n (pc' := 4) dX0_debtor_3 rfl rfl (zgS (zg0)) ?_
  refine zW.pay (r1 := 0 + R) ?_ (by omega)
  refine zW.callV (r' := _) (pc' := 7) dX0_debtor_4 rfl l_X0_47 rfl hx ⟨rfl, (Nat.le_of_ble_eq_true rfl)⟩ rfl (hc) (zcc rfl zc0) rfl (Nat.le_of_ble_eq_true rfl) (Nat.le_of_ble_eq_true rfl) (Nat.le_of_ble_eq_true rfl) ?_ ?_
  · intro v9 h9 q9
    obtain ⟨k9, e0, e1⟩ := q9.l
    subst e1
    have ho9 := k9.2.at ho nO
    refine zW.i2l (pc' := 8) dX0_debtor_7 rfl ?_
    refine zW.last (pc' := 9) dX0_debtor_8 rfl ho9 (by decide) zl01 rfl ?_
    refine zW.goto 15 dX0_debtor_9 (by decide) ?_
    refine zW.iconst (pc' := 16) (nI 0) dX0_debtor_15 rfl (by decide) ?_
    refine zW.iret dX0_debtor_16 rfl (rfl) ?_
    exact cWp.ok k9 e0 ho9 lO rfl
  · intro E h9 q9
    obtain ⟨k9, n, e0, e1⟩ := q9.r
    have ho9 := k9.2.at ho nO
    match n, e0, e1 with
    | 0, e0, e1 =>
      cases e1
      refine zX.catch (name := eElt) [] _ _ rfl 12 rfl (fun z hz => ?_) rfl (by decide) (lw_all_tbl q1538) q835 (fun qq => ?_)
      · cases hz
      · refine zW.astore_n (pc' := 13) dX0_debtor_12 rfl rfl (Nat.le_of_ble_eq_true rfl) rfl (zsS (zsS (zsS (zs0)))) ?_
        refine zW.iconst (pc' := 14) (nI 1) dX0_debtor_13 rfl (by decide) ?_
        refine zW.iret dX0_debtor_14 rfl (rfl) ?_
        exact cWp.no k9 e0 (by decide) ho9
    | n + 1, e0, e1 => cases e1
theorem x_creditor {q : Nat × Int32 × sW} {y1 : Int32} (hx : h x = some (0, fs)) (ho : h o = some (101, [.long lv])) (nO : ¬ U o) (hc : zK G mX1_creditor 40 R [.ref x, .int y1] h (cOut x U h [eElt] q)) : zK G mX0_creditor 41 R [.ref x, .int y1, .ref o] h (cWp x o U h q) := by
  have lO : ¬ U o ∧ h o ≠ none := ⟨nO, by rw [ho]; exact fun z => by cases z⟩
  show zW G mX0_creditor 41 R 0 [.ref x, .int y1, .ref o, zho] [] h _
  refine zW.aload_n (pc' := 1) dX0_creditor_0 rfl rfl (zgS (zgS (zg0))) rfl ?_
  refine zW.iconst (pc' := 2) (nI 0) dX0_creditor_1 rfl (by decide) ?_
  refine zW.aload_n (pc' := 3) dX0_creditor_2 rfl rfl zg0 rfl ?_
  refine zW.iload_n (pc' := 4) dX0_creditor_3 rfl rfl (zgS (zg0)) ?_
  refine zW.pay (r1 := 0 + R) ?_ (by omega)
  refine zW.callV (r' := _) (pc' := 7) dX0_creditor_4 rfl l_X0_50 rfl hx ⟨rfl, (Nat.le_of_ble_eq_true rfl)⟩ rfl (hc) (zcc rfl zc0) rfl (Nat.le_of_ble_eq_true rfl) (Nat.le_of_ble_eq_true rfl) (Nat.le_of_ble_eq_true rfl) ?_ ?_
  · intro v9 h9 q9
    obtain ⟨k9, e0, e1⟩ := q9.l
    subst e1
    have ho9 := k9.2.at ho nO
    refine zW.i2l (pc' := 8) dX0_creditor_7 rfl ?_
    refine zW.last (pc' := 9) dX0_creditor_8 rfl ho9 (by decide) zl01 rfl ?_
    refine zW.goto 15 dX0_creditor_9 (by decide) ?_
    refine zW.iconst (pc' := 16) (nI 0) dX0_creditor_15 rfl (by decide) ?_
    refine zW.iret dX0_creditor_16 rfl (rfl) ?_
    exact cWp.ok k9 e0 ho9 lO rfl
  · intro E h9 q9
    obtain ⟨k9, n, e0, e1⟩ := q9.r
    have ho9 := k9.2.at ho nO
    match n, e0, e1 with
    | 0, e0, e1 =>
      cases e1
      refine zX.catch (name := eElt) [] _ _ rfl 12 rfl (fun z hz => ?_) rfl (by decide) (lw_all_tbl q1538) q835 (fun qq => ?_)
      · cases hz
      · refine zW.astore_n (pc' := 13) dX0_creditor_12 rfl rfl (Nat.le_of_ble_eq_true rfl) rfl (zsS (zsS (zsS (zs0)))) ?_
        refine zW.iconst (pc' := 14) (nI 1) dX0_creditor_13 rfl (by decide) ?_
        refine zW.iret dX0_creditor_14 rfl (rfl) ?_
        exact cWp.no k9 e0 (by decide) ho9
    | n + 1, e0, e1 => cases e1
theorem x_weight {q : Nat × Int32 × sW} {y1 : Int32} (hx : h x = some (0, fs)) (ho : h o = some (101, [.long lv])) (nO : ¬ U o) (hc : zK G mX1_weight 40 R [.ref x, .int y1] h (cOut x U h [eElt] q)) : zK G mX0_weight 41 R [.ref x, .int y1, .ref o] h (cWp x o U h q) := by
  have lO : ¬ U o ∧ h o ≠ none := ⟨nO, by rw [ho]; exact fun z => by cases z⟩
  show zW G mX0_weight 41 R 0 [.ref x, .int y1, .ref o, zho] [] h _
  refine zW.aload_n (pc' := 1) dX0_weight_0 rfl rfl (zgS (zgS (zg0))) rfl ?_
  refine zW.iconst (pc' := 2) (nI 0) dX0_weight_1 rfl (by decide) ?_
  refine zW.aload_n (pc' := 3) dX0_weight_2 rfl rfl zg0 rfl ?_
  refine zW.iload_n (pc' := 4) dX0_weight_3 rfl rfl (zgS (zg0)) ?_
  refine zW.pay (r1 := 0 + R) ?_ (by omega)
  refine zW.callV (r' := _) (pc' := 7) dX0_weight_4 rfl l_X0_53 rfl hx ⟨rfl, (Nat.le_of_ble_eq_true rfl)⟩ rfl (hc) (zcc rfl zc0) rfl (Nat.le_of_ble_eq_true rfl) (Nat.le_of_ble_eq_true rfl) (Nat.le_of_ble_eq_true rfl) ?_ ?_
  · intro v9 h9 q9
    obtain ⟨k9, e0, e1⟩ := q9.l
    subst e1
    have ho9 := k9.2.at ho nO
    refine zW.i2l (pc' := 8) dX0_weight_7 rfl ?_
    refine zW.last (pc' := 9) dX0_weight_8 rfl ho9 (by decide) zl01 rfl ?_
    refine zW.goto 15 dX0_weight_9 (by decide) ?_
    refine zW.iconst (pc' := 16) (nI 0) dX0_weight_15 rfl (by decide) ?_
    refine zW.iret dX0_weight_16 rfl (rfl) ?_
    exact cWp.ok k9 e0 ho9 lO rfl
  · intro E h9 q9
    obtain ⟨k9, n, e0, e1⟩ := q9.r
    have ho9 := k9.2.at ho nO
    match n, e0, e1 with
    | 0, e0, e1 =>
      cases e1
      refine zX.catch (name := eElt) [] _ _ rfl 12 rfl (fun z hz => ?_) rfl (by decide) (lw_all_tbl q1538) q835 (fun qq => ?_)
      · cases hz
      · refine zW.astore_n (pc' := 13) dX0_weight_12 rfl rfl (Nat.le_of_ble_eq_true rfl) rfl (zsS (zsS (zsS (zs0)))) ?_
        refine zW.iconst (pc' := 14) (nI 1) dX0_weight_13 rfl (by decide) ?_
        refine zW.iret dX0_weight_14 rfl (rfl) ?_
        exact cWp.no k9 e0 (by decide) ho9
    | n + 1, e0, e1 => cases e1
theorem x_expiry {q : Nat × Int32 × sW} {y1 : Int32} (hx : h x = some (0, fs)) (ho : h o = some (101, [.long lv])) (nO : ¬ U o) (hc : zK G mX1_expiry 40 R [.ref x, .int y1] h (cOut x U h [eElt] q)) : zK G mX0_expiry 41 R [.ref x, .int y1, .ref o] h (cWp x o U h q) := by
  have lO : ¬ U o ∧ h o ≠ none := ⟨nO, by rw [ho]; exact fun z => by cases z⟩
  show zW G mX0_expiry 41 R 0 [.ref x, .int y1, .ref o, zho] [] h _
  refine zW.aload_n (pc' := 1) dX0_expiry_0 rfl rfl (zgS (zgS (zg0))) rfl ?_
  refine zW.iconst (pc' := 2) (nI 0) dX0_expiry_1 rfl (by decide) ?_
  refine zW.aload_n (pc' := 3) dX0_expiry_2 rfl rfl zg0 rfl ?_
  refine zW.iload_n (pc' := 4) dX0_expiry_3 rfl rfl (zgS (zg0)) ?_
  refine zW.pay (r1 := 0 + R) ?_ (by omega)
  refine zW.callV (r' := _) (pc' := 7) dX0_expiry_4 rfl l_X0_56 rfl hx ⟨rfl, (Nat.le_of_ble_eq_true rfl)⟩ rfl (hc) (zcc rfl zc0) rfl (Nat.le_of_ble_eq_true rfl) (Nat.le_of_ble_eq_true rfl) (Nat.le_of_ble_eq_true rfl) ?_ ?_
  · intro v9 h9 q9
    obtain ⟨k9, e0, e1⟩ := q9.l
    subst e1
    have ho9 := k9.2.at ho nO
    refine zW.i2l (pc' := 8) dX0_expiry_7 rfl ?_
    refine zW.last (pc' := 9) dX0_expiry_8 rfl ho9 (by decide) zl01 rfl ?_
    refine zW.goto 15 dX0_expiry_9 (by decide) ?_
    refine zW.iconst (pc' := 16) (nI 0) dX0_expiry_15 rfl (by decide) ?_
    refine zW.iret dX0_expiry_16 rfl (rfl) ?_
    exact cWp.ok k9 e0 ho9 lO rfl
  · intro E h9 q9
    obtain ⟨k9, n, e0, e1⟩ := q9.r
    have ho9 := k9.2.at ho nO
    match n, e0, e1 with
    | 0, e0, e1 =>
      cases e1
      refine zX.catch (name := eElt) [] _ _ rfl 12 rfl (fun z hz => ?_) rfl (by decide) (lw_all_tbl q1538) q835 (fun qq => ?_)
      · cases hz
      · refine zW.astore_n (pc' := 13) dX0_expiry_12 rfl rfl (Nat.le_of_ble_eq_true rfl) rfl (zsS (zsS (zsS (zs0)))) ?_
        refine zW.iconst (pc' := 14) (nI 1) dX0_expiry_13 rfl (by decide) ?_
        refine zW.iret dX0_expiry_14 rfl (rfl) ?_
        exact cWp.no k9 e0 (by decide) ho9
    | n + 1, e0, e1 => cases e1
theorem x_strikes {q : Nat × Int32 × sW} {y1 : Int32} (hx : h x = some (0, fs)) (ho : h o = some (101, [.long lv])) (nO : ¬ U o) (hc : zK G mX1_strikes 40 R [.ref x, .int y1] h (cOut x U h [eElt] q)) : zK G mX0_strikes 41 R [.ref x, .int y1, .ref o] h (cWp x o U h q) := by
  have lO : ¬ U o ∧ h o ≠ none := ⟨nO, by rw [ho]; exact fun z => by cases z⟩
  show zW G mX0_strikes 41 R 0 [.ref x, .int y1, .ref o, zho] [] h _
  refine zW.aload_n (pc' := 1) dX0_strikes_0 rfl rfl (zgS (zgS (zg0))) rfl ?_
  refine zW.iconst (pc' := 2) (nI 0) dX0_strikes_1 rfl (by decide) ?_
  refine zW.aload_n (pc' := 3) dX0_strikes_2 rfl rfl zg0 rfl ?_
  refine zW.iload_n (pc' := 4) dX0_strikes_3 rfl rfl (zgS (zg0)) ?_
  refine zW.pay (r1 := 0 + R) ?_ (by omega)
  refine zW.callV (r' := _) (pc' := 7) dX0_strikes_4 rfl l_X0_59 rfl hx ⟨rfl, (Nat.le_of_ble_eq_true rfl)⟩ rfl (hc) (zcc rfl zc0) rfl (Nat.le_of_ble_eq_true rfl) (Nat.le_of_ble_eq_true rfl) (Nat.le_of_ble_eq_true rfl) ?_ ?_
  · intro v9 h9 q9
    obtain ⟨k9, e0, e1⟩ := q9.l
    subst e1
    have ho9 := k9.2.at ho nO
    refine zW.i2l (pc' := 8) dX0_strikes_7 rfl ?_
    refine zW.last (pc' := 9) dX0_strikes_8 rfl ho9 (by decide) zl01 rfl ?_
    refine zW.goto 15 dX0_strikes_9 (by decide) ?_
    refine zW.iconst (pc' := 16) (nI 0) dX0_strikes_15 rfl (by decide) ?_
    refine zW.iret dX0_strikes_16 rfl (rfl) ?_
    exact cWp.ok k9 e0 ho9 lO rfl
  · intro E h9 q9
    obtain ⟨k9, n, e0, e1⟩ := q9.r
    have ho9 := k9.2.at ho nO
    match n, e0, e1 with
    | 0, e0, e1 =>
      cases e1
      refine zX.catch (name := eElt) [] _ _ rfl 12 rfl (fun z hz => ?_) rfl (by decide) (lw_all_tbl q1538) q835 (fun qq => ?_)
      · cases hz
      · refine zW.astore_n (pc' := 13) dX0_strikes_12 rfl rfl (Nat.le_of_ble_eq_true rfl) rfl (zsS (zsS (zsS (zs0)))) ?_
        refine zW.iconst (pc' := 14) (nI 1) dX0_strikes_13 rfl (by decide) ?_
        refine zW.iret dX0_strikes_14 rfl (rfl) ?_
        exact cWp.no k9 e0 (by decide) ho9
    | n + 1, e0, e1 => cases e1
theorem x_isSigned {q : Nat × Int32 × sW} {y1 : Int32} (hx : h x = some (0, fs)) (ho : h o = some (101, [.long lv])) (nO : ¬ U o) (hb : q.1 = 0 → q.2.1 = nI 0 ∨ q.2.1 = nI 1) (hc : zK G mX1_isSigned 40 R [.ref x, .int y1] h (cOut x U h [eElt] q)) : zK G mX0_isSigned 41 R [.ref x, .int y1, .ref o] h (cWp x o U h q) := by
  have lO : ¬ U o ∧ h o ≠ none := ⟨nO, by rw [ho]; exact fun z => by cases z⟩
  show zW G mX0_isSigned 41 R 0 [.ref x, .int y1, .ref o, zho] [] h _
  refine zW.aload_n (pc' := 1) dX0_isSigned_0 rfl rfl (zgS (zgS (zg0))) rfl ?_
  refine zW.iconst (pc' := 2) (nI 0) dX0_isSigned_1 rfl (by decide) ?_
  refine zW.aload_n (pc' := 3) dX0_isSigned_2 rfl rfl zg0 rfl ?_
  refine zW.iload_n (pc' := 4) dX0_isSigned_3 rfl rfl (zgS (zg0)) ?_
  refine zW.pay (r1 := 0 + R) ?_ (by omega)
  refine zW.callV (r' := _) (pc' := 7) dX0_isSigned_4 rfl l_X0_62 rfl hx ⟨rfl, (Nat.le_of_ble_eq_true rfl)⟩ rfl (hc) (zcc rfl zc0) rfl (Nat.le_of_ble_eq_true rfl) (Nat.le_of_ble_eq_true rfl) (Nat.le_of_ble_eq_true rfl) ?_ ?_
  · intro v9 h9 q9
    obtain ⟨k9, e0, e1⟩ := q9.l
    subst e1
    have ho9 := k9.2.at ho nO
    rcases hb e0 with e2 | e2
    · show zW G mX0_isSigned 41 _ 7 _ (.int q.2.1 :: _) _ _
      rw [e2]
      refine zW.if_eqN (pc' := 10) 14 dX0_isSigned_7 rfl (by decide) (by omega) (fun b9 => ?_) (fun b9 => absurd b9 (by omega))
      refine zW.lconst (pc' := 15) 0 dX0_isSigned_14 rfl (by decide) ?_
      refine zW.last (pc' := 16) dX0_isSigned_15 rfl ho9 (by decide) zl01 rfl ?_
      refine zW.goto 22 dX0_isSigned_16 (by decide) ?_
      refine zW.iconst (pc' := 23) (nI 0) dX0_isSigned_22 rfl (by decide) ?_
      refine zW.iret dX0_isSigned_23 rfl (rfl) ?_
      exact cWp.ok k9 e0 ho9 lO (by rw [e2]; decide)
    · show zW G mX0_isSigned 41 _ 7 _ (.int q.2.1 :: _) _ _
      rw [e2]
      refine zW.if_eqN (pc' := 10) 14 dX0_isSigned_7 rfl (by decide) (by omega) (fun b9 => absurd b9 (by omega)) (fun b9 => ?_)
      refine zW.lconst (pc' := 11) 1 dX0_isSigned_10 rfl (by decide) ?_
      refine zW.goto 15 dX0_isSigned_11 (by decide) ?_
      refine zW.last (pc' := 16) dX0_isSigned_15 rfl ho9 (by decide) zl01 rfl ?_
      refine zW.goto 22 dX0_isSigned_16 (by decide) ?_
      refine zW.iconst (pc' := 23) (nI 0) dX0_isSigned_22 rfl (by decide) ?_
      refine zW.iret dX0_isSigned_23 rfl (rfl) ?_
      exact cWp.ok k9 e0 ho9 lO (by rw [e2]; decide)
  · intro E h9 q9
    obtain ⟨k9, n, e0, e1⟩ := q9.r
    have ho9 := k9.2.at ho nO
    match n, e0, e1 with
    | 0, e0, e1 =>
      cases e1
      refine zX.catch (name := eElt) [] _ _ rfl 19 rfl (fun z hz => ?_) rfl (by decide) (lw_all_tbl q1538) q835 (fun qq => ?_)
      · cases hz
      · refine zW.astore_n (pc' := 20) dX0_isSigned_19 rfl rfl (Nat.le_of_ble_eq_true rfl) rfl (zsS (zsS (zsS (zs0)))) ?_
        refine zW.iconst (pc' := 21) (nI 1) dX0_isSigned_20 rfl (by decide) ?_
        refine zW.iret dX0_isSigned_21 rfl (rfl) ?_
        exact cWp.no k9 e0 (by decide) ho9
    | n + 1, e0, e1 => cases e1
theorem x_isCountersigned {q : Nat × Int32 × sW} {y1 : Int32} (hx : h x = some (0, fs)) (ho : h o = some (101, [.long lv])) (nO : ¬ U o) (hb : q.1 = 0 → q.2.1 = nI 0 ∨ q.2.1 = nI 1) (hc : zK G mX1_isCountersigned 40 R [.ref x, .int y1] h (cOut x U h [eElt] q)) : zK G mX0_isCountersigned 41 R [.ref x, .int y1, .ref o] h (cWp x o U h q) := by
  have lO : ¬ U o ∧ h o ≠ none := ⟨nO, by rw [ho]; exact fun z => by cases z⟩
  show zW G mX0_isCountersigned 41 R 0 [.ref x, .int y1, .ref o, zho] [] h _
  refine zW.aload_n (pc' := 1) dX0_isCountersigned_0 rfl rfl (zgS (zgS (zg0))) rfl ?_
  refine zW.iconst (pc' := 2) (nI 0) dX0_isCountersigned_1 rfl (by decide) ?_
  refine zW.aload_n (pc' := 3) dX0_isCountersigned_2 rfl rfl zg0 rfl ?_
  refine zW.iload_n (pc' := 4) dX0_isCountersigned_3 rfl rfl (zgS (zg0)) ?_
  refine zW.pay (r1 := 0 + R) ?_ (by omega)
  refine zW.callV (r' := _) (pc' := 7) dX0_isCountersigned_4 rfl l_X0_66 rfl hx ⟨rfl, (Nat.le_of_ble_eq_true rfl)⟩ rfl (hc) (zcc rfl zc0) rfl (Nat.le_of_ble_eq_true rfl) (Nat.le_of_ble_eq_true rfl) (Nat.le_of_ble_eq_true rfl) ?_ ?_
  · intro v9 h9 q9
    obtain ⟨k9, e0, e1⟩ := q9.l
    subst e1
    have ho9 := k9.2.at ho nO
    rcases hb e0 with e2 | e2
    · show zW G mX0_isCountersigned 41 _ 7 _ (.int q.2.1 :: _) _ _
      rw [e2]
      refine zW.if_eqN (pc' := 10) 14 dX0_isCountersigned_7 rfl (by decide) (by omega) (fun b9 => ?_) (fun b9 => absurd b9 (by omega))
      refine zW.lconst (pc' := 15) 0 dX0_isCountersigned_14 rfl (by decide) ?_
      refine zW.last (pc' := 16) dX0_isCountersigned_15 rfl ho9 (by decide) zl01 rfl ?_
      refine zW.goto 22 dX0_isCountersigned_16 (by decide) ?_
      refine zW.iconst (pc' := 23) (nI 0) dX0_isCountersigned_22 rfl (by decide) ?_
      refine zW.iret dX0_isCountersigned_23 rfl (rfl) ?_
      exact cWp.ok k9 e0 ho9 lO (by rw [e2]; decide)
    · show zW G mX0_isCountersigned 41 _ 7 _ (.int q.2.1 :: _) _ _
      rw [e2]
      refine zW.if_eqN (pc' := 10) 14 dX0_isCountersigned_7 rfl (by decide) (by omega) (fun b9 => absurd b9 (by omega)) (fun b9 => ?_)
      refine zW.lconst (pc' := 11) 1 dX0_isCountersigned_10 rfl (by decide) ?_
      refine zW.goto 15 dX0_isCountersigned_11 (by decide) ?_
      refine zW.last (pc' := 16) dX0_isCountersigned_15 rfl ho9 (by decide) zl01 rfl ?_
      refine zW.goto 22 dX0_isCountersigned_16 (by decide) ?_
      refine zW.iconst (pc' := 23) (nI 0) dX0_isCountersigned_22 rfl (by decide) ?_
      refine zW.iret dX0_isCountersigned_23 rfl (rfl) ?_
      exact cWp.ok k9 e0 ho9 lO (by rw [e2]; decide)
  · intro E h9 q9
    obtain ⟨k9, n, e0, e1⟩ := q9.r
    have ho9 := k9.2.at ho nO
    match n, e0, e1 with
    | 0, e0, e1 =>
      cases e1
      refine zX.catch (name := eElt) [] _ _ rfl 19 rfl (fun z hz => ?_) rfl (by decide) (lw_all_tbl q1538) q835 (fun qq => ?_)
      · cases hz
      · refine zW.astore_n (pc' := 20) dX0_isCountersigned_19 rfl rfl (Nat.le_of_ble_eq_true rfl) rfl (zsS (zsS (zsS (zs0)))) ?_
        refine zW.iconst (pc' := 21) (nI 1) dX0_isCountersigned_20 rfl (by decide) ?_
        refine zW.iret dX0_isCountersigned_21 rfl (rfl) ?_
        exact cWp.no k9 e0 (by decide) ho9
    | n + 1, e0, e1 => cases e1
theorem x_signer {q : Nat × Int32 × sW} {y1 : Int32} (hx : h x = some (0, fs)) (ho : h o = some (101, [.long lv])) (nO : ¬ U o) (hc : zK G mX1_signer 40 R [.ref x, .int y1] h (cOut x U h [eElt, eSta] q)) : zK G mX0_signer 41 R [.ref x, .int y1, .ref o] h (cWp x o U h q) := by
  have lO : ¬ U o ∧ h o ≠ none := ⟨nO, by rw [ho]; exact fun z => by cases z⟩
  show zW G mX0_signer 41 R 0 [.ref x, .int y1, .ref o, zho] [] h _
  refine zW.aload_n (pc' := 1) dX0_signer_0 rfl rfl (zgS (zgS (zg0))) rfl ?_
  refine zW.iconst (pc' := 2) (nI 0) dX0_signer_1 rfl (by decide) ?_
  refine zW.aload_n (pc' := 3) dX0_signer_2 rfl rfl zg0 rfl ?_
  refine zW.iload_n (pc' := 4) dX0_signer_3 rfl rfl (zgS (zg0)) ?_
  refine zW.pay (r1 := 0 + R) ?_ (by omega)
  refine zW.callV (r' := _) (pc' := 7) dX0_signer_4 rfl l_X0_69 rfl hx ⟨rfl, (Nat.le_of_ble_eq_true rfl)⟩ rfl (hc) (zcc rfl zc0) rfl (Nat.le_of_ble_eq_true rfl) (Nat.le_of_ble_eq_true rfl) (Nat.le_of_ble_eq_true rfl) ?_ ?_
  · intro v9 h9 q9
    obtain ⟨k9, e0, e1⟩ := q9.l
    subst e1
    have ho9 := k9.2.at ho nO
    refine zW.i2l (pc' := 8) dX0_signer_7 rfl ?_
    refine zW.last (pc' := 9) dX0_signer_8 rfl ho9 (by decide) zl01 rfl ?_
    refine zW.goto 18 dX0_signer_9 (by decide) ?_
    refine zW.iconst (pc' := 19) (nI 0) dX0_signer_18 rfl (by decide) ?_
    refine zW.iret dX0_signer_19 rfl (rfl) ?_
    exact cWp.ok k9 e0 ho9 lO rfl
  · intro E h9 q9
    obtain ⟨k9, n, e0, e1⟩ := q9.r
    have ho9 := k9.2.at ho nO
    match n, e0, e1 with
    | 0, e0, e1 =>
      cases e1
      refine zX.catch (name := eElt) [] _ _ rfl 12 rfl (fun z hz => ?_) rfl (by decide) (lw_all_tbl q1538) q835 (fun qq => ?_)
      · cases hz
      · refine zW.astore_n (pc' := 13) dX0_signer_12 rfl rfl (Nat.le_of_ble_eq_true rfl) rfl (zsS (zsS (zsS (zs0)))) ?_
        refine zW.iconst (pc' := 14) (nI 1) dX0_signer_13 rfl (by decide) ?_
        refine zW.iret dX0_signer_14 rfl (rfl) ?_
        exact cWp.no k9 e0 (by decide) ho9
    | 1, e0, e1 =>
      cases e1
      refine zX.catch (name := eSta) [_] _ _ rfl 15 rfl (fun z hz => ?_) rfl (by decide) (lw_all_tbl q1506) q1179 (fun qq => ?_)
      · rw [List.mem_singleton.mp hz]
        exact Or.inr ⟨by decide, eElt, (lw_all_tbl q1538), fun s hT => ncOf (eSta, eElt) (by decide) hT⟩
      · refine zW.astore_n (pc' := 16) dX0_signer_15 rfl rfl (Nat.le_of_ble_eq_true rfl) rfl (zsS (zsS (zsS (zs0)))) ?_
        refine zW.iconst (pc' := 17) (nI 2) dX0_signer_16 rfl (by decide) ?_
        refine zW.iret dX0_signer_17 rfl (rfl) ?_
        exact cWp.no k9 e0 (by decide) ho9
    | n + 2, e0, e1 => cases e1
end
