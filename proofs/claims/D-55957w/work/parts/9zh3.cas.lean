/-! THE LAW: its cases (printed by mk9zh.py) -/
section
set_option maxRecDepth 100000
variable {G : zG} {h : zH} {Q : zR → zH → Prop} {x o b i R r : Nat} {a : tA} {w : sW} {S : tS} {xs : List Value} {lv : Int64}
theorem y_countersignaturesOf {y1 : Int32} {q : Nat × Int32 × sW} (hb : zg_k G b = some (1100, xs)) (hy1 : xs[i + 1]? = some (.int y1)) (hi : i < 200) (M0 : lwM G x o a w w (fun _ => True) S h) (hcl : ∀ U, cReg x 0 [] w h U → zK G mX1_countersignaturesOf 40 R [.ref x, .int y1] h (cOut x U h [eArg] q)) (hml : ∀ h0, zK G mX3_countersignaturesOf 9 0 [.ref a.1, .int y1] (tH h0 a S) (tO h0 a q.1 (.int q.2.1) q.2.2)) (kont : ∀ (h' : zH) (S' : tS) (v5 v6 : Value), lwM G x o a q.2.2 q.2.2 (fun _ => True) S' h' → zW G mL_law 42 r 3347 [.ref b, .ref x, .ref a.1, .ref o, .int (nI i), v5, v6] [] h' Q) {v5 v6 : Value} : zW G mL_law 42 (r + R) 1535 [.ref b, .ref x, .ref a.1, .ref o, .int (nI i), v5, v6] [] h Q := by
  obtain ⟨U, v, ⟨hG, hl⟩, hd, hT, ⟨ho, -⟩, hk⟩ := id M0
  obtain ⟨fs, hx⟩ := hG.cell
  have hbh := M0.scr hb
  refine zW.aload_n (pc' := 1536) dL_law_1535 rfl rfl (zgS (zg0)) rfl ?_
  refine zW.aload_n (pc' := 1537) dL_law_1536 rfl rfl zg0 rfl ?_
  refine zW.iload (pc' := 1539) dL_law_1537 rfl (zgS (zgS (zgS (zgS (zg0))))) ?_
  refine zW.iconst (pc' := 1540) (nI 1) dL_law_1539 rfl (by decide) ?_
  refine zW.iaddN (pc' := 1541) dL_law_1540 rfl ?_
  refine zW.scr (pc' := 1542) dL_law_1541 rfl hbh hy1 (by omega) ?_
  refine zW.aload_n (pc' := 1543) dL_law_1542 rfl rfl (zgS (zgS (zgS (zg0)))) rfl ?_
  refine zW.callSH (r' := R) (pc' := 1546) dL_law_1543 rfl l_X0_261 rfl (x_countersignaturesOf hx ho hd.1 (hcl U hG)) (zcc rfl (zcc rfl (zcc rfl zc0))) rfl (Nat.le_of_ble_eq_true rfl) (Nat.le_of_ble_eq_true rfl) (Nat.le_of_ble_eq_true rfl) ?_ ?_
  rotate_left
  · intro E h9 q9
    cases q9.1
  intro v9 h9 q9
  obtain ⟨e1, q3, g1, g2, v1, ho1, hv1⟩ := q9
  cases e1
  have M1 : lwM G x o a q.2.2 w (fun v => q.1 = 0 → v = q.2.1.toInt64) S h9 := lwM.step hd hT ho hk g1 g2 ⟨ho1, hv1⟩
  have hbh := M1.scr hb
  refine zW.istore (pc' := 1548) dL_law_1546 rfl (Nat.le_of_ble_eq_true rfl) (zsS (zsS (zsS (zsS (zsS (zs0)))))) ?_
  refine zW.aload_n (pc' := 1549) dL_law_1548 rfl rfl (zgS (zgS (zg0))) rfl ?_
  refine zW.aload_n (pc' := 1550) dL_law_1549 rfl rfl zg0 rfl ?_
  refine zW.iload (pc' := 1552) dL_law_1550 rfl (zgS (zgS (zgS (zgS (zg0))))) ?_
  refine zW.iconst (pc' := 1553) (nI 1) dL_law_1552 rfl (by decide) ?_
  refine zW.iaddN (pc' := 1554) dL_law_1553 rfl ?_
  refine zW.scr (pc' := 1555) dL_law_1554 rfl hbh hy1 (by omega) ?_
  refine zW.congr ?_ rfl rfl M1.eq
  refine zT.call (pc' := 1558) dL_law_1555 rfl l_X0_263 rfl rfl (hml _) (zcc rfl zc0) rfl (Nat.le_of_ble_eq_true rfl) (Nat.le_of_ble_eq_true rfl) (Nat.le_of_ble_eq_true rfl) (fun _ T2 ⟨e1, e2, e3⟩ => ?_)
  subst e1
  have M2 := M1.mdl e3
  obtain ⟨v2, ho2, hv2⟩ := M2.out
  refine zW.istore (pc' := 1560) dL_law_1558 rfl (Nat.le_of_ble_eq_true rfl) (zsS (zsS (zsS (zsS (zsS (zsS (zs0))))))) ?_
  refine zW.aload_n (pc' := 1561) dL_law_1560 rfl rfl (zgS (zgS (zg0))) rfl ?_
  refine zT.call (pc' := 1564) dL_law_1561 rfl l_X0_182 rfl rfl w_thrown zc0 rfl (Nat.le_of_ble_eq_true rfl) (Nat.le_of_ble_eq_true rfl) (Nat.le_of_ble_eq_true rfl) (fun _ T3 ⟨e1, e4⟩ => ?_)
  subst e1
  subst e4
  rw [e2]
  refine zW.iload (pc' := 1566) dL_law_1564 rfl (zgS (zgS (zgS (zgS (zgS (zg0)))))) ?_
  refine zW.icmp_eq (pc' := 1569) 1571 dL_law_1566 rfl (by decide) (fun b1 => ?_) (fun b1 => ?_)
  rotate_left
  · exact absurd rfl b1
  by_cases z : q.1 = 0
  · rw [z]
    refine zW.iload (pc' := 1573) dL_law_1571 rfl (zgS (zgS (zgS (zgS (zgS (zg0)))))) ?_
    refine zW.if_neN (pc' := 1576) 1588 dL_law_1573 rfl (by decide) (by omega) (fun b9 => absurd b9 (by omega)) (fun b9 => ?_)
    refine zW.aload_n (pc' := 1577) dL_law_1576 rfl rfl (zgS (zgS (zgS (zg0)))) rfl ?_
    refine zW.iconst (pc' := 1578) (nI 0) dL_law_1577 rfl (by decide) ?_
    refine zW.lald (pc' := 1579) dL_law_1578 rfl ho2 rfl (by decide) rfl ?_
    rw [hv2 z]
    refine zW.iload (pc' := 1581) dL_law_1579 rfl (zgS (zgS (zgS (zgS (zgS (zgS (zg0))))))) ?_
    refine zW.i2l (pc' := 1582) dL_law_1581 rfl ?_
    refine zW.lcmp (pc' := 1583) dL_law_1582 rfl ?_
    rw [zlc]
    refine zW.if_eq (pc' := 1586) 1588 dL_law_1583 rfl (by decide) (fun b1 => ?_) (fun b1 => ?_)
    rotate_left
    · exact absurd rfl b1
    refine zW.goto 3347 dL_law_1588 (by decide) ?_
    exact kont _ _ _ _ (M2.wk fun _ _ => trivial)
  · refine zW.iload (pc' := 1573) dL_law_1571 rfl (zgS (zgS (zgS (zgS (zgS (zg0)))))) ?_
    refine zW.if_neN (pc' := 1576) 1588 dL_law_1573 rfl (by decide) (by omega) (fun b9 => ?_) (fun b9 => absurd b9 (by omega))
    refine zW.goto 3347 dL_law_1588 (by decide) ?_
    exact kont _ _ _ _ (M2.wk fun _ _ => trivial)
theorem y_owedBy {y1 : Int32} {q : Nat × Int32 × sW} (hb : zg_k G b = some (1100, xs)) (hy1 : xs[i + 1]? = some (.int y1)) (hi : i < 200) (M0 : lwM G x o a w w (fun _ => True) S h) (hcl : ∀ U, cReg x 0 [] w h U → zK G mX1_owedBy 40 R [.ref x, .int y1] h (cOut x U h [eArg] q)) (hml : ∀ h0, zK G mX3_owedBy 9 0 [.ref a.1, .int y1] (tH h0 a S) (tO h0 a q.1 (.int q.2.1) q.2.2)) (kont : ∀ (h' : zH) (S' : tS) (v5 v6 : Value), lwM G x o a q.2.2 q.2.2 (fun _ => True) S' h' → zW G mL_law 42 r 3347 [.ref b, .ref x, .ref a.1, .ref o, .int (nI i), v5, v6] [] h' Q) {v5 v6 : Value} : zW G mL_law 42 (r + R) 1591 [.ref b, .ref x, .ref a.1, .ref o, .int (nI i), v5, v6] [] h Q := by
  obtain ⟨U, v, ⟨hG, hl⟩, hd, hT, ⟨ho, -⟩, hk⟩ := id M0
  obtain ⟨fs, hx⟩ := hG.cell
  have hbh := M0.scr hb
  refine zW.aload_n (pc' := 1592) dL_law_1591 rfl rfl (zgS (zg0)) rfl ?_
  refine zW.aload_n (pc' := 1593) dL_law_1592 rfl rfl zg0 rfl ?_
  refine zW.iload (pc' := 1595) dL_law_1593 rfl (zgS (zgS (zgS (zgS (zg0))))) ?_
  refine zW.iconst (pc' := 1596) (nI 1) dL_law_1595 rfl (by decide) ?_
  refine zW.iaddN (pc' := 1597) dL_law_1596 rfl ?_
  refine zW.scr (pc' := 1598) dL_law_1597 rfl hbh hy1 (by omega) ?_
  refine zW.aload_n (pc' := 1599) dL_law_1598 rfl rfl (zgS (zgS (zgS (zg0)))) rfl ?_
  refine zW.callSH (r' := R) (pc' := 1602) dL_law_1599 rfl l_X0_264 rfl (x_owedBy hx ho hd.1 (hcl U hG)) (zcc rfl (zcc rfl (zcc rfl zc0))) rfl (Nat.le_of_ble_eq_true rfl) (Nat.le_of_ble_eq_true rfl) (Nat.le_of_ble_eq_true rfl) ?_ ?_
  rotate_left
  · intro E h9 q9
    cases q9.1
  intro v9 h9 q9
  obtain ⟨e1, q3, g1, g2, v1, ho1, hv1⟩ := q9
  cases e1
  have M1 : lwM G x o a q.2.2 w (fun v => q.1 = 0 → v = q.2.1.toInt64) S h9 := lwM.step hd hT ho hk g1 g2 ⟨ho1, hv1⟩
  have hbh := M1.scr hb
  refine zW.istore (pc' := 1604) dL_law_1602 rfl (Nat.le_of_ble_eq_true rfl) (zsS (zsS (zsS (zsS (zsS (zs0)))))) ?_
  refine zW.aload_n (pc' := 1605) dL_law_1604 rfl rfl (zgS (zgS (zg0))) rfl ?_
  refine zW.aload_n (pc' := 1606) dL_law_1605 rfl rfl zg0 rfl ?_
  refine zW.iload (pc' := 1608) dL_law_1606 rfl (zgS (zgS (zgS (zgS (zg0))))) ?_
  refine zW.iconst (pc' := 1609) (nI 1) dL_law_1608 rfl (by decide) ?_
  refine zW.iaddN (pc' := 1610) dL_law_1609 rfl ?_
  refine zW.scr (pc' := 1611) dL_law_1610 rfl hbh hy1 (by omega) ?_
  refine zW.congr ?_ rfl rfl M1.eq
  refine zT.call (pc' := 1614) dL_law_1611 rfl l_X0_266 rfl rfl (hml _) (zcc rfl zc0) rfl (Nat.le_of_ble_eq_true rfl) (Nat.le_of_ble_eq_true rfl) (Nat.le_of_ble_eq_true rfl) (fun _ T2 ⟨e1, e2, e3⟩ => ?_)
  subst e1
  have M2 := M1.mdl e3
  obtain ⟨v2, ho2, hv2⟩ := M2.out
  refine zW.istore (pc' := 1616) dL_law_1614 rfl (Nat.le_of_ble_eq_true rfl) (zsS (zsS (zsS (zsS (zsS (zsS (zs0))))))) ?_
  refine zW.aload_n (pc' := 1617) dL_law_1616 rfl rfl (zgS (zgS (zg0))) rfl ?_
  refine zT.call (pc' := 1620) dL_law_1617 rfl l_X0_182 rfl rfl w_thrown zc0 rfl (Nat.le_of_ble_eq_true rfl) (Nat.le_of_ble_eq_true rfl) (Nat.le_of_ble_eq_true rfl) (fun _ T3 ⟨e1, e4⟩ => ?_)
  subst e1
  subst e4
  rw [e2]
  refine zW.iload (pc' := 1622) dL_law_1620 rfl (zgS (zgS (zgS (zgS (zgS (zg0)))))) ?_
  refine zW.icmp_eq (pc' := 1625) 1627 dL_law_1622 rfl (by decide) (fun b1 => ?_) (fun b1 => ?_)
  rotate_left
  · exact absurd rfl b1
  by_cases z : q.1 = 0
  · rw [z]
    refine zW.iload (pc' := 1629) dL_law_1627 rfl (zgS (zgS (zgS (zgS (zgS (zg0)))))) ?_
    refine zW.if_neN (pc' := 1632) 1644 dL_law_1629 rfl (by decide) (by omega) (fun b9 => absurd b9 (by omega)) (fun b9 => ?_)
    refine zW.aload_n (pc' := 1633) dL_law_1632 rfl rfl (zgS (zgS (zgS (zg0)))) rfl ?_
    refine zW.iconst (pc' := 1634) (nI 0) dL_law_1633 rfl (by decide) ?_
    refine zW.lald (pc' := 1635) dL_law_1634 rfl ho2 rfl (by decide) rfl ?_
    rw [hv2 z]
    refine zW.iload (pc' := 1637) dL_law_1635 rfl (zgS (zgS (zgS (zgS (zgS (zgS (zg0))))))) ?_
    refine zW.i2l (pc' := 1638) dL_law_1637 rfl ?_
    refine zW.lcmp (pc' := 1639) dL_law_1638 rfl ?_
    rw [zlc]
    refine zW.if_eq (pc' := 1642) 1644 dL_law_1639 rfl (by decide) (fun b1 => ?_) (fun b1 => ?_)
    rotate_left
    · exact absurd rfl b1
    refine zW.goto 3347 dL_law_1644 (by decide) ?_
    exact kont _ _ _ _ (M2.wk fun _ _ => trivial)
  · refine zW.iload (pc' := 1629) dL_law_1627 rfl (zgS (zgS (zgS (zgS (zgS (zg0)))))) ?_
    refine zW.if_neN (pc' := 1632) 1644 dL_law_1629 rfl (by decide) (by omega) (fun b9 => ?_) (fun b9 => absurd b9 (by omega))
    refine zW.goto 3347 dL_law_1644 (by decide) ?_
    exact kont _ _ _ _ (M2.wk fun _ _ => trivial)
theorem y_owedTo {y1 : Int32} {q : Nat × Int32 × sW} (hb : zg_k G b = some (1100, xs)) (hy1 : xs[i + 1]? = some (.int y1)) (hi : i < 200) (M0 : lwM G x o a w w (fun _ => True) S h) (hcl : ∀ U, cReg x 0 [] w h U → zK G mX1_owedTo 40 R [.ref x, .int y1] h (cOut x U h [eArg] q)) (hml : ∀ h0, zK G mX3_owedTo 9 0 [.ref a.1, .int y1] (tH h0 a S) (tO h0 a q.1 (.int q.2.1) q.2.2)) (kont : ∀ (h' : zH) (S' : tS) (v5 v6 : Value), lwM G x o a q.2.2 q.2.2 (fun _ => True) S' h' → zW G mL_law 42 r 3347 [.ref b, .ref x, .ref a.1, .ref o, .int (nI i), v5, v6] [] h' Q) {v5 v6 : Value} : zW G mL_law 42 (r + R) 1647 [.ref b, .ref x, .ref a.1, .ref o, .int (nI i), v5, v6] [] h Q := by
  obtain ⟨U, v, ⟨hG, hl⟩, hd, hT, ⟨ho, -⟩, hk⟩ := id M0
  obtain ⟨fs, hx⟩ := hG.cell
  have hbh := M0.scr hb
  refine zW.aload_n (pc' := 1648) dL_law_1647 rfl rfl (zgS (zg0)) rfl ?_
  refine zW.aload_n (pc' := 1649) dL_law_1648 rfl rfl zg0 rfl ?_
  refine zW.iload (pc' := 1651) dL_law_1649 rfl (zgS (zgS (zgS (zgS (zg0))))) ?_
  refine zW.iconst (pc' := 1652) (nI 1) dL_law_1651 rfl (by decide) ?_
  refine zW.iaddN (pc' := 1653) dL_law_1652 rfl ?_
  refine zW.scr (pc' := 1654) dL_law_1653 rfl hbh hy1 (by omega) ?_
  refine zW.aload_n (pc' := 1655) dL_law_1654 rfl rfl (zgS (zgS (zgS (zg0)))) rfl ?_
  refine zW.callSH (r' := R) (pc' := 1658) dL_law_1655 rfl l_X0_267 rfl (x_owedTo hx ho hd.1 (hcl U hG)) (zcc rfl (zcc rfl (zcc rfl zc0))) rfl (Nat.le_of_ble_eq_true rfl) (Nat.le_of_ble_eq_true rfl) (Nat.le_of_ble_eq_true rfl) ?_ ?_
  rotate_left
  · intro E h9 q9
    cases q9.1
  intro v9 h9 q9
  obtain ⟨e1, q3, g1, g2, v1, ho1, hv1⟩ := q9
  cases e1
  have M1 : lwM G x o a q.2.2 w (fun v => q.1 = 0 → v = q.2.1.toInt64) S h9 := lwM.step hd hT ho hk g1 g2 ⟨ho1, hv1⟩
  have hbh := M1.scr hb
  refine zW.istore (pc' := 1660) dL_law_1658 rfl (Nat.le_of_ble_eq_true rfl) (zsS (zsS (zsS (zsS (zsS (zs0)))))) ?_
  refine zW.aload_n (pc' := 1661) dL_law_1660 rfl rfl (zgS (zgS (zg0))) rfl ?_
  refine zW.aload_n (pc' := 1662) dL_law_1661 rfl rfl zg0 rfl ?_
  refine zW.iload (pc' := 1664) dL_law_1662 rfl (zgS (zgS (zgS (zgS (zg0))))) ?_
  refine zW.iconst (pc' := 1665) (nI 1) dL_law_1664 rfl (by decide) ?_
  refine zW.iaddN (pc' := 1666) dL_law_1665 rfl ?_
  refine zW.scr (pc' := 1667) dL_law_1666 rfl hbh hy1 (by omega) ?_
  refine zW.congr ?_ rfl rfl M1.eq
  refine zT.call (pc' := 1670) dL_law_1667 rfl l_X0_269 rfl rfl (hml _) (zcc rfl zc0) rfl (Nat.le_of_ble_eq_true rfl) (Nat.le_of_ble_eq_true rfl) (Nat.le_of_ble_eq_true rfl) (fun _ T2 ⟨e1, e2, e3⟩ => ?_)
  subst e1
  have M2 := M1.mdl e3
  obtain ⟨v2, ho2, hv2⟩ := M2.out
  refine zW.istore (pc' := 1672) dL_law_1670 rfl (Nat.le_of_ble_eq_true rfl) (zsS (zsS (zsS (zsS (zsS (zsS (zs0))))))) ?_
  refine zW.aload_n (pc' := 1673) dL_law_1672 rfl rfl (zgS (zgS (zg0))) rfl ?_
  refine zT.call (pc' := 1676) dL_law_1673 rfl l_X0_182 rfl rfl w_thrown zc0 rfl (Nat.le_of_ble_eq_true rfl) (Nat.le_of_ble_eq_true rfl) (Nat.le_of_ble_eq_true rfl) (fun _ T3 ⟨e1, e4⟩ => ?_)
  subst e1
  subst e4
  rw [e2]
  refine zW.iload (pc' := 1678) dL_law_1676 rfl (zgS (zgS (zgS (zgS (zgS (zg0)))))) ?_
  refine zW.icmp_eq (pc' := 1681) 1683 dL_law_1678 rfl (by decide) (fun b1 => ?_) (fun b1 => ?_)
  rotate_left
  · exact absurd rfl b1
  by_cases z : q.1 = 0
  · rw [z]
    refine zW.iload (pc' := 1685) dL_law_1683 rfl (zgS (zgS (zgS (zgS (zgS (zg0)))))) ?_
    refine zW.if_neN (pc' := 1688) 1700 dL_law_1685 rfl (by decide) (by omega) (fun b9 => absurd b9 (by omega)) (fun b9 => ?_)
    refine zW.aload_n (pc' := 1689) dL_law_1688 rfl rfl (zgS (zgS (zgS (zg0)))) rfl ?_
    refine zW.iconst (pc' := 1690) (nI 0) dL_law_1689 rfl (by decide) ?_
    refine zW.lald (pc' := 1691) dL_law_1690 rfl ho2 rfl (by decide) rfl ?_
    rw [hv2 z]
    refine zW.iload (pc' := 1693) dL_law_1691 rfl (zgS (zgS (zgS (zgS (zgS (zgS (zg0))))))) ?_
    refine zW.i2l (pc' := 1694) dL_law_1693 rfl ?_
    refine zW.lcmp (pc' := 1695) dL_law_1694 rfl ?_
    rw [zlc]
    refine zW.if_eq (pc' := 1698) 1700 dL_law_1695 rfl (by decide) (fun b1 => ?_) (fun b1 => ?_)
    rotate_left
    · exact absurd rfl b1
    refine zW.goto 3347 dL_law_1700 (by decide) ?_
    exact kont _ _ _ _ (M2.wk fun _ _ => trivial)
  · refine zW.iload (pc' := 1685) dL_law_1683 rfl (zgS (zgS (zgS (zgS (zgS (zg0)))))) ?_
    refine zW.if_neN (pc' := 1688) 1700 dL_law_1685 rfl (by decide) (by omega) (fun b9 => ?_) (fun b9 => absurd b9 (by omega))
    refine zW.goto 3347 dL_law_1700 (by decide) ?_
    exact kont _ _ _ _ (M2.wk fun _ _ => trivial)
theorem y_balance {y1 : Int32} {q : Nat × Int32 × sW} (hb : zg_k G b = some (1100, xs)) (hy1 : xs[i + 1]? = some (.int y1)) (hi : i < 200) (M0 : lwM G x o a w w (fun _ => True) S h) (hcl : ∀ U, cReg x 0 [] w h U → zK G mX1_balance 40 R [.ref x, .int y1] h (cOut x U h [eArg] q)) (hml : ∀ h0, zK G mX3_balance 9 0 [.ref a.1, .int y1] (tH h0 a S) (tO h0 a q.1 (.int q.2.1) q.2.2)) (kont : ∀ (h' : zH) (S' : tS) (v5 v6 : Value), lwM G x o a q.2.2 q.2.2 (fun _ => True) S' h' → zW G mL_law 42 r 3347 [.ref b, .ref x, .ref a.1, .ref o, .int (nI i), v5, v6] [] h' Q) {v5 v6 : Value} : zW G mL_law 42 (r + R) 1703 [.ref b, .ref x, .ref a.1, .ref o, .int (nI i), v5, v6] [] h Q := by
  obtain ⟨U, v, ⟨hG, hl⟩, hd, hT, ⟨ho, -⟩, hk⟩ := id M0
  obtain ⟨fs, hx⟩ := hG.cell
  have hbh := M0.scr hb
  refine zW.aload_n (pc' := 1704) dL_law_1703 rfl rfl (zgS (zg0)) rfl ?_
  refine zW.aload_n (pc' := 1705) dL_law_1704 rfl rfl zg0 rfl ?_
  refine zW.iload (pc' := 1707) dL_law_1705 rfl (zgS (zgS (zgS (zgS (zg0))))) ?_
  refine zW.iconst (pc' := 1708) (nI 1) dL_law_1707 rfl (by decide) ?_
  refine zW.iaddN (pc' := 1709) dL_law_1708 rfl ?_
  refine zW.scr (pc' := 1710) dL_law_1709 rfl hbh hy1 (by omega) ?_
  refine zW.aload_n (pc' := 1711) dL_law_1710 rfl rfl (zgS (zgS (zgS (zg0)))) rfl ?_
  refine zW.callSH (r' := R) (pc' := 1714) dL_law_1711 rfl l_X0_270 rfl (x_balance hx ho hd.1 (hcl U hG)) (zcc rfl (zcc rfl (zcc rfl zc0))) rfl (Nat.le_of_ble_eq_true rfl) (Nat.le_of_ble_eq_true rfl) (Nat.le_of_ble_eq_true rfl) ?_ ?_
  rotate_left
  · intro E h9 q9
    cases q9.1
  intro v9 h9 q9
  obtain ⟨e1, q3, g1, g2, v1, ho1, hv1⟩ := q9
  cases e1
  have M1 : lwM G x o a q.2.2 w (fun v => q.1 = 0 → v = q.2.1.toInt64) S h9 := lwM.step hd hT ho hk g1 g2 ⟨ho1, hv1⟩
  have hbh := M1.scr hb
  refine zW.istore (pc' := 1716) dL_law_1714 rfl (Nat.le_of_ble_eq_true rfl) (zsS (zsS (zsS (zsS (zsS (zs0)))))) ?_
  refine zW.aload_n (pc' := 1717) dL_law_1716 rfl rfl (zgS (zgS (zg0))) rfl ?_
  refine zW.aload_n (pc' := 1718) dL_law_1717 rfl rfl zg0 rfl ?_
  refine zW.iload (pc' := 1720) dL_law_1718 rfl (zgS (zgS (zgS (zgS (zg0))))) ?_
  refine zW.iconst (pc' := 1721) (nI 1) dL_law_1720 rfl (by decide) ?_
  refine zW.iaddN (pc' := 1722) dL_law_1721 rfl ?_
  refine zW.scr (pc' := 1723) dL_law_1722 rfl hbh hy1 (by omega) ?_
  refine zW.congr ?_ rfl rfl M1.eq
  refine zT.call (pc' := 1726) dL_law_1723 rfl l_X0_272 rfl rfl (hml _) (zcc rfl zc0) rfl (Nat.le_of_ble_eq_true rfl) (Nat.le_of_ble_eq_true rfl) (Nat.le_of_ble_eq_true rfl) (fun _ T2 ⟨e1, e2, e3⟩ => ?_)
  subst e1
  have M2 := M1.mdl e3
  obtain ⟨v2, ho2, hv2⟩ := M2.out
  refine zW.istore (pc' := 1728) dL_law_1726 rfl (Nat.le_of_ble_eq_true rfl) (zsS (zsS (zsS (zsS (zsS (zsS (zs0))))))) ?_
  refine zW.aload_n (pc' := 1729) dL_law_1728 rfl rfl (zgS (zgS (zg0))) rfl ?_
  refine zT.call (pc' := 1732) dL_law_1729 rfl l_X0_182 rfl rfl w_thrown zc0 rfl (Nat.le_of_ble_eq_true rfl) (Nat.le_of_ble_eq_true rfl) (Nat.le_of_ble_eq_true rfl) (fun _ T3 ⟨e1, e4⟩ => ?_)
  subst e1
  subst e4
  rw [e2]
  refine zW.iload (pc' := 1734) dL_law_1732 rfl (zgS (zgS (zgS (zgS (zgS (zg0)))))) ?_
  refine zW.icmp_eq (pc' := 1737) 1739 dL_law_1734 rfl (by decide) (fun b1 => ?_) (fun b1 => ?_)
  rotate_left
  · exact absurd rfl b1
  by_cases z : q.1 = 0
  · rw [z]
    refine zW.iload (pc' := 1741) dL_law_1739 rfl (zgS (zgS (zgS (zgS (zgS (zg0)))))) ?_
    refine zW.if_neN (pc' := 1744) 1756 dL_law_1741 rfl (by decide) (by omega) (fun b9 => absurd b9 (by omega)) (fun b9 => ?_)
    refine zW.aload_n (pc' := 1745) dL_law_1744 rfl rfl (zgS (zgS (zgS (zg0)))) rfl ?_
    refine zW.iconst (pc' := 1746) (nI 0) dL_law_1745 rfl (by decide) ?_
    refine zW.lald (pc' := 1747) dL_law_1746 rfl ho2 rfl (by decide) rfl ?_
    rw [hv2 z]
    refine zW.iload (pc' := 1749) dL_law_1747 rfl (zgS (zgS (zgS (zgS (zgS (zgS (zg0))))))) ?_
    refine zW.i2l (pc' := 1750) dL_law_1749 rfl ?_
    refine zW.lcmp (pc' := 1751) dL_law_1750 rfl ?_
    rw [zlc]
    refine zW.if_eq (pc' := 1754) 1756 dL_law_1751 rfl (by decide) (fun b1 => ?_) (fun b1 => ?_)
    rotate_left
    · exact absurd rfl b1
    refine zW.goto 3347 dL_law_1756 (by decide) ?_
    exact kont _ _ _ _ (M2.wk fun _ _ => trivial)
  · refine zW.iload (pc' := 1741) dL_law_1739 rfl (zgS (zgS (zgS (zgS (zgS (zg0)))))) ?_
    refine zW.if_neN (pc' := 1744) 1756 dL_law_1741 rfl (by decide) (by omega) (fun b9 => ?_) (fun b9 => absurd b9 (by omega))
    refine zW.goto 3347 dL_law_1756 (by decide) ?_
    exact kont _ _ _ _ (M2.wk fun _ _ => trivial)
theorem y_mostIndebted {q : Nat × Int32 × sW} (hb : zg_k G b = some (1100, xs)) (hi : i < 200) (M0 : lwM G x o a w w (fun _ => True) S h) (hcl : ∀ U, cReg x 0 [] w h U → zK G mX1_mostIndebted 40 R [.ref x] h (cOut x U h [eElt] q)) (hml : ∀ h0, zK G mX3_mostIndebted 9 0 [.ref a.1] (tH h0 a S) (tO h0 a q.1 (.int q.2.1) q.2.2)) (kont : ∀ (h' : zH) (S' : tS) (v5 v6 : Value), lwM G x o a q.2.2 q.2.2 (fun _ => True) S' h' → zW G mL_law 42 r 3347 [.ref b, .ref x, .ref a.1, .ref o, .int (nI i), v5, v6] [] h' Q) {v5 v6 : Value} : zW G mL_law 42 (r + R) 1759 [.ref b, .ref x, .ref a.1, .ref o, .int (nI i), v5, v6] [] h Q := by
  obtain ⟨U, v, ⟨hG, hl⟩, hd, hT, ⟨ho, -⟩, hk⟩ := id M0
  obtain ⟨fs, hx⟩ := hG.cell
  refine zW.aload_n (pc' := 1760) dL_law_1759 rfl rfl (zgS (zg0)) rfl ?_
  refine zW.aload_n (pc' := 1761) dL_law_1760 rfl rfl (zgS (zgS (zgS (zg0)))) rfl ?_
  refine zW.callSH (r' := R) (pc' := 1764) dL_law_1761 rfl l_X0_273 rfl (x_mostIndebted hx ho hd.1 (hcl U hG)) (zcc rfl (zcc rfl zc0)) rfl (Nat.le_of_ble_eq_true rfl) (Nat.le_of_ble_eq_true rfl) (Nat.le_of_ble_eq_true rfl) ?_ ?_
  rotate_left
  · intro E h9 q9
    cases q9.1
  intro v9 h9 q9
  obtain ⟨e1, q3, g1, g2, v1, ho1, hv1⟩ := q9
  cases e1
  have M1 : lwM G x o a q.2.2 w (fun v => q.1 = 0 → v = q.2.1.toInt64) S h9 := lwM.step hd hT ho hk g1 g2 ⟨ho1, hv1⟩
  refine zW.istore (pc' := 1766) dL_law_1764 rfl (Nat.le_of_ble_eq_true rfl) (zsS (zsS (zsS (zsS (zsS (zs0)))))) ?_
  refine zW.aload_n (pc' := 1767) dL_law_1766 rfl rfl (zgS (zgS (zg0))) rfl ?_
  refine zW.congr ?_ rfl rfl M1.eq
  refine zT.call (pc' := 1770) dL_law_1767 rfl l_X0_276 rfl rfl (hml _) zc0 rfl (Nat.le_of_ble_eq_true rfl) (Nat.le_of_ble_eq_true rfl) (Nat.le_of_ble_eq_true rfl) (fun _ T2 ⟨e1, e2, e3⟩ => ?_)
  subst e1
  have M2 := M1.mdl e3
  obtain ⟨v2, ho2, hv2⟩ := M2.out
  refine zW.istore (pc' := 1772) dL_law_1770 rfl (Nat.le_of_ble_eq_true rfl) (zsS (zsS (zsS (zsS (zsS (zsS (zs0))))))) ?_
  refine zW.aload_n (pc' := 1773) dL_law_1772 rfl rfl (zgS (zgS (zg0))) rfl ?_
  refine zT.call (pc' := 1776) dL_law_1773 rfl l_X0_182 rfl rfl w_thrown zc0 rfl (Nat.le_of_ble_eq_true rfl) (Nat.le_of_ble_eq_true rfl) (Nat.le_of_ble_eq_true rfl) (fun _ T3 ⟨e1, e4⟩ => ?_)
  subst e1
  subst e4
  rw [e2]
  refine zW.iload (pc' := 1778) dL_law_1776 rfl (zgS (zgS (zgS (zgS (zgS (zg0)))))) ?_
  refine zW.icmp_eq (pc' := 1781) 1783 dL_law_1778 rfl (by decide) (fun b1 => ?_) (fun b1 => ?_)
  rotate_left
  · exact absurd rfl b1
  by_cases z : q.1 = 0
  · rw [z]
    refine zW.iload (pc' := 1785) dL_law_1783 rfl (zgS (zgS (zgS (zgS (zgS (zg0)))))) ?_
    refine zW.if_neN (pc' := 1788) 1800 dL_law_1785 rfl (by decide) (by omega) (fun b9 => absurd b9 (by omega)) (fun b9 => ?_)
    refine zW.aload_n (pc' := 1789) dL_law_1788 rfl rfl (zgS (zgS (zgS (zg0)))) rfl ?_
    refine zW.iconst (pc' := 1790) (nI 0) dL_law_1789 rfl (by decide) ?_
    refine zW.lald (pc' := 1791) dL_law_1790 rfl ho2 rfl (by decide) rfl ?_
    rw [hv2 z]
    refine zW.iload (pc' := 1793) dL_law_1791 rfl (zgS (zgS (zgS (zgS (zgS (zgS (zg0))))))) ?_
    refine zW.i2l (pc' := 1794) dL_law_1793 rfl ?_
    refine zW.lcmp (pc' := 1795) dL_law_1794 rfl ?_
    rw [zlc]
    refine zW.if_eq (pc' := 1798) 1800 dL_law_1795 rfl (by decide) (fun b1 => ?_) (fun b1 => ?_)
    rotate_left
    · exact absurd rfl b1
    refine zW.goto 3347 dL_law_1800 (by decide) ?_
    exact kont _ _ _ _ (M2.wk fun _ _ => trivial)
  · refine zW.iload (pc' := 1785) dL_law_1783 rfl (zgS (zgS (zgS (zgS (zgS (zg0)))))) ?_
    refine zW.if_neN (pc' := 1788) 1800 dL_law_1785 rfl (by decide) (by omega) (fun b9 => ?_) (fun b9 => absurd b9 (by omega))
    refine zW.goto 3347 dL_law_1800 (by decide) ?_
    exact kont _ _ _ _ (M2.wk fun _ _ => trivial)
theorem y_heaviest {q : Nat × Int32 × sW} (hb : zg_k G b = some (1100, xs)) (hi : i < 200) (M0 : lwM G x o a w w (fun _ => True) S h) (hcl : ∀ U, cReg x 0 [] w h U → zK G mX1_heaviest 40 R [.ref x] h (cOut x U h [eElt] q)) (hml : ∀ h0, zK G mX3_heaviest 9 0 [.ref a.1] (tH h0 a S) (tO h0 a q.1 (.int q.2.1) q.2.2)) (kont : ∀ (h' : zH) (S' : tS) (v5 v6 : Value), lwM G x o a q.2.2 q.2.2 (fun _ => True) S' h' → zW G mL_law 42 r 3347 [.ref b, .ref x, .ref a.1, .ref o, .int (nI i), v5, v6] [] h' Q) {v5 v6 : Value} : zW G mL_law 42 (r + R) 1803 [.ref b, .ref x, .ref a.1, .ref o, .int (nI i), v5, v6] [] h Q := by
  obtain ⟨U, v, ⟨hG, hl⟩, hd, hT, ⟨ho, -⟩, hk⟩ := id M0
  obtain ⟨fs, hx⟩ := hG.cell
  refine zW.aload_n (pc' := 1804) dL_law_1803 rfl rfl (zgS (zg0)) rfl ?_
  refine zW.aload_n (pc' := 1805) dL_law_1804 rfl rfl (zgS (zgS (zgS (zg0)))) rfl ?_
  refine zW.callSH (r' := R) (pc' := 1808) dL_law_1805 rfl l_X0_277 rfl (x_heaviest hx ho hd.1 (hcl U hG)) (zcc rfl (zcc rfl zc0)) rfl (Nat.le_of_ble_eq_true rfl) (Nat.le_of_ble_eq_true rfl) (Nat.le_of_ble_eq_true rfl) ?_ ?_
  rotate_left
  · intro E h9 q9
    cases q9.1
  intro v9 h9 q9
  obtain ⟨e1, q3, g1, g2, v1, ho1, hv1⟩ := q9
  cases e1
  have M1 : lwM G x o a q.2.2 w (fun v => q.1 = 0 → v = q.2.1.toInt64) S h9 := lwM.step hd hT ho hk g1 g2 ⟨ho1, hv1⟩
  refine zW.istore (pc' := 1810) dL_law_1808 rfl (Nat.le_of_ble_eq_true rfl) (zsS (zsS (zsS (zsS (zsS (zs0)))))) ?_
  refine zW.aload_n (pc' := 1811) dL_law_1810 rfl rfl (zgS (zgS (zg0))) rfl ?_
  refine zW.congr ?_ rfl rfl M1.eq
  refine zT.call (pc' := 1814) dL_law_1811 rfl l_X0_279 rfl rfl (hml _) zc0 rfl (Nat.le_of_ble_eq_true rfl) (Nat.le_of_ble_eq_true rfl) (Nat.le_of_ble_eq_true rfl) (fun _ T2 ⟨e1, e2, e3⟩ => ?_)
  subst e1
  have M2 := M1.mdl e3
  obtain ⟨v2, ho2, hv2⟩ := M2.out
  refine zW.istore (pc' := 1816) dL_law_1814 rfl (Nat.le_of_ble_eq_true rfl) (zsS (zsS (zsS (zsS (zsS (zsS (zs0))))))) ?_
  refine zW.aload_n (pc' := 1817) dL_law_1816 rfl rfl (zgS (zgS (zg0))) rfl ?_
  refine zT.call (pc' := 1820) dL_law_1817 rfl l_X0_182 rfl rfl w_thrown zc0 rfl (Nat.le_of_ble_eq_true rfl) (Nat.le_of_ble_eq_true rfl) (Nat.le_of_ble_eq_true rfl) (fun _ T3 ⟨e1, e4⟩ => ?_)
  subst e1
  subst e4
  rw [e2]
  refine zW.iload (pc' := 1822) dL_law_1820 rfl (zgS (zgS (zgS (zgS (zgS (zg0)))))) ?_
  refine zW.icmp_eq (pc' := 1825) 1827 dL_law_1822 rfl (by decide) (fun b1 => ?_) (fun b1 => ?_)
  rotate_left
  · exact absurd rfl b1
  by_cases z : q.1 = 0
  · rw [z]
    refine zW.iload (pc' := 1829) dL_law_1827 rfl (zgS (zgS (zgS (zgS (zgS (zg0)))))) ?_
    refine zW.if_neN (pc' := 1832) 1844 dL_law_1829 rfl (by decide) (by omega) (fun b9 => absurd b9 (by omega)) (fun b9 => ?_)
    refine zW.aload_n (pc' := 1833) dL_law_1832 rfl rfl (zgS (zgS (zgS (zg0)))) rfl ?_
    refine zW.iconst (pc' := 1834) (nI 0) dL_law_1833 rfl (by decide) ?_
    refine zW.lald (pc' := 1835) dL_law_1834 rfl ho2 rfl (by decide) rfl ?_
    rw [hv2 z]
    refine zW.iload (pc' := 1837) dL_law_1835 rfl (zgS (zgS (zgS (zgS (zgS (zgS (zg0))))))) ?_
    refine zW.i2l (pc' := 1838) dL_law_1837 rfl ?_
    refine zW.lcmp (pc' := 1839) dL_law_1838 rfl ?_
    rw [zlc]
    refine zW.if_eq (pc' := 1842) 1844 dL_law_1839 rfl (by decide) (fun b1 => ?_) (fun b1 => ?_)
    rotate_left
    · exact absurd rfl b1
    refine zW.goto 3347 dL_law_1844 (by decide) ?_
    exact kont _ _ _ _ (M2.wk fun _ _ => trivial)
  · refine zW.iload (pc' := 1829) dL_law_1827 rfl (zgS (zgS (zgS (zgS (zgS (zg0)))))) ?_
    refine zW.if_neN (pc' := 1832) 1844 dL_law_1829 rfl (by decide) (by omega) (fun b9 => ?_) (fun b9 => absurd b9 (by omega))
    refine zW.goto 3347 dL_law_1844 (by decide) ?_
    exact kont _ _ _ _ (M2.wk fun _ _ => trivial)
theorem y_nextExpiry {q : Nat × Int32 × sW} (hb : zg_k G b = some (1100, xs)) (hi : i < 200) (M0 : lwM G x o a w w (fun _ => True) S h) (hcl : ∀ U, cReg x 0 [] w h U → zK G mX1_nextExpiry 40 R [.ref x] h (cOut x U h [eElt] q)) (hml : ∀ h0, zK G mX3_nextExpiry 9 0 [.ref a.1] (tH h0 a S) (tO h0 a q.1 (.int q.2.1) q.2.2)) (kont : ∀ (h' : zH) (S' : tS) (v5 v6 : Value), lwM G x o a q.2.2 q.2.2 (fun _ => True) S' h' → zW G mL_law 42 r 3347 [.ref b, .ref x, .ref a.1, .ref o, .int (nI i), v5, v6] [] h' Q) {v5 v6 : Value} : zW G mL_law 42 (r + R) 1847 [.ref b, .ref x, .ref a.1, .ref o, .int (nI i), v5, v6] [] h Q := by
  obtain ⟨U, v, ⟨hG, hl⟩, hd, hT, ⟨ho, -⟩, hk⟩ := id M0
  obtain ⟨fs, hx⟩ := hG.cell
  refine zW.aload_n (pc' := 1848) dL_law_1847 rfl rfl (zgS (zg0)) rfl ?_
  refine zW.aload_n (pc' := 1849) dL_law_1848 rfl rfl (zgS (zgS (zgS (zg0)))) rfl ?_
  refine zW.callSH (r' := R) (pc' := 1852) dL_law_1849 rfl l_X0_280 rfl (x_nextExpiry hx ho hd.1 (hcl U hG)) (zcc rfl (zcc rfl zc0)) rfl (Nat.le_of_ble_eq_true rfl) (Nat.le_of_ble_eq_true rfl) (Nat.le_of_ble_eq_true rfl) ?_ ?_
  rotate_left
  · intro E h9 q9
    cases q9.1
  intro v9 h9 q9
  obtain ⟨e1, q3, g1, g2, v1, ho1, hv1⟩ := q9
  cases e1
  have M1 : lwM G x o a q.2.2 w (fun v => q.1 = 0 → v = q.2.1.toInt64) S h9 := lwM.step hd hT ho hk g1 g2 ⟨ho1, hv1⟩
  refine zW.istore (pc' := 1854) dL_law_1852 rfl (Nat.le_of_ble_eq_true rfl) (zsS (zsS (zsS (zsS (zsS (zs0)))))) ?_
  refine zW.aload_n (pc' := 1855) dL_law_1854 rfl rfl (zgS (zgS (zg0))) rfl ?_
  refine zW.congr ?_ rfl rfl M1.eq
  refine zT.call (pc' := 1858) dL_law_1855 rfl l_X0_282 rfl rfl (hml _) zc0 rfl (Nat.le_of_ble_eq_true rfl) (Nat.le_of_ble_eq_true rfl) (Nat.le_of_ble_eq_true rfl) (fun _ T2 ⟨e1, e2, e3⟩ => ?_)
  subst e1
  have M2 := M1.mdl e3
  obtain ⟨v2, ho2, hv2⟩ := M2.out
  refine zW.istore (pc' := 1860) dL_law_1858 rfl (Nat.le_of_ble_eq_true rfl) (zsS (zsS (zsS (zsS (zsS (zsS (zs0))))))) ?_
  refine zW.aload_n (pc' := 1861) dL_law_1860 rfl rfl (zgS (zgS (zg0))) rfl ?_
  refine zT.call (pc' := 1864) dL_law_1861 rfl l_X0_182 rfl rfl w_thrown zc0 rfl (Nat.le_of_ble_eq_true rfl) (Nat.le_of_ble_eq_true rfl) (Nat.le_of_ble_eq_true rfl) (fun _ T3 ⟨e1, e4⟩ => ?_)
  subst e1
  subst e4
  rw [e2]
  refine zW.iload (pc' := 1866) dL_law_1864 rfl (zgS (zgS (zgS (zgS (zgS (zg0)))))) ?_
  refine zW.icmp_eq (pc' := 1869) 1871 dL_law_1866 rfl (by decide) (fun b1 => ?_) (fun b1 => ?_)
  rotate_left
  · exact absurd rfl b1
  by_cases z : q.1 = 0
  · rw [z]
    refine zW.iload (pc' := 1873) dL_law_1871 rfl (zgS (zgS (zgS (zgS (zgS (zg0)))))) ?_
    refine zW.if_neN (pc' := 1876) 1888 dL_law_1873 rfl (by decide) (by omega) (fun b9 => absurd b9 (by omega)) (fun b9 => ?_)
    refine zW.aload_n (pc' := 1877) dL_law_1876 rfl rfl (zgS (zgS (zgS (zg0)))) rfl ?_
    refine zW.iconst (pc' := 1878) (nI 0) dL_law_1877 rfl (by decide) ?_
    refine zW.lald (pc' := 1879) dL_law_1878 rfl ho2 rfl (by decide) rfl ?_
    rw [hv2 z]
    refine zW.iload (pc' := 1881) dL_law_1879 rfl (zgS (zgS (zgS (zgS (zgS (zgS (zg0))))))) ?_
    refine zW.i2l (pc' := 1882) dL_law_1881 rfl ?_
    refine zW.lcmp (pc' := 1883) dL_law_1882 rfl ?_
    rw [zlc]
    refine zW.if_eq (pc' := 1886) 1888 dL_law_1883 rfl (by decide) (fun b1 => ?_) (fun b1 => ?_)
    rotate_left
    · exact absurd rfl b1
    refine zW.goto 3347 dL_law_1888 (by decide) ?_
    exact kont _ _ _ _ (M2.wk fun _ _ => trivial)
  · refine zW.iload (pc' := 1873) dL_law_1871 rfl (zgS (zgS (zgS (zgS (zgS (zg0)))))) ?_
    refine zW.if_neN (pc' := 1876) 1888 dL_law_1873 rfl (by decide) (by omega) (fun b9 => ?_) (fun b9 => absurd b9 (by omega))
    refine zW.goto 3347 dL_law_1888 (by decide) ?_
    exact kont _ _ _ _ (M2.wk fun _ _ => trivial)
theorem y_nextToAudit {q : Nat × Int32 × sW} (hb : zg_k G b = some (1100, xs)) (hi : i < 200) (M0 : lwM G x o a w w (fun _ => True) S h) (hcl : ∀ U, cReg x 0 [] w h U → zK G mX1_nextToAudit 40 R [.ref x] h (cOut x U h [eElt] q)) (hml : ∀ h0, zK G mX3_nextToAudit 9 0 [.ref a.1] (tH h0 a S) (tO h0 a q.1 (.int q.2.1) q.2.2)) (kont : ∀ (h' : zH) (S' : tS) (v5 v6 : Value), lwM G x o a q.2.2 q.2.2 (fun _ => True) S' h' → zW G mL_law 42 r 3347 [.ref b, .ref x, .ref a.1, .ref o, .int (nI i), v5, v6] [] h' Q) {v5 v6 : Value} : zW G mL_law 42 (r + R) 1891 [.ref b, .ref x, .ref a.1, .ref o, .int (nI i), v5, v6] [] h Q := by
  obtain ⟨U, v, ⟨hG, hl⟩, hd, hT, ⟨ho, -⟩, hk⟩ := id M0
  obtain ⟨fs, hx⟩ := hG.cell
  refine zW.aload_n (pc' := 1892) dL_law_1891 rfl rfl (zgS (zg0)) rfl ?_
  refine zW.aload_n (pc' := 1893) dL_law_1892 rfl rfl (zgS (zgS (zgS (zg0)))) rfl ?_
  refine zW.callSH (r' := R) (pc' := 1896) dL_law_1893 rfl l_X0_283 rfl (x_nextToAudit hx ho hd.1 (hcl U hG)) (zcc rfl (zcc rfl zc0)) rfl (Nat.le_of_ble_eq_true rfl) (Nat.le_of_ble_eq_true rfl) (Nat.le_of_ble_eq_true rfl) ?_ ?_
  rotate_left
  · intro E h9 q9
    cases q9.1
  intro v9 h9 q9
  obtain ⟨e1, q3, g1, g2, v1, ho1, hv1⟩ := q9
  cases e1
  have M1 : lwM G x o a q.2.2 w (fun v => q.1 = 0 → v = q.2.1.toInt64) S h9 := lwM.step hd hT ho hk g1 g2 ⟨ho1, hv1⟩
  refine zW.istore (pc' := 1898) dL_law_1896 rfl (Nat.le_of_ble_eq_true rfl) (zsS (zsS (zsS (zsS (zsS (zs0)))))) ?_
  refine zW.aload_n (pc' := 1899) dL_law_1898 rfl rfl (zgS (zgS (zg0))) rfl ?_
  refine zW.congr ?_ rfl rfl M1.eq
  refine zT.call (pc' := 1902) dL_law_1899 rfl l_X0_285 rfl rfl (hml _) zc0 rfl (Nat.le_of_ble_eq_true rfl) (Nat.le_of_ble_eq_true rfl) (Nat.le_of_ble_eq_true rfl) (fun _ T2 ⟨e1, e2, e3⟩ => ?_)
  subst e1
  have M2 := M1.mdl e3
  obtain ⟨v2, ho2, hv2⟩ := M2.out
  refine zW.istore (pc' := 1904) dL_law_1902 rfl (Nat.le_of_ble_eq_true rfl) (zsS (zsS (zsS (zsS (zsS (zsS (zs0))))))) ?_
  refine zW.aload_n (pc' := 1905) dL_law_1904 rfl rfl (zgS (zgS (zg0))) rfl ?_
  refine zT.call (pc' := 1908) dL_law_1905 rfl l_X0_182 rfl rfl w_thrown zc0 rfl (Nat.le_of_ble_eq_true rfl) (Nat.le_of_ble_eq_true rfl) (Nat.le_of_ble_eq_true rfl) (fun _ T3 ⟨e1, e4⟩ => ?_)
  subst e1
  subst e4
  rw [e2]
  refine zW.iload (pc' := 1910) dL_law_1908 rfl (zgS (zgS (zgS (zgS (zgS (zg0)))))) ?_
  refine zW.icmp_eq (pc' := 1913) 1915 dL_law_1910 rfl (by decide) (fun b1 => ?_) (fun b1 => ?_)
  rotate_left
  · exact absurd rfl b1
  by_cases z : q.1 = 0
  · rw [z]
    refine zW.iload (pc' := 1917) dL_law_1915 rfl (zgS (zgS (zgS (zgS (zgS (zg0)))))) ?_
    refine zW.if_neN (pc' := 1920) 1932 dL_law_1917 rfl (by decide) (by omega) (fun b9 => absurd b9 (by omega)) (fun b9 => ?_)
    refine zW.aload_n (pc' := 1921) dL_law_1920 rfl rfl (zgS (zgS (zgS (zg0)))) rfl ?_
    refine zW.iconst (pc' := 1922) (nI 0) dL_law_1921 rfl (by decide) ?_
    refine zW.lald (pc' := 1923) dL_law_1922 rfl ho2 rfl (by decide) rfl ?_
    rw [hv2 z]
    refine zW.iload (pc' := 1925) dL_law_1923 rfl (zgS (zgS (zgS (zgS (zgS (zgS (zg0))))))) ?_
    refine zW.i2l (pc' := 1926) dL_law_1925 rfl ?_
    refine zW.lcmp (pc' := 1927) dL_law_1926 rfl ?_
    rw [zlc]
    refine zW.if_eq (pc' := 1930) 1932 dL_law_1927 rfl (by decide) (fun b1 => ?_) (fun b1 => ?_)
    rotate_left
    · exact absurd rfl b1
    refine zW.goto 3347 dL_law_1932 (by decide) ?_
    exact kont _ _ _ _ (M2.wk fun _ _ => trivial)
  · refine zW.iload (pc' := 1917) dL_law_1915 rfl (zgS (zgS (zgS (zgS (zgS (zg0)))))) ?_
    refine zW.if_neN (pc' := 1920) 1932 dL_law_1917 rfl (by decide) (by omega) (fun b9 => ?_) (fun b9 => absurd b9 (by omega))
    refine zW.goto 3347 dL_law_1932 (by decide) ?_
    exact kont _ _ _ _ (M2.wk fun _ _ => trivial)
end
