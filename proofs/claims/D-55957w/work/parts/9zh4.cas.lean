/-! THE LAW: its cases (printed by mk9zh.py) -/
section
set_option maxRecDepth 100000
variable {G : zG} {h : zH} {Q : zR → zH → Prop} {x o b i R r : Nat} {a : tA} {w : sW} {S : tS} {xs : List Value} {lv : Int64}
theorem y_auditPosition {y1 : Int32} {q : Nat × Int32 × sW} (hb : zg_k G b = some (1100, xs)) (hy1 : xs[i + 1]? = some (.int y1)) (hi : i < 200) (M0 : lwM G x o a w w (fun _ => True) S h) (hcl : ∀ U, cReg x 0 [] w h U → zK G mX1_auditPosition 40 R [.ref x, .int y1] h (cOut x U h [eElt] q)) (hml : ∀ h0, zK G mX3_auditPosition 9 0 [.ref a.1, .int y1] (tH h0 a S) (tO h0 a q.1 (.int q.2.1) q.2.2)) (kont : ∀ (h' : zH) (S' : tS) (v5 v6 : Value), lwM G x o a q.2.2 q.2.2 (fun _ => True) S' h' → zW G mL_law 42 r 3347 [.ref b, .ref x, .ref a.1, .ref o, .int (nI i), v5, v6] [] h' Q) {v5 v6 : Value} : zW G mL_law 42 (r + R) 1935 [.ref b, .ref x, .ref a.1, .ref o, .int (nI i), v5, v6] [] h Q := by
  obtain ⟨U, v, ⟨hG, hl⟩, hd, hT, ⟨ho, -⟩, hk⟩ := id M0
  obtain ⟨fs, hx⟩ := hG.cell
  have hbh := M0.scr hb
  refine zW.aload_n (pc' := 1936) dL_law_1935 rfl rfl (zgS (zg0)) rfl ?_
  refine zW.aload_n (pc' := 1937) dL_law_1936 rfl rfl zg0 rfl ?_
  refine zW.iload (pc' := 1939) dL_law_1937 rfl (zgS (zgS (zgS (zgS (zg0))))) ?_
  refine zW.iconst (pc' := 1940) (nI 1) dL_law_1939 rfl (by decide) ?_
  refine zW.iaddN (pc' := 1941) dL_law_1940 rfl ?_
  refine zW.scr (pc' := 1942) dL_law_1941 rfl hbh hy1 (by omega) ?_
  refine zW.aload_n (pc' := 1943) dL_law_1942 rfl rfl (zgS (zgS (zgS (zg0)))) rfl ?_
  refine zW.callSH (r' := R) (pc' := 1946) dL_law_1943 rfl l_X0_286 rfl (x_auditPosition hx ho hd.1 (hcl U hG)) (zcc rfl (zcc rfl (zcc rfl zc0))) rfl (Nat.le_of_ble_eq_true rfl) (Nat.le_of_ble_eq_true rfl) (Nat.le_of_ble_eq_true rfl) ?_ ?_
  rotate_left
  · intro E h9 q9
    cases q9.1
  intro v9 h9 q9
  obtain ⟨e1, q3, g1, g2, v1, ho1, hv1⟩ := q9
  cases e1
  have M1 : lwM G x o a q.2.2 w (fun v => q.1 = 0 → v = q.2.1.toInt64) S h9 := lwM.step hd hT ho hk g1 g2 ⟨ho1, hv1⟩
  have hbh := M1.scr hb
  refine zW.istore (pc' := 1948) dL_law_1946 rfl (Nat.le_of_ble_eq_true rfl) (zsS (zsS (zsS (zsS (zsS (zs0)))))) ?_
  refine zW.aload_n (pc' := 1949) dL_law_1948 rfl rfl (zgS (zgS (zg0))) rfl ?_
  refine zW.aload_n (pc' := 1950) dL_law_1949 rfl rfl zg0 rfl ?_
  refine zW.iload (pc' := 1952) dL_law_1950 rfl (zgS (zgS (zgS (zgS (zg0))))) ?_
  refine zW.iconst (pc' := 1953) (nI 1) dL_law_1952 rfl (by decide) ?_
  refine zW.iaddN (pc' := 1954) dL_law_1953 rfl ?_
  refine zW.scr (pc' := 1955) dL_law_1954 rfl hbh hy1 (by omega) ?_
  refine zW.congr ?_ rfl rfl M1.eq
  refine zT.call (pc' := 1958) dL_law_1955 rfl l_X0_288 rfl rfl (hml _) (zcc rfl zc0) rfl (Nat.le_of_ble_eq_true rfl) (Nat.le_of_ble_eq_true rfl) (Nat.le_of_ble_eq_true rfl) (fun _ T2 ⟨e1, e2, e3⟩ => ?_)
  subst e1
  have M2 := M1.mdl e3
  obtain ⟨v2, ho2, hv2⟩ := M2.out
  refine zW.istore (pc' := 1960) dL_law_1958 rfl (Nat.le_of_ble_eq_true rfl) (zsS (zsS (zsS (zsS (zsS (zsS (zs0))))))) ?_
  refine zW.aload_n (pc' := 1961) dL_law_1960 rfl rfl (zgS (zgS (zg0))) rfl ?_
  refine zT.call (pc' := 1964) dL_law_1961 rfl l_X0_182 rfl rfl w_thrown zc0 rfl (Nat.le_of_ble_eq_true rfl) (Nat.le_of_ble_eq_true rfl) (Nat.le_of_ble_eq_true rfl) (fun _ T3 ⟨e1, e4⟩ => ?_)
  subst e1
  subst e4
  rw [e2]
  refine zW.iload (pc' := 1966) dL_law_1964 rfl (zgS (zgS (zgS (zgS (zgS (zg0)))))) ?_
  refine zW.icmp_eq (pc' := 1969) 1971 dL_law_1966 rfl (by decide) (fun b1 => ?_) (fun b1 => ?_)
  rotate_left
  · exact absurd rfl b1
  by_cases z : q.1 = 0
  · rw [z]
    refine zW.iload (pc' := 1973) dL_law_1971 rfl (zgS (zgS (zgS (zgS (zgS (zg0)))))) ?_
    refine zW.if_neN (pc' := 1976) 1988 dL_law_1973 rfl (by decide) (by omega) (fun b9 => absurd b9 (by omega)) (fun b9 => ?_)
    refine zW.aload_n (pc' := 1977) dL_law_1976 rfl rfl (zgS (zgS (zgS (zg0)))) rfl ?_
    refine zW.iconst (pc' := 1978) (nI 0) dL_law_1977 rfl (by decide) ?_
    refine zW.lald (pc' := 1979) dL_law_1978 rfl ho2 rfl (by decide) rfl ?_
    rw [hv2 z]
    refine zW.iload (pc' := 1981) dL_law_1979 rfl (zgS (zgS (zgS (zgS (zgS (zgS (zg0))))))) ?_
    refine zW.i2l (pc' := 1982) dL_law_1981 rfl ?_
    refine zW.lcmp (pc' := 1983) dL_law_1982 rfl ?_
    rw [zlc]
    refine zW.if_eq (pc' := 1986) 1988 dL_law_1983 rfl (by decide) (fun b1 => ?_) (fun b1 => ?_)
    rotate_left
    · exact absurd rfl b1
    refine zW.goto 3347 dL_law_1988 (by decide) ?_
    exact kont _ _ _ _ (M2.wk fun _ _ => trivial)
  · refine zW.iload (pc' := 1973) dL_law_1971 rfl (zgS (zgS (zgS (zgS (zgS (zg0)))))) ?_
    refine zW.if_neN (pc' := 1976) 1988 dL_law_1973 rfl (by decide) (by omega) (fun b9 => ?_) (fun b9 => absurd b9 (by omega))
    refine zW.goto 3347 dL_law_1988 (by decide) ?_
    exact kont _ _ _ _ (M2.wk fun _ _ => trivial)
theorem y_owes {y1 : Int32} {y2 : Int32} {q : Nat × Int32 × sW} (hb : zg_k G b = some (1100, xs)) (hy1 : xs[i + 1]? = some (.int y1)) (hy2 : xs[i + 2]? = some (.int y2)) (hi : i < 200) (M0 : lwM G x o a w w (fun _ => True) S h) (hcl : ∀ U, cReg x 0 [] w h U → zK G mX1_owes 40 R [.ref x, .int y1, .int y2] h (cOut x U h [eArg] q)) (hml : ∀ h0, zK G mX3_owes 9 0 [.ref a.1, .int y1, .int y2] (tH h0 a S) (tO h0 a q.1 (.int q.2.1) q.2.2)) (h01 : q.1 = 0 → q.2.1 = nI 0 ∨ q.2.1 = nI 1) (kont : ∀ (h' : zH) (S' : tS) (v5 v6 : Value), lwM G x o a q.2.2 q.2.2 (fun _ => True) S' h' → zW G mL_law 42 r 3347 [.ref b, .ref x, .ref a.1, .ref o, .int (nI i), v5, v6] [] h' Q) {v5 v6 : Value} : zW G mL_law 42 (r + R) 1991 [.ref b, .ref x, .ref a.1, .ref o, .int (nI i), v5, v6] [] h Q := by
  obtain ⟨U, v, ⟨hG, hl⟩, hd, hT, ⟨ho, -⟩, hk⟩ := id M0
  obtain ⟨fs, hx⟩ := hG.cell
  have hbh := M0.scr hb
  refine zW.aload_n (pc' := 1992) dL_law_1991 rfl rfl (zgS (zg0)) rfl ?_
  refine zW.aload_n (pc' := 1993) dL_law_1992 rfl rfl zg0 rfl ?_
  refine zW.iload (pc' := 1995) dL_law_1993 rfl (zgS (zgS (zgS (zgS (zg0))))) ?_
  refine zW.iconst (pc' := 1996) (nI 1) dL_law_1995 rfl (by decide) ?_
  refine zW.iaddN (pc' := 1997) dL_law_1996 rfl ?_
  refine zW.scr (pc' := 1998) dL_law_1997 rfl hbh hy1 (by omega) ?_
  refine zW.aload_n (pc' := 1999) dL_law_1998 rfl rfl zg0 rfl ?_
  refine zW.iload (pc' := 2001) dL_law_1999 rfl (zgS (zgS (zgS (zgS (zg0))))) ?_
  refine zW.iconst (pc' := 2002) (nI 2) dL_law_2001 rfl (by decide) ?_
  refine zW.iaddN (pc' := 2003) dL_law_2002 rfl ?_
  refine zW.scr (pc' := 2004) dL_law_2003 rfl hbh hy2 (by omega) ?_
  refine zW.aload_n (pc' := 2005) dL_law_2004 rfl rfl (zgS (zgS (zgS (zg0)))) rfl ?_
  refine zW.callSH (r' := R) (pc' := 2008) dL_law_2005 rfl l_X0_289 rfl (x_owes hx ho hd.1 h01 (hcl U hG)) (zcc rfl (zcc rfl (zcc rfl (zcc rfl zc0)))) rfl (Nat.le_of_ble_eq_true rfl) (Nat.le_of_ble_eq_true rfl) (Nat.le_of_ble_eq_true rfl) ?_ ?_
  rotate_left
  · intro E h9 q9
    cases q9.1
  intro v9 h9 q9
  obtain ⟨e1, q3, g1, g2, v1, ho1, hv1⟩ := q9
  cases e1
  have M1 : lwM G x o a q.2.2 w (fun v => q.1 = 0 → v = q.2.1.toInt64) S h9 := lwM.step hd hT ho hk g1 g2 ⟨ho1, hv1⟩
  have hbh := M1.scr hb
  refine zW.istore (pc' := 2010) dL_law_2008 rfl (Nat.le_of_ble_eq_true rfl) (zsS (zsS (zsS (zsS (zsS (zs0)))))) ?_
  refine zW.aload_n (pc' := 2011) dL_law_2010 rfl rfl (zgS (zgS (zg0))) rfl ?_
  refine zW.aload_n (pc' := 2012) dL_law_2011 rfl rfl zg0 rfl ?_
  refine zW.iload (pc' := 2014) dL_law_2012 rfl (zgS (zgS (zgS (zgS (zg0))))) ?_
  refine zW.iconst (pc' := 2015) (nI 1) dL_law_2014 rfl (by decide) ?_
  refine zW.iaddN (pc' := 2016) dL_law_2015 rfl ?_
  refine zW.scr (pc' := 2017) dL_law_2016 rfl hbh hy1 (by omega) ?_
  refine zW.aload_n (pc' := 2018) dL_law_2017 rfl rfl zg0 rfl ?_
  refine zW.iload (pc' := 2020) dL_law_2018 rfl (zgS (zgS (zgS (zgS (zg0))))) ?_
  refine zW.iconst (pc' := 2021) (nI 2) dL_law_2020 rfl (by decide) ?_
  refine zW.iaddN (pc' := 2022) dL_law_2021 rfl ?_
  refine zW.scr (pc' := 2023) dL_law_2022 rfl hbh hy2 (by omega) ?_
  refine zW.congr ?_ rfl rfl M1.eq
  refine zT.call (pc' := 2026) dL_law_2023 rfl l_X0_291 rfl rfl (hml _) (zcc rfl (zcc rfl zc0)) rfl (Nat.le_of_ble_eq_true rfl) (Nat.le_of_ble_eq_true rfl) (Nat.le_of_ble_eq_true rfl) (fun _ T2 ⟨e1, e2, e3⟩ => ?_)
  subst e1
  have M2 := M1.mdl e3
  obtain ⟨v2, ho2, hv2⟩ := M2.out
  refine zW.istore (pc' := 2028) dL_law_2026 rfl (Nat.le_of_ble_eq_true rfl) (zsS (zsS (zsS (zsS (zsS (zsS (zs0))))))) ?_
  refine zW.aload_n (pc' := 2029) dL_law_2028 rfl rfl (zgS (zgS (zg0))) rfl ?_
  refine zT.call (pc' := 2032) dL_law_2029 rfl l_X0_182 rfl rfl w_thrown zc0 rfl (Nat.le_of_ble_eq_true rfl) (Nat.le_of_ble_eq_true rfl) (Nat.le_of_ble_eq_true rfl) (fun _ T3 ⟨e1, e4⟩ => ?_)
  subst e1
  subst e4
  rw [e2]
  refine zW.iload (pc' := 2034) dL_law_2032 rfl (zgS (zgS (zgS (zgS (zgS (zg0)))))) ?_
  refine zW.icmp_eq (pc' := 2037) 2039 dL_law_2034 rfl (by decide) (fun b1 => ?_) (fun b1 => ?_)
  rotate_left
  · exact absurd rfl b1
  by_cases z : q.1 = 0
  · rw [z]
    refine zW.iload (pc' := 2041) dL_law_2039 rfl (zgS (zgS (zgS (zgS (zgS (zg0)))))) ?_
    refine zW.if_neN (pc' := 2044) 2063 dL_law_2041 rfl (by decide) (by omega) (fun b9 => absurd b9 (by omega)) (fun b9 => ?_)
    refine zW.aload_n (pc' := 2045) dL_law_2044 rfl rfl (zgS (zgS (zgS (zg0)))) rfl ?_
    refine zW.iconst (pc' := 2046) (nI 0) dL_law_2045 rfl (by decide) ?_
    refine zW.lald (pc' := 2047) dL_law_2046 rfl ho2 rfl (by decide) rfl ?_
    rcases h01 z with e5 | e5
    · rw [hv2 z, e5, show (nI 0).toInt64 = 0 by decide]
      refine zW.iload (pc' := 2049) dL_law_2047 rfl (zgS (zgS (zgS (zgS (zgS (zgS (zg0))))))) ?_
      refine zW.if_eqN (pc' := 2052) 2056 dL_law_2049 rfl (by decide) (by omega) (fun b9 => ?_) (fun b9 => absurd b9 (by omega))
      refine zW.lconst (pc' := 2057) 0 dL_law_2056 rfl (by decide) ?_
      refine zW.lcmp (pc' := 2058) dL_law_2057 rfl ?_
      rw [zlc]
      refine zW.if_eq (pc' := 2061) 2063 dL_law_2058 rfl (by decide) (fun b1 => ?_) (fun b1 => ?_)
      rotate_left
      · exact absurd rfl b1
      refine zW.goto 3347 dL_law_2063 (by decide) ?_
      exact kont _ _ _ _ (M2.wk fun _ _ => trivial)
    · rw [hv2 z, e5, show (nI 1).toInt64 = 1 by decide]
      refine zW.iload (pc' := 2049) dL_law_2047 rfl (zgS (zgS (zgS (zgS (zgS (zgS (zg0))))))) ?_
      refine zW.if_eqN (pc' := 2052) 2056 dL_law_2049 rfl (by decide) (by omega) (fun b9 => absurd b9 (by omega)) (fun b9 => ?_)
      refine zW.lconst (pc' := 2053) 1 dL_law_2052 rfl (by decide) ?_
      refine zW.goto 2057 dL_law_2053 (by decide) ?_
      refine zW.lcmp (pc' := 2058) dL_law_2057 rfl ?_
      rw [zlc]
      refine zW.if_eq (pc' := 2061) 2063 dL_law_2058 rfl (by decide) (fun b1 => ?_) (fun b1 => ?_)
      rotate_left
      · exact absurd rfl b1
      refine zW.goto 3347 dL_law_2063 (by decide) ?_
      exact kont _ _ _ _ (M2.wk fun _ _ => trivial)
  · refine zW.iload (pc' := 2041) dL_law_2039 rfl (zgS (zgS (zgS (zgS (zgS (zg0)))))) ?_
    refine zW.if_neN (pc' := 2044) 2063 dL_law_2041 rfl (by decide) (by omega) (fun b9 => ?_) (fun b9 => absurd b9 (by omega))
    refine zW.goto 3347 dL_law_2063 (by decide) ?_
    exact kont _ _ _ _ (M2.wk fun _ _ => trivial)
theorem y_pairBalance {y1 : Int32} {y2 : Int32} {q : Nat × Int32 × sW} (hb : zg_k G b = some (1100, xs)) (hy1 : xs[i + 1]? = some (.int y1)) (hy2 : xs[i + 2]? = some (.int y2)) (hi : i < 200) (M0 : lwM G x o a w w (fun _ => True) S h) (hcl : ∀ U, cReg x 0 [] w h U → zK G mX1_pairBalance 40 R [.ref x, .int y1, .int y2] h (cOut x U h [eArg] q)) (hml : ∀ h0, zK G mX3_pairBalance 9 0 [.ref a.1, .int y1, .int y2] (tH h0 a S) (tO h0 a q.1 (.int q.2.1) q.2.2)) (kont : ∀ (h' : zH) (S' : tS) (v5 v6 : Value), lwM G x o a q.2.2 q.2.2 (fun _ => True) S' h' → zW G mL_law 42 r 3347 [.ref b, .ref x, .ref a.1, .ref o, .int (nI i), v5, v6] [] h' Q) {v5 v6 : Value} : zW G mL_law 42 (r + R) 2066 [.ref b, .ref x, .ref a.1, .ref o, .int (nI i), v5, v6] [] h Q := by
  obtain ⟨U, v, ⟨hG, hl⟩, hd, hT, ⟨ho, -⟩, hk⟩ := id M0
  obtain ⟨fs, hx⟩ := hG.cell
  have hbh := M0.scr hb
  refine zW.aload_n (pc' := 2067) dL_law_2066 rfl rfl (zgS (zg0)) rfl ?_
  refine zW.aload_n (pc' := 2068) dL_law_2067 rfl rfl zg0 rfl ?_
  refine zW.iload (pc' := 2070) dL_law_2068 rfl (zgS (zgS (zgS (zgS (zg0))))) ?_
  refine zW.iconst (pc' := 2071) (nI 1) dL_law_2070 rfl (by decide) ?_
  refine zW.iaddN (pc' := 2072) dL_law_2071 rfl ?_
  refine zW.scr (pc' := 2073) dL_law_2072 rfl hbh hy1 (by omega) ?_
  refine zW.aload_n (pc' := 2074) dL_law_2073 rfl rfl zg0 rfl ?_
  refine zW.iload (pc' := 2076) dL_law_2074 rfl (zgS (zgS (zgS (zgS (zg0))))) ?_
  refine zW.iconst (pc' := 2077) (nI 2) dL_law_2076 rfl (by decide) ?_
  refine zW.iaddN (pc' := 2078) dL_law_2077 rfl ?_
  refine zW.scr (pc' := 2079) dL_law_2078 rfl hbh hy2 (by omega) ?_
  refine zW.aload_n (pc' := 2080) dL_law_2079 rfl rfl (zgS (zgS (zgS (zg0)))) rfl ?_
  refine zW.callSH (r' := R) (pc' := 2083) dL_law_2080 rfl l_X0_292 rfl (x_pairBalance hx ho hd.1 (hcl U hG)) (zcc rfl (zcc rfl (zcc rfl (zcc rfl zc0)))) rfl (Nat.le_of_ble_eq_true rfl) (Nat.le_of_ble_eq_true rfl) (Nat.le_of_ble_eq_true rfl) ?_ ?_
  rotate_left
  · intro E h9 q9
    cases q9.1
  intro v9 h9 q9
  obtain ⟨e1, q3, g1, g2, v1, ho1, hv1⟩ := q9
  cases e1
  have M1 : lwM G x o a q.2.2 w (fun v => q.1 = 0 → v = q.2.1.toInt64) S h9 := lwM.step hd hT ho hk g1 g2 ⟨ho1, hv1⟩
  have hbh := M1.scr hb
  refine zW.istore (pc' := 2085) dL_law_2083 rfl (Nat.le_of_ble_eq_true rfl) (zsS (zsS (zsS (zsS (zsS (zs0)))))) ?_
  refine zW.aload_n (pc' := 2086) dL_law_2085 rfl rfl (zgS (zgS (zg0))) rfl ?_
  refine zW.aload_n (pc' := 2087) dL_law_2086 rfl rfl zg0 rfl ?_
  refine zW.iload (pc' := 2089) dL_law_2087 rfl (zgS (zgS (zgS (zgS (zg0))))) ?_
  refine zW.iconst (pc' := 2090) (nI 1) dL_law_2089 rfl (by decide) ?_
  refine zW.iaddN (pc' := 2091) dL_law_2090 rfl ?_
  refine zW.scr (pc' := 2092) dL_law_2091 rfl hbh hy1 (by omega) ?_
  refine zW.aload_n (pc' := 2093) dL_law_2092 rfl rfl zg0 rfl ?_
  refine zW.iload (pc' := 2095) dL_law_2093 rfl (zgS (zgS (zgS (zgS (zg0))))) ?_
  refine zW.iconst (pc' := 2096) (nI 2) dL_law_2095 rfl (by decide) ?_
  refine zW.iaddN (pc' := 2097) dL_law_2096 rfl ?_
  refine zW.scr (pc' := 2098) dL_law_2097 rfl hbh hy2 (by omega) ?_
  refine zW.congr ?_ rfl rfl M1.eq
  refine zT.call (pc' := 2101) dL_law_2098 rfl l_X0_294 rfl rfl (hml _) (zcc rfl (zcc rfl zc0)) rfl (Nat.le_of_ble_eq_true rfl) (Nat.le_of_ble_eq_true rfl) (Nat.le_of_ble_eq_true rfl) (fun _ T2 ⟨e1, e2, e3⟩ => ?_)
  subst e1
  have M2 := M1.mdl e3
  obtain ⟨v2, ho2, hv2⟩ := M2.out
  refine zW.istore (pc' := 2103) dL_law_2101 rfl (Nat.le_of_ble_eq_true rfl) (zsS (zsS (zsS (zsS (zsS (zsS (zs0))))))) ?_
  refine zW.aload_n (pc' := 2104) dL_law_2103 rfl rfl (zgS (zgS (zg0))) rfl ?_
  refine zT.call (pc' := 2107) dL_law_2104 rfl l_X0_182 rfl rfl w_thrown zc0 rfl (Nat.le_of_ble_eq_true rfl) (Nat.le_of_ble_eq_true rfl) (Nat.le_of_ble_eq_true rfl) (fun _ T3 ⟨e1, e4⟩ => ?_)
  subst e1
  subst e4
  rw [e2]
  refine zW.iload (pc' := 2109) dL_law_2107 rfl (zgS (zgS (zgS (zgS (zgS (zg0)))))) ?_
  refine zW.icmp_eq (pc' := 2112) 2114 dL_law_2109 rfl (by decide) (fun b1 => ?_) (fun b1 => ?_)
  rotate_left
  · exact absurd rfl b1
  by_cases z : q.1 = 0
  · rw [z]
    refine zW.iload (pc' := 2116) dL_law_2114 rfl (zgS (zgS (zgS (zgS (zgS (zg0)))))) ?_
    refine zW.if_neN (pc' := 2119) 2131 dL_law_2116 rfl (by decide) (by omega) (fun b9 => absurd b9 (by omega)) (fun b9 => ?_)
    refine zW.aload_n (pc' := 2120) dL_law_2119 rfl rfl (zgS (zgS (zgS (zg0)))) rfl ?_
    refine zW.iconst (pc' := 2121) (nI 0) dL_law_2120 rfl (by decide) ?_
    refine zW.lald (pc' := 2122) dL_law_2121 rfl ho2 rfl (by decide) rfl ?_
    rw [hv2 z]
    refine zW.iload (pc' := 2124) dL_law_2122 rfl (zgS (zgS (zgS (zgS (zgS (zgS (zg0))))))) ?_
    refine zW.i2l (pc' := 2125) dL_law_2124 rfl ?_
    refine zW.lcmp (pc' := 2126) dL_law_2125 rfl ?_
    rw [zlc]
    refine zW.if_eq (pc' := 2129) 2131 dL_law_2126 rfl (by decide) (fun b1 => ?_) (fun b1 => ?_)
    rotate_left
    · exact absurd rfl b1
    refine zW.goto 3347 dL_law_2131 (by decide) ?_
    exact kont _ _ _ _ (M2.wk fun _ _ => trivial)
  · refine zW.iload (pc' := 2116) dL_law_2114 rfl (zgS (zgS (zgS (zgS (zgS (zg0)))))) ?_
    refine zW.if_neN (pc' := 2119) 2131 dL_law_2116 rfl (by decide) (by omega) (fun b9 => ?_) (fun b9 => absurd b9 (by omega))
    refine zW.goto 3347 dL_law_2131 (by decide) ?_
    exact kont _ _ _ _ (M2.wk fun _ _ => trivial)
theorem y_chainLength {y1 : Int32} {y2 : Int32} {q : Nat × Int32 × sW} (hb : zg_k G b = some (1100, xs)) (hy1 : xs[i + 1]? = some (.int y1)) (hy2 : xs[i + 2]? = some (.int y2)) (hi : i < 200) (M0 : lwM G x o a w w (fun _ => True) S h) (hcl : ∀ U, cReg x 0 [] w h U → zK G mX1_chainLength 40 R [.ref x, .int y1, .int y2] h (cOut x U h [eArg, eElt] q)) (hml : ∀ h0, zK G mX3_chainLength 9 0 [.ref a.1, .int y1, .int y2] (tH h0 a S) (tO h0 a q.1 (.int q.2.1) q.2.2)) (kont : ∀ (h' : zH) (S' : tS) (v5 v6 : Value), lwM G x o a q.2.2 q.2.2 (fun _ => True) S' h' → zW G mL_law 42 r 3347 [.ref b, .ref x, .ref a.1, .ref o, .int (nI i), v5, v6] [] h' Q) {v5 v6 : Value} : zW G mL_law 42 (r + R) 2134 [.ref b, .ref x, .ref a.1, .ref o, .int (nI i), v5, v6] [] h Q := by
  obtain ⟨U, v, ⟨hG, hl⟩, hd, hT, ⟨ho, -⟩, hk⟩ := id M0
  obtain ⟨fs, hx⟩ := hG.cell
  have hbh := M0.scr hb
  refine zW.aload_n (pc' := 2135) dL_law_2134 rfl rfl (zgS (zg0)) rfl ?_
  refine zW.aload_n (pc' := 2136) dL_law_2135 rfl rfl zg0 rfl ?_
  refine zW.iload (pc' := 2138) dL_law_2136 rfl (zgS (zgS (zgS (zgS (zg0))))) ?_
  refine zW.iconst (pc' := 2139) (nI 1) dL_law_2138 rfl (by decide) ?_
  refine zW.iaddN (pc' := 2140) dL_law_2139 rfl ?_
  refine zW.scr (pc' := 2141) dL_law_2140 rfl hbh hy1 (by omega) ?_
  refine zW.aload_n (pc' := 2142) dL_law_2141 rfl rfl zg0 rfl ?_
  refine zW.iload (pc' := 2144) dL_law_2142 rfl (zgS (zgS (zgS (zgS (zg0))))) ?_
  refine zW.iconst (pc' := 2145) (nI 2) dL_law_2144 rfl (by decide) ?_
  refine zW.iaddN (pc' := 2146) dL_law_2145 rfl ?_
  refine zW.scr (pc' := 2147) dL_law_2146 rfl hbh hy2 (by omega) ?_
  refine zW.aload_n (pc' := 2148) dL_law_2147 rfl rfl (zgS (zgS (zgS (zg0)))) rfl ?_
  refine zW.callSH (r' := R) (pc' := 2151) dL_law_2148 rfl l_X0_295 rfl (x_chainLength hx ho hd.1 (hcl U hG)) (zcc rfl (zcc rfl (zcc rfl (zcc rfl zc0)))) rfl (Nat.le_of_ble_eq_true rfl) (Nat.le_of_ble_eq_true rfl) (Nat.le_of_ble_eq_true rfl) ?_ ?_
  rotate_left
  · intro E h9 q9
    cases q9.1
  intro v9 h9 q9
  obtain ⟨e1, q3, g1, g2, v1, ho1, hv1⟩ := q9
  cases e1
  have M1 : lwM G x o a q.2.2 w (fun v => q.1 = 0 → v = q.2.1.toInt64) S h9 := lwM.step hd hT ho hk g1 g2 ⟨ho1, hv1⟩
  have hbh := M1.scr hb
  refine zW.istore (pc' := 2153) dL_law_2151 rfl (Nat.le_of_ble_eq_true rfl) (zsS (zsS (zsS (zsS (zsS (zs0)))))) ?_
  refine zW.aload_n (pc' := 2154) dL_law_2153 rfl rfl (zgS (zgS (zg0))) rfl ?_
  refine zW.aload_n (pc' := 2155) dL_law_2154 rfl rfl zg0 rfl ?_
  refine zW.iload (pc' := 2157) dL_law_2155 rfl (zgS (zgS (zgS (zgS (zg0))))) ?_
  refine zW.iconst (pc' := 2158) (nI 1) dL_law_2157 rfl (by decide) ?_
  refine zW.iaddN (pc' := 2159) dL_law_2158 rfl ?_
  refine zW.scr (pc' := 2160) dL_law_2159 rfl hbh hy1 (by omega) ?_
  refine zW.aload_n (pc' := 2161) dL_law_2160 rfl rfl zg0 rfl ?_
  refine zW.iload (pc' := 2163) dL_law_2161 rfl (zgS (zgS (zgS (zgS (zg0))))) ?_
  refine zW.iconst (pc' := 2164) (nI 2) dL_law_2163 rfl (by decide) ?_
  refine zW.iaddN (pc' := 2165) dL_law_2164 rfl ?_
  refine zW.scr (pc' := 2166) dL_law_2165 rfl hbh hy2 (by omega) ?_
  refine zW.congr ?_ rfl rfl M1.eq
  refine zT.call (pc' := 2169) dL_law_2166 rfl l_X0_297 rfl rfl (hml _) (zcc rfl (zcc rfl zc0)) rfl (Nat.le_of_ble_eq_true rfl) (Nat.le_of_ble_eq_true rfl) (Nat.le_of_ble_eq_true rfl) (fun _ T2 ⟨e1, e2, e3⟩ => ?_)
  subst e1
  have M2 := M1.mdl e3
  obtain ⟨v2, ho2, hv2⟩ := M2.out
  refine zW.istore (pc' := 2171) dL_law_2169 rfl (Nat.le_of_ble_eq_true rfl) (zsS (zsS (zsS (zsS (zsS (zsS (zs0))))))) ?_
  refine zW.aload_n (pc' := 2172) dL_law_2171 rfl rfl (zgS (zgS (zg0))) rfl ?_
  refine zT.call (pc' := 2175) dL_law_2172 rfl l_X0_182 rfl rfl w_thrown zc0 rfl (Nat.le_of_ble_eq_true rfl) (Nat.le_of_ble_eq_true rfl) (Nat.le_of_ble_eq_true rfl) (fun _ T3 ⟨e1, e4⟩ => ?_)
  subst e1
  subst e4
  rw [e2]
  refine zW.iload (pc' := 2177) dL_law_2175 rfl (zgS (zgS (zgS (zgS (zgS (zg0)))))) ?_
  refine zW.icmp_eq (pc' := 2180) 2182 dL_law_2177 rfl (by decide) (fun b1 => ?_) (fun b1 => ?_)
  rotate_left
  · exact absurd rfl b1
  by_cases z : q.1 = 0
  · rw [z]
    refine zW.iload (pc' := 2184) dL_law_2182 rfl (zgS (zgS (zgS (zgS (zgS (zg0)))))) ?_
    refine zW.if_neN (pc' := 2187) 2199 dL_law_2184 rfl (by decide) (by omega) (fun b9 => absurd b9 (by omega)) (fun b9 => ?_)
    refine zW.aload_n (pc' := 2188) dL_law_2187 rfl rfl (zgS (zgS (zgS (zg0)))) rfl ?_
    refine zW.iconst (pc' := 2189) (nI 0) dL_law_2188 rfl (by decide) ?_
    refine zW.lald (pc' := 2190) dL_law_2189 rfl ho2 rfl (by decide) rfl ?_
    rw [hv2 z]
    refine zW.iload (pc' := 2192) dL_law_2190 rfl (zgS (zgS (zgS (zgS (zgS (zgS (zg0))))))) ?_
    refine zW.i2l (pc' := 2193) dL_law_2192 rfl ?_
    refine zW.lcmp (pc' := 2194) dL_law_2193 rfl ?_
    rw [zlc]
    refine zW.if_eq (pc' := 2197) 2199 dL_law_2194 rfl (by decide) (fun b1 => ?_) (fun b1 => ?_)
    rotate_left
    · exact absurd rfl b1
    refine zW.goto 3347 dL_law_2199 (by decide) ?_
    exact kont _ _ _ _ (M2.wk fun _ _ => trivial)
  · refine zW.iload (pc' := 2184) dL_law_2182 rfl (zgS (zgS (zgS (zgS (zgS (zg0)))))) ?_
    refine zW.if_neN (pc' := 2187) 2199 dL_law_2184 rfl (by decide) (by omega) (fun b9 => ?_) (fun b9 => absurd b9 (by omega))
    refine zW.goto 3347 dL_law_2199 (by decide) ?_
    exact kont _ _ _ _ (M2.wk fun _ _ => trivial)
theorem y_chainLengthByRounds {y1 : Int32} {y2 : Int32} {q : Nat × Int32 × sW} (hb : zg_k G b = some (1100, xs)) (hy1 : xs[i + 1]? = some (.int y1)) (hy2 : xs[i + 2]? = some (.int y2)) (hi : i < 200) (M0 : lwM G x o a w w (fun _ => True) S h) (hcl : ∀ U, cReg x 0 [] w h U → zK G mX1_chainLengthByRounds 40 R [.ref x, .int y1, .int y2] h (cOut x U h [eArg, eElt] q)) (hml : ∀ h0, zK G mX3_chainLengthByRounds 9 0 [.ref a.1, .int y1, .int y2] (tH h0 a S) (tO h0 a q.1 (.int q.2.1) q.2.2)) (kont : ∀ (h' : zH) (S' : tS) (v5 v6 : Value), lwM G x o a q.2.2 q.2.2 (fun _ => True) S' h' → zW G mL_law 42 r 3347 [.ref b, .ref x, .ref a.1, .ref o, .int (nI i), v5, v6] [] h' Q) {v5 v6 : Value} : zW G mL_law 42 (r + R) 2202 [.ref b, .ref x, .ref a.1, .ref o, .int (nI i), v5, v6] [] h Q := by
  obtain ⟨U, v, ⟨hG, hl⟩, hd, hT, ⟨ho, -⟩, hk⟩ := id M0
  obtain ⟨fs, hx⟩ := hG.cell
  have hbh := M0.scr hb
  refine zW.aload_n (pc' := 2203) dL_law_2202 rfl rfl (zgS (zg0)) rfl ?_
  refine zW.aload_n (pc' := 2204) dL_law_2203 rfl rfl zg0 rfl ?_
  refine zW.iload (pc' := 2206) dL_law_2204 rfl (zgS (zgS (zgS (zgS (zg0))))) ?_
  refine zW.iconst (pc' := 2207) (nI 1) dL_law_2206 rfl (by decide) ?_
  refine zW.iaddN (pc' := 2208) dL_law_2207 rfl ?_
  refine zW.scr (pc' := 2209) dL_law_2208 rfl hbh hy1 (by omega) ?_
  refine zW.aload_n (pc' := 2210) dL_law_2209 rfl rfl zg0 rfl ?_
  refine zW.iload (pc' := 2212) dL_law_2210 rfl (zgS (zgS (zgS (zgS (zg0))))) ?_
  refine zW.iconst (pc' := 2213) (nI 2) dL_law_2212 rfl (by decide) ?_
  refine zW.iaddN (pc' := 2214) dL_law_2213 rfl ?_
  refine zW.scr (pc' := 2215) dL_law_2214 rfl hbh hy2 (by omega) ?_
  refine zW.aload_n (pc' := 2216) dL_law_2215 rfl rfl (zgS (zgS (zgS (zg0)))) rfl ?_
  refine zW.callSH (r' := R) (pc' := 2219) dL_law_2216 rfl l_X0_298 rfl (x_chainLengthByRounds hx ho hd.1 (hcl U hG)) (zcc rfl (zcc rfl (zcc rfl (zcc rfl zc0)))) rfl (Nat.le_of_ble_eq_true rfl) (Nat.le_of_ble_eq_true rfl) (Nat.le_of_ble_eq_true rfl) ?_ ?_
  rotate_left
  · intro E h9 q9
    cases q9.1
  intro v9 h9 q9
  obtain ⟨e1, q3, g1, g2, v1, ho1, hv1⟩ := q9
  cases e1
  have M1 : lwM G x o a q.2.2 w (fun v => q.1 = 0 → v = q.2.1.toInt64) S h9 := lwM.step hd hT ho hk g1 g2 ⟨ho1, hv1⟩
  have hbh := M1.scr hb
  refine zW.istore (pc' := 2221) dL_law_2219 rfl (Nat.le_of_ble_eq_true rfl) (zsS (zsS (zsS (zsS (zsS (zs0)))))) ?_
  refine zW.aload_n (pc' := 2222) dL_law_2221 rfl rfl (zgS (zgS (zg0))) rfl ?_
  refine zW.aload_n (pc' := 2223) dL_law_2222 rfl rfl zg0 rfl ?_
  refine zW.iload (pc' := 2225) dL_law_2223 rfl (zgS (zgS (zgS (zgS (zg0))))) ?_
  refine zW.iconst (pc' := 2226) (nI 1) dL_law_2225 rfl (by decide) ?_
  refine zW.iaddN (pc' := 2227) dL_law_2226 rfl ?_
  refine zW.scr (pc' := 2228) dL_law_2227 rfl hbh hy1 (by omega) ?_
  refine zW.aload_n (pc' := 2229) dL_law_2228 rfl rfl zg0 rfl ?_
  refine zW.iload (pc' := 2231) dL_law_2229 rfl (zgS (zgS (zgS (zgS (zg0))))) ?_
  refine zW.iconst (pc' := 2232) (nI 2) dL_law_2231 rfl (by decide) ?_
  refine zW.iaddN (pc' := 2233) dL_law_2232 rfl ?_
  refine zW.scr (pc' := 2234) dL_law_2233 rfl hbh hy2 (by omega) ?_
  refine zW.congr ?_ rfl rfl M1.eq
  refine zT.call (pc' := 2237) dL_law_2234 rfl l_X0_300 rfl rfl (hml _) (zcc rfl (zcc rfl zc0)) rfl (Nat.le_of_ble_eq_true rfl) (Nat.le_of_ble_eq_true rfl) (Nat.le_of_ble_eq_true rfl) (fun _ T2 ⟨e1, e2, e3⟩ => ?_)
  subst e1
  have M2 := M1.mdl e3
  obtain ⟨v2, ho2, hv2⟩ := M2.out
  refine zW.istore (pc' := 2239) dL_law_2237 rfl (Nat.le_of_ble_eq_true rfl) (zsS (zsS (zsS (zsS (zsS (zsS (zs0))))))) ?_
  refine zW.aload_n (pc' := 2240) dL_law_2239 rfl rfl (zgS (zgS (zg0))) rfl ?_
  refine zT.call (pc' := 2243) dL_law_2240 rfl l_X0_182 rfl rfl w_thrown zc0 rfl (Nat.le_of_ble_eq_true rfl) (Nat.le_of_ble_eq_true rfl) (Nat.le_of_ble_eq_true rfl) (fun _ T3 ⟨e1, e4⟩ => ?_)
  subst e1
  subst e4
  rw [e2]
  refine zW.iload (pc' := 2245) dL_law_2243 rfl (zgS (zgS (zgS (zgS (zgS (zg0)))))) ?_
  refine zW.icmp_eq (pc' := 2248) 2250 dL_law_2245 rfl (by decide) (fun b1 => ?_) (fun b1 => ?_)
  rotate_left
  · exact absurd rfl b1
  by_cases z : q.1 = 0
  · rw [z]
    refine zW.iload (pc' := 2252) dL_law_2250 rfl (zgS (zgS (zgS (zgS (zgS (zg0)))))) ?_
    refine zW.if_neN (pc' := 2255) 2267 dL_law_2252 rfl (by decide) (by omega) (fun b9 => absurd b9 (by omega)) (fun b9 => ?_)
    refine zW.aload_n (pc' := 2256) dL_law_2255 rfl rfl (zgS (zgS (zgS (zg0)))) rfl ?_
    refine zW.iconst (pc' := 2257) (nI 0) dL_law_2256 rfl (by decide) ?_
    refine zW.lald (pc' := 2258) dL_law_2257 rfl ho2 rfl (by decide) rfl ?_
    rw [hv2 z]
    refine zW.iload (pc' := 2260) dL_law_2258 rfl (zgS (zgS (zgS (zgS (zgS (zgS (zg0))))))) ?_
    refine zW.i2l (pc' := 2261) dL_law_2260 rfl ?_
    refine zW.lcmp (pc' := 2262) dL_law_2261 rfl ?_
    rw [zlc]
    refine zW.if_eq (pc' := 2265) 2267 dL_law_2262 rfl (by decide) (fun b1 => ?_) (fun b1 => ?_)
    rotate_left
    · exact absurd rfl b1
    refine zW.goto 3347 dL_law_2267 (by decide) ?_
    exact kont _ _ _ _ (M2.wk fun _ _ => trivial)
  · refine zW.iload (pc' := 2252) dL_law_2250 rfl (zgS (zgS (zgS (zgS (zgS (zg0)))))) ?_
    refine zW.if_neN (pc' := 2255) 2267 dL_law_2252 rfl (by decide) (by omega) (fun b9 => ?_) (fun b9 => absurd b9 (by omega))
    refine zW.goto 3347 dL_law_2267 (by decide) ?_
    exact kont _ _ _ _ (M2.wk fun _ _ => trivial)
theorem y_reachableFrom {y1 : Int32} {q : Nat × Int32 × sW} (hb : zg_k G b = some (1100, xs)) (hy1 : xs[i + 1]? = some (.int y1)) (hi : i < 200) (M0 : lwM G x o a w w (fun _ => True) S h) (hcl : ∀ U, cReg x 0 [] w h U → zK G mX1_reachableFrom 40 R [.ref x, .int y1] h (cOut x U h [eArg] q)) (hml : ∀ h0, zK G mX3_reachableFrom 9 0 [.ref a.1, .int y1] (tH h0 a S) (tO h0 a q.1 (.int q.2.1) q.2.2)) (kont : ∀ (h' : zH) (S' : tS) (v5 v6 : Value), lwM G x o a q.2.2 q.2.2 (fun _ => True) S' h' → zW G mL_law 42 r 3347 [.ref b, .ref x, .ref a.1, .ref o, .int (nI i), v5, v6] [] h' Q) {v5 v6 : Value} : zW G mL_law 42 (r + R) 2270 [.ref b, .ref x, .ref a.1, .ref o, .int (nI i), v5, v6] [] h Q := by
  obtain ⟨U, v, ⟨hG, hl⟩, hd, hT, ⟨ho, -⟩, hk⟩ := id M0
  obtain ⟨fs, hx⟩ := hG.cell
  have hbh := M0.scr hb
  refine zW.aload_n (pc' := 2271) dL_law_2270 rfl rfl (zgS (zg0)) rfl ?_
  refine zW.aload_n (pc' := 2272) dL_law_2271 rfl rfl zg0 rfl ?_
  refine zW.iload (pc' := 2274) dL_law_2272 rfl (zgS (zgS (zgS (zgS (zg0))))) ?_
  refine zW.iconst (pc' := 2275) (nI 1) dL_law_2274 rfl (by decide) ?_
  refine zW.iaddN (pc' := 2276) dL_law_2275 rfl ?_
  refine zW.scr (pc' := 2277) dL_law_2276 rfl hbh hy1 (by omega) ?_
  refine zW.aload_n (pc' := 2278) dL_law_2277 rfl rfl (zgS (zgS (zgS (zg0)))) rfl ?_
  refine zW.callSH (r' := R) (pc' := 2281) dL_law_2278 rfl l_X0_301 rfl (x_reachableFrom hx ho hd.1 (hcl U hG)) (zcc rfl (zcc rfl (zcc rfl zc0))) rfl (Nat.le_of_ble_eq_true rfl) (Nat.le_of_ble_eq_true rfl) (Nat.le_of_ble_eq_true rfl) ?_ ?_
  rotate_left
  · intro E h9 q9
    cases q9.1
  intro v9 h9 q9
  obtain ⟨e1, q3, g1, g2, v1, ho1, hv1⟩ := q9
  cases e1
  have M1 : lwM G x o a q.2.2 w (fun v => q.1 = 0 → v = q.2.1.toInt64) S h9 := lwM.step hd hT ho hk g1 g2 ⟨ho1, hv1⟩
  have hbh := M1.scr hb
  refine zW.istore (pc' := 2283) dL_law_2281 rfl (Nat.le_of_ble_eq_true rfl) (zsS (zsS (zsS (zsS (zsS (zs0)))))) ?_
  refine zW.aload_n (pc' := 2284) dL_law_2283 rfl rfl (zgS (zgS (zg0))) rfl ?_
  refine zW.aload_n (pc' := 2285) dL_law_2284 rfl rfl zg0 rfl ?_
  refine zW.iload (pc' := 2287) dL_law_2285 rfl (zgS (zgS (zgS (zgS (zg0))))) ?_
  refine zW.iconst (pc' := 2288) (nI 1) dL_law_2287 rfl (by decide) ?_
  refine zW.iaddN (pc' := 2289) dL_law_2288 rfl ?_
  refine zW.scr (pc' := 2290) dL_law_2289 rfl hbh hy1 (by omega) ?_
  refine zW.congr ?_ rfl rfl M1.eq
  refine zT.call (pc' := 2293) dL_law_2290 rfl l_X0_303 rfl rfl (hml _) (zcc rfl zc0) rfl (Nat.le_of_ble_eq_true rfl) (Nat.le_of_ble_eq_true rfl) (Nat.le_of_ble_eq_true rfl) (fun _ T2 ⟨e1, e2, e3⟩ => ?_)
  subst e1
  have M2 := M1.mdl e3
  obtain ⟨v2, ho2, hv2⟩ := M2.out
  refine zW.istore (pc' := 2295) dL_law_2293 rfl (Nat.le_of_ble_eq_true rfl) (zsS (zsS (zsS (zsS (zsS (zsS (zs0))))))) ?_
  refine zW.aload_n (pc' := 2296) dL_law_2295 rfl rfl (zgS (zgS (zg0))) rfl ?_
  refine zT.call (pc' := 2299) dL_law_2296 rfl l_X0_182 rfl rfl w_thrown zc0 rfl (Nat.le_of_ble_eq_true rfl) (Nat.le_of_ble_eq_true rfl) (Nat.le_of_ble_eq_true rfl) (fun _ T3 ⟨e1, e4⟩ => ?_)
  subst e1
  subst e4
  rw [e2]
  refine zW.iload (pc' := 2301) dL_law_2299 rfl (zgS (zgS (zgS (zgS (zgS (zg0)))))) ?_
  refine zW.icmp_eq (pc' := 2304) 2306 dL_law_2301 rfl (by decide) (fun b1 => ?_) (fun b1 => ?_)
  rotate_left
  · exact absurd rfl b1
  by_cases z : q.1 = 0
  · rw [z]
    refine zW.iload (pc' := 2308) dL_law_2306 rfl (zgS (zgS (zgS (zgS (zgS (zg0)))))) ?_
    refine zW.if_neN (pc' := 2311) 2323 dL_law_2308 rfl (by decide) (by omega) (fun b9 => absurd b9 (by omega)) (fun b9 => ?_)
    refine zW.aload_n (pc' := 2312) dL_law_2311 rfl rfl (zgS (zgS (zgS (zg0)))) rfl ?_
    refine zW.iconst (pc' := 2313) (nI 0) dL_law_2312 rfl (by decide) ?_
    refine zW.lald (pc' := 2314) dL_law_2313 rfl ho2 rfl (by decide) rfl ?_
    rw [hv2 z]
    refine zW.iload (pc' := 2316) dL_law_2314 rfl (zgS (zgS (zgS (zgS (zgS (zgS (zg0))))))) ?_
    refine zW.i2l (pc' := 2317) dL_law_2316 rfl ?_
    refine zW.lcmp (pc' := 2318) dL_law_2317 rfl ?_
    rw [zlc]
    refine zW.if_eq (pc' := 2321) 2323 dL_law_2318 rfl (by decide) (fun b1 => ?_) (fun b1 => ?_)
    rotate_left
    · exact absurd rfl b1
    refine zW.goto 3347 dL_law_2323 (by decide) ?_
    exact kont _ _ _ _ (M2.wk fun _ _ => trivial)
  · refine zW.iload (pc' := 2308) dL_law_2306 rfl (zgS (zgS (zgS (zgS (zgS (zg0)))))) ?_
    refine zW.if_neN (pc' := 2311) 2323 dL_law_2308 rfl (by decide) (by omega) (fun b9 => ?_) (fun b9 => absurd b9 (by omega))
    refine zW.goto 3347 dL_law_2323 (by decide) ?_
    exact kont _ _ _ _ (M2.wk fun _ _ => trivial)
theorem y_hasCycle {q : Nat × Int32 × sW} (hb : zg_k G b = some (1100, xs)) (hi : i < 200) (M0 : lwM G x o a w w (fun _ => True) S h) (hcl : ∀ U, cReg x 0 [] w h U → zK G mX1_hasCycle 40 R [.ref x] h (cOut x U h [] q)) (hml : ∀ h0, zK G mX3_hasCycle 9 0 [.ref a.1] (tH h0 a S) (tO h0 a q.1 (.int q.2.1) q.2.2)) (kont : ∀ (h' : zH) (S' : tS) (v5 v6 : Value), lwM G x o a q.2.2 q.2.2 (fun _ => True) S' h' → zW G mL_law 42 r 3347 [.ref b, .ref x, .ref a.1, .ref o, .int (nI i), v5, v6] [] h' Q) {v5 v6 : Value} : zW G mL_law 42 (r + R) 2326 [.ref b, .ref x, .ref a.1, .ref o, .int (nI i), v5, v6] [] h Q := by
  obtain ⟨U, v, ⟨hG, hl⟩, hd, hT, ⟨ho, -⟩, hk⟩ := id M0
  obtain ⟨fs, hx⟩ := hG.cell
  refine zW.aload_n (pc' := 2327) dL_law_2326 rfl rfl (zgS (zg0)) rfl ?_
  refine zW.callV (r' := R) (pc' := 2330) dL_law_2327 rfl l_X0_304 rfl hx ⟨rfl, (Nat.le_of_ble_eq_true rfl)⟩ rfl ((hcl U hG)) zc0 rfl (Nat.le_of_ble_eq_true rfl) (Nat.le_of_ble_eq_true rfl) (Nat.le_of_ble_eq_true rfl) ?_ ?_
  rotate_left
  · intro E h9 q9
    obtain ⟨-, n, -, e1⟩ := q9.r
    cases e1
  intro v9 h9 q9
  obtain ⟨⟨g1, g2⟩, e0, e1⟩ := q9.l
  subst e1
  have M1 : lwM G x o a q.2.2 w (fun _ => True) S h9 := lwM.step hd hT ho hk g1 (g2.mono fun b hb => Or.inl (Or.inl hb)) ⟨g2.at ho hd.1, trivial⟩
  refine zW.aload_n (pc' := 2331) dL_law_2330 rfl rfl (zgS (zgS (zg0))) rfl ?_
  refine zW.congr ?_ rfl rfl M1.eq
  refine zT.call (pc' := 2334) dL_law_2331 rfl l_X0_308 rfl rfl (hml _) zc0 rfl (Nat.le_of_ble_eq_true rfl) (Nat.le_of_ble_eq_true rfl) (Nat.le_of_ble_eq_true rfl) (fun _ T2 ⟨e1, e2, e3⟩ => ?_)
  subst e1
  have M2 := M1.mdl e3
  refine zW.icmp_eq (pc' := 2337) 3347 dL_law_2334 rfl (by decide) (fun b1 => ?_) (fun b1 => ?_)
  rotate_left
  · exact absurd rfl b1
  exact kont _ _ _ _ (M2.wk fun _ _ => trivial)
theorem y_idByExpiry {y1 : Int32} {q : Nat × Int32 × sW} (hb : zg_k G b = some (1100, xs)) (hy1 : xs[i + 1]? = some (.int y1)) (hi : i < 200) (M0 : lwM G x o a w w (fun _ => True) S h) (hcl : ∀ U, cReg x 0 [] w h U → zK G mX1_idByExpiry 40 R [.ref x, .int y1] h (cOut x U h [eIdx] q)) (hml : ∀ h0, zK G mX3_idByExpiry 9 0 [.ref a.1, .int y1] (tH h0 a S) (tO h0 a q.1 (.int q.2.1) q.2.2)) (kont : ∀ (h' : zH) (S' : tS) (v5 v6 : Value), lwM G x o a q.2.2 q.2.2 (fun _ => True) S' h' → zW G mL_law 42 r 3347 [.ref b, .ref x, .ref a.1, .ref o, .int (nI i), v5, v6] [] h' Q) {v5 v6 : Value} : zW G mL_law 42 (r + R) 2339 [.ref b, .ref x, .ref a.1, .ref o, .int (nI i), v5, v6] [] h Q := by
  obtain ⟨U, v, ⟨hG, hl⟩, hd, hT, ⟨ho, -⟩, hk⟩ := id M0
  obtain ⟨fs, hx⟩ := hG.cell
  have hbh := M0.scr hb
  refine zW.aload_n (pc' := 2340) dL_law_2339 rfl rfl (zgS (zg0)) rfl ?_
  refine zW.aload_n (pc' := 2341) dL_law_2340 rfl rfl zg0 rfl ?_
  refine zW.iload (pc' := 2343) dL_law_2341 rfl (zgS (zgS (zgS (zgS (zg0))))) ?_
  refine zW.iconst (pc' := 2344) (nI 1) dL_law_2343 rfl (by decide) ?_
  refine zW.iaddN (pc' := 2345) dL_law_2344 rfl ?_
  refine zW.scr (pc' := 2346) dL_law_2345 rfl hbh hy1 (by omega) ?_
  refine zW.aload_n (pc' := 2347) dL_law_2346 rfl rfl (zgS (zgS (zgS (zg0)))) rfl ?_
  refine zW.callSH (r' := R) (pc' := 2350) dL_law_2347 rfl l_X0_309 rfl (x_idByExpiry hx ho hd.1 (hcl U hG)) (zcc rfl (zcc rfl (zcc rfl zc0))) rfl (Nat.le_of_ble_eq_true rfl) (Nat.le_of_ble_eq_true rfl) (Nat.le_of_ble_eq_true rfl) ?_ ?_
  rotate_left
  · intro E h9 q9
    cases q9.1
  intro v9 h9 q9
  obtain ⟨e1, q3, g1, g2, v1, ho1, hv1⟩ := q9
  cases e1
  have M1 : lwM G x o a q.2.2 w (fun v => q.1 = 0 → v = q.2.1.toInt64) S h9 := lwM.step hd hT ho hk g1 g2 ⟨ho1, hv1⟩
  have hbh := M1.scr hb
  refine zW.istore (pc' := 2352) dL_law_2350 rfl (Nat.le_of_ble_eq_true rfl) (zsS (zsS (zsS (zsS (zsS (zs0)))))) ?_
  refine zW.aload_n (pc' := 2353) dL_law_2352 rfl rfl (zgS (zgS (zg0))) rfl ?_
  refine zW.aload_n (pc' := 2354) dL_law_2353 rfl rfl zg0 rfl ?_
  refine zW.iload (pc' := 2356) dL_law_2354 rfl (zgS (zgS (zgS (zgS (zg0))))) ?_
  refine zW.iconst (pc' := 2357) (nI 1) dL_law_2356 rfl (by decide) ?_
  refine zW.iaddN (pc' := 2358) dL_law_2357 rfl ?_
  refine zW.scr (pc' := 2359) dL_law_2358 rfl hbh hy1 (by omega) ?_
  refine zW.congr ?_ rfl rfl M1.eq
  refine zT.call (pc' := 2362) dL_law_2359 rfl l_X0_311 rfl rfl (hml _) (zcc rfl zc0) rfl (Nat.le_of_ble_eq_true rfl) (Nat.le_of_ble_eq_true rfl) (Nat.le_of_ble_eq_true rfl) (fun _ T2 ⟨e1, e2, e3⟩ => ?_)
  subst e1
  have M2 := M1.mdl e3
  obtain ⟨v2, ho2, hv2⟩ := M2.out
  refine zW.istore (pc' := 2364) dL_law_2362 rfl (Nat.le_of_ble_eq_true rfl) (zsS (zsS (zsS (zsS (zsS (zsS (zs0))))))) ?_
  refine zW.aload_n (pc' := 2365) dL_law_2364 rfl rfl (zgS (zgS (zg0))) rfl ?_
  refine zT.call (pc' := 2368) dL_law_2365 rfl l_X0_182 rfl rfl w_thrown zc0 rfl (Nat.le_of_ble_eq_true rfl) (Nat.le_of_ble_eq_true rfl) (Nat.le_of_ble_eq_true rfl) (fun _ T3 ⟨e1, e4⟩ => ?_)
  subst e1
  subst e4
  rw [e2]
  refine zW.iload (pc' := 2370) dL_law_2368 rfl (zgS (zgS (zgS (zgS (zgS (zg0)))))) ?_
  refine zW.icmp_eq (pc' := 2373) 2375 dL_law_2370 rfl (by decide) (fun b1 => ?_) (fun b1 => ?_)
  rotate_left
  · exact absurd rfl b1
  by_cases z : q.1 = 0
  · rw [z]
    refine zW.iload (pc' := 2377) dL_law_2375 rfl (zgS (zgS (zgS (zgS (zgS (zg0)))))) ?_
    refine zW.if_neN (pc' := 2380) 2392 dL_law_2377 rfl (by decide) (by omega) (fun b9 => absurd b9 (by omega)) (fun b9 => ?_)
    refine zW.aload_n (pc' := 2381) dL_law_2380 rfl rfl (zgS (zgS (zgS (zg0)))) rfl ?_
    refine zW.iconst (pc' := 2382) (nI 0) dL_law_2381 rfl (by decide) ?_
    refine zW.lald (pc' := 2383) dL_law_2382 rfl ho2 rfl (by decide) rfl ?_
    rw [hv2 z]
    refine zW.iload (pc' := 2385) dL_law_2383 rfl (zgS (zgS (zgS (zgS (zgS (zgS (zg0))))))) ?_
    refine zW.i2l (pc' := 2386) dL_law_2385 rfl ?_
    refine zW.lcmp (pc' := 2387) dL_law_2386 rfl ?_
    rw [zlc]
    refine zW.if_eq (pc' := 2390) 2392 dL_law_2387 rfl (by decide) (fun b1 => ?_) (fun b1 => ?_)
    rotate_left
    · exact absurd rfl b1
    refine zW.goto 3347 dL_law_2392 (by decide) ?_
    exact kont _ _ _ _ (M2.wk fun _ _ => trivial)
  · refine zW.iload (pc' := 2377) dL_law_2375 rfl (zgS (zgS (zgS (zgS (zgS (zg0)))))) ?_
    refine zW.if_neN (pc' := 2380) 2392 dL_law_2377 rfl (by decide) (by omega) (fun b9 => ?_) (fun b9 => absurd b9 (by omega))
    refine zW.goto 3347 dL_law_2392 (by decide) ?_
    exact kont _ _ _ _ (M2.wk fun _ _ => trivial)
end
