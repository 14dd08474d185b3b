/-! THE PARSER: the program */ -/
section
set_option maxRecDepth 100000
variable {G : zG} {h h' h0 h1 H H' : zH} {p kw ka c w al ea cm s : Nat} {l q : List Nat} {e e' : Nat × Nat} {es : List Nat} {cs : List pC}
theorem cPar.mvp (k : cPar G h0 h p kw ka c w al ea l e es cs) (z : zfr (fun b => b = p) h h') (P : cPo h' p kw c al e') (q : e'.2 = 0 → e.2 = 0) : cPar G h0 h' p kw ka c w al ea l e' es cs := by
  obtain ⟨p1, p2, p3, p4, p5, f, d, z0⟩ := k
  obtain ⟨hc1, hc2, hc3, hc4, hc5⟩ := id p3
  exact ⟨P, p2.fr z (zne p2.1 p1 (by decide)) (zne p2.2 p1 (by decide)), p3.fr z (zne hc2 p1 (by decide)) (zne hc4 p1 (by decide)), p4.fp z p1 ⟨by decide, by decide, by decide⟩, fun t => (p5 (q t)).fp z p1 ⟨by decide, by decide, by decide, by decide⟩, f, d, z0.tr z fun b hb => Or.inr (by rw [hb]; exact f.1)⟩
theorem cPo.bad {a n : Nat} (hp : h p = some (4, [.ref kw, .ref c, .ref al, .int (nI a), .int (nI 1)])) (hn : n ≠ 0) : cPo h p kw c al (a, n) := by
  unfold cPo
  rw [if_neg hn]
  exact hp
/-- a parse's end -/
abbrev cPs (G : zG) (h0 : zH) (p kw ka c w al : Nat) (l : List Nat) (r : List pC × Nat × Nat) : zR → zH → Prop := zO fun o h' => o = some (.int (nI (if (pFin l r).2 = 0 then 1 else 0))) ∧ ∃ ea' es', cPar G h0 h' p kw ka c w al ea' l (r.2.1, (pFin l r).2) es' r.1 ∧ pOk (r.2.1, (pFin l r).2)
theorem w_parse2 (hk : zkn G h0) (hS : zkS G) (hP : cPar G h0 h p kw ka c w al ea l (0, 0) [] []) (hl : l.length ≤ 60) : zK G mX5_parse 13 23300 [.ref p] h (cPs G h0 p kw ka c w al l (pLoop l 60 (pCmd l 0).2 [(pCmd l 0).1])) := by
  have h128 : ∀ x ∈ l, x < 128 := by
    obtain ⟨p1, p2, ⟨hs, a1, a2, a3, a4, a5⟩, -⟩ := id hP
    exact a5
  have fin : ∀ (H : zH) (ea : Nat) (e : Nat × Nat) (es : List Nat) (cs : List pC), cPar G h0 H p kw ka c w al ea l e es cs → pOk e → e.1 ≤ l.length → zW G mX5_parse 13 0 37 [.ref p] [] H (cPs G h0 p kw ka c w al l (cs, e)) := by
    intro H ea e es cs k ok ub
    have P := k.1
    have hp := P
    unfold cPo at hp
    have zf := zfr.rf (A := fun b => b = p) (h := H)
    refine zW.aload_n (pc' := 38) dX5_parse_37 rfl rfl zg0 rfl ?_
    refine zW.dup (pc' := 39) dX5_parse_38 rfl rfl ?_
    refine zW.get (pc' := 42) dX5_parse_39 rfl f_X5_62_4 hp ⟨rfl, (Nat.le_of_ble_eq_true rfl)⟩ rfl ?_
    refine zW.aload_n (pc' := 43) dX5_parse_42 rfl rfl zg0 rfl ?_
    refine zW.callV (r' := 0) (pc' := 46) dX5_parse_43 rfl l_X5_54 rfl hp ⟨rfl, (Nat.le_of_ble_eq_true rfl)⟩ rfl (w_atEnd P k.2.2.1.str ub) zc0 rfl (Nat.le_of_ble_eq_true rfl) (Nat.le_of_ble_eq_true rfl) (Nat.le_of_ble_eq_true rfl) (fun _ _ q9 => ?_) (fun _ _ q9 => by cases q9.1)
    obtain ⟨q8, e9⟩ := q9
    cases q8
    replace e9 := e9.symm
    subst e9
    by_cases q : e.1 = l.length
    · rw [if_pos q]
      refine zW.if_neN (pc' := 49) 53 dX5_parse_46 rfl (by decide) (by omega) (fun b9 => ?_) (fun b9 => absurd b9 (by omega))
      refine zW.iconst (pc' := 54) (nI 0) dX5_parse_53 rfl (by decide) ?_
      have e1 : nI (if e.2 = 0 then 0 else 1) ||| nI 0 = nI (if e.2 = 0 then 0 else 1) := by split <;> decide
      refine zW.ior (pc' := 55) dX5_parse_54 rfl ?_
      rw [e1]
      refine zW.putK (pc' := 58) dX5_parse_55 rfl f_X5_62_4 hp ⟨⟨rfl, (Nat.le_of_ble_eq_true rfl)⟩, (Nat.le_of_ble_eq_true rfl)⟩ (zFw.of ft_4_4 (by split <;> rfl) (by split <;> rfl)) (zsS (zsS (zsS (zsS (zs0))))) (fun _ e9 k9 => ?_)
      have zf := zf.put e9 hp (by decide) (Or.inl rfl)
      replace hp := k9
      clear e9 k9
      have e2 : (pFin l (cs, e)).2 = e.2 := by
        unfold pFin
        exact if_neg (fun z => absurd z.2 (by show ¬ e.1 < l.length; omega))
      have P2 : cPo _ p kw c al e := hp
      have k2 := k.mvp zf P2 fun z => z
      refine zW.aload_n (pc' := 59) dX5_parse_58 rfl rfl zg0 rfl ?_
      refine zW.get (pc' := 62) dX5_parse_59 rfl f_X5_62_4 hp ⟨rfl, (Nat.le_of_ble_eq_true rfl)⟩ rfl ?_
      by_cases e0 : e.2 = 0
      · rw [if_pos e0]
        refine zW.if_neN (pc' := 65) 69 dX5_parse_62 rfl (by decide) (by omega) (fun b9 => absurd b9 (by omega)) (fun b9 => ?_)
        refine zW.iconst (pc' := 66) (nI 1) dX5_parse_65 rfl (by decide) ?_
        refine zW.goto 70 dX5_parse_66 (by decide) ?_
        refine zW.iret dX5_parse_70 rfl (rfl) ?_
        exact ⟨_, rfl, by rw [e2, if_pos e0], ea, es, by rw [e2]; exact k2, by rw [e2]; exact ok⟩
      · rw [if_neg e0]
        refine zW.if_neN (pc' := 65) 69 dX5_parse_62 rfl (by decide) (by omega) (fun b9 => ?_) (fun b9 => absurd b9 (by omega))
        refine zW.iconst (pc' := 70) (nI 0) dX5_parse_69 rfl (by decide) ?_
        refine zW.iret dX5_parse_70 rfl (rfl) ?_
        exact ⟨_, rfl, by rw [e2, if_neg e0], ea, es, by rw [e2]; exact k2, by rw [e2]; exact ok⟩
    · rw [if_neg q]
      refine zW.if_neN (pc' := 49) 53 dX5_parse_46 rfl (by decide) (by omega) (fun b9 => absurd b9 (by omega)) (fun b9 => ?_)
      refine zW.iconst (pc' := 50) (nI 1) dX5_parse_49 rfl (by decide) ?_
      refine zW.goto 54 dX5_parse_50 (by decide) ?_
      have e1 : nI (if e.2 = 0 then 0 else 1) ||| nI 1 = nI 1 := by split <;> decide
      refine zW.ior (pc' := 55) dX5_parse_54 rfl ?_
      rw [e1]
      refine zW.putK (pc' := 58) dX5_parse_55 rfl f_X5_62_4 hp ⟨⟨rfl, (Nat.le_of_ble_eq_true rfl)⟩, (Nat.le_of_ble_eq_true rfl)⟩ (zFw.of ft_4_4 rfl rfl) (zsS (zsS (zsS (zsS (zs0))))) (fun _ e9 k9 => ?_)
      have zf := zf.put e9 hp (by decide) (Or.inl rfl)
      replace hp := k9
      clear e9 k9
      refine zW.aload_n (pc' := 59) dX5_parse_58 rfl rfl zg0 rfl ?_
      refine zW.get (pc' := 62) dX5_parse_59 rfl f_X5_62_4 hp ⟨rfl, (Nat.le_of_ble_eq_true rfl)⟩ rfl ?_
      refine zW.if_neN (pc' := 65) 69 dX5_parse_62 rfl (by decide) (by omega) (fun b9 => ?_) (fun b9 => absurd b9 (by omega))
      refine zW.iconst (pc' := 70) (nI 0) dX5_parse_69 rfl (by decide) ?_
      refine zW.iret dX5_parse_70 rfl (rfl) ?_
      have e2 : (pFin l (cs, e)).2 = e.1 + 1 := by
        unfold pFin
        by_cases e0 : e.2 = 0
        · exact if_pos ⟨e0, show e.1 < l.length by omega⟩
        · refine (if_neg (fun z => e0 z.1)).trans ?_
          exact ok.resolve_left e0
      have P2 := cPo.bad (n := (pFin l (cs, e)).2) hp (by rw [e2]; exact Nat.succ_ne_zero _)
      have k2 := k.mvp zf P2 fun z => absurd z (by rw [e2]; exact Nat.succ_ne_zero _)
      exact ⟨_, rfl, by rw [e2, if_neg (Nat.succ_ne_zero _)], ea, es, k2, Or.inr e2⟩
  have loop : ∀ (m : Nat) (H : zH) (ea : Nat) (e : Nat × Nat) (es : List Nat) (cs : List pC), cPar G h0 H p kw ka c w al ea l e es cs → pOk e → e.1 ≤ l.length → 60 ≤ e.1 + m → es.length + m ≤ 61 → zW G mX5_parse 13 (380 * m) 4 [.ref p] [] H (cPs G h0 p kw ka c w al l (pLoop l m e cs)) := by
    intro m
    induction m with
    | zero =>
      intro H ea e es cs k ok ub hm hn
      have P := k.1
      have hp := P
      unfold cPo at hp
      refine zW.aload_n (pc' := 5) dX5_parse_4 rfl rfl zg0 rfl ?_
      refine zW.get (pc' := 8) dX5_parse_5 rfl f_X5_62_4 hp ⟨rfl, (Nat.le_of_ble_eq_true rfl)⟩ rfl ?_
      by_cases e0 : e.2 = 0
      · rw [if_pos e0]
        refine zW.if_neN (pc' := 11) 37 dX5_parse_8 rfl (by decide) (by omega) (fun b9 => absurd b9 (by omega)) (fun b9 => ?_)
        refine zW.aload_n (pc' := 12) dX5_parse_11 rfl rfl zg0 rfl ?_
        refine zW.bipush (pc' := 14) (nI 59) dX5_parse_12 rfl (by decide) ?_
        refine zW.callV (r' := 0) (pc' := 17) dX5_parse_14 rfl l_X5_66 rfl hp ⟨rfl, (Nat.le_of_ble_eq_true rfl)⟩ rfl (w_isNext P k.2.2.1.str ub (x := 59) (by decide)) (zcc rfl zc0) rfl (Nat.le_of_ble_eq_true rfl) (Nat.le_of_ble_eq_true rfl) (Nat.le_of_ble_eq_true rfl) (fun _ _ q9 => ?_) (fun _ _ q9 => by cases q9.1)
        obtain ⟨q8, e9⟩ := q9
        cases q8
        replace e9 := e9.symm
        subst e9
        rw [if_neg (by rw [List.getElem?_eq_none (by omega)]; exact fun z => by cases z)]
        refine zW.if_eqN (pc' := 20) 37 dX5_parse_17 rfl (by decide) (by omega) (fun b9 => ?_) (fun b9 => absurd b9 (by omega))
        exact fin H ea e es cs k ok ub
      · rw [if_neg e0]
        refine zW.if_neN (pc' := 11) 37 dX5_parse_8 rfl (by decide) (by omega) (fun b9 => ?_) (fun b9 => absurd b9 (by omega))
        exact fin H ea e es cs k ok ub
    | succ m ih =>
      intro H ea e es cs k ok ub hm hn
      have P := k.1
      have hp := P
      unfold cPo at hp
      rw [pLoop]
      refine zW.aload_n (pc' := 5) dX5_parse_4 rfl rfl zg0 rfl ?_
      refine zW.get (pc' := 8) dX5_parse_5 rfl f_X5_62_4 hp ⟨rfl, (Nat.le_of_ble_eq_true rfl)⟩ rfl ?_
      by_cases e0 : e.2 = 0
      · rw [if_pos e0] at hp ⊢
        refine zW.if_neN (pc' := 11) 37 dX5_parse_8 rfl (by decide) (by omega) (fun b9 => absurd b9 (by omega)) (fun b9 => ?_)
        refine zW.aload_n (pc' := 12) dX5_parse_11 rfl rfl zg0 rfl ?_
        refine zW.bipush (pc' := 14) (nI 59) dX5_parse_12 rfl (by decide) ?_
        refine zW.callV (r' := 0) (pc' := 17) dX5_parse_14 rfl l_X5_66 rfl hp ⟨rfl, (Nat.le_of_ble_eq_true rfl)⟩ rfl (w_isNext P k.2.2.1.str ub (x := 59) (by decide)) (zcc rfl zc0) rfl (Nat.le_of_ble_eq_true rfl) (Nat.le_of_ble_eq_true rfl) (Nat.le_of_ble_eq_true rfl) (fun _ _ q9 => ?_) (fun _ _ q9 => by cases q9.1)
        obtain ⟨q8, e9⟩ := q9
        cases q8
        replace e9 := e9.symm
        subst e9
        by_cases y : l[e.1]? = some 59
        · rw [if_pos y, if_pos ⟨e0, y⟩]
          have hlt := (List.getElem?_eq_some_iff.mp y).1
          have zf := zfr.rf (A := fun b => b = p) (h := H)
          refine zW.if_eqN (pc' := 20) 37 dX5_parse_17 rfl (by decide) (by omega) (fun b9 => absurd b9 (by omega)) (fun b9 => ?_)
          refine zW.aload_n (pc' := 21) dX5_parse_20 rfl rfl zg0 rfl ?_
          refine zW.dup (pc' := 22) dX5_parse_21 rfl rfl ?_
          refine zW.get (pc' := 25) dX5_parse_22 rfl f_X5_44_4 hp ⟨rfl, (Nat.le_of_ble_eq_true rfl)⟩ rfl ?_
          refine zW.iconst (pc' := 26) (nI 1) dX5_parse_25 rfl (by decide) ?_
          refine zW.iaddN (pc' := 27) dX5_parse_26 rfl ?_
          refine zW.putK (pc' := 30) dX5_parse_27 rfl f_X5_44_4 hp ⟨⟨rfl, (Nat.le_of_ble_eq_true rfl)⟩, (Nat.le_of_ble_eq_true rfl)⟩ (zFw.of ft_4_3 rfl rfl) (zsS (zsS (zsS (zs0)))) (fun _ e9 k9 => ?_)
          have zf := zf.put e9 hp (by decide) (Or.inl rfl)
          replace hp := k9
          clear e9 k9
          refine zW.aload_n (pc' := 31) dX5_parse_30 rfl rfl zg0 rfl ?_
          have k2 : cPar G h0 _ p kw ka c w al ea l (e.1 + 1, 0) es cs := k.mvp zf hp fun _ => e0
          obtain ⟨ok2, ub2⟩ := pCmd_ok (l := l) (s := e.1 + 1) h128 hlt
          have le2 := pCmd_le (l := l) (h := e.1 + 1)
          refine zW.pay (r1 := 380 * m + 380) ?_ (Nat.le_of_eq rfl)
          refine zW.callV (r' := 380) (pc' := 34) dX5_parse_31 rfl l_X5_144 rfl hp ⟨rfl, (Nat.le_of_ble_eq_true rfl)⟩ rfl (w_parseCmd (k2.2.2.2.2.2.2.2.kn hk) hS k2 hlt hl (by omega)) zc0 rfl (Nat.le_of_ble_eq_true rfl) (Nat.le_of_ble_eq_true rfl) (Nat.le_of_ble_eq_true rfl) (fun _ _ q9 => ?_) (fun _ _ q9 => absurd q9 zO.no)
          obtain ⟨_, q8, e1, ea2, cm, k3⟩ := q9
          cases q8
          cases e1
          refine zW.goto 4 dX5_parse_34 (by decide) ?_
          exact ih _ ea2 _ _ _ k3 ok2 ub2 (by omega) (by rw [List.length_append, List.length_singleton]; omega)
        · rw [if_neg y, if_neg (fun z => y z.2)]
          refine zW.if_eqN (pc' := 20) 37 dX5_parse_17 rfl (by decide) (by omega) (fun b9 => ?_) (fun b9 => absurd b9 (by omega))
          refine zW.pay (r1 := 0) ?_ (Nat.zero_le _)
          exact fin H ea e es cs k ok ub
      · rw [if_neg e0, if_neg (fun z => e0 z.1)]
        refine zW.if_neN (pc' := 11) 37 dX5_parse_8 rfl (by decide) (by omega) (fun b9 => ?_) (fun b9 => absurd b9 (by omega))
        refine zW.pay (r1 := 0) ?_ (Nat.zero_le _)
        exact fin H ea e es cs k ok ub
  have hp := hP.1
  unfold cPo at hp
  obtain ⟨ok2, ub2⟩ := pCmd_ok (l := l) (s := 0) h128 (Nat.zero_le _)
  show zW G mX5_parse 13 23300 0 [.ref p] [] h _
  refine zW.aload_n (pc' := 1) dX5_parse_0 rfl rfl zg0 rfl ?_
  refine zW.callV (r' := 380) (pc' := 4) dX5_parse_1 rfl l_X5_144 rfl hp ⟨rfl, (Nat.le_of_ble_eq_true rfl)⟩ rfl (w_parseCmd (hP.2.2.2.2.2.2.2.kn hk) hS hP (Nat.zero_le _) hl (Nat.zero_le _)) zc0 rfl (Nat.le_of_ble_eq_true rfl) (Nat.le_of_ble_eq_true rfl) (Nat.le_of_ble_eq_true rfl) (fun _ _ q9 => ?_) (fun _ _ q9 => absurd q9 zO.no)
  obtain ⟨_, q8, e1, ea2, cm, k3⟩ := q9
  cases q8
  cases e1
  refine zW.pay (r1 := 380 * 60) ?_ (by omega)
  exact loop 60 _ ea2 _ _ _ k3 ok2 ub2 (by omega) (Nat.le_refl _)
end
