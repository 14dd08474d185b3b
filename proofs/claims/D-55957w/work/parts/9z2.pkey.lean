/-! THE PARSER: a keyword */ -/
section
set_option maxRecDepth 100000
variable {G : zG} {h h' H : zH} {a n kw ka it c w p al x d s : Nat} {l : List Nat} {e : Nat × Nat}
theorem kPre_len {q : List Nat} (h : kPre q = true) : q.length ≤ 11 := by
  obtain ⟨i, hi, h2⟩ := kPre_iff.mp h
  have e : ∀ i : Fin 7, (kAt i.1).length ≤ 11 := by decide
  exact Nat.le_trans (pre_len h2) (e ⟨i, hi⟩)
theorem kGo_ge : ∀ {m n : Nat}, n ≤ kGo l s m n := by
  intro m
  induction m with
  | zero => intro n; exact Nat.le_refl _
  | succ m ih =>
    intro n
    rw [kGo]
    split
    · exact Nat.le_of_succ_le ih
    · exact Nat.le_refl _
/-- a keyword's end -/
abbrev cKy (h : zH) (p kw c w al : Nat) (l : List Nat) (s : Nat) : zR → zH → Prop := zO fun o h' => ∃ c' w', o = some (.ref c') ∧ cPo h' p kw c al (pHead l s).2 ∧ zfr (fun b => b = p) h h' ∧ (∃ q, cStr h' c' w' q) ∧ ((pHead l s).2.2 = 0 → cNew h' c' w' (kWd (pHead l s).1) ∧ ((c' = c ∧ w' = w) ∨ (h c' = none ∧ h w' = none)))
theorem w_parseKey (hk : zkn G h) (hS : zkS G) (hP : cPo h p kw c al (s, 0)) (k : cKw G h kw ka) (ks : cNew h c w l) (hs : s ≤ l.length) (hl : l.length ≤ 60) : zK G mX5_parseKeyword 9 350 [.ref p] h (cKy h p kw c w al l s) := by
  obtain ⟨hs0, c1, c2, c3, c4, c5⟩ := id ks
  have law := kHead c5 hs
  have up : ∀ {H : zH}, zfr (fun b => b = p) h H → zkn G H ∧ cKw G H kw ka ∧ cNew H c w l := fun z => ⟨z.kn hk, k.fr z (zne k.1 hP (by decide)) (zne k.2 hP (by decide)), ks.fr z (zne c1 hP (by decide)) (zne c3 hP (by decide))⟩
  have fin : ∀ (H : zH) (v2 : Value), zfr (fun b => b = p) h H → cPo H p kw c al (s + kGo l s 12 0, 0) → zW G mX5_parseKeyword 9 26 46 [.ref p, .int (nI s), v2] [] H (cKy h p kw c w al l s) := by
    intro H v2 z hP1
    obtain ⟨k1, k2, k3⟩ := up z
    obtain ⟨⟨l1, l2, l3⟩, l4⟩ := law
    have hp := hP1
    unfold cPo at hp
    obtain ⟨hs1, d1, d2, d3, d4⟩ := id k3
    refine zW.aload_n (pc' := 47) dX5_parseKeyword_46 rfl rfl zg0 rfl ?_
    refine zW.get (pc' := 50) dX5_parseKeyword_47 rfl f_X5_40_4 hp ⟨rfl, (Nat.le_of_ble_eq_true rfl)⟩ rfl ?_
    refine zW.iload_n (pc' := 51) dX5_parseKeyword_50 rfl rfl (zgS (zg0)) ?_
    refine zW.aload_n (pc' := 52) dX5_parseKeyword_51 rfl rfl zg0 rfl ?_
    refine zW.get (pc' := 55) dX5_parseKeyword_52 rfl f_X5_44_4 hp ⟨rfl, (Nat.le_of_ble_eq_true rfl)⟩ rfl ?_
    refine zW.callV (r' := 26) (pc' := 58) dX5_parseKeyword_55 rfl l_X5_87 rfl d1 ⟨rfl, (Nat.le_of_ble_eq_true rfl)⟩ rfl (w_strSub hS k1 k3 (i := s) (j := s + kGo l s 12 0) (by omega) l3 (by omega)) (zcc rfl (zcc rfl zc0)) rfl (Nat.le_of_ble_eq_true rfl) (Nat.le_of_ble_eq_true rfl) (Nat.le_of_ble_eq_true rfl) (fun _ H2 q9 => ?_) (fun _ _ q9 => absurd q9 zO.no)
    obtain ⟨_, q8, c', w', e1, z2, q1, q2⟩ := q9
    cases q8
    cases e1
    rw [show s + kGo l s 12 0 - s = kGo l s 12 0 by omega] at q1 q2
    have hP2 : cPo H2 p kw c al (s + kGo l s 12 0, 0) := z2.at hP1 fun q => q
    have hp := hP2
    unfold cPo at hp
    have z3 := z.tr z2 fun _ q => q.elim
    obtain ⟨m1, m2, m3⟩ := up z3
    have hkw := m2.1
    refine zW.astore_n (pc' := 59) dX5_parseKeyword_58 rfl rfl (Nat.le_of_ble_eq_true rfl) rfl (zsS (zsS (zs0))) ?_
    refine zW.aload_n (pc' := 60) dX5_parseKeyword_59 rfl rfl zg0 rfl ?_
    refine zW.aload_n (pc' := 61) dX5_parseKeyword_60 rfl rfl zg0 rfl ?_
    refine zW.get (pc' := 64) dX5_parseKeyword_61 rfl f_X5_27_4 hp ⟨rfl, (Nat.le_of_ble_eq_true rfl)⟩ rfl ?_
    refine zW.aload_n (pc' := 65) dX5_parseKeyword_64 rfl rfl (zgS (zgS (zg0))) rfl ?_
    refine zW.callF (r' := 0) (pc' := 70) dX5_parseKeyword_65 rfl l_X5_95_J38 rfl hkw ⟨rfl, (Nat.le_of_ble_eq_true rfl)⟩ rfl (w_kwHas m1 hS m2 q1) (zcc rfl zc0) rfl (Nat.le_of_ble_eq_true rfl) (Nat.le_of_ble_eq_true rfl) (Nat.le_of_ble_eq_true rfl) (fun _ _ q9 => ?_) (fun _ _ q9 => by cases q9.1)
    obtain ⟨q8, e9⟩ := q9
    cases q8
    replace e9 := e9.symm
    subst e9
    have q3 : cStr H2 c' w' ((l.drop s).take (kGo l s 12 0)) := q1
    have nc : ∀ {H3 : zH}, zfr (fun b => b = p) H2 H3 → cStr H3 c' w' ((l.drop s).take (kGo l s 12 0)) := fun z => by
      obtain ⟨j1, j2, hz, hs, g1, g2, g3, g4, g5⟩ := q1
      exact ⟨j1, j2, hz, hs, z.at g1 (zne g1 hP2 (by omega)), g2, z.at g3 (zne g3 hP2 (by omega)), g4, g5⟩
    have zf := zfr.rf (A := fun b => b = p) (h := H2)
    by_cases t : (l.drop s).take (kGo l s 12 0) ∈ kW
    · rw [if_pos t]
      have e0 : (pHead l s).2 = (s + kGo l s 12 0, 0) := by
        rcases l2 with q | q
        · exact Prod.ext l1 q.1
        · exact absurd t q.2
      refine zW.if_neN (pc' := 73) 77 dX5_parseKeyword_70 rfl (by decide) (by omega) (fun b9 => ?_) (fun b9 => absurd b9 (by omega))
      refine zW.iconst (pc' := 78) (nI 0) dX5_parseKeyword_77 rfl (by decide) ?_
      refine zW.putK (pc' := 81) dX5_parseKeyword_78 rfl f_X5_62_4 hp ⟨⟨rfl, (Nat.le_of_ble_eq_true rfl)⟩, (Nat.le_of_ble_eq_true rfl)⟩ (zFw.of ft_4_4 rfl rfl) (zsS (zsS (zsS (zsS (zs0))))) (fun _ e9 k9 => ?_)
      have zf := zf.put e9 hp (by decide) (Or.inl rfl)
      replace hp := k9
      clear e9 k9
      refine zW.aload_n (pc' := 82) dX5_parseKeyword_81 rfl rfl (zgS (zgS (zg0))) rfl ?_
      refine zW.aret dX5_parseKeyword_82 rfl (Or.inl ⟨_, rfl⟩) rfl ?_
      have z4 := z3.tr zf fun b hb => Or.inl hb
      refine ⟨_, rfl, c', w', rfl, by rw [e0]; exact hp, z4, ⟨_, nc zf⟩, fun g => ?_⟩
      have e5 := l4 g
      have hpos : 0 < kGo l s 12 0 := by
        rcases Nat.eq_zero_or_pos (kGo l s 12 0) with g0 | g0
        · rw [g0, List.take_zero] at t
          exact absurd t (by decide)
        · exact g0
      obtain ⟨r1, r2⟩ := q2 (by omega)
      rw [e5] at r1
      refine ⟨r1.fr zf (zne r1.choose_spec.1 hP2 (by decide)) (zne r1.choose_spec.2.2.1 hP2 (by decide)), ?_⟩
      rcases r2 with r2 | r2
      · exact Or.inl r2
      · exact Or.inr ⟨z.nn0 r2.1, z.nn0 r2.2⟩
    · rw [if_neg t]
      have e0 : (pHead l s).2 = (s + kGo l s 12 0, s + kGo l s 12 0 + 1) := by
        rcases l2 with q | q
        · exact absurd q.2 t
        · exact Prod.ext l1 q.1
      refine zW.if_neN (pc' := 73) 77 dX5_parseKeyword_70 rfl (by decide) (by omega) (fun b9 => absurd b9 (by omega)) (fun b9 => ?_)
      refine zW.iconst (pc' := 74) (nI 1) dX5_parseKeyword_73 rfl (by decide) ?_
      refine zW.goto 78 dX5_parseKeyword_74 (by decide) ?_
      refine zW.putK (pc' := 81) dX5_parseKeyword_78 rfl f_X5_62_4 hp ⟨⟨rfl, (Nat.le_of_ble_eq_true rfl)⟩, (Nat.le_of_ble_eq_true rfl)⟩ (zFw.of ft_4_4 rfl rfl) (zsS (zsS (zsS (zsS (zs0))))) (fun _ e9 k9 => ?_)
      have zf := zf.put e9 hp (by decide) (Or.inl rfl)
      replace hp := k9
      clear e9 k9
      refine zW.aload_n (pc' := 82) dX5_parseKeyword_81 rfl rfl (zgS (zgS (zg0))) rfl ?_
      refine zW.aret dX5_parseKeyword_82 rfl (Or.inl ⟨_, rfl⟩) rfl ?_
      have z4 := z3.tr zf fun b hb => Or.inl hb
      refine ⟨_, rfl, c', w', rfl, by rw [e0]; unfold cPo; rw [if_neg (Nat.succ_ne_zero _)]; exact hp, z4, ⟨_, nc zf⟩, fun g => ?_⟩
      rw [e0] at g
      exact absurd g (Nat.succ_ne_zero _)
  have loop : ∀ (m n : Nat) (H : zH) (v2 : Value), n + m = 12 → kGo l s 12 0 = kGo l s m n → s + n ≤ l.length → (n = 0 ∨ kPre ((l.drop s).take n) = true) → zfr (fun b => b = p) h H → cPo H p kw c al (s + n, 0) → zW G mX5_parseKeyword 9 (27 * m + 26) 5 [.ref p, .int (nI s), v2] [] H (cKy h p kw c w al l s) := by
    intro m
    induction m with
    | zero =>
      intro n H v2 hm hg hn hq z hP1
      have q := hq.resolve_left (by omega)
      have := kPre_len q
      rw [List.length_take, List.length_drop] at this
      omega
    | succ m ih =>
      intro n H v2 hm hg hn hq z hP1
      obtain ⟨k1, k2, k3⟩ := up z
      have hp := hP1
      unfold cPo at hp
      obtain ⟨hs1, d1, d2, d3, d4⟩ := id k3
      have hg2 : kGo l s (m + 1) n = if s + n < l.length ∧ kPre ((l.drop s).take (n + 1)) = true then kGo l s m (n + 1) else n := by rw [kGo]
      rw [hg2] at hg
      refine zW.aload_n (pc' := 6) dX5_parseKeyword_5 rfl rfl zg0 rfl ?_
      refine zW.callV (r' := 0) (pc' := 9) dX5_parseKeyword_6 rfl l_X5_54 rfl hp ⟨rfl, (Nat.le_of_ble_eq_true rfl)⟩ rfl (w_atEnd hP1 k3.str hn) zc0 rfl (Nat.le_of_ble_eq_true rfl) (Nat.le_of_ble_eq_true rfl) (Nat.le_of_ble_eq_true rfl) (fun _ _ q9 => ?_) (fun _ _ q9 => by cases q9.1)
      obtain ⟨q8, e9⟩ := q9
      cases q8
      replace e9 := e9.symm
      subst e9
      by_cases q1 : s + n = l.length
      · rw [if_pos q1]
        refine zW.if_neN (pc' := 12) 46 dX5_parseKeyword_9 rfl (by decide) (by omega) (fun b9 => ?_) (fun b9 => absurd b9 (by omega))
        rw [if_neg (fun q => by omega)] at hg
        refine zW.pay (r1 := 26) ?_ (by omega)
        exact fin H v2 z (by rw [hg]; exact hP1)
      · rw [if_neg q1]
        refine zW.if_neN (pc' := 12) 46 dX5_parseKeyword_9 rfl (by decide) (by omega) (fun b9 => absurd b9 (by omega)) (fun b9 => ?_)
        refine zW.pay (r1 := (27 * m + 26 + 1) + 26) ?_ (by omega)
        refine zW.aload_n (pc' := 13) dX5_parseKeyword_12 rfl rfl zg0 rfl ?_
        refine zW.aload_n (pc' := 14) dX5_parseKeyword_13 rfl rfl zg0 rfl ?_
        refine zW.get (pc' := 17) dX5_parseKeyword_14 rfl f_X5_40_4 hp ⟨rfl, (Nat.le_of_ble_eq_true rfl)⟩ rfl ?_
        refine zW.iload_n (pc' := 18) dX5_parseKeyword_17 rfl rfl (zgS (zg0)) ?_
        refine zW.aload_n (pc' := 19) dX5_parseKeyword_18 rfl rfl zg0 rfl ?_
        refine zW.get (pc' := 22) dX5_parseKeyword_19 rfl f_X5_44_4 hp ⟨rfl, (Nat.le_of_ble_eq_true rfl)⟩ rfl ?_
        refine zW.iconst (pc' := 23) (nI 1) dX5_parseKeyword_22 rfl (by decide) ?_
        refine zW.iaddN (pc' := 24) dX5_parseKeyword_23 rfl ?_
        refine zW.callV (r' := 26) (pc' := 27) dX5_parseKeyword_24 rfl l_X5_87 rfl d1 ⟨rfl, (Nat.le_of_ble_eq_true rfl)⟩ rfl (w_strSub hS k1 k3 (i := s) (j := s + n + 1) (by omega) (by omega) (by omega)) (zcc rfl (zcc rfl zc0)) rfl (Nat.le_of_ble_eq_true rfl) (Nat.le_of_ble_eq_true rfl) (Nat.le_of_ble_eq_true rfl) (fun _ H2 q9 => ?_) (fun _ _ q9 => absurd q9 zO.no)
        obtain ⟨_, q8, c', w', e1, z2, q3, -⟩ := q9
        cases q8
        cases e1
        rw [show s + n + 1 - s = n + 1 by omega] at q3
        have hP2 : cPo H2 p kw c al (s + n, 0) := z2.at hP1 fun q => q
        have hp := hP2
        unfold cPo at hp
        have z3 := z.tr z2 fun _ q => q.elim
        obtain ⟨m1, m2, m3⟩ := up z3
        refine zW.callV (r' := 1) (pc' := 30) dX5_parseKeyword_27 rfl l_X5_91 rfl hp ⟨rfl, (Nat.le_of_ble_eq_true rfl)⟩ rfl (w_isKwPre m1 hS hP2 m2 q3) (zcc rfl zc0) rfl (Nat.le_of_ble_eq_true rfl) (Nat.le_of_ble_eq_true rfl) (Nat.le_of_ble_eq_true rfl) (fun _ _ q9 => ?_) (fun _ _ q9 => by cases q9.1)
        obtain ⟨q8, e9⟩ := q9
        cases q8
        replace e9 := e9.symm
        subst e9
        by_cases t : kPre ((l.drop s).take (n + 1)) = true
        · rw [if_pos t]
          rw [if_pos ⟨by omega, t⟩] at hg
          have zf := zfr.rf (A := fun b => b = p) (h := H2)
          refine zW.if_eqN (pc' := 33) 46 dX5_parseKeyword_30 rfl (by decide) (by omega) (fun b9 => absurd b9 (by omega)) (fun b9 => ?_)
          refine zW.aload_n (pc' := 34) dX5_parseKeyword_33 rfl rfl zg0 rfl ?_
          refine zW.dup (pc' := 35) dX5_parseKeyword_34 rfl rfl ?_
          refine zW.get (pc' := 38) dX5_parseKeyword_35 rfl f_X5_44_4 hp ⟨rfl, (Nat.le_of_ble_eq_true rfl)⟩ rfl ?_
          refine zW.iconst (pc' := 39) (nI 1) dX5_parseKeyword_38 rfl (by decide) ?_
          refine zW.iaddN (pc' := 40) dX5_parseKeyword_39 rfl ?_
          refine zW.putK (pc' := 43) dX5_parseKeyword_40 rfl f_X5_44_4 hp ⟨⟨rfl, (Nat.le_of_ble_eq_true rfl)⟩, (Nat.le_of_ble_eq_true rfl)⟩ (zFw.of ft_4_3 rfl rfl) (zsS (zsS (zsS (zs0)))) (fun _ e9 k9 => ?_)
          have zf := zf.put e9 hp (by decide) (Or.inl rfl)
          replace hp := k9
          clear e9 k9
          refine zW.goto 5 dX5_parseKeyword_43 (by decide) ?_
          exact ih (n + 1) _ v2 (by omega) hg (by omega) (Or.inr t) (z3.tr zf fun b hb => Or.inl hb) hp
        · rw [if_neg t]
          rw [if_neg (fun q => t q.2)] at hg
          refine zW.if_eqN (pc' := 33) 46 dX5_parseKeyword_30 rfl (by decide) (by omega) (fun b9 => ?_) (fun b9 => absurd b9 (by omega))
          refine zW.pay (r1 := 26) ?_ (by omega)
          exact fin H2 v2 z3 (by rw [hg]; exact hP2)
  have hp := hP
  unfold cPo at hp
  show zW G mX5_parseKeyword 9 350 0 [.ref p, zho, zho] [] h _
  refine zW.aload_n (pc' := 1) dX5_parseKeyword_0 rfl rfl zg0 rfl ?_
  refine zW.get (pc' := 4) dX5_parseKeyword_1 rfl f_X5_44_4 hp ⟨rfl, (Nat.le_of_ble_eq_true rfl)⟩ rfl ?_
  refine zW.istore_n (pc' := 5) dX5_parseKeyword_4 rfl rfl (Nat.le_of_ble_eq_true rfl) (zsS (zs0)) ?_
  exact loop 12 0 h zho rfl rfl hs (Or.inl rfl) zfr.rf hP
end
