/-! THE CLASS's run, the whole -/
section
set_option maxRecDepth 100000
variable {G : zG} {h h' h0 h1 H : zH} {O U V : Nat → Prop} {x tt nn al ea n : Nat} {w : sW} {es : List Nat} {cs : List pC}
theorem w_alSize2 {mc : Int32} (ha : h al = some (11, [.int mc, .ref ea, .int (nI n)])) : zK G mJ39_size 1 0 [.ref al] h (zPu h (some (.int (nI n)))) := by
  show zW G mJ39_size 1 0 0 [.ref al] [] h _
  refine zW.aload_n (pc' := 1) dJ39_size_0 rfl rfl zg0 rfl ?_
  refine zW.get (pc' := 4) dJ39_size_1 rfl f_J39_48_11 ha ⟨rfl, (Nat.le_of_ble_eq_true rfl)⟩ rfl ?_
  refine zW.iret dJ39_size_4 rfl (rfl) ?_
  exact ⟨rfl, rfl⟩
theorem cCmds.bs (k : cCmds H h0 es cs) (n : ∀ b, h0 b = none → h b = none) : cCmds H h es cs := ⟨k.1, fun i y c e1 e2 => by
  obtain ⟨kc, kv, ar, g, h1, h2, h3, h4, h5, f1, f2, f3, f4⟩ := k.2 i y c e1 e2
  exact ⟨kc, kv, ar, g, h1, h2, h3, h4, h5, n _ f1, n _ f2, n _ f3, n _ f4⟩⟩
theorem sRunA_2 : ((sRunA w cs).1 = 0 → (sRunA w cs).2.1 = nI cs.length) := by
  unfold sRunA
  split
  · exact fun _ => rfl
  · exact fun q => absurd q (by show ¬ (2 = 0); decide)
theorem c_run (hk : zkn G h) (hZ : zkI G) (hS : zkS G) (hL : zkL G) (hE : zkE G) (hG : cReg x 0 [] w h U) (hJ : sJ tt nn w.1) (hN : nn + 15 ≤ 10000) (hT : tt + 50 * 16 < 100000) (hl : w.2.2.2.2.1.length ≤ 60) : zK G mX1_run 34 46060 [.ref x] h (cOut x U h [eArg, eSta] (sRun w)) := by
  obtain ⟨st, O, hSt, l, k⟩ := hG.shut
  obtain ⟨sv, hq, ib, lb, v, Ob, hx, nox, kB, ⟨o1, o2⟩, lB, put⟩ := k.inp0
  obtain ⟨ml, t, hib, hv, hm, h128⟩ := id kB
  have nOb : ∀ {b : Nat}, h b = none → ¬ Ob b := fun n q => (lB _ q).2 n
  have zf := zfr.rf (A := fun _ => False) (h := h)
  have hl128 : ∀ y ∈ w.2.2.2.2.1, y < 128 := fun y hy => h128 y (List.mem_append_left _ hy)
  have hx0 := hx
  have hib0 := hib
  generalize hin : w.2.2.2.2.1 = inp at *
  show zW G mX1_run 34 46060 0 [.ref x, zho] [] h _
  refine zW.newK (u := 2) (pc' := 3) dX1_run_0 rfl n_X1_429 zd_4 (fun p _ np e9 k9 => ?_)
  have hx := zpres e9 (zfresh np hx) hx
  have hib := zpres e9 (zfresh np hib) hib
  have op := zf.nn0 np
  have zf := zf.new e9 np
  have hp := k9
  clear k9
  clear e9
  have hv := zf.at hv fun q => q
  refine zW.dup (pc' := 4) dX1_run_3 rfl rfl ?_
  refine zW.aload_n (pc' := 5) dX1_run_4 rfl rfl zg0 rfl ?_
  refine zW.get (pc' := 8) dX1_run_5 rfl f_X1_26_0 hx ⟨rfl, (Nat.le_of_ble_eq_true rfl)⟩ rfl ?_
  refine zW.callV (r' := 26) (pc' := 11) dX1_run_8 rfl l_X1_431 rfl hib ⟨rfl, (Nat.le_of_ble_eq_true rfl)⟩ rfl (w_sbStr ⟨ml, t, hib, hv, hm, h128⟩ (by omega)) zc0 rfl (Nat.le_of_ble_eq_true rfl) (Nat.le_of_ble_eq_true rfl) (Nat.le_of_ble_eq_true rfl) (fun _ H2 q9 => ?_) (fun _ _ q9 => absurd q9 zO.no)
  obtain ⟨_, q8, c, cw, e1, ⟨n1, n2, n3⟩, kN, z2⟩ := q9
  cases q8
  cases e1
  have c0 := zf.nn0 n1
  have cw0 := zf.nn0 n2
  have hp := z2.at hp fun q => q
  have zf := zf.tr z2 fun b q => q.elim
  refine zW.callI (r' := 10) (pc' := 14) dX1_run_11 rfl l_X1_435 rfl (w_parInit (zf.kn hk) hS hE hp (c := c)) (zcc rfl zc0) rfl (Nat.le_of_ble_eq_true rfl) (Nat.le_of_ble_eq_true rfl) (Nat.le_of_ble_eq_true rfl) (fun _ H3 q9 => ?_) (fun _ _ q9 => absurd q9 zO.no)
  obtain ⟨_, q8, e1, kw, ka, al, P, K, A, ⟨m1, m2, m3⟩, z3⟩ := q9
  cases q8
  subst e1
  have kw0 := zf.nn0 m1
  have ka0 := zf.nn0 m2
  have al0 := zf.nn0 m3
  obtain ⟨hsN, hcN, hcN2, hwN, hcN3⟩ := id kN
  have kN := kN.fr z3 (zne hcN hp (by decide)) (zne hwN hp (by decide))
  have zf : zfr (fun _ => False) h H3 := zf.tr z3 fun b hb => Or.inr (by rw [hb]; exact op)
  have hx3 := zf.at hx0 fun q => q
  have hib3 := zf.at hib0 fun q => q
  have kB3 := kB.fr zf (fun q => q) fun q => q
  refine zW.astore_n (pc' := 15) dX1_run_14 rfl rfl (Nat.le_of_ble_eq_true rfl) rfl (zsS (zs0)) ?_
  refine zW.aload_n (pc' := 16) dX1_run_15 rfl rfl zg0 rfl ?_
  refine zW.get (pc' := 19) dX1_run_16 rfl f_X1_26_0 hx3 ⟨rfl, (Nat.le_of_ble_eq_true rfl)⟩ rfl ?_
  refine zW.iconst (pc' := 20) (nI 0) dX1_run_19 rfl (by decide) ?_
  refine zW.callV (r' := 0) (pc' := 23) dX1_run_20 rfl l_X1_355 rfl hib3 ⟨rfl, (Nat.le_of_ble_eq_true rfl)⟩ rfl (w_sbClear0 kB3) (zcc rfl zc0) rfl (Nat.le_of_ble_eq_true rfl) (Nat.le_of_ble_eq_true rfl) (Nat.le_of_ble_eq_true rfl) (fun _ H4 q9 => ?_) (fun _ _ q9 => absurd q9 zO.no)
  obtain ⟨_, q8, e1, kB4, z4⟩ := q9
  cases q8
  subst e1
  have nz : ∀ {b : Nat}, h b = none → ¬ (b = ib ∨ b = v) := fun n q => q.elim (fun e => (lB ib o1).2 (by rw [← e]; exact n)) fun e => (lB v o2).2 (by rw [← e]; exact n)
  have zO4 : zfr Ob h H4 := (zf.mono fun b q => q.elim).tr z4 fun b hb => Or.inl (hb.elim (fun e => by rw [e]; exact o1) fun e => by rw [e]; exact o2)
  have hE4 := ((zO4.kn hk) _ _ hE).1
  have hP : cPar G (hzR h H4) H4 p kw ka c cw al (zg_a G 3) inp (0, 0) [] [] := by
    obtain ⟨mc, kk, t, ha, hea, hkk, hb, hee⟩ := A
    have hkk := hkk.resolve_left fun q => absurd q.2 (by decide)
    obtain ⟨-, rfl, -, rfl⟩ := hkk
    refine ⟨z4.at P (nz op), K.fr z4 (nz kw0) (nz ka0), kN.fr z4 (nz c0) (nz cw0), ⟨mc, 1104, 0, z4.at ha (nz al0), hE4, Or.inr ⟨rfl, rfl, rfl, rfl⟩, hb, fun x hx => by cases hx⟩, fun _ => ⟨rfl, fun i x c e _ => by cases e⟩, ⟨hzR_n op, hzR_n kw0, hzR_n ka0, hzR_n c0, hzR_n cw0, hzR_n al0, fun q => absurd q (by decide)⟩, ⟨?_, rfl⟩, hzR_fr h H4⟩
    intro e
    have := (hk _ _ hE).1
    rw [← e, ka0] at this
    cases this
  have hk4 : zkn G (hzR h H4) := fun a y q => ⟨(hzR_s (by rw [(hk a y q).1]; exact fun q => by cases q)).trans ((zO4.kn hk) a y q).1, (hk a y q).2⟩
  have hp4 := hP.1
  unfold cPo at hp4
  refine zW.aload_n (pc' := 24) dX1_run_23 rfl rfl (zgS (zg0)) rfl ?_
  refine zW.callV (r' := 23300) (pc' := 27) dX1_run_24 rfl l_X1_438 rfl hp4 ⟨rfl, (Nat.le_of_ble_eq_true rfl)⟩ rfl (w_parse2 hk4 hS hP hl) zc0 rfl (Nat.le_of_ble_eq_true rfl) (Nat.le_of_ble_eq_true rfl) (Nat.le_of_ble_eq_true rfl) (fun _ H5 q9 => ?_) (fun _ _ q9 => absurd q9 zO.no)
  obtain ⟨_, q8, e1, ea, es, k5, ok⟩ := q9
  cases q8
  cases e1
  have z5 := zO4.mix k5.2.2.2.2.2.2.2
  have e5 : ∀ b, h b ≠ none → H5 b = H4 b := fun b q => (k5.2.2.2.2.2.2.2.1 b (fun q => q) (hzR_l zO4 q)).trans (hzR_s q)
  have kR := put H5 [] z5 (kB4.eq (e5 ib (lB ib o1).2) (e5 v (lB v o2).2))
  have hS5 := hSt.fr z5 fun b hb q => (lB b q).1.2 hb
  have l5 : ∀ b, O b → (U b ∧ h b ≠ none) ∧ H5 b ≠ none := fun b hb => ⟨(l b hb).1, z5.2.1 b (l b hb).2⟩
  have P5 := k5.1
  unfold cPo at P5
  have nc : (pFin inp (pLoop inp 60 (pCmd inp 0).2 [(pCmd inp 0).1])).2 = (pParse inp).2 := rfl
  by_cases e0 : (pParse inp).2 = 0
  · obtain ⟨cn1, cn2⟩ := pParse_cnt hl128 hl e0
    have e9 : (pLoop inp 60 (pCmd inp 0).2 [(pCmd inp 0).1]).1 = (pParse inp).1 := rfl
    rw [nc, if_pos e0]
    refine zW.if_neN (pc' := 30) 46 dX1_run_27 rfl (by decide) (by omega) (fun b9 => ?_) (fun b9 => absurd b9 (by omega))
    refine zW.aload_n (pc' := 47) dX1_run_46 rfl rfl zg0 rfl ?_
    refine zW.aload_n (pc' := 48) dX1_run_47 rfl rfl (zgS (zg0)) rfl ?_
    refine zW.get (pc' := 51) dX1_run_48 rfl f_X1_444_4 P5 ⟨rfl, (Nat.le_of_ble_eq_true rfl)⟩ rfl ?_
    have kA5 := k5.2.2.2.1
    have eq : sRun w = sRunA (w.1, w.2.1, w.2.2.1, w.2.2.2.1, [], w.2.2.2.2.2.1, w.2.2.2.2.2.2) (pParse inp).1 := by
      unfold sRun sRunA
      rw [hin, if_pos e0]
    have n5 : ∀ b, hzR h H4 b = none → h b = none := fun b q => Classical.byContradiction fun z => hzR_l zO4 z q
    have hc5 := (k5.2.2.2.2.1 (nc.trans e0)).bs n5
    have hel := hc5.1
    rw [e9] at hc5 hel
    have zU5 : zfr (fun b => U b ∧ h b ≠ none) h H5 := z5.mono fun b hb => Or.inl (lB b hb).1.1
    have hG5 : cReg x 0 [] (w.1, w.2.1, w.2.2.1, w.2.2.2.1, [], w.2.2.2.2.2.1, w.2.2.2.2.2.2) H5 (fun b => U b ∧ h b ≠ none) := ⟨st, O, hS5, l5, kR⟩
    obtain ⟨fs5, hx5, -⟩ := kR.hx
    refine zW.pay (r1 := 0 + (1500 * (pParse inp).1.length + 162)) ?_ (by omega)
    refine zW.callVH (r' := _) (pc' := 54) dX1_run_51 rfl l_X1_448 rfl hx5 ⟨rfl, (Nat.le_of_ble_eq_true rfl)⟩ rfl (w_executeAll hk hZ hS hL zU5 hG5 (fun b q ↦ q.2) rfl kA5 ⟨al0, fun q ↦ n5 _ (k5.2.2.2.2.2.1.2.2.2.2.2.2 q)⟩ hc5 hJ cn2 (by omega) (by omega)) (zcc rfl zc0) rfl (Nat.le_of_ble_eq_true rfl) (Nat.le_of_ble_eq_true rfl) (Nat.le_of_ble_eq_true rfl) ?_ ?_
    · intro v9 h9 q9
      obtain ⟨⟨g1, g2⟩, q9⟩ := q9
      rcases q9 with ⟨r1, r2⟩ | ⟨-, r2⟩
      rotate_left
      · cases r2
      cases r2
      have nB : ∀ {b k : Nat} {fs : List Value}, h b = none → H5 b = some (k, fs) → k ≠ 14 → ¬ cBx (fun b => U b ∧ h b ≠ none) h H5 b := fun n e q z => z.elim (fun z => z.2 n) fun ⟨_, fs', z⟩ => by
        rw [e] at z
        cases z
        exact q rfl
      obtain ⟨mc, kk, t, hal, -⟩ := id kA5
      have P9 := g2.at P5 (nB op P5 (by decide))
      have hal9 := g2.at hal (nB al0 hal (by decide))
      refine zW.aload_n (pc' := 55) dX1_run_54 rfl rfl (zgS (zg0)) rfl ?_
      refine zW.get (pc' := 58) dX1_run_55 rfl f_X1_444_4 P9 ⟨rfl, (Nat.le_of_ble_eq_true rfl)⟩ rfl ?_
      refine zW.callV (r' := 0) (pc' := 61) dX1_run_58 rfl l_X1_452 rfl hal9 ⟨rfl, (Nat.le_of_ble_eq_true rfl)⟩ rfl (w_alSize2 hal9) zc0 rfl (Nat.le_of_ble_eq_true rfl) (Nat.le_of_ble_eq_true rfl) (Nat.le_of_ble_eq_true rfl) (fun _ _ q9 => ?_) (fun _ _ q9 => by cases q9.1)
      obtain ⟨q8, e9⟩ := q9
      cases q8
      replace e9 := e9.symm
      subst e9
      refine zW.iret dX1_run_61 rfl (rfl) ?_
      refine ⟨⟨?_, ?_⟩, ?_⟩
      · rw [eq]
        refine g1.up fun b hb _ => ?_
        rcases hb with (hb | hb) | hb
        · exact Or.inl hb.1
        · exact Or.inr hb.1
        · exact Or.inr (z5.nn0 hb)
      · exact (zU5.mono fun b hb => Or.inl hb.1).tr g2 fun b hb => hb.elim (fun q => Or.inl q.1) fun q => Or.inr q.1
      · rw [eq]
        refine Or.inl ⟨r1, ?_⟩
        rw [sRunA_2 r1, hel]
    · intro v9 h9 q9
      obtain ⟨⟨g1, g2⟩, q9⟩ := q9
      rcases q9 with ⟨-, r2⟩ | ⟨r1, r2⟩
      · cases r2
      cases r2
      refine zX.out0 rfl ?_
      refine ⟨⟨?_, ?_⟩, ?_⟩
      · rw [eq]
        refine g1.up fun b hb _ => ?_
        rcases hb with (hb | hb) | hb
        · exact Or.inl hb.1
        · exact Or.inr hb.1
        · exact Or.inr (z5.nn0 hb)
      · exact (zU5.mono fun b hb => Or.inl hb.1).tr g2 fun b hb => hb.elim (fun q => Or.inl q.1) fun q => Or.inr q.1
      · rw [eq]
        refine Or.inr ⟨by rw [r1]; decide, eSta, by rw [r1]; rfl, rfl⟩
  · rw [nc, if_neg e0]
    obtain ⟨sv2, hq2, ib2, lb2, Oy, hx5, oy, ly, put2⟩ := kR.putx
    have ok2 := ok.resolve_left (by rw [nc]; exact e0)
    rw [nc] at ok2
    have zg := zfr.rf (A := Oy) (h := H5)
    refine zW.if_neN (pc' := 30) 46 dX1_run_27 rfl (by decide) (by omega) (fun b9 => absurd b9 (by omega)) (fun b9 => ?_)
    refine zW.aload_n (pc' := 31) dX1_run_30 rfl rfl zg0 rfl ?_
    refine zW.aload_n (pc' := 32) dX1_run_31 rfl rfl (zgS (zg0)) rfl ?_
    refine zW.get (pc' := 35) dX1_run_32 rfl f_X1_441_4 P5 ⟨rfl, (Nat.le_of_ble_eq_true rfl)⟩ rfl ?_
    refine zW.putK (pc' := 38) dX1_run_35 rfl f_X1_33_0 hx5 ⟨⟨rfl, (Nat.le_of_ble_eq_true rfl)⟩, (Nat.le_of_ble_eq_true rfl)⟩ (zFw.of ft_0_6 rfl rfl) (zsS (zsS (zsS (zsS (zsS (zsS (zs0))))))) (fun _ e9 k9 => ?_)
    have P5 := zpres e9 (zne P5 hx5 (by decide)) P5
    have zg := zg.put e9 hx5 (by decide) (Or.inl oy)
    replace hx5 := k9
    clear e9 k9
    refine zW.throw0 zT_arg dX1_run_38 dX1_run_41 dX1_run_42 dX1_run_45 (fun _ q => by cases q) (Nat.le_of_ble_eq_true rfl) (Nat.le_of_ble_eq_true rfl) (by omega) ?_
    have es : sRun w = (1, nI 0, (w.1, w.2.1, w.2.2.1, w.2.2.2.1, [], (pParse inp).2, w.2.2.2.2.2.2)) := by
      unfold sRun
      rw [hin, if_neg e0]
    rw [es]
    have e1 : nI (pParse inp).2 - nI 1 = nI (pLoop inp 60 (pCmd inp 0).2 [(pCmd inp 0).1]).2.1 := by
      rw [ok2]
      exact nI_sub (Nat.le_add_left _ _)
    have k6 := put2 _ st 0 (pParse inp).2 w.2.2.2.2.2.2 zg (by rw [e1]; exact hx5)
    have hS6 := hS5.fr zg fun b hb q => (ly b q).1.2 hb
    refine ⟨⟨⟨st, O, hS6, fun b hb => ⟨Or.inl (l b hb).1.1, zg.2.1 b (l5 b hb).2⟩, k6.up fun b hb hl => ?_⟩, (z5.mono fun b hb => Or.inl (lB b hb).1.1.1).tr zg fun b hb => Or.inl (ly b hb).1.1.1⟩, Or.inr ⟨Nat.succ_ne_zero 0, eArg, rfl, rfl⟩⟩
    rcases hb with hb | hb
    · exact ⟨Or.inl hb.1.1, hb.2⟩
    · exact ⟨Or.inr (z5.nn0 hb), fun q => (l5 b q).2 hb⟩
end
