/-! THE CLASS's executeAll */ -/
section
set_option maxRecDepth 100000
variable {G : zG} {h h' h0 h1 H : zH} {O U V : Nat → Prop} {x st e al ea tt nn : Nat} {X : List zA} {w : sW} {wr : cWr} {s s0 : sS} {es : List Nat} {cs : List pC} {Q : zR → zH → Prop} {d r : Nat} {L : List Value}
theorem exAll_catch {E : String} (hE : E = eArg ∨ E = eSta ∨ E = eElt) (kq : ∀ q, zW G mX1_executeAll d r 68 L [.ref q] h Q) : zX G mX1_executeAll d r 51 L E h Q := by
  have nc : ∀ z ∈ zNc, ∀ s, zTb G s → va_Nc z.1 z.2 s := fun z hz s hT => hT.2.2.2.2.2.2.2.1.2.2.2.1 z hz
  rcases hE with rfl | rfl | rfl
  · exact zX.catch (name := eArg) [] _ _ rfl 68 rfl (fun z hz => by cases hz) rfl (by decide) (lw_all_tbl q1520) (by first | exact q597 | exact lw_all_tbl q597) kq
  · refine zX.catch (name := eSta) [_] _ _ rfl 68 rfl (fun z hz => ?_) rfl (by decide) (lw_all_tbl q1528) (by first | exact q1179 | exact lw_all_tbl q1179) kq
    rw [List.mem_singleton.mp hz]
    exact Or.inr ⟨by decide, eArg, lw_all_tbl q1520, nc (eSta, eArg) (by decide)⟩
  · refine zX.catch (name := eElt) [_, _] _ _ rfl 68 rfl (fun z hz => ?_) rfl (by decide) (lw_all_tbl q1550) (by first | exact q835 | exact lw_all_tbl q835) kq
    rcases List.mem_cons.mp hz with hz | hz
    · rw [hz]
      exact Or.inr ⟨by decide, eArg, lw_all_tbl q1520, nc (eElt, eArg) (by decide)⟩
    · rw [List.mem_singleton.mp hz]
      exact Or.inr ⟨by decide, eSta, lw_all_tbl q1528, nc (eElt, eSta) (by decide)⟩
theorem cEx_3 {n : Nat} : cEx n = eArg ∨ cEx n = eSta ∨ cEx n = eElt := by
  match n with
  | 0 => exact Or.inr (Or.inl rfl)
  | 1 => exact Or.inr (Or.inr rfl)
  | 2 => exact Or.inl rfl
  | n + 3 => exact Or.inr (Or.inl rfl)
/-- a run's end, as executeAll leaves it -/
abbrev cEA (x : Nat) (U : Nat → Prop) (h0 : zH) (q : Nat × Int32 × sW) : zR → zH → Prop := fun o h' => (cReg x 0 [] q.2.2 h' (zext U h0) ∧ zfr U h0 h') ∧ ((q.1 = 0 ∧ o = .inl none) ∨ (q.1 = 2 ∧ o = .inr eSta))
/-- behind a command that failed -/
theorem exAll_bad {i : Nat} {Ui : Nat → Prop} (hin : w.2.2.2.2.1 = []) (hG : cReg x 1 [iS st w.1] (s, w.2) H Ui) (hU : ∀ b, Ui b → U b ∨ h0 b = none) (zH0 : zfr U h0 H) (hi : (sDos cs w.1).1 = i) (hlt : i < cs.length) {v1 v4 v5 v6 : Value} {q : Nat} (hi30 : i < 2 ^ 30) : zW G mX1_executeAll 33 2 68 [.ref x, v1, .ref st, .int (nI i), v4, v5, v6] [.ref q] H (cEA x U h0 (sRunA w cs)) := by
  obtain ⟨st2, O2, hS2, l2, k2⟩ := hG
  obtain ⟨O3, hS3, -, l3, k3⟩ := k2.takeX
  obtain ⟨sv, hq, ib, lb, Oy, hx, oy, ly, put⟩ := k3.putx
  have zf := zfr.rf (A := Oy) (h := H)
  refine zW.astore (pc' := 70) dX1_executeAll_68 rfl (Nat.le_of_ble_eq_true rfl) rfl (zsS (zsS (zsS (zsS (zs0))))) ?_
  refine zW.aload_n (pc' := 71) dX1_executeAll_70 rfl rfl zg0 rfl ?_
  refine zW.aload_n (pc' := 72) dX1_executeAll_71 rfl rfl (zgS (zgS (zg0))) rfl ?_
  refine zW.putK (pc' := 75) dX1_executeAll_72 rfl f_X1_10_0 hx ⟨⟨rfl, (Nat.le_of_ble_eq_true rfl)⟩, (Nat.le_of_ble_eq_true rfl)⟩ (zFw.of ft_0_0 rfl rfl) zs0 (fun _ e9 k9 => ?_)
  have zf := zf.put e9 hx (by decide) (Or.inl oy)
  replace hx := k9
  clear e9 k9
  refine zW.aload_n (pc' := 76) dX1_executeAll_75 rfl rfl zg0 rfl ?_
  refine zW.iload_n (pc' := 77) dX1_executeAll_76 rfl rfl (zgS (zgS (zgS (zg0)))) ?_
  refine zW.putK (pc' := 80) dX1_executeAll_77 rfl f_X1_37_0 hx ⟨⟨rfl, (Nat.le_of_ble_eq_true rfl)⟩, (Nat.le_of_ble_eq_true rfl)⟩ (zFw.of ft_0_7 rfl rfl) (zsS (zsS (zsS (zsS (zsS (zsS (zsS (zs0)))))))) (fun _ e9 k9 => ?_)
  have zf := zf.put e9 hx (by decide) (Or.inl oy)
  replace hx := k9
  clear e9 k9
  refine zW.make0 zT_sta dX1_executeAll_80 dX1_executeAll_83 dX1_executeAll_84 (Nat.le_of_ble_eq_true rfl) (Nat.le_of_ble_eq_true rfl) (fun q2 _ sl nq e9 k9 => ?_)
  have zf := zf.new e9 nq
  have hx := zpres e9 (zfresh nq hx) hx
  have hq2 := k9
  clear e9 k9
  refine zW.athrowAny dX1_executeAll_87 hq2 [_, _, _, _] _ [] rfl 88 rfl (by decide) rfl rfl ?_
  have nx : q2 ≠ x := zne hq2 hx (by decide)
  refine zW.astore (pc' := 90) dX1_executeAll_88 rfl (Nat.le_of_ble_eq_true rfl) rfl (zsS (zsS (zsS (zsS (zsS (zsS (zs0))))))) ?_
  refine zW.aload_n (pc' := 91) dX1_executeAll_90 rfl rfl zg0 rfl ?_
  refine zW.iconst (pc' := 92) (nI 0) dX1_executeAll_91 rfl (by decide) ?_
  refine zW.putK (pc' := 95) dX1_executeAll_92 rfl f_X1_56_0 hx ⟨⟨rfl, (Nat.le_of_ble_eq_true rfl)⟩, (Nat.le_of_ble_eq_true rfl)⟩ (zFw.of ft_0_5 rfl rfl) (zsS (zsS (zsS (zsS (zsS (zs0)))))) (fun _ e9 k9 => ?_)
  have zf := zf.put e9 hx (by decide) (Or.inl oy)
  have ex := e9
  replace hx := k9
  clear e9 k9
  refine zW.aload (pc' := 97) dX1_executeAll_95 rfl (zgS (zgS (zgS (zgS (zgS (zgS (zg0))))))) rfl ?_
  have hq2 := zpres ex nx hq2
  refine zW.athrow dX1_executeAll_97 hq2 (by decide) ?_
  have e1 : nI (i + 1) - nI 1 = nI i := nI_sub (by omega)
  have k4 := put _ st 0 w.2.2.2.2.2.1 (i + 1) zf (by rw [e1]; exact hx)
  rw [sRunA_bad hi hlt]
  have hS4 := hS3.fr zf fun b hb q => (ly b q).1.2 hb
  refine ⟨⟨⟨st, O3, hS4, fun b hb => ⟨hU b (l3 b hb).1.1, zf.2.1 b (l3 b hb).2⟩, ?_⟩, zH0.tr zf fun b hb => hU b (ly b hb).1.1.1⟩, Or.inr ⟨rfl, rfl⟩⟩
  have k5 := k4.up (V := fun b => zext U h0 b ∧ ¬ O3 b) fun b hb hl => by
    rcases hb with hb | hb
    · exact ⟨hU b hb.1.1, hb.2⟩
    · exact ⟨Or.inr (zH0.nn0 hb), fun q => (l3 b q).2 hb⟩
  rw [← hin]
  exact k5
/-- behind all commands -/
theorem exAll_fin {Ui : Nat → Prop} (hk : zkn G h0) (hZ : zkI G) (hin : w.2.2.2.2.1 = []) (hG : cReg x 1 [iS st w.1] (s, w.2) H Ui) (hU : ∀ b, Ui b → U b ∨ h0 b = none) (zH0 : zfr U h0 H) (hJ : sJ tt nn w.1) (hN : nn ≤ 10000) (h1 : (sDos cs w.1).1 = cs.length) (h2 : (sDos cs w.1).2 = s) {v1 v3 v4 v5 v6 : Value} : zW G mX1_executeAll 33 82 60 [.ref x, v1, .ref st, v3, v4, v5, v6] [] H (cEA x U h0 (sRunA w cs)) := by
  obtain ⟨st2, O2, hS2, l2, k2⟩ := hG
  obtain ⟨O3, hS3, -, l3, k3⟩ := k2.takeX
  obtain ⟨sv, hq, ib, lb, Oy, hx, oy, ly, put⟩ := k3.putx
  have zf := zfr.rf (A := Oy) (h := H)
  refine zW.aload_n (pc' := 61) dX1_executeAll_60 rfl rfl zg0 rfl ?_
  refine zW.iconst (pc' := 62) (nI 0) dX1_executeAll_61 rfl (by decide) ?_
  refine zW.putK (pc' := 65) dX1_executeAll_62 rfl f_X1_56_0 hx ⟨⟨rfl, (Nat.le_of_ble_eq_true rfl)⟩, (Nat.le_of_ble_eq_true rfl)⟩ (zFw.of ft_0_5 rfl rfl) (zsS (zsS (zsS (zsS (zsS (zs0)))))) (fun _ e9 k9 => ?_)
  have zf := zf.put e9 hx (by decide) (Or.inl oy)
  replace hx := k9
  clear e9 k9
  refine zW.goto 98 dX1_executeAll_65 (by decide) ?_
  refine zW.aload_n (pc' := 99) dX1_executeAll_98 rfl rfl zg0 rfl ?_
  refine zW.get (pc' := 102) dX1_executeAll_99 rfl f_X1_10_0 hx ⟨rfl, (Nat.le_of_ble_eq_true rfl)⟩ rfl ?_
  refine zW.astore (pc' := 104) dX1_executeAll_102 rfl (Nat.le_of_ble_eq_true rfl) rfl (zsS (zsS (zsS (zsS (zs0))))) ?_
  refine zW.aload_n (pc' := 105) dX1_executeAll_104 rfl rfl zg0 rfl ?_
  refine zW.aload_n (pc' := 106) dX1_executeAll_105 rfl rfl (zgS (zgS (zg0))) rfl ?_
  refine zW.putK (pc' := 109) dX1_executeAll_106 rfl f_X1_10_0 hx ⟨⟨rfl, (Nat.le_of_ble_eq_true rfl)⟩, (Nat.le_of_ble_eq_true rfl)⟩ (zFw.of ft_0_0 rfl rfl) zs0 (fun _ e9 k9 => ?_)
  have zf := zf.put e9 hx (by decide) (Or.inl oy)
  replace hx := k9
  clear e9 k9
  refine zW.aload_n (pc' := 110) dX1_executeAll_109 rfl rfl zg0 rfl ?_
  have k4 := put _ st 0 w.2.2.2.2.2.1 w.2.2.2.2.2.2 zf hx
  have hS4 := hS3.fr zf fun b hb q => (ly b q).1.2 hb
  have hS5 := hS2.fr zf fun b hb q => (ly b q).1.1.2 hb
  have zH1 := zH0.tr zf fun b hb => hU b (ly b hb).1.1.1
  refine zW.callV (r' := 78) (pc' := 113) dX1_executeAll_110 rfl l_X1_101 rfl hx ⟨rfl, (Nat.le_of_ble_eq_true rfl)⟩ rfl (c_begin (w := w) (e := 0) (zH1.kn hk) hZ hS4 hJ hN (Nat.zero_le _) k4) zc0 rfl (Nat.le_of_ble_eq_true rfl) (Nat.le_of_ble_eq_true rfl) (Nat.le_of_ble_eq_true rfl) (fun _ Hb q9 => ?_) (fun _ _ q9 => absurd q9 zO.no)
  obtain ⟨_, q8, e1, k5, zB⟩ := q9
  cases q8
  subst e1
  have dV : ∀ b, zext (fun b => (Ui b ∧ ¬ O2 b) ∧ ¬ O3 b) H b → ¬ O2 b := fun b hb q => hb.elim (fun z => z.1.2 q) fun z => (l2 b q).2 z
  have hS6 := hS5.fr zB fun b hb q => dV b q hb
  obtain ⟨sv2, hq2, ib2, lb2, Oz, hx, oz, lz, put2⟩ := k5.putx
  have zg := zfr.rf (A := Oz) (h := Hb)
  refine zW.aload_n (pc' := 114) dX1_executeAll_113 rfl rfl zg0 rfl ?_
  refine zW.aload (pc' := 116) dX1_executeAll_114 rfl (zgS (zgS (zgS (zgS (zg0))))) rfl ?_
  refine zW.putK (pc' := 119) dX1_executeAll_116 rfl f_X1_10_0 hx ⟨⟨rfl, (Nat.le_of_ble_eq_true rfl)⟩, (Nat.le_of_ble_eq_true rfl)⟩ (zFw.of ft_0_0 rfl rfl) zs0 (fun _ e9 k9 => ?_)
  have zg := zg.put e9 hx (by decide) (Or.inl oz)
  replace hx := k9
  clear e9 k9
  refine zW.pay (r1 := 0) ?_ (Nat.zero_le _)
  refine zW.vret dX1_executeAll_119 rfl ?_
  have k6 := put2 _ st2 0 w.2.2.2.2.2.1 w.2.2.2.2.2.2 zg hx
  have nO2 : ∀ b, O2 b → H b ≠ none := fun b hb => (l2 b hb).2
  have hS7 := hS6.fr zg fun b hb q => (lz b q).1.elim (fun z => dV b z hb) fun z => absurd (zf.nn0 z) (nO2 b hb)
  rw [sRunA_good h1 h2]
  have zH2 := zH1.tr zB fun b hb => hb.elim (fun q => hU b q.1.1) fun q => Or.inr (zH0.nn0 q)
  have zH3 := zH2.tr zg fun b hb => (lz b hb).1.elim (fun q => q.elim (fun q => hU b q.1.1) fun q => Or.inr (zH0.nn0 q)) fun q => Or.inr (zH1.nn0 q)
  refine ⟨⟨⟨st2, O2, hS7, fun b hb => ⟨hU b (l2 b hb).1, zg.2.1 b (zB.2.1 b (zf.2.1 b (l2 b hb).2))⟩, ?_⟩, zH3⟩, Or.inl ⟨rfl, rfl⟩⟩
  have k7 := k6.up (V := fun b => zext U h0 b ∧ ¬ O2 b) fun b hb hl => by
    rcases hb with (hb | hb) | hb
    · exact ⟨hb.elim (fun q => hU b q.1.1) fun q => Or.inr (zH0.nn0 q), dV b hb⟩
    · exact ⟨Or.inr (zH1.nn0 hb), fun q => absurd (zf.nn0 hb) (nO2 b q)⟩
    · exact ⟨Or.inr (zH2.nn0 hb), fun q => absurd (zf.nn0 (zB.nn0 hb)) (nO2 b q)⟩
  rw [← hin]
  exact k7
end
