/-! THE CLASS's undo, save, restore; ArrayDeque.clear -/
section
set_option maxRecDepth 100000
variable {G : zG} {h h' h1 : zH} {O U V : Nat → Prop} {x st tt nn e a ar hd i j : Nat} {X A B C : List zA} {w : sW} {its : List Nat} {f : Nat → Option Nat}
theorem zSep.drp : ∀ {A : List zA} {U : Nat → Prop}, zSep (A ++ (B ++ C)) h U → zSep (A ++ C) h U
  | _ :: _, _, k => zSep.under k fun _ r => zSep.drp r
  | [], _, k => go k
where go : ∀ {B : List zA} {U : Nat → Prop}, zSep (B ++ C) h U → zSep C h U
  | [], _, k => k
  | _ :: _, _, k => go k.tl
theorem w_dqCirc (hi : i < 17) (hj : j < 17) (har : h ar = some (104, qtab f)) : zK G mJ4_circularClear 1 0 [.ref ar, .int (nI i), .int (nI j)] h (zO fun o h' => o = none ∧ ∃ f', h' = zup h ar (104, qtab f') ∧ h' ar = some (104, qtab f')) := by
  have loop : ∀ (t : Nat), t ≤ 17 → (∀ (H : zH) (f' : Nat → Option Nat) (k : Nat), H = zup h ar (104, qtab f') → H ar = some (104, qtab f') → t ≤ k → k < 2 ^ 20 → zW G mJ4_circularClear 1 0 27 [.ref ar, .int (nI k), .int (nI j), .int (nI t)] [] H (zO fun o h' => o = none ∧ ∃ f', h' = zup h ar (104, qtab f') ∧ h' ar = some (104, qtab f'))) → ∀ (m k : Nat) (H : zH) (f' : Nat → Option Nat), k + m = t ∨ (m = 0 ∧ t ≤ k ∧ k < 2 ^ 20) → H = zup h ar (104, qtab f') → H ar = some (104, qtab f') → zW G mJ4_circularClear 1 0 12 [.ref ar, .int (nI k), .int (nI j), .int (nI t)] [] H (zO fun o h' => o = none ∧ ∃ f', h' = zup h ar (104, qtab f') ∧ h' ar = some (104, qtab f')) := by
    intro t ht fin m
    induction m with
    | zero =>
      intro k H f' hk eH hr
      have hk2 : t ≤ k ∧ k < 2 ^ 20 := by omega
      refine zW.iload_n (pc' := 13) dJ4_circularClear_12 rfl rfl (zgS (zg0)) ?_
      refine zW.iload_n (pc' := 14) dJ4_circularClear_13 rfl rfl (zgS (zgS (zgS (zg0)))) ?_
      refine zW.icmp_geN (pc' := 17) 27 dJ4_circularClear_14 rfl (by decide) (by omega) (by omega) (fun b9 => ?_) (fun b9 => absurd b9 (by omega))
      exact fin H f' k eH hr hk2.1 hk2.2
    | succ m ih =>
      intro k H f' hk eH hr
      have hk2 : k < t := by omega
      refine zW.iload_n (pc' := 13) dJ4_circularClear_12 rfl rfl (zgS (zg0)) ?_
      refine zW.iload_n (pc' := 14) dJ4_circularClear_13 rfl rfl (zgS (zgS (zgS (zg0)))) ?_
      refine zW.icmp_geN (pc' := 17) 27 dJ4_circularClear_14 rfl (by decide) (by omega) (by omega) (fun b9 => absurd b9 (by omega)) (fun b9 => ?_)
      refine zW.aload_n (pc' := 18) dJ4_circularClear_17 rfl rfl zg0 rfl ?_
      refine zW.iload_n (pc' := 19) dJ4_circularClear_18 rfl rfl (zgS (zg0)) ?_
      refine zW.null (pc' := 20) dJ4_circularClear_19 rfl ?_
      refine zW.aastNK (pc' := 21) dJ4_circularClear_20 rfl hr (by omega) (fun _ e9 k9 => ?_)
      have eH := ztrk eH e9
      replace hr := k9
      clear e9 k9
      refine zW.iincN (pc' := 24) (n := 1) dJ4_circularClear_21 rfl (Nat.le_of_ble_eq_true rfl) (zgS (zg0)) (zsS (zs0)) ?_
      refine zW.goto 12 dJ4_circularClear_24 (by decide) ?_
      exact ih (k + 1) _ _ (by omega) eH hr
  have fin0 : ∀ (H : zH) (f' : Nat → Option Nat) (k : Nat), H = zup h ar (104, qtab f') → H ar = some (104, qtab f') → j ≤ k → k < 2 ^ 20 → zW G mJ4_circularClear 1 0 27 [.ref ar, .int (nI k), .int (nI j), .int (nI j)] [] H (zO fun o h' => o = none ∧ ∃ f', h' = zup h ar (104, qtab f') ∧ h' ar = some (104, qtab f')) := by
    intro H f' k eH hr _ _
    refine zW.iload_n (pc' := 28) dJ4_circularClear_27 rfl rfl (zgS (zgS (zgS (zg0)))) ?_
    refine zW.iload_n (pc' := 29) dJ4_circularClear_28 rfl rfl (zgS (zgS (zg0))) ?_
    refine zW.icmp_neN (pc' := 32) 35 dJ4_circularClear_29 rfl (by decide) (by omega) (by omega) (fun b9 => absurd b9 (by omega)) (fun b9 => ?_)
    refine zW.goto 42 dJ4_circularClear_32 (by decide) ?_
    refine zW.vret dJ4_circularClear_42 rfl ?_
    exact ⟨_, rfl, rfl, f', eH, hr⟩
  have fin1 : ∀ (H : zH) (f' : Nat → Option Nat) (k : Nat), H = zup h ar (104, qtab f') → H ar = some (104, qtab f') → 17 ≤ k → k < 2 ^ 20 → zW G mJ4_circularClear 1 0 27 [.ref ar, .int (nI k), .int (nI j), .int (nI 17)] [] H (zO fun o h' => o = none ∧ ∃ f', h' = zup h ar (104, qtab f') ∧ h' ar = some (104, qtab f')) := by
    intro H f' k eH hr _ _
    refine zW.iload_n (pc' := 28) dJ4_circularClear_27 rfl rfl (zgS (zgS (zgS (zg0)))) ?_
    refine zW.iload_n (pc' := 29) dJ4_circularClear_28 rfl rfl (zgS (zgS (zg0))) ?_
    refine zW.icmp_neN (pc' := 32) 35 dJ4_circularClear_29 rfl (by decide) (by omega) (by omega) (fun b9 => ?_) (fun b9 => absurd b9 (by omega))
    refine zW.iconst (pc' := 36) (nI 0) dJ4_circularClear_35 rfl (by decide) ?_
    refine zW.istore_n (pc' := 37) dJ4_circularClear_36 rfl rfl (Nat.le_of_ble_eq_true rfl) (zsS (zs0)) ?_
    refine zW.iload_n (pc' := 38) dJ4_circularClear_37 rfl rfl (zgS (zgS (zg0))) ?_
    refine zW.istore_n (pc' := 39) dJ4_circularClear_38 rfl rfl (Nat.le_of_ble_eq_true rfl) (zsS (zsS (zsS (zs0)))) ?_
    refine zW.goto 12 dJ4_circularClear_39 (by decide) ?_
    exact loop j (by omega) fin0 j 0 H f' (by omega) eH hr
  show zW G mJ4_circularClear 1 0 0 [.ref ar, .int (nI i), .int (nI j), zho] [] h _
  refine zW.iload_n (pc' := 1) dJ4_circularClear_0 rfl rfl (zgS (zg0)) ?_
  refine zW.iload_n (pc' := 2) dJ4_circularClear_1 rfl rfl (zgS (zgS (zg0))) ?_
  refine zW.icmp_gtN (pc' := 5) 9 dJ4_circularClear_2 rfl (by decide) (by omega) (by omega) (fun b1 => ?_) (fun b1 => ?_)
  · refine zW.aload_n (pc' := 10) dJ4_circularClear_9 rfl rfl zg0 rfl ?_
    refine zW.alen (pc' := 11) dJ4_circularClear_10 rfl har (by decide) qtab_n ?_
    refine zW.istore_n (pc' := 12) dJ4_circularClear_11 rfl rfl (Nat.le_of_ble_eq_true rfl) (zsS (zsS (zsS (zs0)))) ?_
    exact loop 17 (Nat.le_refl _) fin1 (17 - i) i h f (by omega) (zup_self har) har
  · refine zW.iload_n (pc' := 6) dJ4_circularClear_5 rfl rfl (zgS (zgS (zg0))) ?_
    refine zW.goto 11 dJ4_circularClear_6 (by decide) ?_
    refine zW.istore_n (pc' := 12) dJ4_circularClear_11 rfl rfl (Nat.le_of_ble_eq_true rfl) (zsS (zsS (zsS (zs0)))) ?_
    exact loop j (by omega) fin0 (j - i) i h f (by omega) (zup_self har) har
theorem w_dqClear (hQ : cDQ h a ar hd its) : zK G mJ4_clear 2 0 [.ref a] h (zO fun o h' => o = none ∧ cDQ h' a ar 0 [] ∧ zfr (cDf a ar) h h') := by
  obtain ⟨⟨h1, h2⟩, ha, f, har, -⟩ := hQ
  have zf := zfr.rf (A := cDf a ar) (h := h)
  show zW G mJ4_clear 2 0 0 [.ref a] [] h _
  refine zW.aload_n (pc' := 1) dJ4_clear_0 rfl rfl zg0 rfl ?_
  refine zW.get (pc' := 4) dJ4_clear_1 rfl f_J4_3_9 ha ⟨rfl, (Nat.le_of_ble_eq_true rfl)⟩ rfl ?_
  refine zW.aload_n (pc' := 5) dJ4_clear_4 rfl rfl zg0 rfl ?_
  refine zW.get (pc' := 8) dJ4_clear_5 rfl f_J4_24_9 ha ⟨rfl, (Nat.le_of_ble_eq_true rfl)⟩ rfl ?_
  refine zW.aload_n (pc' := 9) dJ4_clear_8 rfl rfl zg0 rfl ?_
  refine zW.get (pc' := 12) dJ4_clear_9 rfl f_J4_20_9 ha ⟨rfl, (Nat.le_of_ble_eq_true rfl)⟩ rfl ?_
  refine zW.callS (r' := 0) (pc' := 15) dJ4_clear_12 rfl l_J4_181 rfl (w_dqCirc h1 (Nat.mod_lt _ (by decide)) har) (zcc rfl (zcc rfl (zcc rfl zc0))) rfl (Nat.le_of_ble_eq_true rfl) (Nat.le_of_ble_eq_true rfl) (Nat.le_of_ble_eq_true rfl) (fun _ _ q9 => ?_) (fun _ _ q9 => absurd q9 zO.no)
  obtain ⟨_, q8, e1, f', e9, k9⟩ := q9
  cases q8
  cases e1
  have zf := zf.put e9 har (by decide) (Or.inl (Or.inr rfl))
  have ha := zpres e9 (zne ha har (by decide)) ha
  have har := k9
  clear e9 k9
  refine zW.aload_n (pc' := 16) dJ4_clear_15 rfl rfl zg0 rfl ?_
  refine zW.aload_n (pc' := 17) dJ4_clear_16 rfl rfl zg0 rfl ?_
  refine zW.iconst (pc' := 18) (nI 0) dJ4_clear_17 rfl (by decide) ?_
  refine zW.dup_x1 (pc' := 19) dJ4_clear_18 rfl rfl rfl ?_
  refine zW.putK (pc' := 22) dJ4_clear_19 rfl f_J4_20_9 ha ⟨⟨rfl, (Nat.le_of_ble_eq_true rfl)⟩, (Nat.le_of_ble_eq_true rfl)⟩ (zFw.of ft_9_2 rfl rfl) (zsS (zsS (zs0))) (fun _ e9 k9 => ?_)
  have har := zpres e9 (zne har ha (by decide)) har
  have zf := zf.put e9 ha (by decide) (Or.inl (Or.inl rfl))
  replace ha := k9
  clear e9 k9
  refine zW.putK (pc' := 25) dJ4_clear_22 rfl f_J4_24_9 ha ⟨⟨rfl, (Nat.le_of_ble_eq_true rfl)⟩, (Nat.le_of_ble_eq_true rfl)⟩ (zFw.of ft_9_1 rfl rfl) (zsS (zs0)) (fun _ e9 k9 => ?_)
  have har := zpres e9 (zne har ha (by decide)) har
  have zf := zf.put e9 ha (by decide) (Or.inl (Or.inl rfl))
  replace ha := k9
  clear e9 k9
  refine zW.vret dJ4_clear_25 rfl ?_
  exact ⟨_, rfl, rfl, ⟨⟨by decide, Nat.zero_le _⟩, ha, f', har, fun i x q => by cases q⟩, zf⟩
theorem zSep_save {sv : Option Nat} {hq ib lb st' : Nat} {SH : List Nat} {s : sS} {v : cWr} {P : zA} (R1 : zSep (iS st' s :: P :: iD hq SH :: (iH SH v.1 ++ (iB ib v.2.2.2.1 :: iB lb v.2.2.1 :: (iV sv v.2.1 ++ [])))) h U) : zSep (P :: iD hq SH :: (iH SH v.1 ++ (iB ib v.2.2.2.1 :: iB lb v.2.2.1 :: (iV (some st') (some s) ++ [])))) h U := by
  have R2 : zSep ((P :: iD hq SH :: (iH SH v.1 ++ [iB ib v.2.2.2.1, iB lb v.2.2.1])) ++ iS st' s :: []) h U := by
    refine zSep.mid ?_
    refine R1.under fun W r => ?_
    have r2 : zSep ((P :: iD hq SH :: (iH SH v.1 ++ [iB ib v.2.2.2.1, iB lb v.2.2.1])) ++ (iV sv v.2.1 ++ [])) h W := by
      show zSep (P :: iD hq SH :: ((iH SH v.1 ++ [iB ib v.2.2.2.1, iB lb v.2.2.1]) ++ (iV sv v.2.1 ++ []))) h W
      rw [List.append_assoc]
      exact r
    exact zSep.drp r2
  have R3 : zSep (P :: iD hq SH :: ((iH SH v.1 ++ [iB ib v.2.2.2.1, iB lb v.2.2.1]) ++ iS st' s :: [])) h U := R2
  rw [List.append_assoc] at R3
  exact R3
theorem c_save (hk : zkn G h) (hZ : zkI G) (hG : cReg x 0 [] w h U) (hJ : sJ tt nn w.1) (hN : nn ≤ 10000) : zK G mX1_save 40 78 [.ref x] h (cOut x U h [] (0, nI w.1.2.1.length, sSave w)) := by
  obtain ⟨st, O, hS, l, k⟩ := hG
  obtain ⟨sv, hq, ib, lb, SH, ⟨h1, h2, h3⟩, R⟩ := k
  obtain ⟨ll, aq, re, rt, ea, ha', er, hr, mc, xs, qs, rs, hP⟩ := id hS
  obtain ⟨Ox, ⟨⟨hx, ox⟩, -⟩, lx, -⟩ := id R
  have hst := hP.1
  show zW G mX1_save 40 78 0 [.ref x] [] h _
  refine zW.aload_n (pc' := 1) dX1_save_0 rfl rfl zg0 rfl ?_
  refine zW.aload_n (pc' := 2) dX1_save_1 rfl rfl zg0 rfl ?_
  refine zW.get (pc' := 5) dX1_save_2 rfl f_X1_10_0 hx ⟨rfl, (Nat.le_of_ble_eq_true rfl)⟩ rfl ?_
  refine zW.callV (r' := 78) (pc' := 8) dX1_save_5 rfl l_X1_60 rfl hst ⟨rfl, (Nat.le_of_ble_eq_true rfl)⟩ rfl (w_stCopyJ hk hZ hS hJ hN) zc0 rfl (Nat.le_of_ble_eq_true rfl) (Nat.le_of_ble_eq_true rfl) (Nat.le_of_ble_eq_true rfl) (fun _ H1 q9 => ?_) (fun _ _ q9 => absurd q9 zO.no)
  obtain ⟨_, q8, st', e1, hS', z1⟩ := q9
  cases q8
  subst e1
  have R1 := zSep_save (R.add (P := iS st' w.1) z1 hS'.live iS.stb)
  obtain ⟨Oy, ⟨⟨hx, oy⟩, -⟩, ly, -, put⟩ := zSep.acc (A := []) R1
  have zf := zfr.rf (A := Oy) (h := H1)
  refine zW.putK (pc' := 11) dX1_save_8 rfl f_X1_456_0 hx ⟨⟨rfl, (Nat.le_of_ble_eq_true rfl)⟩, (Nat.le_of_ble_eq_true rfl)⟩ (zFw.of ft_0_1 rfl rfl) (zsS (zs0)) (fun _ e9 k9 => ?_)
  have zf := zf.put e9 hx (by decide) (Or.inl oy)
  replace hx := k9
  clear e9 k9
  have R2 := put _ (iOb x st (some st') hq ib lb 0 (w.2.1, some w.1, w.2.2.2)) zf ⟨hx, Or.inl oy, by rw [hx]; exact fun q => by cases q⟩ iO.stb
  have R3 : zSep (iOb x st (some st') hq ib lb 0 (w.2.1, some w.1, w.2.2.2) :: iD hq SH :: (iH SH w.2.1 ++ (iB ib w.2.2.2.2.1 :: iB lb w.2.2.2.1 :: (iV (some st') (some w.1) ++ [])))) _ _ := R2.trv z1
  have zO : zfr Oy H1 _ := zf
  have hd : ∀ b, O b → ¬ Oy b := fun b hb q => (ly b q).1.elim (fun q => q.2 hb) fun q => (l b hb).2 q
  have hP1 := (hP.fr z1 fun _ _ q => q).fr zO hd
  have hst := hP1.1
  have hl0 := hP1.2.1.1.1
  have hxl := hP1.2.1.2.1
  refine zW.aload_n (pc' := 12) dX1_save_11 rfl rfl zg0 rfl ?_
  refine zW.get (pc' := 15) dX1_save_12 rfl f_X1_10_0 hx ⟨rfl, (Nat.le_of_ble_eq_true rfl)⟩ rfl ?_
  refine zW.get (pc' := 18) dX1_save_15 rfl f_X1_91_1 hst ⟨rfl, (Nat.le_of_ble_eq_true rfl)⟩ rfl ?_
  refine zW.callV (r' := 0) (pc' := 21) dX1_save_18 rfl l_X1_95 rfl hl0 ⟨rfl, (Nat.le_of_ble_eq_true rfl)⟩ rfl (w_llSize hl0) zc0 rfl (Nat.le_of_ble_eq_true rfl) (Nat.le_of_ble_eq_true rfl) (Nat.le_of_ble_eq_true rfl) (fun _ _ q9 => ?_) (fun _ _ q9 => by cases q9.1)
  obtain ⟨q8, e9⟩ := q9
  cases q8
  replace e9 := e9.symm
  subst e9
  rw [hxl]
  refine zW.iret dX1_save_21 rfl (rfl) ?_
  have zU : zfr U h _ := (z1.mono (B := U) fun _ q => q.elim).tr zO fun b hb => (ly b hb).1.elim (fun q => Or.inl q.1) fun q => Or.inr q
  refine cOut.ok rfl ⟨⟨st, O, ⟨ll, aq, re, rt, ea, ha', er, hr, mc, xs, qs, rs, hP1⟩, fun b hb => ⟨Or.inl (l b hb).1, zU.2.1 b (l b hb).2⟩, some st', hq, ib, lb, SH, ⟨h1, h2, rfl⟩, R3.up fun b hb hl => ?_⟩, zU⟩
  rcases hb with hb | hb
  · exact ⟨Or.inl hb.1, hb.2⟩
  · exact ⟨Or.inr hb, fun q => (l b q).2 hb⟩
theorem c_undo (hG : cReg x 0 [] w h U) : zK G mX1_undo 40 2 [.ref x] h (cOut x U h [eSta] (sUndo w)) := by
  have hG0 := hG
  obtain ⟨st, O, hS, l, k⟩ := hG
  obtain ⟨sv, hq, ib, lb, SH, ⟨h1, h2, h3⟩, R⟩ := k
  obtain ⟨Ox, ⟨⟨hx, ox⟩, -⟩, lx, Od, ⟨⟨ar, hd, hQ, -⟩, -⟩, -⟩ := id R
  have hq1 := hQ.2.1
  show zW G mX1_undo 40 2 0 [.ref x] [] h _
  refine zW.aload_n (pc' := 1) dX1_undo_0 rfl rfl zg0 rfl ?_
  refine zW.get (pc' := 4) dX1_undo_1 rfl f_X1_19_0 hx ⟨rfl, (Nat.le_of_ble_eq_true rfl)⟩ rfl ?_
  refine zW.callV (r' := 0) (pc' := 7) dX1_undo_4 rfl l_X1_234 rfl hq1 ⟨rfl, (Nat.le_of_ble_eq_true rfl)⟩ rfl (w_dqEmpty hQ) zc0 rfl (Nat.le_of_ble_eq_true rfl) (Nat.le_of_ble_eq_true rfl) (Nat.le_of_ble_eq_true rfl) (fun _ _ q9 => ?_) (fun _ _ q9 => by cases q9.1)
  obtain ⟨q8, e9⟩ := q9
  cases q8
  replace e9 := e9.symm
  subst e9
  rcases List.eq_nil_or_concat w.2.1 with e | ⟨o0, s1, e⟩
  · rw [e] at h1
    have e0 : SH = [] := List.length_eq_zero_iff.mp h1
    rw [if_pos e0]
    refine zW.if_neN (pc' := 10) 14 dX1_undo_7 rfl (by decide) (by omega) (fun b9 => ?_) (fun b9 => absurd b9 (by omega))
    refine zW.iconst (pc' := 15) (nI 0) dX1_undo_14 rfl (by decide) ?_
    refine zW.callS (r' := 2) (pc' := 18) dX1_undo_15 rfl l_X1_98 rfl (w_chkState0) (zcc rfl zc0) rfl (Nat.le_of_ble_eq_true rfl) (Nat.le_of_ble_eq_true rfl) (Nat.le_of_ble_eq_true rfl) (fun _ _ q9 => by cases q9.1) (fun _ _ q9 => ?_)
    obtain ⟨q8, e9⟩ := q9
    cases q8
    replace e9 := e9.symm
    subst e9
    refine zX.out0 rfl ?_
    exact cOut.no hG0 (k := 0) (v := nI 0) (by unfold sUndo; rw [e]; rfl) rfl
  · rw [List.concat_eq_append] at e
    rw [e] at h1 h2
    obtain ⟨SH0, a1, rfl⟩ : ∃ SH0 a1, SH = SH0 ++ [a1] := by
      rcases List.eq_nil_or_concat SH with q | ⟨l0, b, q⟩
      · rw [q, List.length_append] at h1; cases h1
      · exact ⟨l0, b, by rw [q, List.concat_eq_append]⟩
    rw [List.length_append, List.length_append] at h1
    have h1 : SH0.length = o0.length := Nat.succ.inj h1
    rw [if_neg (by simp)]
    refine zW.if_neN (pc' := 10) 14 dX1_undo_7 rfl (by decide) (by omega) (fun b9 => absurd b9 (by omega)) (fun b9 => ?_)
    refine zW.iconst (pc' := 11) (nI 1) dX1_undo_10 rfl (by decide) ?_
    refine zW.goto 15 dX1_undo_11 (by decide) ?_
    refine zW.callS (r' := 0) (pc' := 18) dX1_undo_15 rfl l_X1_98 rfl (w_chkState1) (zcc rfl zc0) rfl (Nat.le_of_ble_eq_true rfl) (Nat.le_of_ble_eq_true rfl) (Nat.le_of_ble_eq_true rfl) (fun _ _ q9 => ?_) (fun _ _ q9 => by cases q9.1)
    obtain ⟨q8, e9⟩ := q9
    cases q8
    replace e9 := e9.symm
    subst e9
    have R1 : zSep ((iOb x st sv hq ib lb 0 w.2 :: iD hq (SH0 ++ [a1]) :: iH SH0 o0) ++ iS a1 s1 :: (iB ib w.2.2.2.2.1 :: iB lb w.2.2.2.1 :: (iV sv w.2.2.1 ++ []))) h (fun b => U b ∧ ¬ O b) := by
      have R0 := R
      rw [e, iH_snoc h1, List.append_assoc] at R0
      exact R0
    obtain ⟨O1, ⟨hS1, -⟩, l1, R2, -⟩ := zSep.acc R1
    obtain ⟨OD, ⟨⟨ar, hd, hQ, oD⟩, -⟩, lD, -, put⟩ := zSep.acc (A := [iOb x st sv hq ib lb 0 w.2]) R2
    have hq1 := hQ.2.1
    refine zW.aload_n (pc' := 19) dX1_undo_18 rfl rfl zg0 rfl ?_
    refine zW.aload_n (pc' := 20) dX1_undo_19 rfl rfl zg0 rfl ?_
    refine zW.get (pc' := 23) dX1_undo_20 rfl f_X1_19_0 hx ⟨rfl, (Nat.le_of_ble_eq_true rfl)⟩ rfl ?_
    refine zW.callV (r' := 0) (pc' := 26) dX1_undo_23 rfl l_X1_453 rfl hq1 ⟨rfl, (Nat.le_of_ble_eq_true rfl)⟩ rfl (w_dqRemLast hQ) zc0 rfl (Nat.le_of_ble_eq_true rfl) (Nat.le_of_ble_eq_true rfl) (Nat.le_of_ble_eq_true rfl) (fun _ H1 q9 => ?_) (fun _ _ q9 => absurd q9 zO.no)
    obtain ⟨_, q8, e1, hQ2, z1⟩ := q9
    cases q8
    subst e1
    have hx := hQ.out z1 hx ⟨by decide, by decide⟩
    have hq1 := hQ2.2.1
    have zD : zfr OD h H1 := z1.mono fun b hb => Or.inl (hb.elim (fun q => by rw [q]; exact oD.1) fun q => by rw [q]; exact oD.2)
    have R3 := put H1 (iD hq SH0) zD ⟨ar, hd, hQ2, ⟨Or.inl oD.1, by rw [hq1]; exact fun q => by cases q⟩, ⟨Or.inl oD.2, by obtain ⟨-, -, f, h3, -⟩ := hQ2; rw [h3]; exact fun q => by cases q⟩⟩ iD.stb
    obtain ⟨Oy, ⟨⟨-, oy⟩, -⟩, ly, -, put2⟩ := zSep.acc (A := []) R3
    have hS2 := hS1.fr zD fun b hb q => (lD b q).1.2 hb
    obtain ⟨fa, ha1⟩ := cS.cell hS2
    have zf := zfr.rf (A := Oy) (h := H1)
    have zg := zfr.rf (A := fun b => b = x) (h := H1)
    have nhq : ¬ hq = x := zne hq1 hx (by decide)
    have nar : ¬ ar = x := by obtain ⟨-, -, f, h3, -⟩ := hQ2; exact zne h3 hx (by decide)
    refine zW.castS (pc' := 29) dX1_undo_26 rfl (lw_all_tbl q153) ha1 ⟨rfl, (Nat.le_of_ble_eq_true rfl)⟩ rfl ?_
    refine zW.putK (pc' := 32) dX1_undo_29 rfl f_X1_10_0 hx ⟨⟨rfl, (Nat.le_of_ble_eq_true rfl)⟩, (Nat.le_of_ble_eq_true rfl)⟩ (zFw.of ft_0_0 rfl rfl) zs0 (fun _ e9 k9 => ?_)
    have hq1 := zpres e9 (zne hq1 hx (by decide)) hq1
    have zf := zf.put e9 hx (by decide) (by first | exact Or.inl rfl | exact Or.inl oy)
    have zg := zg.put e9 hx (by decide) (by first | exact Or.inl rfl | exact Or.inl oy)
    replace hx := k9
    clear e9 k9
    refine zW.aload_n (pc' := 33) dX1_undo_32 rfl rfl zg0 rfl ?_
    refine zW.get (pc' := 36) dX1_undo_33 rfl f_X1_19_0 hx ⟨rfl, (Nat.le_of_ble_eq_true rfl)⟩ rfl ?_
    refine zW.callV (r' := 0) (pc' := 39) dX1_undo_36 rfl l_X1_68 rfl hq1 ⟨rfl, (Nat.le_of_ble_eq_true rfl)⟩ rfl (w_dqSize (hQ2.fr zg nhq nar)) zc0 rfl (Nat.le_of_ble_eq_true rfl) (Nat.le_of_ble_eq_true rfl) (Nat.le_of_ble_eq_true rfl) (fun _ _ q9 => ?_) (fun _ _ q9 => by cases q9.1)
    obtain ⟨q8, e9⟩ := q9
    cases q8
    replace e9 := e9.symm
    subst e9
    refine zW.iret dX1_undo_39 rfl (rfl) ?_
    have R4 := put2 _ (iOb x a1 sv hq ib lb 0 (o0, w.2.2)) zf ⟨hx, Or.inl oy, by rw [hx]; exact fun q => by cases q⟩ iO.stb
    have R5 : zSep (iOb x a1 sv hq ib lb 0 (o0, w.2.2) :: iD hq SH0 :: (iH SH0 o0 ++ (iB ib w.2.2.2.2.1 :: iB lb w.2.2.2.1 :: (iV sv w.2.2.1 ++ [])))) _ _ := R4.trv zD
    have zU : zfr U h _ := (zD.mono fun b hb => Or.inl (lD b hb).1.1.1).tr zf fun b hb => (ly b hb).1.elim (fun q => Or.inl q.1.1) fun q => Or.inr q
    have hS3 := hS2.fr zf fun b hb q => (ly b q).1.elim (fun q => q.2 hb) fun q => (l1 b hb).2 q
    rw [h1]
    refine cOut.ok (w' := (s1, o0, w.2.2)) ?_ ⟨⟨a1, O1, hS3, fun b hb => ⟨Or.inl (l1 b hb).1.1, zU.2.1 b (l1 b hb).2⟩, sv, hq, ib, lb, SH0, ⟨h1, by rw [List.length_append] at h2; exact Nat.le_of_succ_le h2, h3⟩, R5.up fun b hb hl => ?_⟩, zU⟩
    · unfold sUndo
      rw [e, List.reverse_append]
      show (0, nI o0.reverse.length, (s1, o0.reverse.reverse, w.2.2)) = _
      rw [List.reverse_reverse, List.length_reverse]
    · rcases hb with hb | hb
      · exact ⟨Or.inl hb.1.1, hb.2⟩
      · exact ⟨Or.inr hb, fun q => (l1 b q).2 hb⟩
theorem c_restore (hk : zkn G h) (hZ : zkI G) (hG : cReg x 0 [] w h U) (hJ : ∀ s, w.2.2.1 = some s → sJ tt nn s) (hN : nn ≤ 10000) : zK G mX1_restore 40 78 [.ref x] h (cOut x U h [eSta] (sRestore w)) := by
  have hG0 := hG
  obtain ⟨st, O, hS, l, k⟩ := hG
  obtain ⟨sv, hq, ib, lb, SH, ⟨h1, h2, h3⟩, R⟩ := k
  obtain ⟨Ox, ⟨⟨hx, ox⟩, -⟩, lx, -⟩ := id R
  show zW G mX1_restore 40 78 0 [.ref x] [] h _
  refine zW.aload_n (pc' := 1) dX1_restore_0 rfl rfl zg0 rfl ?_
  refine zW.get (pc' := 4) dX1_restore_1 rfl f_X1_456_0 hx ⟨rfl, (Nat.le_of_ble_eq_true rfl)⟩ rfl ?_
  cases e : w.2.2.1 with
  | none =>
    rw [e] at h3
    obtain rfl : sv = none := by cases sv with
      | none => rfl
      | some a => cases h3
    refine zW.ifnull (pc' := 7) 11 dX1_restore_4 rfl (by decide) rfl (fun b1 => ?_) (fun b1 => ?_)
    rotate_left
    · exact absurd rfl b1
    refine zW.iconst (pc' := 12) (nI 0) dX1_restore_11 rfl (by decide) ?_
    refine zW.callS (r' := 2) (pc' := 15) dX1_restore_12 rfl l_X1_98 rfl (w_chkState0) (zcc rfl zc0) rfl (Nat.le_of_ble_eq_true rfl) (Nat.le_of_ble_eq_true rfl) (Nat.le_of_ble_eq_true rfl) (fun _ _ q9 => by cases q9.1) (fun _ _ q9 => ?_)
    obtain ⟨q8, e9⟩ := q9
    cases q8
    replace e9 := e9.symm
    subst e9
    refine zX.out0 rfl ?_
    exact cOut.no hG0 (k := 0) (v := nI 0) (by unfold sRestore; rw [e]) rfl
  | some s =>
    rw [e] at h3
    obtain ⟨a, rfl⟩ : ∃ a, sv = some a := by cases sv with
      | none => cases h3
      | some a => exact ⟨a, rfl⟩
    have hJs := hJ s e
    refine zW.ifnull (pc' := 7) 11 dX1_restore_4 rfl (by decide) rfl (fun b1 => ?_) (fun b1 => ?_)
    · cases b1
    refine zW.iconst (pc' := 8) (nI 1) dX1_restore_7 rfl (by decide) ?_
    refine zW.goto 12 dX1_restore_8 (by decide) ?_
    refine zW.callS (r' := 0) (pc' := 15) dX1_restore_12 rfl l_X1_98 rfl (w_chkState1) (zcc rfl zc0) rfl (Nat.le_of_ble_eq_true rfl) (Nat.le_of_ble_eq_true rfl) (Nat.le_of_ble_eq_true rfl) (fun _ _ q9 => ?_) (fun _ _ q9 => by cases q9.1)
    obtain ⟨q8, e9⟩ := q9
    cases q8
    replace e9 := e9.symm
    subst e9
    have R1 : zSep ((iOb x st (some a) hq ib lb 0 w.2 :: iD hq SH :: (iH SH w.2.1 ++ [iB ib w.2.2.2.2.1, iB lb w.2.2.2.1])) ++ iS a s :: []) h (fun b => U b ∧ ¬ O b) := by
      have R0 := R
      rw [e] at R0
      show zSep (iOb x st (some a) hq ib lb 0 w.2 :: iD hq SH :: ((iH SH w.2.1 ++ [iB ib w.2.2.2.2.1, iB lb w.2.2.2.1]) ++ iS a s :: [])) h _
      rw [List.append_assoc]
      exact R0
    obtain ⟨Oa, ⟨hSa, -⟩, la, -, -⟩ := zSep.acc R1
    obtain ⟨fa, ha1⟩ := cS.cell hSa
    refine zW.aload_n (pc' := 16) dX1_restore_15 rfl rfl zg0 rfl ?_
    refine zW.aload_n (pc' := 17) dX1_restore_16 rfl rfl zg0 rfl ?_
    refine zW.get (pc' := 20) dX1_restore_17 rfl f_X1_456_0 hx ⟨rfl, (Nat.le_of_ble_eq_true rfl)⟩ rfl ?_
    refine zW.callV (r' := 78) (pc' := 23) dX1_restore_20 rfl l_X1_60 rfl ha1 ⟨rfl, (Nat.le_of_ble_eq_true rfl)⟩ rfl (w_stCopyJ hk hZ hSa hJs hN) zc0 rfl (Nat.le_of_ble_eq_true rfl) (Nat.le_of_ble_eq_true rfl) (Nat.le_of_ble_eq_true rfl) (fun _ H1 q9 => ?_) (fun _ _ q9 => absurd q9 zO.no)
    obtain ⟨_, q8, st', e1, hS', z1⟩ := q9
    cases q8
    subst e1
    have R2 := R.shut.fr z1 fun _ _ _ q => q
    obtain ⟨Oy, ⟨⟨hx, oy⟩, -⟩, ly, -, put⟩ := zSep.acc (A := []) R2
    have zf := zfr.rf (A := Oy) (h := H1)
    refine zW.putK (pc' := 26) dX1_restore_23 rfl f_X1_10_0 hx ⟨⟨rfl, (Nat.le_of_ble_eq_true rfl)⟩, (Nat.le_of_ble_eq_true rfl)⟩ (zFw.of ft_0_0 rfl rfl) zs0 (fun _ e9 k9 => ?_)
    have zf := zf.put e9 hx (by decide) (Or.inl oy)
    replace hx := k9
    clear e9 k9
    have R3 := put _ (iOb x st' (some a) hq ib lb 0 ([], w.2.2)) zf ⟨hx, Or.inl oy, by rw [hx]; exact fun q => by cases q⟩ iO.stb
    obtain ⟨OD, ⟨⟨ar, hd, hQ, oD⟩, -⟩, lD, -, put2⟩ := zSep.acc (A := [iOb x st' (some a) hq ib lb 0 ([], w.2.2)]) R3
    have hq1 := hQ.2.1
    have hS2 := (hS'.live).fr zf fun b hb q => (ly b q).1.2 hb.1
    refine zW.aload_n (pc' := 27) dX1_restore_26 rfl rfl zg0 rfl ?_
    refine zW.get (pc' := 30) dX1_restore_27 rfl f_X1_19_0 hx ⟨rfl, (Nat.le_of_ble_eq_true rfl)⟩ rfl ?_
    have hx0 := hx
    refine zW.callV (r' := 0) (pc' := 33) dX1_restore_30 rfl l_X1_459 rfl hq1 ⟨rfl, (Nat.le_of_ble_eq_true rfl)⟩ rfl (w_dqClear hQ) zc0 rfl (Nat.le_of_ble_eq_true rfl) (Nat.le_of_ble_eq_true rfl) (Nat.le_of_ble_eq_true rfl) (fun _ H3 q9 => ?_) (fun _ _ q9 => absurd q9 zO.no)
    obtain ⟨_, q8, e1, hQ2, z3⟩ := q9
    cases q8
    subst e1
    have hx := hQ.out z3 hx0 ⟨by decide, by decide⟩
    have zD : zfr OD _ H3 := z3.mono fun b hb => Or.inl (hb.elim (fun q => by rw [q]; exact oD.1) fun q => by rw [q]; exact oD.2)
    have hq2 := hQ2.2.1
    have R4 := put2 H3 (iD hq []) zD ⟨ar, 0, hQ2, ⟨Or.inl oD.1, by rw [hq2]; exact fun q => by cases q⟩, ⟨Or.inl oD.2, by obtain ⟨-, -, f, h3, -⟩ := hQ2; rw [h3]; exact fun q => by cases q⟩⟩ iD.stb
    have R5 : zSep (iOb x st' (some a) hq ib lb 0 ([], w.2.2) :: iD hq [] :: (iH SH w.2.1 ++ (iB ib w.2.2.2.2.1 :: iB lb w.2.2.2.1 :: (iV (some a) w.2.2.1 ++ [])))) H3 (zext (fun b => (U b ∧ ¬ O b) ∧ h b ≠ none) H1) := R4.trv zf
    have R6 : zSep (iOb x st' (some a) hq ib lb 0 ([], w.2.2) :: iD hq [] :: (iB ib w.2.2.2.2.1 :: iB lb w.2.2.2.1 :: (iV (some a) w.2.2.1 ++ []))) H3 (zext (fun b => (U b ∧ ¬ O b) ∧ h b ≠ none) H1) := zSep.drp (A := [iOb x st' (some a) hq ib lb 0 ([], w.2.2), iD hq []]) (B := iH SH w.2.1) R5
    have hS3 := hS2.fr zD fun b hb q => (lD b q).1.elim (fun q => q.2 hb.1) fun q => hb.2 q
    obtain ⟨ll, aq, re, rt, ea, ha', er, hr, mc, xs, qs, rs, hP3⟩ := id hS3
    have hst := hP3.1
    have hl0 := hP3.2.1.1.1
    have hxl := hP3.2.1.2.1
    refine zW.aload_n (pc' := 34) dX1_restore_33 rfl rfl zg0 rfl ?_
    refine zW.get (pc' := 37) dX1_restore_34 rfl f_X1_10_0 hx ⟨rfl, (Nat.le_of_ble_eq_true rfl)⟩ rfl ?_
    refine zW.get (pc' := 40) dX1_restore_37 rfl f_X1_91_1 hst ⟨rfl, (Nat.le_of_ble_eq_true rfl)⟩ rfl ?_
    refine zW.callV (r' := 0) (pc' := 43) dX1_restore_40 rfl l_X1_95 rfl hl0 ⟨rfl, (Nat.le_of_ble_eq_true rfl)⟩ rfl (w_llSize hl0) zc0 rfl (Nat.le_of_ble_eq_true rfl) (Nat.le_of_ble_eq_true rfl) (Nat.le_of_ble_eq_true rfl) (fun _ _ q9 => ?_) (fun _ _ q9 => by cases q9.1)
    obtain ⟨q8, e9⟩ := q9
    cases q8
    replace e9 := e9.symm
    subst e9
    rw [hxl]
    refine zW.iret dX1_restore_43 rfl (rfl) ?_
    have zU : zfr U h H3 := ((z1.mono (B := U) fun _ q => q.elim).tr zf fun b hb => Or.inl (ly b hb).1.1.1).tr zD fun b hb => (lD b hb).1.elim (fun q => Or.inl q.1.1) fun q => Or.inr (z1.nn0 q)
    refine cOut.ok (w' := (s, [], w.2.2)) (by unfold sRestore; rw [e]) ⟨⟨st', _, hS3, fun b hb => ⟨Or.inr hb.1, zD.2.1 b (zf.2.1 b hb.2)⟩, some a, hq, ib, lb, [], ⟨rfl, Nat.zero_le _, by show true = w.2.2.1.isSome; rw [e]; rfl⟩, R6.up fun b hb hl => ?_⟩, zU⟩
    rcases hb with hb | hb
    · exact ⟨Or.inl hb.1.1, fun q => hb.2 q.1⟩
    · exact ⟨Or.inr (z1.nn0 hb), fun q => q.2 hb⟩
end
