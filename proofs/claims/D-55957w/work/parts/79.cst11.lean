/-! State.expire, tick, advance -/
section
set_option maxRecDepth 100000
variable {G : zG} {h h' h0 h1 : zH} {O O' A B : Nat → Prop} {st ll aq re rt ea er ha hr c it : Nat} {mc : Int32} {xs : List (Nat × Nat)} {qs rs : List Nat} {s : sS} {tt nn jj : Nat}
theorem zext_tr (z : zfr A h h1) : ∀ b, zext (zext O h) h1 b → zext O h b := fun b q => q.elim (fun q => q) fun q => Or.inr (z.nn0 q)
theorem zext_up (z : zfr A h h1) : ∀ b, zext O h1 b → zext O h b := fun b q => q.elim Or.inl fun q => Or.inr (z.nn0 q)
theorem w_stExpire (hk : zkn G h) (hZ : zkI G) (hN : nn ≤ 10000) (hT : tt ≤ 100000) (hI : sI tt nn jj s) (hP : cP h O st ll aq re rt ea ha er hr mc xs qs rs s) : zK G mX2_expire 6 26 [.ref st] h (zO fun v h' => v = some (.int (nI (sExpire s).1)) ∧ cS h' (zext O h) st (sExpire s).2 ∧ zfr O h h') := by
  have hst := hP.1
  have hL := hP.2.1.1
  have hl0 := hL.1
  have hxl := hP.2.1.2.1
  have h12 := hI.len
  have t0 := hI.1.1
  have hP0 := hP.live
  show zW G mX2_expire 6 26 0 [.ref st, zho, zho, zho] [] h _
  refine zW.iconst (pc' := 1) (nI 0) dX2_expire_0 rfl (by decide) ?_
  refine zW.istore_n (pc' := 2) dX2_expire_1 rfl rfl (Nat.le_of_ble_eq_true rfl) (zsS (zs0)) ?_
  refine zW.aload_n (pc' := 3) dX2_expire_2 rfl rfl zg0 rfl ?_
  refine zW.get (pc' := 6) dX2_expire_3 rfl f_X2_12_1 hst ⟨rfl, (Nat.le_of_ble_eq_true rfl)⟩ rfl ?_
  refine zW.callU (r' := 2) (pc' := 9) dX2_expire_6 rfl l_X2_33_J3 rfl hl0 ⟨rfl, (Nat.le_of_ble_eq_true rfl)⟩ rfl (w_llIter hL (by omega)) zc0 rfl (Nat.le_of_ble_eq_true rfl) (Nat.le_of_ble_eq_true rfl) (Nat.le_of_ble_eq_true rfl) (fun _ _ q9 => ?_) (fun _ _ q9 => absurd q9 zO.no)
  obtain ⟨_, q8, it, e1, nit, e9, hit⟩ := q9
  cases q8
  subst e1
  have zn := zfr.rf.new (A := fun _ => False) e9 nit
  refine zW.astore_n (pc' := 10) dX2_expire_9 rfl rfl (Nat.le_of_ble_eq_true rfl) rfl (zsS (zsS (zs0))) ?_
  have hP1 := (hP0.fr zn fun _ _ q => q).up (O' := cNv O h it) fun b q => Or.inl q
  refine zW.pay (r1 := 2 * s.2.1.length) (zW.post (w_exp1 hk hZ hN hT nit s.2.1 [] 0 jj _ ha hr mc xs qs rs s.1 s.2.2.1 s.2.2.2 .null zho (by rw [List.nil_append]; exact hI) (by omega) (by rw [List.nil_append]; exact hP1) hit (zn.mono fun _ q => q.elim)) fun o h' ⟨v, e1, e2, e3, e4⟩ => ⟨v, e1, e2, e3.up fun b q => q.elim (fun q => Or.inl q.1) fun q => Or.inr q.1, e4⟩) (by omega)
theorem w_stTick (hk : zkn G h) (hZ : zkI G) (hN : nn ≤ 10000) (hT : tt < 100000) (hI : sI tt nn jj s) (hE : sE s) (hS : cS h O st s) : zK G mX2_tick 7 28 [.ref st] h (zO fun v h' => v = some (.int (nI (sTick s).1)) ∧ cS h' (zext O h) st (sTick s).2 ∧ zfr O h h') := by
  obtain ⟨ll, aq, re, rt, ea, ha, er, hr, mc, xs, qs, rs, hP⟩ := hS
  have hst := hP.1
  have h12 := hI.len
  have hI1 := hI.time hE
  have h4 : (sTime s).1 0 / 4 % 4 < 4 := Nat.mod_lt _ (by decide)
  have hr20 := hI1.1.2.2.2.2 _ h4
  have hIK : ∀ k, k ≤ (sTime s).2.1.length → sI (tt + 1) nn jj (sIntK ((sTime s).1 (10 + (sTime s).1 0 / 4 % 4)) (sTime s) k) := fun k hk => hI1.intK hk
  have hI2 : sI (tt + 1) nn jj (sInt (sTime s)) := hIK _ (Nat.le_refl _)
  have t1 := hI1.1.1
  have zf := zfr.rf (A := O) (h := h)
  show zW G mX2_tick 7 28 0 [.ref st, zho] [] h _
  refine zW.aload_n (pc' := 1) dX2_tick_0 rfl rfl zg0 rfl ?_
  refine zW.dup (pc' := 2) dX2_tick_1 rfl rfl ?_
  refine zW.get (pc' := 5) dX2_tick_2 rfl f_X2_73_1 hst ⟨rfl, (Nat.le_of_ble_eq_true rfl)⟩ rfl ?_
  refine zW.iconst (pc' := 6) (nI 1) dX2_tick_5 rfl (by decide) ?_
  refine zW.iaddN (pc' := 7) dX2_tick_6 rfl ?_
  refine zW.putK (pc' := 10) dX2_tick_7 rfl f_X2_73_1 hst ⟨⟨rfl, (Nat.le_of_ble_eq_true rfl)⟩, (Nat.le_of_ble_eq_true rfl)⟩ (zFw.of ft_1_5 rfl rfl) (zsS (zsS (zsS (zsS (zsS (zs0)))))) (fun _ e9 k9 => ?_)
  have zf := zf.put e9 hst (by decide) (Or.inl hP.2.2.2.2.2.2.1)
  have hq := e9
  replace hst := k9
  clear e9 k9
  have hP1 : cP _ O st ll aq re rt ea ha er hr mc xs qs rs (sTime s) := hP.num (m' := zu s.1 0 (s.1 0 + 1)) hq fun i hi => zu_n (by omega)
  refine zW.aload_n (pc' := 11) dX2_tick_10 rfl rfl zg0 rfl ?_
  refine zW.callV (r' := 2) (pc' := 14) dX2_tick_11 rfl l_X2_147 rfl hst ⟨rfl, (Nat.le_of_ble_eq_true rfl)⟩ rfl (w_stInt hP1 h12 hIK hr20 (by omega)) zc0 rfl (Nat.le_of_ble_eq_true rfl) (Nat.le_of_ble_eq_true rfl) (Nat.le_of_ble_eq_true rfl) (fun _ _ q9 => ?_) (fun _ _ q9 => absurd q9 zO.no)
  obtain ⟨_, q8, e1, hP2, z2⟩ := q9
  cases q8
  subst e1
  have hst := hP2.1
  have zf2 := zf.tr z2 fun b hb => Or.inl hb
  refine zW.aload_n (pc' := 15) dX2_tick_14 rfl rfl zg0 rfl ?_
  refine zW.callV (r' := 26) (pc' := 18) dX2_tick_15 rfl l_X2_149 rfl hst ⟨rfl, (Nat.le_of_ble_eq_true rfl)⟩ rfl (w_stExpire (zf2.kn hk) hZ hN (by omega) hI2 hP2) zc0 rfl (Nat.le_of_ble_eq_true rfl) (Nat.le_of_ble_eq_true rfl) (Nat.le_of_ble_eq_true rfl) (fun _ _ q9 => ?_) (fun _ _ q9 => absurd q9 zO.no)
  obtain ⟨_, q8, e1, hS3, z3⟩ := q9
  cases q8
  subst e1
  obtain ⟨ll, aq, re, rt, ea, ha, er, hr, mc, xs, qs, rs, hP3⟩ := hS3
  have hst := hP3.1
  have zf3 := zf2.tr z3 fun b hb => Or.inl hb
  have hO3 := zext_up zf2 _ hP3.2.2.2.2.2.2.1
  refine zW.istore_n (pc' := 19) dX2_tick_18 rfl rfl (Nat.le_of_ble_eq_true rfl) (zsS (zs0)) ?_
  refine zW.aload_n (pc' := 20) dX2_tick_19 rfl rfl zg0 rfl ?_
  refine zW.dup (pc' := 21) dX2_tick_20 rfl rfl ?_
  refine zW.get (pc' := 24) dX2_tick_21 rfl f_X2_76_1 hst ⟨rfl, (Nat.le_of_ble_eq_true rfl)⟩ rfl ?_
  refine zW.iload_n (pc' := 25) dX2_tick_24 rfl rfl (zgS (zg0)) ?_
  refine zW.iaddN (pc' := 26) dX2_tick_25 rfl ?_
  refine zW.putK (pc' := 29) dX2_tick_26 rfl f_X2_76_1 hst ⟨⟨rfl, (Nat.le_of_ble_eq_true rfl)⟩, (Nat.le_of_ble_eq_true rfl)⟩ (zFw.of ft_1_6 rfl rfl) (zsS (zsS (zsS (zsS (zsS (zsS (zs0))))))) (fun _ e9 k9 => ?_)
  have zf3 := zf3.put e9 hst (by decide) hO3
  have hq3 := e9
  replace hst := k9
  clear e9 k9
  refine zW.iload_n (pc' := 30) dX2_tick_29 rfl rfl (zgS (zg0)) ?_
  refine zW.iret dX2_tick_30 rfl (rfl) ?_
  have hP4 := hP3.num (m' := zu (sExpire (sInt (sTime s))).2.1 5 ((sExpire (sInt (sTime s))).2.1 5 + (sExpire (sInt (sTime s))).1)) hq3 fun i hi => zu_n (by omega)
  exact ⟨_, rfl, rfl, ⟨ll, aq, re, rt, ea, ha, er, hr, mc, xs, qs, rs, hP4.up (zext_up zf2)⟩, zf3⟩
theorem w_stAdvance (hk : zkn G h) (hZ : zkI G) (hN : nn ≤ 10000) {t : Nat} (hT : tt + t ≤ 100000) (hI : sI tt nn jj s) (hE : sE s) (hS : cS h O st s) : zK G mX2_advance 8 (28 * t) [.ref st, .int (nI t)] h (zO fun v h' => v = some (.int (nI (sTicks s t).1)) ∧ cS h' (zext O h) st (sTicks s t).2 ∧ zfr O h h') := by
  have loop : ∀ (m k : Nat) (H : zH), k + m = t → cS H (zext O h) st (sTicks s k).2 → zfr O h H → zW G mX2_advance 8 (28 * m) 4 [.ref st, .int (nI t), .int (nI (sTicks s k).1), .int (nI k)] [] H (zO fun v h' => v = some (.int (nI (sTicks s t).1)) ∧ cS h' (zext O h) st (sTicks s t).2 ∧ zfr O h h') := by
    intro m
    induction m with
    | zero =>
      intro k H hkm hS zf
      have hkm : k = t := hkm
      subst hkm
      refine zW.iload_n (pc' := 5) dX2_advance_4 rfl rfl (zgS (zgS (zgS (zg0)))) ?_
      refine zW.iload_n (pc' := 6) dX2_advance_5 rfl rfl (zgS (zg0)) ?_
      refine zW.icmp_geN (pc' := 9) 22 dX2_advance_6 rfl (by decide) (by omega) (by omega) (fun b9 => ?_) (fun b9 => absurd b9 (by omega))
      refine zW.iload_n (pc' := 23) dX2_advance_22 rfl rfl (zgS (zgS (zg0))) ?_
      refine zW.iret dX2_advance_23 rfl (rfl) ?_
      exact ⟨_, rfl, rfl, hS, zf⟩
    | succ m ih =>
      intro k H hkm hS zf
      have hIk := hI.ticks hE (k := k)
      obtain ⟨c1, hst⟩ : ∃ l, H st = some (1, l) := by
        obtain ⟨ll, aq, re, rt, ea, ha, er, hr, mc, xs, qs, rs, hP⟩ := hS
        exact ⟨_, hP.1⟩
      refine zW.pay (r1 := 28 * m + 28) ?_ (by omega)
      refine zW.iload_n (pc' := 5) dX2_advance_4 rfl rfl (zgS (zgS (zgS (zg0)))) ?_
      refine zW.iload_n (pc' := 6) dX2_advance_5 rfl rfl (zgS (zg0)) ?_
      refine zW.icmp_geN (pc' := 9) 22 dX2_advance_6 rfl (by decide) (by omega) (by omega) (fun b9 => absurd b9 (by omega)) (fun b9 => ?_)
      refine zW.iload_n (pc' := 10) dX2_advance_9 rfl rfl (zgS (zgS (zg0))) ?_
      refine zW.aload_n (pc' := 11) dX2_advance_10 rfl rfl zg0 rfl ?_
      refine zW.callV (r' := 28) (pc' := 14) dX2_advance_11 rfl l_X2_152 rfl hst ⟨rfl, (Nat.le_of_ble_eq_true rfl)⟩ rfl (w_stTick (zf.kn hk) hZ hN (by omega) hIk.1 hIk.2 hS) zc0 rfl (Nat.le_of_ble_eq_true rfl) (Nat.le_of_ble_eq_true rfl) (Nat.le_of_ble_eq_true rfl) (fun _ _ q9 => ?_) (fun _ _ q9 => absurd q9 zO.no)
      obtain ⟨_, q8, e1, hS2, z2⟩ := q9
      cases q8
      subst e1
      refine zW.iaddN (pc' := 15) dX2_advance_14 rfl ?_
      refine zW.istore_n (pc' := 16) dX2_advance_15 rfl rfl (Nat.le_of_ble_eq_true rfl) (zsS (zsS (zs0))) ?_
      refine zW.iincN (pc' := 19) (n := 1) dX2_advance_16 rfl (Nat.le_of_ble_eq_true rfl) (zgS (zgS (zgS (zg0)))) (zsS (zsS (zsS (zs0)))) ?_
      refine zW.goto 4 dX2_advance_19 (by decide) ?_
      exact ih (k + 1) _ (by omega) (hS2.up (zext_tr zf)) (zf.tr z2 fun b hb => hb)
  show zW G mX2_advance 8 (28 * t) 0 [.ref st, .int (nI t), zho, zho] [] h _
  refine zW.iconst (pc' := 1) (nI 0) dX2_advance_0 rfl (by decide) ?_
  refine zW.istore_n (pc' := 2) dX2_advance_1 rfl rfl (Nat.le_of_ble_eq_true rfl) (zsS (zsS (zs0))) ?_
  refine zW.iconst (pc' := 3) (nI 0) dX2_advance_2 rfl (by decide) ?_
  refine zW.istore_n (pc' := 4) dX2_advance_3 rfl rfl (Nat.le_of_ble_eq_true rfl) (zsS (zsS (zsS (zs0)))) ?_
  exact loop t 0 h (Nat.zero_add _) (hS.up fun b q => Or.inl q) zfr.rf
end
