/-! State.audit, add -/
section
set_option maxRecDepth 100000
variable {G : zG} {h h' h0 h1 H : zH} {O O' A B : Nat → Prop} {st ll aq re rt ea er ha hr c it : Nat} {mc : Int32} {xs : List (Nat × Nat)} {qs rs : List Nat} {s : sS} {tt nn jj : Nat} {Q : zR → zH → Prop}
theorem cS.hst (hS : cS h O st s) : ∃ l, h st = some (1, l) := by
  obtain ⟨ll, aq, re, rt, ea, ha, er, hr, mc, xs, qs, rs, hP⟩ := hS
  exact ⟨_, hP.1⟩
theorem nodup_len : ∀ (l m : List Nat), l.Nodup → (∀ x ∈ l, x ∈ m) → l.length ≤ m.length
  | [], _, _, _ => Nat.zero_le _
  | a :: l, m, hn, hs => by
    have ha : a ∈ m := hs a List.mem_cons_self
    have hn2 := List.nodup_cons.mp hn
    have ih := nodup_len l (m.erase a) hn2.2 fun x hx => (List.mem_erase_of_ne (fun e => hn2.1 (by rw [← e]; exact hx))).mpr (hs x (List.mem_cons_of_mem _ hx))
    rw [List.length_erase_of_mem ha] at ih
    have hp := List.length_pos_of_mem ha
    rw [List.length_cons]
    omega
theorem sI.ql (hI : sI tt nn jj s) : s.2.2.1.length ≤ s.2.1.length := by
  have e1 := nodup_len _ _ hI.2.2.2.1.1 fun x hx => (hI.2.2.2.1.2 x).mp hx
  rw [List.length_map] at e1
  exact e1
theorem w_stAudit (hI : sI tt nn 0 s) (hE : sE s) (hN : nn ≤ 10000) (hS : cS h O st s) {n : Nat} (hn : n < 2 ^ 30) : zK G mX2_audit 9 60 [.ref st, .int (nI n)] h (zO fun v h' => v = some (.int (nI (sVisits s (min n s.2.1.length)).1)) ∧ cS h' O st (zu (sVisits s (min n s.2.1.length)).2.1 7 ((sVisits s (min n s.2.1.length)).2.1 7 + (sVisits s (min n s.2.1.length)).1), (sVisits s (min n s.2.1.length)).2.2) ∧ zfr O h h') := by
  have h12 := hI.len
  have loop : ∀ (m k : Nat) (H : zH) (v5 : Value), k + m = min n s.2.1.length → cS H O st (sVisits s k).2 → zfr O h H → zW G mX2_audit 9 (5 * m) 17 [.ref st, .int (nI n), .int (nI (min n s.2.1.length)), .int (nI (sVisits s k).1), .int (nI k), v5] [] H (zO fun v h' => v = some (.int (nI (sVisits s (min n s.2.1.length)).1)) ∧ cS h' O st (zu (sVisits s (min n s.2.1.length)).2.1 7 ((sVisits s (min n s.2.1.length)).2.1 7 + (sVisits s (min n s.2.1.length)).1), (sVisits s (min n s.2.1.length)).2.2) ∧ zfr O h h') := by
    intro m
    induction m with
    | zero =>
      intro k H v5 hkm hS zf
      have hkm : k = min n s.2.1.length := hkm
      rw [← hkm]
      obtain ⟨ll, aq, re, rt, ea, ha, er, hr, mc, xs, qs, rs, hP⟩ := hS
      have hst := hP.1
      refine zW.iload (pc' := 19) dX2_audit_17 rfl (zgS (zgS (zgS (zgS (zg0))))) ?_
      refine zW.iload_n (pc' := 20) dX2_audit_19 rfl rfl (zgS (zgS (zg0))) ?_
      refine zW.icmp_geN (pc' := 23) 85 dX2_audit_20 rfl (by decide) (by omega) (by omega) (fun b9 => ?_) (fun b9 => absurd b9 (by omega))
      refine zW.aload_n (pc' := 86) dX2_audit_85 rfl rfl zg0 rfl ?_
      refine zW.dup (pc' := 87) dX2_audit_86 rfl rfl ?_
      refine zW.get (pc' := 90) dX2_audit_87 rfl f_X2_82_1 hst ⟨rfl, (Nat.le_of_ble_eq_true rfl)⟩ rfl ?_
      refine zW.iload_n (pc' := 91) dX2_audit_90 rfl rfl (zgS (zgS (zgS (zg0)))) ?_
      refine zW.iaddN (pc' := 92) dX2_audit_91 rfl ?_
      refine zW.putK (pc' := 95) dX2_audit_92 rfl f_X2_82_1 hst ⟨⟨rfl, (Nat.le_of_ble_eq_true rfl)⟩, (Nat.le_of_ble_eq_true rfl)⟩ (zFw.of ft_1_8 rfl rfl) (zsS (zsS (zsS (zsS (zsS (zsS (zsS (zsS (zs0))))))))) (fun _ e9 k9 => ?_)
      have zf := zf.put e9 hst (by decide) (Or.inl hP.2.2.2.2.2.2.1)
      have hq := e9
      replace hst := k9
      clear e9 k9
      refine zW.iload_n (pc' := 96) dX2_audit_95 rfl rfl (zgS (zgS (zgS (zg0)))) ?_
      refine zW.iret dX2_audit_96 rfl (rfl) ?_
      exact ⟨_, rfl, rfl, ⟨ll, aq, re, rt, ea, ha, er, hr, mc, xs, qs, rs, hP.num (m' := zu (sVisits s k).2.1 7 ((sVisits s k).2.1 7 + (sVisits s k).1)) hq fun i hi => zu_n (by omega)⟩, zf⟩
    | succ m ih =>
      intro k H v5 hkm hS zf
      obtain ⟨ll, aq, re, rt, ea, ha, er, hr, mc, xs, qs, rs, hP⟩ := hS
      have hI1 := hI.visits hE hN (k := k)
      have hln := sVisits_len hI hN hE (k := k)
      refine zW.iload (pc' := 19) dX2_audit_17 rfl (zgS (zgS (zgS (zgS (zg0))))) ?_
      refine zW.iload_n (pc' := 20) dX2_audit_19 rfl rfl (zgS (zgS (zg0))) ?_
      refine zW.icmp_geN (pc' := 23) 85 dX2_audit_20 rfl (by decide) (by omega) (by omega) (fun b9 => absurd b9 (by omega)) (fun b9 => ?_)
      refine zW.pay (r1 := 5 * m + 5) (w_visC hP hI1.1 hN (by have := hI1.2.2; omega) fun H' v5 hS2 z2 => ?_) (by omega)
      refine zW.iincN (pc' := 82) (n := 1) dX2_audit_79 rfl (Nat.le_of_ble_eq_true rfl) (zgS (zgS (zgS (zgS (zg0))))) (zsS (zsS (zsS (zsS (zs0))))) ?_
      refine zW.goto 17 dX2_audit_82 (by decide) ?_
      exact ih (k + 1) H' v5 (by omega) hS2 (zf.tr z2 fun b hb => Or.inl hb)
  obtain ⟨ll, aq, re, rt, ea, ha, er, hr, mc, xs, qs, rs, hP⟩ := id hS
  have hst := hP.1
  have hl0 := hP.2.1.1.1
  have hxl := hP.2.1.2.1
  show zW G mX2_audit 9 60 0 [.ref st, .int (nI n), zho, zho, zho, zho] [] h _
  refine zW.iload_n (pc' := 1) dX2_audit_0 rfl rfl (zgS (zg0)) ?_
  refine zW.aload_n (pc' := 2) dX2_audit_1 rfl rfl zg0 rfl ?_
  refine zW.get (pc' := 5) dX2_audit_2 rfl f_X2_12_1 hst ⟨rfl, (Nat.le_of_ble_eq_true rfl)⟩ rfl ?_
  refine zW.callV (r' := 0) (pc' := 8) dX2_audit_5 rfl l_X2_155 rfl hl0 ⟨rfl, (Nat.le_of_ble_eq_true rfl)⟩ rfl (w_llSize hl0) zc0 rfl (Nat.le_of_ble_eq_true rfl) (Nat.le_of_ble_eq_true rfl) (Nat.le_of_ble_eq_true rfl) (fun _ _ q9 => ?_) (fun _ _ q9 => by cases q9.1)
  obtain ⟨q8, e9⟩ := q9
  cases q8
  replace e9 := e9.symm
  subst e9
  rw [hxl]
  refine zW.mmin (pc' := 11) dX2_audit_8 rfl (lw_all_tbl q1624) (Nat.le_of_ble_eq_true rfl) (Nat.le_of_ble_eq_true rfl) (by omega) (by omega) ?_
  refine zW.istore_n (pc' := 12) dX2_audit_11 rfl rfl (Nat.le_of_ble_eq_true rfl) (zsS (zsS (zs0))) ?_
  refine zW.iconst (pc' := 13) (nI 0) dX2_audit_12 rfl (by decide) ?_
  refine zW.istore_n (pc' := 14) dX2_audit_13 rfl rfl (Nat.le_of_ble_eq_true rfl) (zsS (zsS (zsS (zs0)))) ?_
  refine zW.iconst (pc' := 15) (nI 0) dX2_audit_14 rfl (by decide) ?_
  refine zW.istore (pc' := 17) dX2_audit_15 rfl (Nat.le_of_ble_eq_true rfl) (zsS (zsS (zsS (zsS (zs0))))) ?_
  exact zW.pay (loop (min n s.2.1.length) 0 h zho (Nat.zero_add _) hS zfr.rf) (by omega)
theorem w_stAdd (hk : zkn G h) (hZ : zkI G) (hI : sI tt nn jj s) (hN : nn ≤ 10000) (hT : tt ≤ 100000) (hS : cS h O st s) (h11 : s.2.1.length < 12) {d c w l : Nat} (hw : w ≤ 999) (hl : l ≤ 50) : zK G mX2_add 4 4 [.ref st, .int (nI d), .int (nI c), .int (nI w), .int (nI l)] h (zO fun v h' => v = some (.int (nI (s.1 1))) ∧ cS h' (zext O h) st (zu (zu s.1 1 (s.1 1 + 1)) 4 (s.1 4 + w), s.2.1 ++ [sNew (s.1 1) d c w (s.1 0 + l)], s.2.2.1 ++ [s.1 1], s.2.2.2) ∧ zfr O h h') := by
  obtain ⟨ll, aq, re, rt, ea, ha, er, hr, mc, xs, qs, rs, hP⟩ := hS
  have hst := hP.1
  have hxl := hP.2.1.2.1
  have hO := hP.2.2.2.2.2.2
  have t0 := hI.1.1
  have n0 := hI.1.2.1
  have hqn := hI.ql
  have zf := zfr.rf (A := O) (h := h)
  show zW G mX2_add 4 4 0 [.ref st, .int (nI d), .int (nI c), .int (nI w), .int (nI l), zho] [] h _
  refine zW.newK (u := 2) (pc' := 3) dX2_add_0 rfl n_X2_47 zd_2 (fun n _ nn e9 k9 => ?_)
  have hst := zpres e9 (zfresh nn hst) hst
  have on := zf.nn0 nn
  have zf := zf.new e9 nn
  have hn := k9
  clear k9
  have en := e9
  refine zW.dup (pc' := 4) dX2_add_3 rfl rfl ?_
  refine zW.aload_n (pc' := 5) dX2_add_4 rfl rfl zg0 rfl ?_
  refine zW.get (pc' := 8) dX2_add_5 rfl f_X2_69_1 hst ⟨rfl, (Nat.le_of_ble_eq_true rfl)⟩ rfl ?_
  refine zW.iload_n (pc' := 9) dX2_add_8 rfl rfl (zgS (zg0)) ?_
  refine zW.iload_n (pc' := 10) dX2_add_9 rfl rfl (zgS (zgS (zg0))) ?_
  refine zW.iload_n (pc' := 11) dX2_add_10 rfl rfl (zgS (zgS (zgS (zg0)))) ?_
  refine zW.aload_n (pc' := 12) dX2_add_11 rfl rfl zg0 rfl ?_
  refine zW.get (pc' := 15) dX2_add_12 rfl f_X2_73_1 hst ⟨rfl, (Nat.le_of_ble_eq_true rfl)⟩ rfl ?_
  refine zW.iload (pc' := 17) dX2_add_15 rfl (zgS (zgS (zgS (zgS (zg0))))) ?_
  refine zW.iaddN (pc' := 18) dX2_add_17 rfl ?_
  rw [show s.1 0 + l = s.1 0 + l from rfl]
  refine zW.callI (r' := 0) (pc' := 21) dX2_add_18 rfl l_X2_110 rfl (w_clInit hn) (zcc rfl (zcc rfl (zcc rfl (zcc rfl (zcc rfl zc0))))) rfl (Nat.le_of_ble_eq_true rfl) (Nat.le_of_ble_eq_true rfl) (Nat.le_of_ble_eq_true rfl) (fun _ _ q9 => ?_) (fun _ _ q9 => absurd q9 zO.no)
  obtain ⟨_, q8, e1, e9, k9⟩ := q9
  cases q8
  subst e1
  have hst := zpres e9 (zne hst hn (by decide)) hst
  have zf := zf.put e9 hn (by decide) (Or.inr on)
  have en := ztrk en e9
  replace hn := k9
  clear e9 k9
  have zn := zfr.rf.new (A := fun _ => False) en nn
  have hP1 := hP.fr zn fun _ _ q => q
  have hL1 := hP1.2.1.1
  have hl1 := hL1.1
  refine zW.astore (pc' := 23) dX2_add_21 rfl (Nat.le_of_ble_eq_true rfl) rfl (zsS (zsS (zsS (zsS (zsS (zs0)))))) ?_
  refine zW.aload_n (pc' := 24) dX2_add_23 rfl rfl zg0 rfl ?_
  refine zW.get (pc' := 27) dX2_add_24 rfl f_X2_12_1 hst ⟨rfl, (Nat.le_of_ble_eq_true rfl)⟩ rfl ?_
  refine zW.aload (pc' := 29) dX2_add_27 rfl (zgS (zgS (zgS (zgS (zgS (zg0)))))) rfl ?_
  refine zW.callV (r' := 1) (pc' := 32) dX2_add_29 rfl l_X2_53 rfl hl1 ⟨rfl, (Nat.le_of_ble_eq_true rfl)⟩ rfl (w_addLast hL1 (c := n)) (zcc rfl zc0) rfl (Nat.le_of_ble_eq_true rfl) (Nat.le_of_ble_eq_true rfl) (Nat.le_of_ble_eq_true rfl) (fun _ _ q9 => ?_) (fun _ _ q9 => absurd q9 zO.no)
  obtain ⟨_, q8, e1, nd, nnd, hL2, z2⟩ := q9
  cases q8
  subst e1
  have hC2 := (hP.2.1.2).app (nd := nd) (fun b l e => hL1.outC z2 b l (zn.at e fun q => q)) nn (hL1.outC z2 _ _ hn)
  have zf1 : zfr O h _ := zn.mono fun _ q => q.elim
  have oL : ∀ b, cLf ll xs b → O b := hO.2.1
  have hP2 := hP1.list (O' := zext O h) z2 hL2 hC2 (fun b hb => by
    rcases hb with q | q
    · exact Or.inl (oL _ (Or.inl q))
    · rw [List.map_append] at q
      rcases List.mem_append.mp q with q | q
      · exact Or.inl (oL _ (Or.inr q))
      · rw [show b = nd from List.mem_singleton.mp q]; exact Or.inr (zf1.nn0 nnd)) (fun q hq => by
    rcases List.mem_append.mp hq with q1 | q1
    · exact Or.inl (hO.2.2.1 _ q1)
    · rw [List.mem_singleton.mp q1]; exact Or.inr nn) fun _ q => Or.inl q
  have zf2 := zf1.tr z2 fun b hb => Or.inl (oL b hb)
  have hst := hP2.1
  dsimp only at hst
  have hcn := cCl_l (hL1.outC z2 _ _ hn)
  refine zW.aload_n (pc' := 33) dX2_add_32 rfl rfl zg0 rfl ?_
  refine zW.get (pc' := 36) dX2_add_33 rfl f_X2_21_1 hst ⟨rfl, (Nat.le_of_ble_eq_true rfl)⟩ rfl ?_
  refine zW.aload (pc' := 38) dX2_add_36 rfl (zgS (zgS (zgS (zgS (zgS (zg0)))))) rfl ?_
  refine zW.get (pc' := 41) dX2_add_38 rfl f_X2_95_2 hcn ⟨rfl, (Nat.le_of_ble_eq_true rfl)⟩ rfl ?_
  rw [show sNew (s.1 1) d c w (s.1 0 + l) 0 = s.1 1 from rfl]
  refine zW.callS (r' := 1) (pc' := 44) dX2_add_41 rfl l_X2_64 rfl (w_valueOf2 (zf2.kn hk) hZ (by omega)) (zcc rfl zc0) rfl (Nat.le_of_ble_eq_true rfl) (Nat.le_of_ble_eq_true rfl) (Nat.le_of_ble_eq_true rfl) (fun _ _ q9 => ?_) (fun _ _ q9 => absurd q9 zO.no)
  obtain ⟨_, q8, q1, k1, e1, hc3, ho, zv⟩ := q9
  cases q8
  subst e1
  have hP3 := hP2.fr zv fun _ _ q => q
  have hQ3 := hP3.2.2.1.1
  have haq := hQ3.2.1
  have hx3 := hc3.1
  have nq : q1 ≠ aq := zne hx3 haq (by rcases hc3.2 with q | q <;> subst q <;> decide)
  refine zW.callV (r' := 0) (pc' := 47) dX2_add_44 rfl l_X2_68 rfl haq ⟨rfl, (Nat.le_of_ble_eq_true rfl)⟩ rfl (w_dqAddLast hQ3 (by have := hP.2.2.1.2.1; omega) hx3 hc3.ob nq) (zcc rfl zc0) rfl (Nat.le_of_ble_eq_true rfl) (Nat.le_of_ble_eq_true rfl) (Nat.le_of_ble_eq_true rfl) (fun _ _ q9 => ?_) (fun _ _ q9 => absurd q9 zO.no)
  obtain ⟨_, q8, e1, hQ4, z4⟩ := q9
  cases q8
  subst e1
  have hI4 := (hP3.2.2.1.2.mv (hQ3.outI z4)).push (q := q1) (k := k1) (x := s.1 1) ⟨hQ3.outI z4 _ _ _ hc3.2 hc3.1, hc3.2⟩ fun e => Or.inr (zf2.nn0 (ho e))
  have hP4 := hP3.queue (O' := zext O h) z4 hQ4 hI4 fun _ q => q
  have zf4 := (zf2.tr zv fun _ q => q.elim).tr z4 fun b hb => Or.inl (hb.elim (fun q => by rw [q]; exact hO.2.2.2.1.1) fun q => by rw [q]; exact hO.2.2.2.1.2)
  have hst := hP4.1
  dsimp only at hst
  have hcn := hQ3.out z4 (zv.at hcn fun q => q) ⟨by decide, by decide⟩
  refine zW.aload_n (pc' := 48) dX2_add_47 rfl rfl zg0 rfl ?_
  refine zW.dup (pc' := 49) dX2_add_48 rfl rfl ?_
  refine zW.get (pc' := 52) dX2_add_49 rfl f_X2_85_1 hst ⟨rfl, (Nat.le_of_ble_eq_true rfl)⟩ rfl ?_
  refine zW.iload_n (pc' := 53) dX2_add_52 rfl rfl (zgS (zgS (zgS (zg0)))) ?_
  refine zW.i2l (pc' := 54) dX2_add_53 rfl ?_
  refine zW.ladd (pc' := 55) dX2_add_54 rfl ?_
  rw [nL_w (by omega), nL_add]
  refine zW.putK (pc' := 58) dX2_add_55 rfl f_X2_85_1 hst ⟨⟨rfl, (Nat.le_of_ble_eq_true rfl)⟩, (Nat.le_of_ble_eq_true rfl)⟩ (zFw.of ft_1_9 rfl rfl) (zsS (zsS (zsS (zsS (zsS (zsS (zsS (zsS (zsS (zs0)))))))))) (fun _ e9 k9 => ?_)
  have hcn := zpres e9 (zne hcn hst (by decide)) hcn
  have zf4 := zf4.put e9 hst (by decide) (Or.inl hO.1)
  have hq := e9
  replace hst := k9
  clear e9 k9
  refine zW.aload_n (pc' := 59) dX2_add_58 rfl rfl zg0 rfl ?_
  refine zW.dup (pc' := 60) dX2_add_59 rfl rfl ?_
  refine zW.get (pc' := 63) dX2_add_60 rfl f_X2_69_1 hst ⟨rfl, (Nat.le_of_ble_eq_true rfl)⟩ rfl ?_
  refine zW.iconst (pc' := 64) (nI 1) dX2_add_63 rfl (by decide) ?_
  refine zW.iaddN (pc' := 65) dX2_add_64 rfl ?_
  refine zW.putK (pc' := 68) dX2_add_65 rfl f_X2_69_1 hst ⟨⟨rfl, (Nat.le_of_ble_eq_true rfl)⟩, (Nat.le_of_ble_eq_true rfl)⟩ (zFw.of ft_1_4 rfl rfl) (zsS (zsS (zsS (zsS (zs0))))) (fun _ e9 k9 => ?_)
  have hcn := zpres e9 (zne hcn hst (by decide)) hcn
  have zf4 := zf4.put e9 hst (by decide) (Or.inl hO.1)
  have hq := ztrk hq e9
  replace hst := k9
  clear e9 k9
  refine zW.aload (pc' := 70) dX2_add_68 rfl (zgS (zgS (zgS (zgS (zgS (zg0)))))) rfl ?_
  refine zW.get (pc' := 73) dX2_add_70 rfl f_X2_95_2 hcn ⟨rfl, (Nat.le_of_ble_eq_true rfl)⟩ rfl ?_
  rw [show sNew (s.1 1) d c w (s.1 0 + l) 0 = s.1 1 from rfl]
  refine zW.iret dX2_add_73 rfl (rfl) ?_
  have hP5 := hP4.num (m' := zu (zu s.1 1 (s.1 1 + 1)) 4 (s.1 4 + w)) hq fun i hi => (zu_n (by omega)).trans (zu_n (by omega))
  exact ⟨_, rfl, rfl, ⟨ll, aq, re, rt, ea, _, er, hr, _, _, _, rs, hP5⟩, zf4⟩
end
