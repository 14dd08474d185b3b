/-! State.expire, tick, advance -/
section
set_option maxRecDepth 100000
variable {G : zG} {h h' h0 : zH} {O O' A B : Nat → Prop} {st ll aq re rt ea er c it : Nat} {s : sS} {tt nn jj : Nat}
theorem zfr.split {k : Nat} {l : List Value} {c' : zC} (z : zfr (fun b => b = it ∨ B b) h h') (hit : h it = some (k, l)) (hk : k < 1000) (hit' : h' it = some c') : zfr (fun b => b = it) h (zup h it c') ∧ zfr B (zup h it c') h' := by
  refine ⟨zfr.rf.put rfl hit hk (Or.inl rfl), fun b hb hl => ?_, fun b hl => ?_, fun b x hx h3 => ?_⟩
  · by_cases q : b = it
    · subst q; rw [zup_s]; exact hit'
    · rw [zup_n q] at hl ⊢
      exact z.1 b (fun w => w.elim q hb) hl
  · by_cases q : b = it
    · subst q; rw [hit']; exact fun w => by cases w
    · rw [zup_n q] at hl
      exact z.2.1 b hl
  · by_cases q : b = it
    · subst q; rw [zup_s] at hx; rw [hit']; exact hx
    · rw [zup_n q] at hx
      exact z.2.2 b x hx h3
theorem sI.cB (h : sI tt nn jj s) (hN : nn ≤ 10000) : cB s := by
  obtain ⟨⟨-, h2, -⟩, -, ⟨h3, h4, -⟩, ⟨h5, h6⟩, h7, h8⟩ := h
  have hc : ∀ i, i < s.2.1.length → sCI (s.1 0) (s.1 1) (sAt s.2.1 i) := fun i hi => h4 _ (List.mem_of_getElem? (sAt_get hi))
  refine ⟨h3, fun i hi => ⟨?_, ?_⟩, fun y hy => ?_, h5, h7, fun y hy => ?_⟩
  · have := (hc i hi).1; omega
  · have := (hc i hi).2.2.2.2.1.2; omega
  · obtain ⟨d, hd, e⟩ := List.mem_map.mp ((h6 y).mp hy)
    have := (h4 d hd).1
    omega
  · have := h8 y hy; omega
/-- live ones of O, and what is new since h but it -/
abbrev cNv (O : Nat → Prop) (h : zH) (it : Nat) : Nat → Prop := fun b => (O b ∧ h b ≠ none) ∨ (h b = none ∧ b ≠ it)
theorem w_exp1 (hk : zkn G h) (hZ : zkI G) (hN : nn ≤ 10000) (hT : tt ≤ 100000) (nit : h it = none) : ∀ (todo kept : List sC) (n j : Nat) (H : zH) (ha hr : Nat) (mc : Int32) (xs : List (Nat × Nat)) (qs rs : List Nat) (sc : Nat → Nat) (qu l : List Nat) (lr v3 : Value), sI tt nn j (sc, kept ++ todo, qu, l) → sc 0 < 2 ^ 30 → cP H (cNv O h it) st ll aq re rt ea ha er hr mc xs qs rs (sc, kept ++ todo, qu, l) → H it = some (cIt ll mc xs kept.length lr) → zfr O h H → zW G mX2_expire 6 (2 * todo.length) 10 [.ref st, .int (nI n), .ref it, v3] [] H (zO fun v h' => v = some (.int (nI (sExp (sc 0) todo kept sc qu l n).1)) ∧ cS h' (cNv O h it) st (sExp (sc 0) todo kept sc qu l n).2 ∧ zfr O h h') := by
  intro todo
  induction todo with
  | nil =>
    intro kept n j H ha hr mc xs qs rs sc qu l lr v3 hI h30 hP hit zf
    have hl0 := hP.2.1.1.1
    have hxl := hP.2.1.2.1
    have h12 := hI.len
    dsimp only at hxl h12
    rw [List.append_nil] at hxl h12 hP
    refine zW.aload_n (pc' := 11) dX2_expire_10 rfl rfl (zgS (zgS (zg0))) rfl ?_
    refine zW.callF (r' := 0) (pc' := 16) dX2_expire_11 rfl l_X2_37_J25 rfl hit ⟨rfl, (Nat.le_of_ble_eq_true rfl)⟩ rfl (w_itHas hit hl0 (by omega) (by omega)) zc0 rfl (Nat.le_of_ble_eq_true rfl) (Nat.le_of_ble_eq_true rfl) (Nat.le_of_ble_eq_true rfl) (fun _ _ q9 => ?_) (fun _ _ q9 => by cases q9.1)
    obtain ⟨q8, e9⟩ := q9
    cases q8
    replace e9 := e9.symm
    subst e9
    rw [if_neg (by omega)]
    refine zW.if_eqN (pc' := 19) 62 dX2_expire_16 rfl (by decide) (by omega) (fun b9 => ?_) (fun b9 => absurd b9 (by omega))
    refine zW.iload_n (pc' := 63) dX2_expire_62 rfl rfl (zgS (zg0)) ?_
    refine zW.iret dX2_expire_63 rfl (rfl) ?_
    rw [sExp]
    exact ⟨_, rfl, rfl, ⟨ll, aq, re, rt, ea, ha, er, hr, mc, xs, qs, rs, hP⟩, zf⟩
  | cons c todo ih =>
    intro kept n j H ha hr mc xs qs rs sc qu l lr v3 hI h30 hP hit zf
    have hl0 := hP.2.1.1.1
    have hL := hP.2.1.1
    have hxl := hP.2.1.2.1
    have h12 := hI.len
    have hO := hP.2.2.2.2.2.2
    have hB := hI.cB hN
    dsimp only at hxl h12
    have hlen : (kept ++ c :: todo).length = kept.length + 1 + todo.length := by rw [List.length_append, List.length_cons]; omega
    obtain ⟨p, hp, hc⟩ := hP.2.1.2.at (k := kept.length) (by rw [hlen]; omega)
    dsimp only at hc
    rw [app_at] at hc
    have hci := hI.at (i := kept.length) (by show _ < (kept ++ c :: todo).length; omega)
    dsimp only at hci
    rw [app_at] at hci
    have t0 := hI.1.1
    have n0 := hI.1.2.1
    obtain ⟨c0, c1, c2, c3, ⟨c4, c4'⟩, ⟨c5, c5'⟩, c6, c7, c8⟩ := hci
    dsimp only at t0 n0 c0 c5 c5'
    have hst : H st = some (1, cSf ll aq re rt sc) := hP.1
    have zz := zfr.rf (A := fun b => b = it) (h := H)
    refine zW.pay (r1 := 2 * todo.length + 2) ?_ (by rw [List.length_cons]; omega)
    refine zW.aload_n (pc' := 11) dX2_expire_10 rfl rfl (zgS (zgS (zg0))) rfl ?_
    refine zW.callF (r' := 0) (pc' := 16) dX2_expire_11 rfl l_X2_37_J25 rfl hit ⟨rfl, (Nat.le_of_ble_eq_true rfl)⟩ rfl (w_itHas hit hl0 (by omega) (by omega)) zc0 rfl (Nat.le_of_ble_eq_true rfl) (Nat.le_of_ble_eq_true rfl) (Nat.le_of_ble_eq_true rfl) (fun _ _ q9 => ?_) (fun _ _ q9 => by cases q9.1)
    obtain ⟨q8, e9⟩ := q9
    cases q8
    replace e9 := e9.symm
    subst e9
    rw [if_pos (by omega)]
    refine zW.if_eqN (pc' := 19) 62 dX2_expire_16 rfl (by decide) (by omega) (fun b9 => absurd b9 (by omega)) (fun b9 => ?_)
    refine zW.aload_n (pc' := 20) dX2_expire_19 rfl rfl (zgS (zgS (zg0))) rfl ?_
    refine zW.callF (r' := 0) (pc' := 25) dX2_expire_20 rfl l_X2_43_J25 rfl hit ⟨rfl, (Nat.le_of_ble_eq_true rfl)⟩ rfl (w_itNext hL hit hp (by omega)) zc0 rfl (Nat.le_of_ble_eq_true rfl) (Nat.le_of_ble_eq_true rfl) (Nat.le_of_ble_eq_true rfl) (fun _ _ q9 => ?_) (fun _ _ q9 => absurd q9 zO.no)
    obtain ⟨_, q8, e1, e9, k9⟩ := q9
    cases q8
    subst e1
    have hst := zpres e9 (zne hst hit (by decide)) hst
    have hc := zpres e9 (zne hc hit (by decide)) hc
    have zf := zf.put e9 hit (by decide) (by first | exact Or.inr nit | exact Or.inl rfl)
    have zz := zz.put e9 hit (by decide) (by first | exact Or.inr nit | exact Or.inl rfl)
    replace hit := k9
    clear e9 k9
    refine zW.castS (pc' := 28) dX2_expire_25 rfl (lw_all_tbl q1032) hc ⟨rfl, (Nat.le_of_ble_eq_true rfl)⟩ rfl ?_
    have nO : ¬ cNv O h it it := fun q => q.elim (fun q => q.2 nit) fun q => q.2 rfl
    have hP1 := hP.fr zz fun b hb z => nO (by have := hb; rw [z] at this; exact this)
    have hcl := cCl_l hc
    refine zW.astore_n (pc' := 29) dX2_expire_28 rfl rfl (Nat.le_of_ble_eq_true rfl) rfl (zsS (zsS (zsS (zs0)))) ?_
    refine zW.aload_n (pc' := 30) dX2_expire_29 rfl rfl (zgS (zgS (zgS (zg0)))) rfl ?_
    refine zW.get (pc' := 33) dX2_expire_30 rfl f_X2_141_2 hcl ⟨rfl, (Nat.le_of_ble_eq_true rfl)⟩ rfl ?_
    refine zW.aload_n (pc' := 34) dX2_expire_33 rfl rfl zg0 rfl ?_
    refine zW.get (pc' := 37) dX2_expire_34 rfl f_X2_73_1 hst ⟨rfl, (Nat.le_of_ble_eq_true rfl)⟩ rfl ?_
    refine zW.icmp_gtN (pc' := 40) 59 dX2_expire_37 rfl (by decide) (by omega) (by omega) (fun b1 => ?_) (fun b1 => ?_)
    · have ea : kept ++ c :: todo = (kept ++ [c]) ++ todo := by simp
      rw [ea] at hI hP1
      rw [sExp, if_pos b1]
      refine zW.goto 10 dX2_expire_59 (by decide) ?_
      exact zW.pay (ih (kept ++ [c]) n j _ ha hr mc xs qs rs sc qu l _ _ hI h30 hP1 (by rw [List.length_append]; exact hit) zf) (by omega)
    · rw [sExp, if_neg (Nat.not_lt.mpr b1)]
      have hL1 := hP1.2.1.1
      have hQ1 := hP1.2.2.1.1
      refine zW.aload_n (pc' := 41) dX2_expire_40 rfl rfl (zgS (zgS (zg0))) rfl ?_
      refine zW.callF (r' := 0) (pc' := 46) dX2_expire_41 rfl l_X2_116_J25 rfl hit ⟨rfl, (Nat.le_of_ble_eq_true rfl)⟩ rfl (w_itRemove hL1 hp hit) zc0 rfl (Nat.le_of_ble_eq_true rfl) (Nat.le_of_ble_eq_true rfl) (Nat.le_of_ble_eq_true rfl) (fun _ _ q9 => ?_) (fun _ _ q9 => absurd q9 zO.no)
      obtain ⟨_, q8, e1, hL2, hit2, z2⟩ := q9
      cases q8
      subst e1
      obtain ⟨za, zb⟩ := z2.split hit (by decide) hit2
      have hPa := hP1.fr za fun b hb z => nO (by have := hb; rw [z] at this; exact this)
      have hLa := hPa.2.1.1
      have hC2 := (hPa.2.1.2.mv (hLa.outC zb)).erase kept.length
      dsimp only at hC2
      rw [app_er] at hC2
      have oL : ∀ b, cLf ll xs b → cNv O h it b := hO.2.1
      have hP2 := hPa.list (O' := cNv O h it) zb hL2 hC2 (fun b hb => oL b (cLf_er hb)) (fun q hq => hO.2.2.1 q (List.mem_of_mem_eraseIdx hq)) fun _ q => q
      dsimp only at hP2
      have hst2 : _ = some (1, cSf ll aq re rt sc) := hP2.1
      have hc2 := hLa.outC zb _ _ (za.at hcl (zne hcl hit (by decide)))
      have zf2 := zf.tr z2 fun b hb => hb.elim (fun q => Or.inr (by rw [q]; exact nit)) fun q => (oL b q).elim (fun q => Or.inl q.1) fun q => Or.inr q.1
      refine zW.aload_n (pc' := 47) dX2_expire_46 rfl rfl zg0 rfl ?_
      refine zW.aload_n (pc' := 48) dX2_expire_47 rfl rfl (zgS (zgS (zgS (zg0)))) rfl ?_
      refine zW.callV (r' := 1) (pc' := 51) dX2_expire_48 rfl l_X2_119 rfl hst2 ⟨rfl, (Nat.le_of_ble_eq_true rfl)⟩ rfl (w_stClose hst2 (x := c) hc2 hP2.2.2.1.1 hP2.2.2.1.2 (by omega) (by omega) hB.2.2.1 hB.2.2.2.1) (zcc rfl zc0) rfl (Nat.le_of_ble_eq_true rfl) (Nat.le_of_ble_eq_true rfl) (Nat.le_of_ble_eq_true rfl) (fun _ _ q9 => ?_) (fun _ _ q9 => absurd q9 zO.no)
      obtain ⟨_, q8, e1, ha3, qs3, hst3, hQ3, hI3, z3⟩ := q9
      cases q8
      subst e1
      have hP3 := hP2.numq z3 hst3 (fun i hi => zu_n (by omega)) hQ3 hI3
      dsimp only at hP3
      have o3 : ∀ b, b = st ∨ cDf aq ea b → cNv O h it b := fun b hb => hb.elim (fun q => by rw [q]; exact hO.1) fun q => q.elim (fun q => by rw [q]; exact hO.2.2.2.1.1) fun q => by rw [q]; exact hO.2.2.2.1.2
      have hc3 := z3.at hc2 fun q => by
        have hn := hP2.2.2.1.1.nk hc2 ⟨by decide, by decide⟩
        exact q.elim (fun q => zne hc2 hst2 (by decide) q) fun q => q.elim (fun q => hn.1 q.symm) fun q => hn.2 q.symm
      have hit3 := z3.at hit2 fun q => nO (o3 _ q)
      have zf3 := zf2.tr z3 fun b hb => (o3 b hb).elim (fun q => Or.inl q.1) fun q => Or.inr q.1
      refine zW.aload_n (pc' := 52) dX2_expire_51 rfl rfl zg0 rfl ?_
      refine zW.aload_n (pc' := 53) dX2_expire_52 rfl rfl (zgS (zgS (zgS (zg0)))) rfl ?_
      refine zW.callV (r' := 1) (pc' := 56) dX2_expire_53 rfl l_X2_144 rfl hst3 ⟨rfl, (Nat.le_of_ble_eq_true rfl)⟩ rfl (w_stRem (x := c) (zf3.kn hk) hZ hst3 hc3 hP3.2.2.2.1.1 hP3.2.2.2.1.2 hB.2.2.2.2.1 (by omega)) (zcc rfl zc0) rfl (Nat.le_of_ble_eq_true rfl) (Nat.le_of_ble_eq_true rfl) (Nat.le_of_ble_eq_true rfl) (fun _ _ q9 => ?_) (fun _ _ q9 => absurd q9 zO.no)
      obtain ⟨_, q8, e1, hr4, rs4, hQ4, hI4, z4⟩ := q9
      cases q8
      subst e1
      have hR3 := hP3.2.2.2.1.1
      have hn4 := hR3.nk hit3 ⟨by decide, by decide⟩
      have hit4 := z4.at hit3 fun q => q.elim (fun q => hn4.1 q.symm) fun q => hn4.2 q.symm
      have hP4 := hP3.rec (O' := cNv O h it) z4 hQ4 (hI4.up fun b q => q.elim (fun q => q) fun q => Or.inr ⟨zf3.nn0 q, fun z => by rw [z, hit3] at q; cases q⟩) fun _ q => q
      dsimp only at hP4
      have o4 : ∀ b, cDf re er b → cNv O h it b := fun b q => q.elim (fun q => by rw [q]; exact hO.2.2.2.2.1.1) fun q => by rw [q]; exact hO.2.2.2.2.1.2
      have zf4 := zf3.tr z4 fun b hb => (o4 b hb).elim (fun q => Or.inl q.1) fun q => Or.inr q.1
      refine zW.iincN (pc' := 59) (n := 1) dX2_expire_56 rfl (Nat.le_of_ble_eq_true rfl) (zgS (zg0)) (zsS (zs0)) ?_
      refine zW.goto 10 dX2_expire_59 (by decide) ?_
      have hcl5 := hI.close (i := kept.length) (by show _ < (kept ++ c :: todo).length; omega)
      rw [sClose_app] at hcl5
      have hI5 := hcl5.rem (x := c 0) (by show c 0 < zu sc 8 (sc 8 + c 3) 1; rw [zu_n (by decide)]; exact c0)
      have e0 : zu sc 8 (sc 8 + c 3) 0 = sc 0 := zu_n (by decide)
      have hI6 : sI tt nn (j + 1) (zu sc 8 (sc 8 + c 3), kept ++ todo, qu.erase (c 0), (c 0 :: l).take 8) := hI5
      have ihh := ih kept (n + 1) (j + 1) _ ha3 hr4 (mc + nI 1) (xs.eraseIdx kept.length) qs3 rs4 (zu sc 8 (sc 8 + c 3)) (qu.erase (c 0)) ((c 0 :: l).take 8) .null (.ref p.2) hI6 (by rw [e0]; exact h30) hP4 hit4 zf4
      rw [e0] at ihh
      exact ihh
end
