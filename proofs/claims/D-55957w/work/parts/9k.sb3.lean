/-! StringBuilder: append of a String; toString; a range of bytes *-/
section
set_option maxRecDepth 100000
variable {G : zG} {h h' h1 : zH} {a v ml m n q i x c w : Nat} {l t l1 s : List Nat}
theorem w_infl {b : List Nat} (k : cSBt h a v ml n b) (ks : cStr h c w s) : zK G mJ5_inflateIfNeededFor 2 0 [.ref a, .ref c] h (zPu h none) := by
  obtain ⟨ha, -⟩ := k
  obtain ⟨kc, fc, hc, hk⟩ := ks.ob
  have hkc : kc % 1000 = 14 ∧ 14 < 50 := ⟨hk, by decide⟩
  show zW G mJ5_inflateIfNeededFor 2 0 0 [.ref a, .ref c] [] h _
  refine zW.gets (j := 0) (pc' := 3) dJ5_inflateIfNeededFor_0 rfl rfl (lw_all_tbl q275) ?_
  refine zW.if_eq (pc' := 6) 21 dJ5_inflateIfNeededFor_3 rfl (by decide) (fun b1 => ?_) (fun b1 => ?_)
  · exact absurd b1 (by decide)
  refine zW.aload_n (pc' := 7) dJ5_inflateIfNeededFor_6 rfl rfl zg0 rfl ?_
  refine zW.get (pc' := 10) dJ5_inflateIfNeededFor_7 rfl f_J5_22_13 ha ⟨rfl, (Nat.le_of_ble_eq_true rfl)⟩ rfl ?_
  refine zW.aload_n (pc' := 11) dJ5_inflateIfNeededFor_10 rfl rfl (zgS (zg0)) rfl ?_
  refine zW.callV (r' := 0) (pc' := 14) dJ5_inflateIfNeededFor_11 rfl l_J5_40 rfl hc hkc rfl (w_strCoder ks) zc0 rfl (Nat.le_of_ble_eq_true rfl) (Nat.le_of_ble_eq_true rfl) (Nat.le_of_ble_eq_true rfl) (fun _ _ q9 => ?_) (fun _ _ q9 => by cases q9.1)
  obtain ⟨q8, e9⟩ := q9
  cases q8
  replace e9 := e9.symm
  subst e9
  refine zW.icmp_eqN (pc' := 17) 21 dJ5_inflateIfNeededFor_14 rfl (by decide) (by omega) (by omega) (fun b9 => ?_) (fun b9 => absurd b9 (by omega))
  refine zW.vret dJ5_inflateIfNeededFor_21 rfl ?_
  exact ⟨rfl, rfl⟩
theorem w_strBytes {b : List Nat} (ks : cStr h c w s) (hv : h v = some (103, btab b)) (hn : n + s.length ≤ b.length) (hb : b.length < 2 ^ 20) : zK G mJ7_getBytes 2 0 [.ref c, .ref v, .int (nI n), .int (nI 0)] h (zO fun o h' => o = none ∧ h' = zup h v (103, btab (b.take n ++ s ++ b.drop (n + s.length))) ∧ h' v = some (103, btab (b.take n ++ s ++ b.drop (n + s.length)))) := by
  have k0 := ks
  obtain ⟨k, k2, hz, hs, hc, hk, hw, hk2, hl, h128⟩ := ks
  have hkc : k % 1000 = 14 ∧ 14 < 50 := ⟨hk, by decide⟩
  show zW G mJ7_getBytes 2 0 0 [.ref c, .ref v, .int (nI n), .int (nI 0)] [] h _
  refine zW.aload_n (pc' := 1) dJ7_getBytes_0 rfl rfl zg0 rfl ?_
  refine zW.callV (r' := 0) (pc' := 4) dJ7_getBytes_1 rfl l_J7_335 rfl hc hkc rfl (w_strCoder k0) zc0 rfl (Nat.le_of_ble_eq_true rfl) (Nat.le_of_ble_eq_true rfl) (Nat.le_of_ble_eq_true rfl) (fun _ _ q9 => ?_) (fun _ _ q9 => by cases q9.1)
  obtain ⟨q8, e9⟩ := q9
  cases q8
  replace e9 := e9.symm
  subst e9
  refine zW.iload_n (pc' := 5) dJ7_getBytes_4 rfl rfl (zgS (zgS (zgS (zg0)))) ?_
  refine zW.icmp_neN (pc' := 8) 28 dJ7_getBytes_5 rfl (by decide) (by omega) (by omega) (fun b9 => absurd b9 (by omega)) (fun b9 => ?_)
  refine zW.aload_n (pc' := 9) dJ7_getBytes_8 rfl rfl zg0 rfl ?_
  refine zW.get (pc' := 12) dJ7_getBytes_9 rfl f_J7_9_14 hc hkc rfl ?_
  refine zW.iconst (pc' := 13) (nI 0) dJ7_getBytes_12 rfl (by decide) ?_
  refine zW.aload_n (pc' := 14) dJ7_getBytes_13 rfl rfl (zgS (zg0)) rfl ?_
  refine zW.iload_n (pc' := 15) dJ7_getBytes_14 rfl rfl (zgS (zgS (zg0))) ?_
  refine zW.iload_n (pc' := 16) dJ7_getBytes_15 rfl rfl (zgS (zgS (zgS (zg0)))) ?_
  refine zW.ishl0 (pc' := 17) dJ7_getBytes_16 rfl ?_
  refine zW.aload_n (pc' := 18) dJ7_getBytes_17 rfl rfl zg0 rfl ?_
  refine zW.get (pc' := 21) dJ7_getBytes_18 rfl f_J7_9_14 hc hkc rfl ?_
  refine zW.alen (pc' := 22) dJ7_getBytes_21 rfl hw (by omega) (btab_n (rfl)) ?_
  refine zW.acopyB (pc' := 25) dJ7_getBytes_22 rfl (lw_all_tbl q531) hw hv hk2 (by omega) (by omega) (by omega) (h128) (Nat.le_of_ble_eq_true rfl) (Nat.le_of_ble_eq_true rfl) (fun _ e9 k9 => ?_)
  have hq := e9
  replace hv := k9
  clear e9 k9
  refine zW.goto 43 dJ7_getBytes_25 (by decide) ?_
  refine zW.vret dJ7_getBytes_43 rfl ?_
  rw [List.drop_zero, List.take_length] at hq hv
  exact ⟨_, rfl, rfl, hq, hv⟩
theorem cStr.fr {X : Nat → Prop} (k : cStr h c w s) (z : zfr X h h') (n1 : ¬ X c) (n2 : ¬ X w) : cStr h' c w s := by
  obtain ⟨k, k2, y, hs, g1, g2, g3, g4⟩ := k
  exact ⟨k, k2, y, hs, z.at g1 n1, g2, z.at g3 n2, g4⟩
theorem w_putAt {b : List Nat} (k : cSBt h a v ml n b) (ks : cStr h c w s) (hz : n + s.length ≤ b.length) : zK G mJ5_putStringAt 4 0 [.ref a, .int (nI n), .ref c] h (zO fun o h' => o = none ∧ h' = zup h v (103, btab (b.take n ++ s ++ b.drop (n + s.length))) ∧ h' v = some (103, btab (b.take n ++ s ++ b.drop (n + s.length)))) := by
  obtain ⟨kc1, fc1, hc1, hk1⟩ := ks.ob
  have hkc1 : kc1 % 1000 = 14 ∧ 14 < 50 := ⟨hk1, by decide⟩
  have ha := k.1
  have hv := k.2.1
  have h3 := k.2.2.1.2.2
  show zW G mJ5_putStringAt 4 0 0 [.ref a, .int (nI n), .ref c] [] h _
  refine zW.aload_n (pc' := 1) dJ5_putStringAt_0 rfl rfl zg0 rfl ?_
  refine zW.aload_n (pc' := 2) dJ5_putStringAt_1 rfl rfl (zgS (zgS (zg0))) rfl ?_
  refine zW.callP (r' := 0) (pc' := 5) dJ5_putStringAt_2 rfl l_J5_397 rfl ha ⟨rfl, (Nat.le_of_ble_eq_true rfl)⟩ rfl (w_infl k ks) (zcc rfl zc0) rfl (Nat.le_of_ble_eq_true rfl) (Nat.le_of_ble_eq_true rfl) (Nat.le_of_ble_eq_true rfl) (fun _ _ q9 => ?_) (fun _ _ q9 => by cases q9.1)
  obtain ⟨q8, e9⟩ := q9
  cases q8
  replace e9 := e9.symm
  subst e9
  refine zW.aload_n (pc' := 6) dJ5_putStringAt_5 rfl rfl (zgS (zgS (zg0))) rfl ?_
  refine zW.aload_n (pc' := 7) dJ5_putStringAt_6 rfl rfl zg0 rfl ?_
  refine zW.get (pc' := 10) dJ5_putStringAt_7 rfl f_J5_15_13 ha ⟨rfl, (Nat.le_of_ble_eq_true rfl)⟩ rfl ?_
  refine zW.iload_n (pc' := 11) dJ5_putStringAt_10 rfl rfl (zgS (zg0)) ?_
  refine zW.aload_n (pc' := 12) dJ5_putStringAt_11 rfl rfl zg0 rfl ?_
  refine zW.get (pc' := 15) dJ5_putStringAt_12 rfl f_J5_22_13 ha ⟨rfl, (Nat.le_of_ble_eq_true rfl)⟩ rfl ?_
  refine zW.callV (r' := 0) (pc' := 18) dJ5_putStringAt_15 rfl l_J5_399 rfl hc1 hkc1 rfl (w_strBytes ks hv (n := n) hz (by omega)) (zcc rfl (zcc rfl (zcc rfl zc0))) rfl (Nat.le_of_ble_eq_true rfl) (Nat.le_of_ble_eq_true rfl) (Nat.le_of_ble_eq_true rfl) (fun _ _ q9 => ?_) (fun _ _ q9 => absurd q9 zO.no)
  obtain ⟨_, q8, e1, e2, e3⟩ := q9
  cases q8
  subst e1
  refine zW.vret dJ5_putStringAt_18 rfl ?_
  exact ⟨_, rfl, rfl, e2, e3⟩
theorem app_mid {z : List Nat} {s : List Nat} : (l ++ z).take l.length ++ s ++ (l ++ z).drop (l.length + s.length) = (l ++ s) ++ z.drop s.length := by
  rw [List.take_left', List.drop_append]
  · simp
  · rfl
theorem w_sbPutS (k : cSB h a v l) (ks : cStr h c w s) (hl : l.length + s.length ≤ 100) (hcv : c ≠ a ∧ w ≠ a ∧ w ≠ v) : zK G mJ5_append 6 51 [.ref a, .ref c] h (cSBp h a v (l ++ s) (some (.ref a))) := by
  obtain ⟨ml, t, k0⟩ := cSBt.of k
  have ha := k0.1
  obtain ⟨kc, fc, hc, hk⟩ := ks.ob
  have hkc : kc % 1000 = 14 ∧ 14 < 50 := ⟨hk, by decide⟩
  show zW G mJ5_append 6 51 0 [.ref a, .ref c, zho] [] h _
  refine zW.aload_n (pc' := 1) dJ5_append_0 rfl rfl (zgS (zg0)) rfl ?_
  refine zW.ifnonnull (pc' := 4) 9 dJ5_append_1 rfl (by decide) rfl (fun b1 => ?_) (fun b1 => ?_)
  rotate_left
  · cases b1
  refine zW.aload_n (pc' := 10) dJ5_append_9 rfl rfl (zgS (zg0)) rfl ?_
  refine zW.callV (r' := 0) (pc' := 13) dJ5_append_10 rfl l_J5_32 rfl hc hkc rfl (w_strLen ks) zc0 rfl (Nat.le_of_ble_eq_true rfl) (Nat.le_of_ble_eq_true rfl) (Nat.le_of_ble_eq_true rfl) (fun _ _ q9 => ?_) (fun _ _ q9 => by cases q9.1)
  obtain ⟨q8, e9⟩ := q9
  cases q8
  replace e9 := e9.symm
  subst e9
  refine zW.istore_n (pc' := 14) dJ5_append_13 rfl rfl (Nat.le_of_ble_eq_true rfl) (zsS (zsS (zs0))) ?_
  refine zW.aload_n (pc' := 15) dJ5_append_14 rfl rfl zg0 rfl ?_
  refine zW.aload_n (pc' := 16) dJ5_append_15 rfl rfl zg0 rfl ?_
  refine zW.get (pc' := 19) dJ5_append_16 rfl f_J5_79_13 ha ⟨rfl, (Nat.le_of_ble_eq_true rfl)⟩ rfl ?_
  refine zW.iload_n (pc' := 20) dJ5_append_19 rfl rfl (zgS (zgS (zg0))) ?_
  refine zW.iaddN (pc' := 21) dJ5_append_20 rfl ?_
  refine zW.callP (r' := 51) (pc' := 24) dJ5_append_21 rfl l_J5_100 rfl ha ⟨rfl, (Nat.le_of_ble_eq_true rfl)⟩ rfl (w_sbEnsure k0 (q := l.length + s.length) hl) (zcc rfl zc0) rfl (Nat.le_of_ble_eq_true rfl) (Nat.le_of_ble_eq_true rfl) (Nat.le_of_ble_eq_true rfl) (fun _ _ q9 => ?_) (fun _ _ q9 => absurd q9 zO.no)
  obtain ⟨_, q8, e1, v', z, k1, hz, hv', z1⟩ := q9
  cases q8
  subst e1
  have ks1 := ks.fr z1 hcv.1 hcv.2.1
  have ha := k1.1
  have k2 := k1
  obtain ⟨-, hv, ⟨h1, h2, h3⟩, h4⟩ := k1
  have zf : zfr (fun c => c = a ∨ c = v) h _ := z1.mono fun c hc => Or.inl (Or.inl hc)
  refine zW.aload_n (pc' := 25) dJ5_append_24 rfl rfl zg0 rfl ?_
  refine zW.aload_n (pc' := 26) dJ5_append_25 rfl rfl zg0 rfl ?_
  refine zW.get (pc' := 29) dJ5_append_26 rfl f_J5_79_13 ha ⟨rfl, (Nat.le_of_ble_eq_true rfl)⟩ rfl ?_
  refine zW.aload_n (pc' := 30) dJ5_append_29 rfl rfl (zgS (zg0)) rfl ?_
  refine zW.callP (r' := 0) (pc' := 33) dJ5_append_30 rfl l_J5_208 rfl ha ⟨rfl, (Nat.le_of_ble_eq_true rfl)⟩ rfl (w_putAt k2 ks1 hz) (zcc rfl (zcc rfl zc0)) rfl (Nat.le_of_ble_eq_true rfl) (Nat.le_of_ble_eq_true rfl) (Nat.le_of_ble_eq_true rfl) (fun _ _ q9 => ?_) (fun _ _ q9 => absurd q9 zO.no)
  obtain ⟨_, q8, e1, e9, k9⟩ := q9
  cases q8
  subst e1
  have zf := zf.put e9 hv (by decide) (hv'.elim (fun q => Or.inl (Or.inr q)) Or.inr)
  have ha := zpres e9 (zne ha hv (by decide)) ha
  have hv := k9
  clear e9 k9
  refine zW.aload_n (pc' := 34) dJ5_append_33 rfl rfl zg0 rfl ?_
  refine zW.dup (pc' := 35) dJ5_append_34 rfl rfl ?_
  refine zW.get (pc' := 38) dJ5_append_35 rfl f_J5_79_13 ha ⟨rfl, (Nat.le_of_ble_eq_true rfl)⟩ rfl ?_
  refine zW.iload_n (pc' := 39) dJ5_append_38 rfl rfl (zgS (zgS (zg0))) ?_
  refine zW.iaddN (pc' := 40) dJ5_append_39 rfl ?_
  refine zW.putK (pc' := 43) dJ5_append_40 rfl f_J5_79_13 ha ⟨⟨rfl, (Nat.le_of_ble_eq_true rfl)⟩, (Nat.le_of_ble_eq_true rfl)⟩ (zFw.of ft_13_3 rfl rfl) (zsS (zsS (zsS (zs0)))) (fun _ e9 k9 => ?_)
  have hv := zpres e9 (zne hv ha (by decide)) hv
  have zf := zf.put e9 ha (by decide) (Or.inl (Or.inl rfl))
  replace ha := k9
  clear e9 k9
  refine zW.aload_n (pc' := 44) dJ5_append_43 rfl rfl zg0 rfl ?_
  refine zW.aret dJ5_append_44 rfl (Or.inl ⟨_, rfl⟩) rfl ?_
  rw [List.append_assoc l t z] at hv hz h3 h4
  rw [app_mid] at hv
  rw [List.length_append] at hz h3
  refine ⟨_, rfl, rfl, v', ⟨ml, (t ++ z).drop s.length, ?_, hv, ⟨h1, ?_⟩, fun y hy => ?_⟩, hv', zf⟩
  · rw [List.length_append]; exact ha
  · rw [List.length_append, List.length_append, List.length_drop]
    omega
  · rcases List.mem_append.mp hy with q | q
    · rcases List.mem_append.mp q with q | q
      · exact h4 y (List.mem_append_left _ q)
      · obtain ⟨k, k2, hz, hs, g1, g2, g3, g4, g5, g6⟩ := ks
        exact g6 y q
    · exact h4 y (List.mem_append_right _ (List.mem_of_mem_drop q))
theorem w_sbAppS (k : cSB h a v l) (ks : cStr h c w s) (hl : l.length + s.length ≤ 100) (hcv : c ≠ a ∧ w ≠ a ∧ w ≠ v) : zK G mJ6_append 7 51 [.ref a, .ref c] h (cSBp h a v (l ++ s) (some (.ref a))) := by
  have ha : ∃ fs, h a = some (13, fs) := by obtain ⟨ml, t, k1, -⟩ := k; exact ⟨_, k1⟩
  obtain ⟨fs, ha⟩ := ha
  show zW G mJ6_append 7 51 0 [.ref a, .ref c] [] h _
  refine zW.aload_n (pc' := 1) dJ6_append_0 rfl rfl zg0 rfl ?_
  refine zW.aload_n (pc' := 2) dJ6_append_1 rfl rfl (zgS (zg0)) rfl ?_
  refine zW.callSU (r' := 51) (pc' := 5) dJ6_append_2 rfl l_J6_29 rfl ha ⟨rfl, (Nat.le_of_ble_eq_true rfl)⟩ rfl (w_sbPutS k ks hl hcv) (zcc rfl zc0) rfl (Nat.le_of_ble_eq_true rfl) (Nat.le_of_ble_eq_true rfl) (Nat.le_of_ble_eq_true rfl) (fun _ _ q9 => ?_) (fun _ _ q9 => absurd q9 zO.no)
  obtain ⟨_, q8, e1, k2⟩ := q9
  cases q8
  subst e1
  refine zW.pop (pc' := 6) dJ6_append_5 rfl rfl ?_
  refine zW.aload_n (pc' := 7) dJ6_append_6 rfl rfl zg0 rfl ?_
  refine zW.aret dJ6_append_7 rfl (Or.inl ⟨_, rfl⟩) rfl ?_
  exact ⟨_, rfl, rfl, k2⟩
/-- a range of bytes, copied -/
theorem w_copyRange {b : List Nat} {kk i j u : Nat} (hv : h v = some (kk, btab b)) (hk : kk % 1000 = 103) (hi : i ≤ j) (hj : j ≤ b.length) (hb : b.length < 2 ^ 20) (h128 : ∀ x ∈ b, x < 128) (hu : 1 ≤ u ∧ j - i ≤ 4 * u) : zK G mJ17_copyOfRangeByte 2 u [.ref v, .int (nI i), .int (nI j)] h (zO fun o h' => ∃ v', o = some (.ref v') ∧ h v' = none ∧ h' = zup h v' (103, btab ((b.drop i).take (j - i))) ∧ h' v' = some (103, btab ((b.drop i).take (j - i)))) := by
  have kl : zK G mJ17_checkLength 1 0 [.int (nI i), .int (nI j)] h (zPu h none) := by
    show zW G mJ17_checkLength 1 0 0 [.int (nI i), .int (nI j)] [] h _
    refine zW.iload_n (pc' := 1) dJ17_checkLength_0 rfl rfl (zgS (zg0)) ?_
    refine zW.iload_n (pc' := 2) dJ17_checkLength_1 rfl rfl zg0 ?_
    refine zW.icmp_geN (pc' := 5) 37 dJ17_checkLength_2 rfl (by decide) (by omega) (by omega) (fun b9 => ?_) (fun b9 => absurd b9 (by omega))
    refine zW.vret dJ17_checkLength_37 rfl ?_
    exact ⟨rfl, rfl⟩
  refine zW.pay (r1 := 0 + u) ?_ (by omega)
  show zW G mJ17_copyOfRangeByte 2 (0+u) 0 [.ref v, .int (nI i), .int (nI j), zho, zho] [] h _
  refine zW.iload_n (pc' := 1) dJ17_copyOfRangeByte_0 rfl rfl (zgS (zg0)) ?_
  refine zW.iload_n (pc' := 2) dJ17_copyOfRangeByte_1 rfl rfl (zgS (zgS (zg0))) ?_
  refine zW.callS (r' := 0) (pc' := 5) dJ17_copyOfRangeByte_2 rfl l_J17_343 rfl (kl) (zcc rfl (zcc rfl zc0)) rfl (Nat.le_of_ble_eq_true rfl) (Nat.le_of_ble_eq_true rfl) (Nat.le_of_ble_eq_true rfl) (fun _ _ q9 => ?_) (fun _ _ q9 => by cases q9.1)
  obtain ⟨q8, e9⟩ := q9
  cases q8
  replace e9 := e9.symm
  subst e9
  refine zW.iload_n (pc' := 6) dJ17_copyOfRangeByte_5 rfl rfl (zgS (zgS (zg0))) ?_
  refine zW.iload_n (pc' := 7) dJ17_copyOfRangeByte_6 rfl rfl (zgS (zg0)) ?_
  refine zW.isubN (pc' := 8) dJ17_copyOfRangeByte_7 rfl (by omega) ?_
  refine zW.istore_n (pc' := 9) dJ17_copyOfRangeByte_8 rfl rfl (Nat.le_of_ble_eq_true rfl) (zsS (zsS (zsS (zs0)))) ?_
  refine zW.iload_n (pc' := 10) dJ17_copyOfRangeByte_9 rfl rfl (zgS (zgS (zgS (zg0)))) ?_
  refine zW.newaBK (u := u) (N := (j-i)) (pc' := 12) dJ17_copyOfRangeByte_10 rfl (nI_pos (by omega)) (nI_clamp (by omega)) (by omega) (⟨hu.1, hu.2⟩) (fun v9 _ nv9 e9 k9 => ?_)
  have q_hv_v9 := zfresh nv9 hv
  have hv := zpres e9 (zfresh nv9 hv) hv
  have hv9 := k9
  clear k9
  have e8 := e9
  refine zW.astore (pc' := 14) dJ17_copyOfRangeByte_12 rfl (Nat.le_of_ble_eq_true rfl) rfl (zsS (zsS (zsS (zsS (zs0))))) ?_
  refine zW.aload_n (pc' := 15) dJ17_copyOfRangeByte_14 rfl rfl zg0 rfl ?_
  refine zW.iload_n (pc' := 16) dJ17_copyOfRangeByte_15 rfl rfl (zgS (zg0)) ?_
  refine zW.aload (pc' := 18) dJ17_copyOfRangeByte_16 rfl (zgS (zgS (zgS (zgS (zg0))))) rfl ?_
  refine zW.iconst (pc' := 19) (nI 0) dJ17_copyOfRangeByte_18 rfl (by decide) ?_
  refine zW.aload_n (pc' := 20) dJ17_copyOfRangeByte_19 rfl rfl zg0 rfl ?_
  refine zW.alen (pc' := 21) dJ17_copyOfRangeByte_20 rfl hv (by omega) (btab_n (rfl)) ?_
  refine zW.iload_n (pc' := 22) dJ17_copyOfRangeByte_21 rfl rfl (zgS (zg0)) ?_
  refine zW.isubN (pc' := 23) dJ17_copyOfRangeByte_22 rfl (by omega) ?_
  refine zW.iload_n (pc' := 24) dJ17_copyOfRangeByte_23 rfl rfl (zgS (zgS (zgS (zg0)))) ?_
  refine zW.mmin (pc' := 27) dJ17_copyOfRangeByte_24 rfl (lw_all_tbl q453) (Nat.le_of_ble_eq_true rfl) (Nat.le_of_ble_eq_true rfl) (by omega) (by omega) ?_
  rw [Nat.min_eq_right (by omega)]
  refine zW.acopyB (pc' := 30) dJ17_copyOfRangeByte_27 rfl (lw_all_tbl q456) hv hv9 hk (by omega) (by rw [List.length_replicate]; omega) (by rw [List.length_replicate]; omega) (h128) (Nat.le_of_ble_eq_true rfl) (Nat.le_of_ble_eq_true rfl) (fun _ e9 k9 => ?_)
  have hv := zpres e9 q_hv_v9 hv
  have e8 := ztrk e8 e9
  replace hv9 := k9
  clear e9 k9
  refine zW.aload (pc' := 32) dJ17_copyOfRangeByte_30 rfl (zgS (zgS (zgS (zgS (zg0))))) rfl ?_
  refine zW.aret dJ17_copyOfRangeByte_32 rfl (Or.inr ⟨_, rfl⟩) rfl ?_
  have e : (List.replicate (j - i) 0).take 0 ++ (b.drop i).take (j - i) ++ (List.replicate (j - i) 0).drop (0 + (j - i)) = (b.drop i).take (j - i) := by
    rw [List.take_zero, List.nil_append, Nat.zero_add, List.drop_replicate, Nat.sub_self, List.replicate_zero, List.append_nil]
  rw [e] at e8 hv9
  exact ⟨_, rfl, v9, rfl, nv9, e8, hv9⟩
theorem w_copyRg {b : List Nat} {kk i j u : Nat} (hv : h v = some (kk, btab b)) (hk : kk = 103 ∨ kk % 1000 = 103 ∧ ¬ (i = 0 ∧ j = b.length)) (hi : i ≤ j) (hj : j ≤ b.length) (hb : b.length < 2 ^ 20) (h128 : ∀ x ∈ b, x < 128) (hu : 1 ≤ u ∧ j - i ≤ 4 * u) : zK G mJ17_copyOfRange 3 u [.ref v, .int (nI i), .int (nI j)] h (zO fun o h' => ∃ v', o = some (.ref v') ∧ h v' = none ∧ h' = zup h v' (103, btab ((b.drop i).take (j - i))) ∧ h' v' = some (103, btab ((b.drop i).take (j - i)))) := by
  have hk1 : kk % 1000 = 103 := by rcases hk with q | q; (subst q; rfl); exact q.1
  have cp : zW G mJ17_copyOfRange 3 u 10 [.ref v, .int (nI i), .int (nI j)] [] h (zO fun o h' => ∃ v', o = some (.ref v') ∧ h v' = none ∧ h' = zup h v' (103, btab ((b.drop i).take (j - i))) ∧ h' v' = some (103, btab ((b.drop i).take (j - i)))) := by
    refine zW.pay (r1 := 0 + u) ?_ (by omega)
    refine zW.aload_n (pc' := 11) dJ17_copyOfRange_10 rfl rfl zg0 rfl ?_
    refine zW.iload_n (pc' := 12) dJ17_copyOfRange_11 rfl rfl (zgS (zg0)) ?_
    refine zW.iload_n (pc' := 13) dJ17_copyOfRange_12 rfl rfl (zgS (zgS (zg0))) ?_
    refine zW.callS (r' := u) (pc' := 16) dJ17_copyOfRange_13 rfl l_J17_339 rfl (w_copyRange hv hk1 hi hj hb h128 hu) (zcc rfl (zcc rfl (zcc rfl zc0))) rfl (Nat.le_of_ble_eq_true rfl) (Nat.le_of_ble_eq_true rfl) (Nat.le_of_ble_eq_true rfl) (fun _ _ q9 => ?_) (fun _ _ q9 => absurd q9 zO.no)
    obtain ⟨_, q8, v', e1, nv, e9, k9⟩ := q9
    cases q8
    cases e1
    refine zW.aret dJ17_copyOfRange_16 rfl (Or.inr ⟨_, rfl⟩) rfl ?_
    exact ⟨_, rfl, v', rfl, nv, e9, k9⟩
  show zW G mJ17_copyOfRange 3 u 0 [.ref v, .int (nI i), .int (nI j)] [] h _
  refine zW.iload_n (pc' := 1) dJ17_copyOfRange_0 rfl rfl (zgS (zg0)) ?_
  refine zW.if_neN (pc' := 4) 10 dJ17_copyOfRange_1 rfl (by decide) (by omega) (fun b1 => ?_) (fun b1 => ?_)
  · exact cp
  · refine zW.iload_n (pc' := 5) dJ17_copyOfRange_4 rfl rfl (zgS (zgS (zg0))) ?_
    refine zW.aload_n (pc' := 6) dJ17_copyOfRange_5 rfl rfl zg0 rfl ?_
    refine zW.alen (pc' := 7) dJ17_copyOfRange_6 rfl hv (by omega) (btab_n (rfl)) ?_
    refine zW.icmp_eqN (pc' := 10) 17 dJ17_copyOfRange_7 rfl (by decide) (by omega) (by omega) (fun b2 => ?_) (fun b2 => ?_)
    · rcases hk with q | q
      · subst q
        subst b1
        refine zW.pay (r1 := 0 + u) ?_ (by omega)
        refine zW.aload_n (pc' := 18) dJ17_copyOfRange_17 rfl rfl zg0 rfl ?_
        refine zW.cloneB (u := u) (pc' := 21) dJ17_copyOfRange_18 rfl (lw_all_tbl q446) hv (h128) (⟨hu.1, by omega⟩) (Nat.le_of_ble_eq_true rfl) (Nat.le_of_ble_eq_true rfl) (fun v9 _ nv9 e9 k9 => ?_)
        have q_hv_v9 := zfresh nv9 hv
        have hv := zpres e9 (zfresh nv9 hv) hv
        have hv9 := k9
        clear k9
        refine zW.castB (pc' := 24) dJ17_copyOfRange_21 rfl (lw_all_tbl q452) hv9 ?_
        refine zW.aret dJ17_copyOfRange_24 rfl (Or.inr ⟨_, rfl⟩) rfl ?_
        rw [b2, List.drop_zero, Nat.sub_zero, List.take_length]
        exact ⟨_, rfl, v9, rfl, nv9, e9, hv9⟩
      · exact absurd ⟨b1, b2⟩ q.2
    · exact cp
end
