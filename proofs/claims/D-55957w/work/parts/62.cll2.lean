/-! LinkedList: nodes by number, iterators, taking out -/
section
set_option maxRecDepth 100000
variable {G : zG} {h h' h0 : zH} {a it : Nat} {mc : Int32} {xs : List (Nat × Nat)}
theorem nI_half_all : ∀ n : Fin 65, nI n.1 >>> (nI 1 &&& 31) = nI (n.1 / 2) := by decide +kernel
theorem nI_half {n : Nat} (h : n ≤ 64) : nI n >>> (nI 1 &&& 31) = nI (n / 2) := nI_half_all ⟨n, by omega⟩
theorem w_llNode (hL : cLL h a mc xs) (hx : xs.length ≤ 64) {i : Nat} {p : Nat × Nat} (hi : xs[i]? = some p) : zK G mJ3_node 1 0 [.ref a, .int (nI i)] h (zPu h (some (.ref p.1))) := by
  have hl := hL.1
  have hil := (List.getElem?_eq_some_iff.mp hi).1
  have fwd : ∀ m k, k + m = i → zW G mJ3_node 1 0 17 [.ref a, .int (nI i), zrf (cNd xs k), .int (nI k)] [] h (zPu h (some (.ref p.1))) := by
    intro m
    induction m with
    | zero =>
      intro k hk
      have hk : k = i := by omega
      subst hk
      refine zW.iload_n (pc' := 18) dJ3_node_17 rfl rfl (zgS (zgS (zgS (zg0)))) ?_
      refine zW.iload_n (pc' := 19) dJ3_node_18 rfl rfl (zgS (zg0)) ?_
      refine zW.icmp_geN (pc' := 22) 33 dJ3_node_19 rfl (by decide) (by omega) (by omega) (fun b9 => ?_) (fun b9 => absurd b9 (by omega))
      refine zW.aload_n (pc' := 34) dJ3_node_33 rfl rfl (zgS (zgS (zg0))) zrf_ir ?_
      rw [cNd_at hi]
      refine zW.aret dJ3_node_34 rfl (Or.inl ⟨_, rfl⟩) rfl ?_
      exact ⟨rfl, rfl⟩
    | succ m ih =>
      intro k hk
      have hp := hL.2.1 k xs[k] (List.getElem?_eq_getElem (by omega))
      rw [cNd_at (List.getElem?_eq_getElem (show k < xs.length by omega))]
      refine zW.iload_n (pc' := 18) dJ3_node_17 rfl rfl (zgS (zgS (zgS (zg0)))) ?_
      refine zW.iload_n (pc' := 19) dJ3_node_18 rfl rfl (zgS (zg0)) ?_
      refine zW.icmp_geN (pc' := 22) 33 dJ3_node_19 rfl (by decide) (by omega) (by omega) (fun b9 => absurd b9 (by omega)) (fun b9 => ?_)
      refine zW.aload_n (pc' := 23) dJ3_node_22 rfl rfl (zgS (zgS (zg0))) rfl ?_
      refine zW.get (pc' := 26) dJ3_node_23 rfl f_J3_36_7 hp ⟨rfl, (Nat.le_of_ble_eq_true rfl)⟩ rfl ?_
      refine zW.astore_n (pc' := 27) dJ3_node_26 rfl rfl (Nat.le_of_ble_eq_true rfl) zrf_ir (zsS (zsS (zs0))) ?_
      refine zW.iincN (pc' := 30) (n := 1) dJ3_node_27 rfl (Nat.le_of_ble_eq_true rfl) (zgS (zgS (zgS (zg0)))) (zsS (zsS (zsS (zs0)))) ?_
      refine zW.goto 17 dJ3_node_30 (by decide) ?_
      exact ih (k + 1) (by omega)
  have bwd : ∀ m k, k = i + m → k < xs.length → zW G mJ3_node 1 0 47 [.ref a, .int (nI i), zrf (cNd xs k), .int (nI k)] [] h (zPu h (some (.ref p.1))) := by
    intro m
    induction m with
    | zero =>
      intro k hk hkl
      have hk : k = i := by omega
      subst hk
      refine zW.iload_n (pc' := 48) dJ3_node_47 rfl rfl (zgS (zgS (zgS (zg0)))) ?_
      refine zW.iload_n (pc' := 49) dJ3_node_48 rfl rfl (zgS (zg0)) ?_
      refine zW.icmp_leN (pc' := 52) 63 dJ3_node_49 rfl (by decide) (by omega) (by omega) (fun b9 => ?_) (fun b9 => absurd b9 (by omega))
      refine zW.aload_n (pc' := 64) dJ3_node_63 rfl rfl (zgS (zgS (zg0))) zrf_ir ?_
      rw [cNd_at hi]
      refine zW.aret dJ3_node_64 rfl (Or.inl ⟨_, rfl⟩) rfl ?_
      exact ⟨rfl, rfl⟩
    | succ m ih =>
      intro k hk hkl
      obtain ⟨j, rfl⟩ : ∃ j, k = j + 1 := ⟨k - 1, by omega⟩
      have hp := hL.2.1 (j + 1) xs[j + 1] (List.getElem?_eq_getElem hkl)
      rw [cNd_at (List.getElem?_eq_getElem hkl)]
      refine zW.iload_n (pc' := 48) dJ3_node_47 rfl rfl (zgS (zgS (zgS (zg0)))) ?_
      refine zW.iload_n (pc' := 49) dJ3_node_48 rfl rfl (zgS (zg0)) ?_
      refine zW.icmp_leN (pc' := 52) 63 dJ3_node_49 rfl (by decide) (by omega) (by omega) (fun b9 => absurd b9 (by omega)) (fun b9 => ?_)
      refine zW.aload_n (pc' := 53) dJ3_node_52 rfl rfl (zgS (zgS (zg0))) rfl ?_
      refine zW.get (pc' := 56) dJ3_node_53 rfl f_J3_30_7 hp ⟨rfl, (Nat.le_of_ble_eq_true rfl)⟩ rfl ?_
      refine zW.astore_n (pc' := 57) dJ3_node_56 rfl rfl (Nat.le_of_ble_eq_true rfl) zrf_ir (zsS (zsS (zs0))) ?_
      refine zW.iinc (pc' := 60) (nI j) dJ3_node_57 rfl (Nat.le_of_ble_eq_true rfl) (zgS (zgS (zgS (zg0)))) nI_dec (zsS (zsS (zsS (zs0)))) ?_
      refine zW.goto 47 dJ3_node_60 (by decide) ?_
      exact ih j (by omega) (by omega)
  show zW G mJ3_node 1 0 0 [.ref a, .int (nI i), zho, zho] [] h _
  refine zW.iload_n (pc' := 1) dJ3_node_0 rfl rfl (zgS (zg0)) ?_
  refine zW.aload_n (pc' := 2) dJ3_node_1 rfl rfl zg0 rfl ?_
  refine zW.get (pc' := 5) dJ3_node_2 rfl f_J3_7_6 hl ⟨rfl, (Nat.le_of_ble_eq_true rfl)⟩ rfl ?_
  refine zW.iconst (pc' := 6) (nI 1) dJ3_node_5 rfl (by decide) ?_
  refine zW.ishr (pc' := 7) dJ3_node_6 rfl ?_
  rw [nI_half hx]
  refine zW.icmp_geN (pc' := 10) 35 dJ3_node_7 rfl (by decide) (by omega) (by omega) (fun b1 => ?_) (fun b1 => ?_)
  · obtain ⟨j, hj⟩ : ∃ j, xs.length = j + 1 := ⟨xs.length - 1, by omega⟩
    rw [show cPd xs xs.length = cNd xs j by rw [hj]; rfl] at hl
    refine zW.aload_n (pc' := 36) dJ3_node_35 rfl rfl zg0 rfl ?_
    refine zW.get (pc' := 39) dJ3_node_36 rfl f_J3_27_6 hl ⟨rfl, (Nat.le_of_ble_eq_true rfl)⟩ rfl ?_
    refine zW.astore_n (pc' := 40) dJ3_node_39 rfl rfl (Nat.le_of_ble_eq_true rfl) zrf_ir (zsS (zsS (zs0))) ?_
    refine zW.aload_n (pc' := 41) dJ3_node_40 rfl rfl zg0 rfl ?_
    refine zW.get (pc' := 44) dJ3_node_41 rfl f_J3_7_6 hl ⟨rfl, (Nat.le_of_ble_eq_true rfl)⟩ rfl ?_
    refine zW.iconst (pc' := 45) (nI 1) dJ3_node_44 rfl (by decide) ?_
    refine zW.isubN (pc' := 46) dJ3_node_45 rfl (by omega) ?_
    refine zW.istore_n (pc' := 47) dJ3_node_46 rfl rfl (Nat.le_of_ble_eq_true rfl) (zsS (zsS (zsS (zs0)))) ?_
    rw [show xs.length - 1 = j by omega]
    exact bwd (j - i) j (by omega) (by omega)
  · refine zW.aload_n (pc' := 11) dJ3_node_10 rfl rfl zg0 rfl ?_
    refine zW.get (pc' := 14) dJ3_node_11 rfl f_J3_18_6 hl ⟨rfl, (Nat.le_of_ble_eq_true rfl)⟩ rfl ?_
    refine zW.astore_n (pc' := 15) dJ3_node_14 rfl rfl (Nat.le_of_ble_eq_true rfl) zrf_ir (zsS (zsS (zs0))) ?_
    refine zW.iconst (pc' := 16) (nI 0) dJ3_node_15 rfl (by decide) ?_
    refine zW.istore_n (pc' := 17) dJ3_node_16 rfl rfl (Nat.le_of_ble_eq_true rfl) (zsS (zsS (zsS (zs0)))) ?_
    exact fwd i 0 (Nat.zero_add _)
theorem w_llGet (hL : cLL h a mc xs) (hx : xs.length ≤ 64) {i : Nat} {p : Nat × Nat} (hi : xs[i]? = some p) : zK G mJ3_get 3 0 [.ref a, .int (nI i)] h (zPu h (some (.ref p.2))) := by
  have hl := hL.1
  have hil := (List.getElem?_eq_some_iff.mp hi).1
  have hp := hL.2.1 _ _ hi
  have k1 : zK G mJ3_isElementIndex 1 0 [.ref a, .int (nI i)] h (zPu h (some (.int (nI 1)))) := by
    show zW G mJ3_isElementIndex 1 0 0 [.ref a, .int (nI i)] [] h _
    refine zW.iload_n (pc' := 1) dJ3_isElementIndex_0 rfl rfl (zgS (zg0)) ?_
    refine zW.if_ltN (pc' := 4) (tg := 16) dJ3_isElementIndex_1 rfl (by decide) (by omega) ?_
    refine zW.iload_n (pc' := 5) dJ3_isElementIndex_4 rfl rfl (zgS (zg0)) ?_
    refine zW.aload_n (pc' := 6) dJ3_isElementIndex_5 rfl rfl zg0 rfl ?_
    refine zW.get (pc' := 9) dJ3_isElementIndex_6 rfl f_J3_7_6 hl ⟨rfl, (Nat.le_of_ble_eq_true rfl)⟩ rfl ?_
    refine zW.icmp_geN (pc' := 12) 16 dJ3_isElementIndex_9 rfl (by decide) (by omega) (by omega) (fun b9 => absurd b9 (by omega)) (fun b9 => ?_)
    refine zW.iconst (pc' := 13) (nI 1) dJ3_isElementIndex_12 rfl (by decide) ?_
    refine zW.goto 17 dJ3_isElementIndex_13 (by decide) ?_
    refine zW.iret dJ3_isElementIndex_17 rfl (rfl) ?_
    exact ⟨rfl, rfl⟩
  have k2 : zK G mJ3_checkElementIndex 2 0 [.ref a, .int (nI i)] h (zPu h none) := by
    show zW G mJ3_checkElementIndex 2 0 0 [.ref a, .int (nI i)] [] h _
    refine zW.aload_n (pc' := 1) dJ3_checkElementIndex_0 rfl rfl zg0 rfl ?_
    refine zW.iload_n (pc' := 2) dJ3_checkElementIndex_1 rfl rfl (zgS (zg0)) ?_
    refine zW.callV (r' := 0) (pc' := 5) dJ3_checkElementIndex_2 rfl l_J3_115 rfl hl ⟨rfl, (Nat.le_of_ble_eq_true rfl)⟩ rfl (k1) (zcc rfl zc0) rfl (Nat.le_of_ble_eq_true rfl) (Nat.le_of_ble_eq_true rfl) (Nat.le_of_ble_eq_true rfl) (fun _ _ q9 => ?_) (fun _ _ q9 => by cases q9.1)
    obtain ⟨q8, e9⟩ := q9
    cases q8
    replace e9 := e9.symm
    subst e9
    refine zW.if_neN (pc' := 8) 21 dJ3_checkElementIndex_5 rfl (by decide) (by omega) (fun b9 => ?_) (fun b9 => absurd b9 (by omega))
    refine zW.vret dJ3_checkElementIndex_21 rfl ?_
    exact ⟨rfl, rfl⟩
  show zW G mJ3_get 3 0 0 [.ref a, .int (nI i)] [] h _
  refine zW.aload_n (pc' := 1) dJ3_get_0 rfl rfl zg0 rfl ?_
  refine zW.iload_n (pc' := 2) dJ3_get_1 rfl rfl (zgS (zg0)) ?_
  refine zW.callV (r' := 0) (pc' := 5) dJ3_get_2 rfl l_J3_90 rfl hl ⟨rfl, (Nat.le_of_ble_eq_true rfl)⟩ rfl (k2) (zcc rfl zc0) rfl (Nat.le_of_ble_eq_true rfl) (Nat.le_of_ble_eq_true rfl) (Nat.le_of_ble_eq_true rfl) (fun _ _ q9 => ?_) (fun _ _ q9 => by cases q9.1)
  obtain ⟨q8, e9⟩ := q9
  cases q8
  replace e9 := e9.symm
  subst e9
  refine zW.aload_n (pc' := 6) dJ3_get_5 rfl rfl zg0 rfl ?_
  refine zW.iload_n (pc' := 7) dJ3_get_6 rfl rfl (zgS (zg0)) ?_
  refine zW.callV (r' := 0) (pc' := 10) dJ3_get_7 rfl l_J3_86 rfl hl ⟨rfl, (Nat.le_of_ble_eq_true rfl)⟩ rfl (w_llNode hL hx hi) (zcc rfl zc0) rfl (Nat.le_of_ble_eq_true rfl) (Nat.le_of_ble_eq_true rfl) (Nat.le_of_ble_eq_true rfl) (fun _ _ q9 => ?_) (fun _ _ q9 => by cases q9.1)
  obtain ⟨q8, e9⟩ := q9
  cases q8
  replace e9 := e9.symm
  subst e9
  refine zW.get (pc' := 13) dJ3_get_10 rfl f_J3_39_7 hp ⟨rfl, (Nat.le_of_ble_eq_true rfl)⟩ rfl ?_
  refine zW.aret dJ3_get_13 rfl (Or.inl ⟨_, rfl⟩) rfl ?_
  exact ⟨rfl, rfl⟩
theorem w_itInit (hL : cLL h a mc xs) (hx : xs.length ≤ 64) (hi : h it = some (8, [.null, .null, .int 0, .int 0, .null])) : zK G mJ25_init 2 0 [.ref it, .ref a, .int (nI 0)] h (zPk h none it (8, [.null, zrf (cNd xs 0), .int (nI 0), .int mc, .ref a])) := by
  have hl := hL.1
  have nit := hL.nk hi ⟨by decide, by decide⟩
  show zW G mJ25_init 2 0 0 [.ref it, .ref a, .int (nI 0)] [] h _
  by_cases q : xs = []
  · subst q
    refine zW.aload_n (pc' := 1) dJ25_init_0 rfl rfl zg0 rfl ?_
    refine zW.aload_n (pc' := 2) dJ25_init_1 rfl rfl (zgS (zg0)) rfl ?_
    refine zW.putK (pc' := 5) dJ25_init_2 rfl f_J25_1_8 hi ⟨⟨rfl, (Nat.le_of_ble_eq_true rfl)⟩, (Nat.le_of_ble_eq_true rfl)⟩ (zFw.fin ft_8_4 rfl rfl rfl rfl rfl) (zsS (zsS (zsS (zsS (zs0))))) (fun _ e9 k9 => ?_)
    have hl := zpres e9 (zne hl hi (by decide)) hl
    have hq := e9
    replace hi := k9
    clear e9 k9
    refine zW.aload_n (pc' := 6) dJ25_init_5 rfl rfl zg0 rfl ?_
    refine zW.objInit (pc' := 9) dJ25_init_6 rfl (lw_all_tbl q723) (lw_all_tbl q151) (lw_all_tbl q152) (Nat.le_of_ble_eq_true rfl) (Nat.le_of_ble_eq_true rfl) ?_
    refine zW.aload_n (pc' := 10) dJ25_init_9 rfl rfl zg0 rfl ?_
    refine zW.aload_n (pc' := 11) dJ25_init_10 rfl rfl zg0 rfl ?_
    refine zW.get (pc' := 14) dJ25_init_11 rfl f_J25_1_8 hi ⟨rfl, (Nat.le_of_ble_eq_true rfl)⟩ rfl ?_
    refine zW.get (pc' := 17) dJ25_init_14 rfl f_J25_13_6 hl ⟨rfl, (Nat.le_of_ble_eq_true rfl)⟩ rfl ?_
    refine zW.putK (pc' := 20) dJ25_init_17 rfl f_J25_19_8 hi ⟨⟨rfl, (Nat.le_of_ble_eq_true rfl)⟩, (Nat.le_of_ble_eq_true rfl)⟩ (zFw.of ft_8_3 rfl rfl) (zsS (zsS (zsS (zs0)))) (fun _ e9 k9 => ?_)
    have hl := zpres e9 (zne hl hi (by decide)) hl
    have hq := ztrk hq e9
    replace hi := k9
    clear e9 k9
    refine zW.aload_n (pc' := 21) dJ25_init_20 rfl rfl zg0 rfl ?_
    refine zW.iload_n (pc' := 22) dJ25_init_21 rfl rfl (zgS (zgS (zg0))) ?_
    refine zW.aload_n (pc' := 23) dJ25_init_22 rfl rfl (zgS (zg0)) rfl ?_
    refine zW.get (pc' := 26) dJ25_init_23 rfl f_J25_22_6 hl ⟨rfl, (Nat.le_of_ble_eq_true rfl)⟩ rfl ?_
    refine zW.icmp_neN (pc' := 29) 33 dJ25_init_26 rfl (by decide) (by omega) (by omega) (fun b9 => absurd b9 (by simp)) (fun b9 => ?_)
    refine zW.null (pc' := 30) dJ25_init_29 rfl ?_
    refine zW.goto 38 dJ25_init_30 (by decide) ?_
    refine zW.putK (pc' := 41) dJ25_init_38 rfl f_J25_29_8 hi ⟨⟨rfl, (Nat.le_of_ble_eq_true rfl)⟩, (Nat.le_of_ble_eq_true rfl)⟩ (zFw.of ft_8_1 (zrf_nar (o := none)) (zrf_fit (o := none))) (zsS (zs0)) (fun _ e9 k9 => ?_)
    have hl := zpres e9 (zne hl hi (by decide)) hl
    have hq := ztrk hq e9
    replace hi := k9
    clear e9 k9
    refine zW.aload_n (pc' := 42) dJ25_init_41 rfl rfl zg0 rfl ?_
    refine zW.iload_n (pc' := 43) dJ25_init_42 rfl rfl (zgS (zgS (zg0))) ?_
    refine zW.putK (pc' := 46) dJ25_init_43 rfl f_J25_33_8 hi ⟨⟨rfl, (Nat.le_of_ble_eq_true rfl)⟩, (Nat.le_of_ble_eq_true rfl)⟩ (zFw.of ft_8_2 rfl rfl) (zsS (zsS (zs0))) (fun _ e9 k9 => ?_)
    have hl := zpres e9 (zne hl hi (by decide)) hl
    have hq := ztrk hq e9
    replace hi := k9
    clear e9 k9
    refine zW.vret dJ25_init_46 rfl ?_
    exact ⟨_, rfl, rfl, hq, hi⟩
  · have h0 : 0 < xs.length := List.length_pos_iff.mpr q
    have hz := zfr.rf (A := fun b => b = it) (h := h)
    refine zW.aload_n (pc' := 1) dJ25_init_0 rfl rfl zg0 rfl ?_
    refine zW.aload_n (pc' := 2) dJ25_init_1 rfl rfl (zgS (zg0)) rfl ?_
    refine zW.putK (pc' := 5) dJ25_init_2 rfl f_J25_1_8 hi ⟨⟨rfl, (Nat.le_of_ble_eq_true rfl)⟩, (Nat.le_of_ble_eq_true rfl)⟩ (zFw.fin ft_8_4 rfl rfl rfl rfl rfl) (zsS (zsS (zsS (zsS (zs0))))) (fun _ e9 k9 => ?_)
    have hl := zpres e9 (zne hl hi (by decide)) hl
    have hz := hz.put e9 hi (by decide) (Or.inl rfl)
    have hq := e9
    replace hi := k9
    clear e9 k9
    refine zW.aload_n (pc' := 6) dJ25_init_5 rfl rfl zg0 rfl ?_
    refine zW.objInit (pc' := 9) dJ25_init_6 rfl (lw_all_tbl q723) (lw_all_tbl q151) (lw_all_tbl q152) (Nat.le_of_ble_eq_true rfl) (Nat.le_of_ble_eq_true rfl) ?_
    refine zW.aload_n (pc' := 10) dJ25_init_9 rfl rfl zg0 rfl ?_
    refine zW.aload_n (pc' := 11) dJ25_init_10 rfl rfl zg0 rfl ?_
    refine zW.get (pc' := 14) dJ25_init_11 rfl f_J25_1_8 hi ⟨rfl, (Nat.le_of_ble_eq_true rfl)⟩ rfl ?_
    refine zW.get (pc' := 17) dJ25_init_14 rfl f_J25_13_6 hl ⟨rfl, (Nat.le_of_ble_eq_true rfl)⟩ rfl ?_
    refine zW.putK (pc' := 20) dJ25_init_17 rfl f_J25_19_8 hi ⟨⟨rfl, (Nat.le_of_ble_eq_true rfl)⟩, (Nat.le_of_ble_eq_true rfl)⟩ (zFw.of ft_8_3 rfl rfl) (zsS (zsS (zsS (zs0)))) (fun _ e9 k9 => ?_)
    have hl := zpres e9 (zne hl hi (by decide)) hl
    have hz := hz.put e9 hi (by decide) (Or.inl rfl)
    have hq := ztrk hq e9
    replace hi := k9
    clear e9 k9
    refine zW.aload_n (pc' := 21) dJ25_init_20 rfl rfl zg0 rfl ?_
    refine zW.iload_n (pc' := 22) dJ25_init_21 rfl rfl (zgS (zgS (zg0))) ?_
    refine zW.aload_n (pc' := 23) dJ25_init_22 rfl rfl (zgS (zg0)) rfl ?_
    refine zW.get (pc' := 26) dJ25_init_23 rfl f_J25_22_6 hl ⟨rfl, (Nat.le_of_ble_eq_true rfl)⟩ rfl ?_
    refine zW.icmp_neN (pc' := 29) 33 dJ25_init_26 rfl (by decide) (by omega) (by omega) (fun b9 => ?_) (fun b9 => absurd b9 (by omega))
    refine zW.aload_n (pc' := 34) dJ25_init_33 rfl rfl (zgS (zg0)) rfl ?_
    refine zW.iload_n (pc' := 35) dJ25_init_34 rfl rfl (zgS (zgS (zg0))) ?_
    have hL2 : cLL _ a mc xs := hL.fr hz nit
    refine zW.callV (r' := 0) (pc' := 38) dJ25_init_35 rfl l_J25_25 rfl hl ⟨rfl, (Nat.le_of_ble_eq_true rfl)⟩ rfl (w_llNode hL2 hx (List.getElem?_eq_getElem h0)) (zcc rfl zc0) rfl (Nat.le_of_ble_eq_true rfl) (Nat.le_of_ble_eq_true rfl) (Nat.le_of_ble_eq_true rfl) (fun _ _ q9 => ?_) (fun _ _ q9 => by cases q9.1)
    obtain ⟨q8, e9⟩ := q9
    cases q8
    replace e9 := e9.symm
    subst e9
    refine zW.putK (pc' := 41) dJ25_init_38 rfl f_J25_29_8 hi ⟨⟨rfl, (Nat.le_of_ble_eq_true rfl)⟩, (Nat.le_of_ble_eq_true rfl)⟩ (zFw.of ft_8_1 (zrf_nar (o := some _)) (zrf_fit (o := some _))) (zsS (zs0)) (fun _ e9 k9 => ?_)
    have hl := zpres e9 (zne hl hi (by decide)) hl
    have hz := hz.put e9 hi (by decide) (Or.inl rfl)
    have hq := ztrk hq e9
    replace hi := k9
    clear e9 k9
    refine zW.aload_n (pc' := 42) dJ25_init_41 rfl rfl zg0 rfl ?_
    refine zW.iload_n (pc' := 43) dJ25_init_42 rfl rfl (zgS (zgS (zg0))) ?_
    refine zW.putK (pc' := 46) dJ25_init_43 rfl f_J25_33_8 hi ⟨⟨rfl, (Nat.le_of_ble_eq_true rfl)⟩, (Nat.le_of_ble_eq_true rfl)⟩ (zFw.of ft_8_2 rfl rfl) (zsS (zsS (zs0))) (fun _ e9 k9 => ?_)
    have hl := zpres e9 (zne hl hi (by decide)) hl
    have hz := hz.put e9 hi (by decide) (Or.inl rfl)
    have hq := ztrk hq e9
    replace hi := k9
    clear e9 k9
    refine zW.vret dJ25_init_46 rfl ?_
    rw [cNd_at (List.getElem?_eq_getElem h0)]
    exact ⟨_, rfl, rfl, hq, hi⟩
/-- a new iterator, at the start -/
abbrev cItr (h : zH) (a : Nat) (mc : Int32) (xs : List (Nat × Nat)) : zR → zH → Prop := zO fun v h' => ∃ it, v = some (.ref it) ∧ h it = none ∧ h' = zup h it (8, [.null, zrf (cNd xs 0), .int (nI 0), .int mc, .ref a]) ∧ h' it = some (8, [.null, zrf (cNd xs 0), .int (nI 0), .int mc, .ref a])
theorem w_llIter (hL : cLL h a mc xs) (hx : xs.length ≤ 64) : zK G mJ2_iterator 5 2 [.ref a] h (cItr h a mc xs) := by
  have hl := hL.1
  have k1 : zK G mJ3_isPositionIndex 1 0 [.ref a, .int (nI 0)] h (zPu h (some (.int (nI 1)))) := by
    show zW G mJ3_isPositionIndex 1 0 0 [.ref a, .int (nI 0)] [] h _
    refine zW.iload_n (pc' := 1) dJ3_isPositionIndex_0 rfl rfl (zgS (zg0)) ?_
    refine zW.if_ltN (pc' := 4) (tg := 16) dJ3_isPositionIndex_1 rfl (by decide) (by omega) ?_
    refine zW.iload_n (pc' := 5) dJ3_isPositionIndex_4 rfl rfl (zgS (zg0)) ?_
    refine zW.aload_n (pc' := 6) dJ3_isPositionIndex_5 rfl rfl zg0 rfl ?_
    refine zW.get (pc' := 9) dJ3_isPositionIndex_6 rfl f_J3_7_6 hl ⟨rfl, (Nat.le_of_ble_eq_true rfl)⟩ rfl ?_
    refine zW.icmp_gtN (pc' := 12) 16 dJ3_isPositionIndex_9 rfl (by decide) (by omega) (by omega) (fun b9 => absurd b9 (by omega)) (fun b9 => ?_)
    refine zW.iconst (pc' := 13) (nI 1) dJ3_isPositionIndex_12 rfl (by decide) ?_
    refine zW.goto 17 dJ3_isPositionIndex_13 (by decide) ?_
    refine zW.iret dJ3_isPositionIndex_17 rfl (rfl) ?_
    exact ⟨rfl, rfl⟩
  have k2 : zK G mJ3_checkPositionIndex 2 0 [.ref a, .int (nI 0)] h (zPu h none) := by
    show zW G mJ3_checkPositionIndex 2 0 0 [.ref a, .int (nI 0)] [] h _
    refine zW.aload_n (pc' := 1) dJ3_checkPositionIndex_0 rfl rfl zg0 rfl ?_
    refine zW.iload_n (pc' := 2) dJ3_checkPositionIndex_1 rfl rfl (zgS (zg0)) ?_
    refine zW.callV (r' := 0) (pc' := 5) dJ3_checkPositionIndex_2 rfl l_J3_128 rfl hl ⟨rfl, (Nat.le_of_ble_eq_true rfl)⟩ rfl (k1) (zcc rfl zc0) rfl (Nat.le_of_ble_eq_true rfl) (Nat.le_of_ble_eq_true rfl) (Nat.le_of_ble_eq_true rfl) (fun _ _ q9 => ?_) (fun _ _ q9 => by cases q9.1)
    obtain ⟨q8, e9⟩ := q9
    cases q8
    replace e9 := e9.symm
    subst e9
    refine zW.if_neN (pc' := 8) 21 dJ3_checkPositionIndex_5 rfl (by decide) (by omega) (fun b9 => ?_) (fun b9 => absurd b9 (by omega))
    refine zW.vret dJ3_checkPositionIndex_21 rfl ?_
    exact ⟨rfl, rfl⟩
  have k3 : zK G mJ3_listIterator 3 2 [.ref a, .int (nI 0)] h (cItr h a mc xs) := by
    show zW G mJ3_listIterator 3 2 0 [.ref a, .int (nI 0)] [] h _
    refine zW.aload_n (pc' := 1) dJ3_listIterator_0 rfl rfl zg0 rfl ?_
    refine zW.iload_n (pc' := 2) dJ3_listIterator_1 rfl rfl (zgS (zg0)) ?_
    refine zW.callV (r' := 0) (pc' := 5) dJ3_listIterator_2 rfl l_J3_76 rfl hl ⟨rfl, (Nat.le_of_ble_eq_true rfl)⟩ rfl (k2) (zcc rfl zc0) rfl (Nat.le_of_ble_eq_true rfl) (Nat.le_of_ble_eq_true rfl) (Nat.le_of_ble_eq_true rfl) (fun _ _ q9 => ?_) (fun _ _ q9 => by cases q9.1)
    obtain ⟨q8, e9⟩ := q9
    cases q8
    replace e9 := e9.symm
    subst e9
    refine zW.newK (u := 2) (pc' := 8) dJ3_listIterator_5 rfl n_J3_150 zd_8 (fun it _ nit e9 k9 => ?_)
    have hl := zpres e9 (zfresh nit hl) hl
    have hit := k9
    clear k9
    have eit := e9
    have hL2 : cLL _ a mc xs := hL.mv fun b k l hk hb => zpres eit (zfresh nit hb) hb
    refine zW.dup (pc' := 9) dJ3_listIterator_8 rfl rfl ?_
    refine zW.aload_n (pc' := 10) dJ3_listIterator_9 rfl rfl zg0 rfl ?_
    refine zW.iload_n (pc' := 11) dJ3_listIterator_10 rfl rfl (zgS (zg0)) ?_
    refine zW.callI (r' := 0) (pc' := 14) dJ3_listIterator_11 rfl l_J3_152 rfl (w_itInit hL2 hx hit) (zcc rfl (zcc rfl zc0)) rfl (Nat.le_of_ble_eq_true rfl) (Nat.le_of_ble_eq_true rfl) (Nat.le_of_ble_eq_true rfl) (fun _ _ q9 => ?_) (fun _ _ q9 => absurd q9 zO.no)
    obtain ⟨_, q8, e1, e9, k9⟩ := q9
    cases q8
    subst e1
    have hl := zpres e9 (zne hl hit (by decide)) hl
    have eit := ztrk eit e9
    replace hit := k9
    clear e9 k9
    refine zW.aret dJ3_listIterator_14 rfl (Or.inl ⟨_, rfl⟩) rfl ?_
    exact ⟨_, rfl, it, rfl, nit, eit, hit⟩
  have k4 : zK G mJ1_listIterator 4 2 [.ref a] h (cItr h a mc xs) := by
    show zW G mJ1_listIterator 4 2 0 [.ref a] [] h _
    refine zW.aload_n (pc' := 1) dJ1_listIterator_0 rfl rfl zg0 rfl ?_
    refine zW.iconst (pc' := 2) (nI 0) dJ1_listIterator_1 rfl (by decide) ?_
    refine zW.callU (r' := 2) (pc' := 5) dJ1_listIterator_2 rfl l_J1_47_J3 rfl hl ⟨rfl, (Nat.le_of_ble_eq_true rfl)⟩ rfl (k3) (zcc rfl zc0) rfl (Nat.le_of_ble_eq_true rfl) (Nat.le_of_ble_eq_true rfl) (Nat.le_of_ble_eq_true rfl) (fun _ _ q9 => ?_) (fun _ _ q9 => absurd q9 zO.no)
    obtain ⟨_, q8, it, e1, e2⟩ := q9
    cases q8
    subst e1
    refine zW.aret dJ1_listIterator_5 rfl (Or.inl ⟨_, rfl⟩) rfl ?_
    exact ⟨_, rfl, it, rfl, e2⟩
  show zW G mJ2_iterator 5 2 0 [.ref a] [] h _
  refine zW.aload_n (pc' := 1) dJ2_iterator_0 rfl rfl zg0 rfl ?_
  refine zW.callU (r' := 2) (pc' := 4) dJ2_iterator_1 rfl l_J2_65_J3 rfl hl ⟨rfl, (Nat.le_of_ble_eq_true rfl)⟩ rfl (k4) zc0 rfl (Nat.le_of_ble_eq_true rfl) (Nat.le_of_ble_eq_true rfl) (Nat.le_of_ble_eq_true rfl) (fun _ _ q9 => ?_) (fun _ _ q9 => absurd q9 zO.no)
  obtain ⟨_, q8, it, e1, e2⟩ := q9
  cases q8
  subst e1
  refine zW.aret dJ2_iterator_4 rfl (Or.inl ⟨_, rfl⟩) rfl ?_
  exact ⟨_, rfl, it, rfl, e2⟩
end
