/-! keywords: prefixes, membership, the list's iterator -/
section
set_option maxRecDepth 100000
variable {G : zG} {h h' H : zH} {a n kw ka it c w c2 w2 i : Nat} {l q s : List Nat}
def kW : List (List Nat) := [[97, 100, 100], [115, 105, 103, 110], [99, 111, 117, 110, 116, 101, 114, 115, 105, 103, 110], [115, 101, 116, 116, 108, 101], [116, 105, 99, 107], [97, 117, 100, 105, 116], [114, 97, 116, 101]]
def kAt (i : Nat) : List Nat := kW.getD i []
def kPre (q : List Nat) : Bool := kW.any fun k => q.isPrefixOf k
theorem kAt_lit : ∀ i : Fin 7, zlt[10 + i.1]? = some (kAt i.1) := by decide
theorem kPre_iff : kPre q = true ↔ ∃ i, i < 7 ∧ q.isPrefixOf (kAt i) = true := by
  unfold kPre
  rw [List.any_eq_true]
  constructor
  · rintro ⟨k, hk, e⟩
    obtain ⟨i, hi⟩ := List.getElem?_of_mem hk
    have hi7 := (List.getElem?_eq_some_iff.mp hi).1
    refine ⟨i, hi7, ?_⟩
    unfold kAt
    rw [List.getD_eq_getElem?_getD, hi]
    exact e
  · rintro ⟨i, hi, e⟩
    refine ⟨kAt i, ?_, e⟩
    unfold kAt
    rw [List.getD_eq_getElem?_getD, List.getElem?_eq_getElem (show i < kW.length from hi)]
    exact List.getElem_mem _
theorem kIn_iff : q ∈ kW ↔ ∃ i, i < 7 ∧ q = kAt i := by
  constructor
  · intro hk
    obtain ⟨i, hi⟩ := List.getElem?_of_mem hk
    refine ⟨i, (List.getElem?_eq_some_iff.mp hi).1, ?_⟩
    unfold kAt
    rw [List.getD_eq_getElem?_getD, hi]
    rfl
  · rintro ⟨i, hi, e⟩
    rw [e]
    unfold kAt
    rw [List.getD_eq_getElem?_getD, List.getElem?_eq_getElem (show i < kW.length from hi)]
    exact List.getElem_mem _
theorem zkS.key (hS : zkS G) (hk : zkn G h) (hi : i < 7) : cStr h (zg_a G (110 + i)) (zg_a G (210 + i)) (kAt i) := by
  have k := hS.str hk (kAt_lit ⟨i, hi⟩)
  rw [show 100 + (10 + i) = 110 + i by omega, show 200 + (10 + i) = 210 + i by omega] at k
  exact k
theorem pre_app : ∀ {p r u : List Nat}, (p ++ r).isPrefixOf (p ++ u) = r.isPrefixOf u
  | [], _, _ => rfl
  | x :: p, r, u => by
    show (x == x && (p ++ r).isPrefixOf (p ++ u)) = _
    rw [pre_app, beq_self_eq_true, Bool.true_and]
theorem pre_len : ∀ {r u : List Nat}, r.isPrefixOf u = true → r.length ≤ u.length
  | [], _, _ => Nat.zero_le _
  | _ :: _, [], e => by cases e
  | x :: r, y :: u, e => Nat.succ_le_succ (pre_len (r := r) (u := u) (by
    have e : (x == y && r.isPrefixOf u) = true := e
    rw [Bool.and_eq_true] at e
    exact e.2))
theorem w_hasPre (k1 : cStr h c w l) (k2 : cStr h c2 w2 q) : zK G mX5_hasPrefix 6 0 [.ref c, .ref c2] h (zPu h (some (.int (nI (if q.isPrefixOf l = true then 1 else 0))))) := by
  obtain ⟨kc, fc, hc, hkc⟩ := k1.ob
  obtain ⟨kd, fd, hd, hkd⟩ := k2.ob
  have hkc : kc % 1000 = 14 ∧ 14 < 50 := ⟨hkc, by decide⟩
  have hkd : kd % 1000 = 14 ∧ 14 < 50 := ⟨hkd, by decide⟩
  have b1 : l.length < 2 ^ 16 := by obtain ⟨k, k2, hz, hs, g1, g2, g3, g4, g5, g6⟩ := k1; exact g5
  have b2 : q.length < 2 ^ 16 := by obtain ⟨k, k2, hz, hs, g1, g2, g3, g4, g5, g6⟩ := k2; exact g5
  have d1 : ∀ x ∈ l, x < 128 := by obtain ⟨k, k2, hz, hs, g1, g2, g3, g4, g5, g6⟩ := k1; exact g6
  have d2 : ∀ x ∈ q, x < 128 := by obtain ⟨k, k2, hz, hs, g1, g2, g3, g4, g5, g6⟩ := k2; exact g6
  have loop : ∀ (p r u : List Nat), q = p ++ r → l = p ++ u → r.length ≤ u.length → zW G mX5_hasPrefix 6 0 15 [.ref c, .ref c2, .int (nI p.length)] [] h (zPu h (some (.int (nI (if q.isPrefixOf l = true then 1 else 0))))) := by
    intro p r
    induction r generalizing p with
    | nil =>
      intro u e1 e2 e3
      have e4 : q.length = p.length := by rw [e1, List.append_nil]
      refine zW.iload_n (pc' := 16) dX5_hasPrefix_15 rfl rfl (zgS (zgS (zg0))) ?_
      refine zW.aload_n (pc' := 17) dX5_hasPrefix_16 rfl rfl (zgS (zg0)) rfl ?_
      refine zW.callV (r' := 0) (pc' := 20) dX5_hasPrefix_17 rfl l_X5_48 rfl hd hkd rfl (w_strLen k2) zc0 rfl (Nat.le_of_ble_eq_true rfl) (Nat.le_of_ble_eq_true rfl) (Nat.le_of_ble_eq_true rfl) (fun _ _ q9 => ?_) (fun _ _ q9 => by cases q9.1)
      obtain ⟨q8, e9⟩ := q9
      cases q8
      replace e9 := e9.symm
      subst e9
      refine zW.icmp_geN (pc' := 23) 44 dX5_hasPrefix_20 rfl (by decide) (by omega) (by omega) (fun b9 => ?_) (fun b9 => absurd b9 (by omega))
      refine zW.iconst (pc' := 45) (nI 1) dX5_hasPrefix_44 rfl (by decide) ?_
      refine zW.iret dX5_hasPrefix_45 rfl (rfl) ?_
      rw [if_pos (by rw [e1, e2, pre_app]; rfl)]
      exact ⟨rfl, rfl⟩
    | cons x r ih =>
      intro u e1 e2 e3
      obtain ⟨y, u, rfl⟩ : ∃ y u', u = y :: u' := by
        cases u with
        | nil => cases e3
        | cons y u => exact ⟨y, u, rfl⟩
      have e4 : q.length = p.length + (r.length + 1) := by rw [e1, List.length_append]; rfl
      have hx : q[p.length]? = some x := by rw [e1, List.getElem?_append_right (Nat.le_refl _), Nat.sub_self]; rfl
      have hy : l[p.length]? = some y := by rw [e2, List.getElem?_append_right (Nat.le_refl _), Nat.sub_self]; rfl
      have hx1 := d2 x (List.mem_of_getElem? hx)
      have hy1 := d1 y (List.mem_of_getElem? hy)
      refine zW.iload_n (pc' := 16) dX5_hasPrefix_15 rfl rfl (zgS (zgS (zg0))) ?_
      refine zW.aload_n (pc' := 17) dX5_hasPrefix_16 rfl rfl (zgS (zg0)) rfl ?_
      refine zW.callV (r' := 0) (pc' := 20) dX5_hasPrefix_17 rfl l_X5_48 rfl hd hkd rfl (w_strLen k2) zc0 rfl (Nat.le_of_ble_eq_true rfl) (Nat.le_of_ble_eq_true rfl) (Nat.le_of_ble_eq_true rfl) (fun _ _ q9 => ?_) (fun _ _ q9 => by cases q9.1)
      obtain ⟨q8, e9⟩ := q9
      cases q8
      replace e9 := e9.symm
      subst e9
      refine zW.icmp_geN (pc' := 23) 44 dX5_hasPrefix_20 rfl (by decide) (by omega) (by omega) (fun b9 => absurd b9 (by omega)) (fun b9 => ?_)
      refine zW.aload_n (pc' := 24) dX5_hasPrefix_23 rfl rfl zg0 rfl ?_
      refine zW.iload_n (pc' := 25) dX5_hasPrefix_24 rfl rfl (zgS (zgS (zg0))) ?_
      refine zW.callV (r' := 0) (pc' := 28) dX5_hasPrefix_25 rfl l_X5_58 rfl hc hkc rfl (w_strAt k1 hy) (zcc rfl zc0) rfl (Nat.le_of_ble_eq_true rfl) (Nat.le_of_ble_eq_true rfl) (Nat.le_of_ble_eq_true rfl) (fun _ _ q9 => ?_) (fun _ _ q9 => by cases q9.1)
      obtain ⟨q8, e9⟩ := q9
      cases q8
      replace e9 := e9.symm
      subst e9
      refine zW.aload_n (pc' := 29) dX5_hasPrefix_28 rfl rfl (zgS (zg0)) rfl ?_
      refine zW.iload_n (pc' := 30) dX5_hasPrefix_29 rfl rfl (zgS (zgS (zg0))) ?_
      refine zW.callV (r' := 0) (pc' := 33) dX5_hasPrefix_30 rfl l_X5_58 rfl hd hkd rfl (w_strAt k2 hx) (zcc rfl zc0) rfl (Nat.le_of_ble_eq_true rfl) (Nat.le_of_ble_eq_true rfl) (Nat.le_of_ble_eq_true rfl) (fun _ _ q9 => ?_) (fun _ _ q9 => by cases q9.1)
      obtain ⟨q8, e9⟩ := q9
      cases q8
      replace e9 := e9.symm
      subst e9
      refine zW.icmp_eqN (pc' := 36) 38 dX5_hasPrefix_33 rfl (by decide) (by omega) (by omega) (fun b3 => ?_) (fun b3 => ?_)
      · subst b3
        refine zW.iincN (pc' := 41) (n := 1) dX5_hasPrefix_38 rfl (Nat.le_of_ble_eq_true rfl) (zgS (zgS (zg0))) (zsS (zsS (zs0))) ?_
        refine zW.goto 15 dX5_hasPrefix_41 (by decide) ?_
        have k := ih (p ++ [y]) u (by rw [e1, List.append_assoc]; rfl) (by rw [e2, List.append_assoc]; rfl) (Nat.le_of_succ_le_succ e3)
        rw [List.length_append] at k
        exact k
      · refine zW.iconst (pc' := 37) (nI 0) dX5_hasPrefix_36 rfl (by decide) ?_
        refine zW.iret dX5_hasPrefix_37 rfl (rfl) ?_
        rw [if_neg (fun z => b3 ?_)]
        · exact ⟨rfl, rfl⟩
        · rw [e1, e2, pre_app] at z
          have z : (x == y && r.isPrefixOf u) = true := z
          rw [Bool.and_eq_true, beq_iff_eq] at z
          exact z.1.symm
  show zW G mX5_hasPrefix 6 0 0 [.ref c, .ref c2, zho] [] h _
  refine zW.aload_n (pc' := 1) dX5_hasPrefix_0 rfl rfl zg0 rfl ?_
  refine zW.callV (r' := 0) (pc' := 4) dX5_hasPrefix_1 rfl l_X5_48 rfl hc hkc rfl (w_strLen k1) zc0 rfl (Nat.le_of_ble_eq_true rfl) (Nat.le_of_ble_eq_true rfl) (Nat.le_of_ble_eq_true rfl) (fun _ _ q9 => ?_) (fun _ _ q9 => by cases q9.1)
  obtain ⟨q8, e9⟩ := q9
  cases q8
  replace e9 := e9.symm
  subst e9
  refine zW.aload_n (pc' := 5) dX5_hasPrefix_4 rfl rfl (zgS (zg0)) rfl ?_
  refine zW.callV (r' := 0) (pc' := 8) dX5_hasPrefix_5 rfl l_X5_48 rfl hd hkd rfl (w_strLen k2) zc0 rfl (Nat.le_of_ble_eq_true rfl) (Nat.le_of_ble_eq_true rfl) (Nat.le_of_ble_eq_true rfl) (fun _ _ q9 => ?_) (fun _ _ q9 => by cases q9.1)
  obtain ⟨q8, e9⟩ := q9
  cases q8
  replace e9 := e9.symm
  subst e9
  refine zW.icmp_geN (pc' := 11) 13 dX5_hasPrefix_8 rfl (by decide) (by omega) (by omega) (fun b3 => ?_) (fun b3 => ?_)
  · refine zW.iconst (pc' := 14) (nI 0) dX5_hasPrefix_13 rfl (by decide) ?_
    refine zW.istore_n (pc' := 15) dX5_hasPrefix_14 rfl rfl (Nat.le_of_ble_eq_true rfl) (zsS (zsS (zs0))) ?_
    exact loop [] q l rfl rfl b3
  · refine zW.iconst (pc' := 12) (nI 0) dX5_hasPrefix_11 rfl (by decide) ?_
    refine zW.iret dX5_hasPrefix_12 rfl (rfl) ?_
    rw [if_neg (fun z => by have := pre_len z; omega)]
    exact ⟨rfl, rfl⟩
theorem cStr.inj (k : cStr h c w l) (k2 : cStr h c w2 s) : l = s := by
  obtain ⟨kc, kw, hz, hs, hc, hk, hw, hkw, hl, h128⟩ := k
  obtain ⟨kc2, kw2, hz2, hs2, hc2, hk2, hw2, hkw2, hl2, h1282⟩ := k2
  have e1 := hc.symm.trans hc2
  have e2 : w = w2 := by
    have := (List.cons.inj (Prod.mk.inj (Option.some.inj e1)).2).1
    injection this
  subst e2
  exact btab_inj h128 h1282 (Prod.mk.inj (Option.some.inj (hw.symm.trans hw2))).2
theorem w_objEq (k : cStr h c w l) (k2 : cStr h c2 w2 s) : zK G mJ26_equals 3 0 [.ref c, .ref c2] h (zPu h (some (.int (nI (if l = s then 1 else 0))))) := by
  obtain ⟨kc, fc, hc, hkc⟩ := k.ob
  have hkc : kc % 1000 = 14 ∧ 14 < 50 := ⟨hkc, by decide⟩
  show zW G mJ26_equals 3 0 0 [.ref c, .ref c2] [] h _
  refine zW.aload_n (pc' := 1) dJ26_equals_0 rfl rfl zg0 rfl ?_
  refine zW.aload_n (pc' := 2) dJ26_equals_1 rfl rfl (zgS (zg0)) rfl ?_
  refine zW.acmp_eq (pc' := 5) 17 dJ26_equals_2 rfl (by decide) rfl rfl (fun b1 => ?_) (fun b1 => ?_)
  · have e : c = c2 := by injection b1
    subst e
    refine zW.iconst (pc' := 18) (nI 1) dJ26_equals_17 rfl (by decide) ?_
    refine zW.goto 22 dJ26_equals_18 (by decide) ?_
    refine zW.iret dJ26_equals_22 rfl (rfl) ?_
    rw [if_pos (k.inj k2)]
    exact ⟨rfl, rfl⟩
  · refine zW.aload_n (pc' := 6) dJ26_equals_5 rfl rfl zg0 rfl ?_
    refine zW.ifnull (pc' := 9) 21 dJ26_equals_6 rfl (by decide) rfl (fun b2 => ?_) (fun b2 => ?_)
    · cases b2
    refine zW.aload_n (pc' := 10) dJ26_equals_9 rfl rfl zg0 rfl ?_
    refine zW.aload_n (pc' := 11) dJ26_equals_10 rfl rfl (zgS (zg0)) rfl ?_
    refine zW.callU (r' := 0) (pc' := 14) dJ26_equals_11 rfl l_J26_14_J7 rfl hc hkc rfl (w_strEq k k2) (zcc rfl zc0) rfl (Nat.le_of_ble_eq_true rfl) (Nat.le_of_ble_eq_true rfl) (Nat.le_of_ble_eq_true rfl) (fun _ _ q9 => ?_) (fun _ _ q9 => by cases q9.1)
    obtain ⟨q8, e9⟩ := q9
    cases q8
    replace e9 := e9.symm
    subst e9
    by_cases q : l = s
    · rw [if_pos q]
      refine zW.if_eqN (pc' := 17) 21 dJ26_equals_14 rfl (by decide) (by omega) (fun b9 => absurd b9 (by omega)) (fun b9 => ?_)
      refine zW.iconst (pc' := 18) (nI 1) dJ26_equals_17 rfl (by decide) ?_
      refine zW.goto 22 dJ26_equals_18 (by decide) ?_
      refine zW.iret dJ26_equals_22 rfl (rfl) ?_
      exact ⟨rfl, rfl⟩
    · rw [if_neg q]
      refine zW.if_eqN (pc' := 17) 21 dJ26_equals_14 rfl (by decide) (by omega) (fun b9 => ?_) (fun b9 => absurd b9 (by omega))
      refine zW.iconst (pc' := 22) (nI 0) dJ26_equals_21 rfl (by decide) ?_
      refine zW.iret dJ26_equals_22 rfl (rfl) ?_
      exact ⟨rfl, rfl⟩
theorem w_kwHas (hk : zkn G h) (hS : zkS G) (k : cKw G h kw ka) (ks : cStr h c w q) : zK G mJ36_contains 5 0 [.ref kw, .ref c] h (zPu h (some (.int (nI (if q ∈ kW then 1 else 0))))) := by
  obtain ⟨hkw, hka⟩ := k
  have ki : zK G mJ38_indexOf 4 0 [.ref kw, .ref c] h (fun o h' => h' = h ∧ ∃ z : Int32, o = .inl (some (.int z)) ∧ (z < 0 ↔ ¬ q ∈ kW)) := by
    have loop : ∀ (m k : Nat), k + m = 7 → (∀ j, j < k → ¬ q = kAt j) → zW G mJ38_indexOf 4 0 26 [.ref kw, .ref c, .ref ka, .int (nI k)] [] h (fun o h' => h' = h ∧ ∃ z : Int32, o = .inl (some (.int z)) ∧ (z < 0 ↔ ¬ q ∈ kW)) := by
      intro m
      induction m with
      | zero =>
        intro k hk hn
        obtain rfl : k = 7 := by omega
        refine zW.iload_n (pc' := 27) dJ38_indexOf_26 rfl rfl (zgS (zgS (zgS (zg0)))) ?_
        refine zW.aload_n (pc' := 28) dJ38_indexOf_27 rfl rfl (zgS (zgS (zg0))) rfl ?_
        refine zW.alen (pc' := 29) dJ38_indexOf_28 rfl hka (by decide) (show Int32.ofNat (kTab G).length = nI 7 by rw [kTab_len]; rfl) ?_
        refine zW.icmp_geN (pc' := 32) 50 dJ38_indexOf_29 rfl (by decide) (by omega) (by omega) (fun b9 => ?_) (fun b9 => absurd b9 (by omega))
        refine zW.iconst (pc' := 51) (-1) dJ38_indexOf_50 rfl (by decide) ?_
        refine zW.iret dJ38_indexOf_51 rfl (rfl) ?_
        refine ⟨rfl, _, rfl, ⟨fun _ z => ?_, fun _ => by decide⟩⟩
        obtain ⟨i, h1, h2⟩ := kIn_iff.mp z
        exact hn i h1 h2
      | succ m ih =>
        intro k hk2 hn
        refine zW.iload_n (pc' := 27) dJ38_indexOf_26 rfl rfl (zgS (zgS (zgS (zg0)))) ?_
        refine zW.aload_n (pc' := 28) dJ38_indexOf_27 rfl rfl (zgS (zgS (zg0))) rfl ?_
        refine zW.alen (pc' := 29) dJ38_indexOf_28 rfl hka (by decide) (show Int32.ofNat (kTab G).length = nI 7 by rw [kTab_len]; rfl) ?_
        refine zW.icmp_geN (pc' := 32) 50 dJ38_indexOf_29 rfl (by decide) (by omega) (by omega) (fun b9 => absurd b9 (by omega)) (fun b9 => ?_)
        refine zW.aload_n (pc' := 33) dJ38_indexOf_32 rfl rfl (zgS (zg0)) rfl ?_
        refine zW.aload_n (pc' := 34) dJ38_indexOf_33 rfl rfl (zgS (zgS (zg0))) rfl ?_
        refine zW.iload_n (pc' := 35) dJ38_indexOf_34 rfl rfl (zgS (zgS (zgS (zg0)))) ?_
        refine zW.aaldL (pc' := 36) dJ38_indexOf_35 rfl hka (by decide) (kTab_get (by omega)) (by omega) ?_
        refine zW.callS (r' := 0) (pc' := 39) dJ38_indexOf_36 rfl l_J38_53 rfl (w_objEq ks (hS.key hk (i := k) (by omega))) (zcc rfl (zcc rfl zc0)) rfl (Nat.le_of_ble_eq_true rfl) (Nat.le_of_ble_eq_true rfl) (Nat.le_of_ble_eq_true rfl) (fun _ _ q9 => ?_) (fun _ _ q9 => by cases q9.1)
        obtain ⟨q8, e9⟩ := q9
        cases q8
        replace e9 := e9.symm
        subst e9
        by_cases z : q = kAt k
        · rw [if_pos z]
          refine zW.if_eqN (pc' := 42) 44 dJ38_indexOf_39 rfl (by decide) (by omega) (fun b9 => absurd b9 (by omega)) (fun b9 => ?_)
          refine zW.iload_n (pc' := 43) dJ38_indexOf_42 rfl rfl (zgS (zgS (zgS (zg0)))) ?_
          refine zW.iret dJ38_indexOf_43 rfl (rfl) ?_
          exact ⟨rfl, _, rfl, ⟨fun z2 => absurd z2 (nI_pos (by omega)), fun z2 => absurd (kIn_iff.mpr ⟨k, by omega, z⟩) z2⟩⟩
        · rw [if_neg z]
          refine zW.if_eqN (pc' := 42) 44 dJ38_indexOf_39 rfl (by decide) (by omega) (fun b9 => ?_) (fun b9 => absurd b9 (by omega))
          refine zW.iincN (pc' := 47) (n := 1) dJ38_indexOf_44 rfl (Nat.le_of_ble_eq_true rfl) (zgS (zgS (zgS (zg0)))) (zsS (zsS (zsS (zs0)))) ?_
          refine zW.goto 26 dJ38_indexOf_47 (by decide) ?_
          refine ih (k + 1) (by omega) fun j hj => ?_
          by_cases e : j = k
          · rw [e]; exact z
          · exact hn j (by omega)
    show zW G mJ38_indexOf 4 0 0 [.ref kw, .ref c, zho, zho] [] h _
    refine zW.aload_n (pc' := 1) dJ38_indexOf_0 rfl rfl zg0 rfl ?_
    refine zW.get (pc' := 4) dJ38_indexOf_1 rfl f_J38_13_16 hkw ⟨rfl, (Nat.le_of_ble_eq_true rfl)⟩ rfl ?_
    refine zW.if_neN (pc' := 7) 19 dJ38_indexOf_4 rfl (by decide) (by omega) (fun b9 => absurd b9 (by omega)) (fun b9 => ?_)
    refine zW.aload_n (pc' := 8) dJ38_indexOf_7 rfl rfl (zgS (zg0)) rfl ?_
    refine zW.ifnonnull (pc' := 11) 19 dJ38_indexOf_8 rfl (by decide) rfl (fun b1 => ?_) (fun b1 => ?_)
    rotate_left
    · cases b1
    refine zW.aload_n (pc' := 20) dJ38_indexOf_19 rfl rfl zg0 rfl ?_
    refine zW.get (pc' := 23) dJ38_indexOf_20 rfl f_J38_7_16 hkw ⟨rfl, (Nat.le_of_ble_eq_true rfl)⟩ rfl ?_
    refine zW.astore_n (pc' := 24) dJ38_indexOf_23 rfl rfl (Nat.le_of_ble_eq_true rfl) rfl (zsS (zsS (zs0))) ?_
    refine zW.iconst (pc' := 25) (nI 0) dJ38_indexOf_24 rfl (by decide) ?_
    refine zW.istore_n (pc' := 26) dJ38_indexOf_25 rfl rfl (Nat.le_of_ble_eq_true rfl) (zsS (zsS (zsS (zs0)))) ?_
    exact loop 7 0 rfl fun j hj => absurd hj (Nat.not_lt_zero j)
  show zW G mJ36_contains 5 0 0 [.ref kw, .ref c] [] h _
  refine zW.aload_n (pc' := 1) dJ36_contains_0 rfl rfl zg0 rfl ?_
  refine zW.aload_n (pc' := 2) dJ36_contains_1 rfl rfl (zgS (zg0)) rfl ?_
  refine zW.callM (r' := 0) (pc' := 5) dJ36_contains_2 rfl l_J36_107 rfl hkw ⟨rfl, Nat.le_of_ble_eq_true rfl⟩ rfl ki (zcc rfl zc0) rfl (Nat.le_of_ble_eq_true rfl) (Nat.le_of_ble_eq_true rfl) (Nat.le_of_ble_eq_true rfl) (fun _ _ q9 => ?_) (fun _ _ q9 => by obtain ⟨-, z, e, -⟩ := q9; cases e)
  obtain ⟨e9, z, e8, hz⟩ := q9
  cases e8
  replace e9 := e9.symm
  subst e9
  refine zW.if_lt (pc' := 8) 12 dJ36_contains_5 rfl (by decide) (fun b1 => ?_) (fun b1 => ?_)
  · refine zW.iconst (pc' := 13) (nI 0) dJ36_contains_12 rfl (by decide) ?_
    refine zW.iret dJ36_contains_13 rfl (rfl) ?_
    rw [if_neg (hz.mp b1)]
    exact ⟨rfl, rfl⟩
  · refine zW.iconst (pc' := 9) (nI 1) dJ36_contains_8 rfl (by decide) ?_
    refine zW.goto 13 dJ36_contains_9 (by decide) ?_
    refine zW.iret dJ36_contains_13 rfl (rfl) ?_
    rw [if_pos (Classical.byContradiction fun q => b1 (hz.mpr q))]
    exact ⟨rfl, rfl⟩
end
