/-! Strings: equals, hashCode -/
section
set_option maxRecDepth 100000
variable {G : zG} {h h' h1 : zH} {a v ml m n q i j x c w c2 w2 : Nat} {l t l1 s : List Nat}
theorem btab_inj : ∀ {l s : List Nat}, (∀ x ∈ l, x < 128) → (∀ x ∈ s, x < 128) → btab l = btab s → l = s
  | [], [], _, _, _ => rfl
  | [], _ :: _, _, _, e => by cases e
  | _ :: _, [], _, _, e => by cases e
  | x :: l, y :: s, h1, h2, e => by
    have e1 := List.cons.inj e
    have e2 : nI x = nI y := Value.int.inj e1.1
    rw [(nI_eq (Nat.lt_trans (h1 x List.mem_cons_self) (by decide)) (Nat.lt_trans (h2 y List.mem_cons_self) (by decide))).mp e2, btab_inj (fun z hz => h1 z (List.mem_cons_of_mem _ hz)) (fun z hz => h2 z (List.mem_cons_of_mem _ hz)) e1.2]
theorem w_latEq {k k2 : Nat} (hw : h w = some (k, btab l)) (hk : k % 1000 = 103) (hw2 : h w2 = some (k2, btab s)) (hk2 : k2 % 1000 = 103) (hl : l.length < 2 ^ 16) (hs : s.length < 2 ^ 16) (h1 : ∀ x ∈ l, x < 128) (h2 : ∀ x ∈ s, x < 128) : zK G mJ19_equals 1 0 [.ref w, .ref w2] h (zPu h (some (.int (nI (if l = s then 1 else 0))))) := by
  have loop : ∀ (p r u : List Nat), l = p ++ r → s = p ++ u → r.length = u.length → zW G mJ19_equals 1 0 9 [.ref w, .ref w2, .int (nI p.length)] [] h (zPu h (some (.int (nI (if l = s then 1 else 0))))) := by
    intro p r
    induction r generalizing p with
    | nil =>
      intro u e1 e2 e3
      obtain rfl : u = [] := List.length_eq_zero_iff.mp e3.symm
      refine zW.iload_n (pc' := 10) dJ19_equals_9 rfl rfl (zgS (zgS (zg0))) ?_
      refine zW.aload_n (pc' := 11) dJ19_equals_10 rfl rfl zg0 rfl ?_
      refine zW.alen (pc' := 12) dJ19_equals_11 rfl hw (by omega) (btab_n (rfl)) ?_
      have e4 : l.length = p.length := by rw [e1, List.append_nil]
      refine zW.icmp_geN (pc' := 15) 32 dJ19_equals_12 rfl (by decide) (by omega) (by omega) (fun b9 => ?_) (fun b9 => absurd b9 (by omega))
      refine zW.iconst (pc' := 33) (nI 1) dJ19_equals_32 rfl (by decide) ?_
      refine zW.iret dJ19_equals_33 rfl (rfl) ?_
      rw [if_pos (by rw [e1, e2])]
      exact ⟨rfl, rfl⟩
    | cons x r ih =>
      intro u e1 e2 e3
      obtain ⟨y, u, rfl⟩ : ∃ y u', u = y :: u' := by
        cases u with
        | nil => cases e3
        | cons y u => exact ⟨y, u, rfl⟩
      have e4 : l.length = p.length + (r.length + 1) := by rw [e1, List.length_append]; rfl
      have hx : l[p.length]? = some x := by rw [e1, List.getElem?_append_right (Nat.le_refl _), Nat.sub_self]; rfl
      have hy : s[p.length]? = some y := by rw [e2, List.getElem?_append_right (Nat.le_refl _), Nat.sub_self]; rfl
      have hx1 := h1 x (List.mem_of_getElem? hx)
      have hy1 := h2 y (List.mem_of_getElem? hy)
      refine zW.iload_n (pc' := 10) dJ19_equals_9 rfl rfl (zgS (zgS (zg0))) ?_
      refine zW.aload_n (pc' := 11) dJ19_equals_10 rfl rfl zg0 rfl ?_
      refine zW.alen (pc' := 12) dJ19_equals_11 rfl hw (by omega) (btab_n (rfl)) ?_
      refine zW.icmp_geN (pc' := 15) 32 dJ19_equals_12 rfl (by decide) (by omega) (by omega) (fun b9 => absurd b9 (by omega)) (fun b9 => ?_)
      refine zW.aload_n (pc' := 16) dJ19_equals_15 rfl rfl zg0 rfl ?_
      refine zW.iload_n (pc' := 17) dJ19_equals_16 rfl rfl (zgS (zgS (zg0))) ?_
      refine zW.baldN (pc' := 18) dJ19_equals_17 rfl hw hk (hx) (by omega) ?_
      refine zW.aload_n (pc' := 19) dJ19_equals_18 rfl rfl (zgS (zg0)) rfl ?_
      refine zW.iload_n (pc' := 20) dJ19_equals_19 rfl rfl (zgS (zgS (zg0))) ?_
      refine zW.baldN (pc' := 21) dJ19_equals_20 rfl hw2 hk2 (hy) (by omega) ?_
      refine zW.icmp_eqN (pc' := 24) 26 dJ19_equals_21 rfl (by decide) (by omega) (by omega) (fun b1 => ?_) (fun b1 => ?_)
      · subst b1
        refine zW.iincN (pc' := 29) (n := 1) dJ19_equals_26 rfl (Nat.le_of_ble_eq_true rfl) (zgS (zgS (zg0))) (zsS (zsS (zs0))) ?_
        refine zW.goto 9 dJ19_equals_29 (by decide) ?_
        have k := ih (p ++ [x]) u (by rw [e1, List.append_assoc]; rfl) (by rw [e2, List.append_assoc]; rfl) (Nat.succ.inj e3)
        rw [List.length_append] at k
        exact k
      · refine zW.iconst (pc' := 25) (nI 0) dJ19_equals_24 rfl (by decide) ?_
        refine zW.iret dJ19_equals_25 rfl (rfl) ?_
        rw [if_neg (fun q => by rw [q, hy] at hx; exact b1 (Option.some.inj hx).symm)]
        exact ⟨rfl, rfl⟩
  show zW G mJ19_equals 1 0 0 [.ref w, .ref w2, zho] [] h _
  refine zW.aload_n (pc' := 1) dJ19_equals_0 rfl rfl zg0 rfl ?_
  refine zW.alen (pc' := 2) dJ19_equals_1 rfl hw (by omega) (btab_n (rfl)) ?_
  refine zW.aload_n (pc' := 3) dJ19_equals_2 rfl rfl (zgS (zg0)) rfl ?_
  refine zW.alen (pc' := 4) dJ19_equals_3 rfl hw2 (by omega) (btab_n (rfl)) ?_
  refine zW.icmp_neN (pc' := 7) 34 dJ19_equals_4 rfl (by decide) (by omega) (by omega) (fun b1 => ?_) (fun b1 => ?_)
  · refine zW.iconst (pc' := 35) (nI 0) dJ19_equals_34 rfl (by decide) ?_
    refine zW.iret dJ19_equals_35 rfl (rfl) ?_
    rw [if_neg (fun q => b1 (by rw [q]))]
    exact ⟨rfl, rfl⟩
  · refine zW.iconst (pc' := 8) (nI 0) dJ19_equals_7 rfl (by decide) ?_
    refine zW.istore_n (pc' := 9) dJ19_equals_8 rfl rfl (Nat.le_of_ble_eq_true rfl) (zsS (zsS (zs0))) ?_
    exact loop [] l s rfl rfl b1
theorem w_strEq (k : cStr h c w l) (k2 : cStr h c2 w2 s) : zK G mJ7_equals 2 0 [.ref c, .ref c2] h (zPu h (some (.int (nI (if l = s then 1 else 0))))) := by
  obtain ⟨kc, kw, hz, hs, hc, hk, hw, hkw, hl, h128⟩ := k
  obtain ⟨kc2, kw2, hz2, hs2, hc2, hk2, hw2, hkw2, hl2, h1282⟩ := k2
  have hkc : kc % 1000 = 14 ∧ 14 < 50 := ⟨hk, by decide⟩
  have hkc2 : kc2 % 1000 = 14 ∧ 14 < 50 := ⟨hk2, by decide⟩
  show zW G mJ7_equals 2 0 0 [.ref c, .ref c2, zho] [] h _
  refine zW.aload_n (pc' := 1) dJ7_equals_0 rfl rfl zg0 rfl ?_
  refine zW.aload_n (pc' := 2) dJ7_equals_1 rfl rfl (zgS (zg0)) rfl ?_
  refine zW.acmp_ne (pc' := 5) 7 dJ7_equals_2 rfl (by decide) rfl rfl (fun b1 => ?_) (fun b1 => ?_)
  rotate_left
  · have e : c = c2 := by injection b1
    subst e
    have e1 := hc.symm.trans hc2
    have e2 : w = w2 := by
      have := (List.cons.inj (Prod.mk.inj (Option.some.inj e1)).2).1
      injection this
    subst e2
    have e3 := (Prod.mk.inj (Option.some.inj (hw.symm.trans hw2))).2
    refine zW.iconst (pc' := 6) (nI 1) dJ7_equals_5 rfl (by decide) ?_
    refine zW.iret dJ7_equals_6 rfl (rfl) ?_
    rw [if_pos (btab_inj h128 h1282 e3)]
    exact ⟨rfl, rfl⟩
  · refine zW.aload_n (pc' := 8) dJ7_equals_7 rfl rfl (zgS (zg0)) rfl ?_
    refine zW.instS (pc' := 11) dJ7_equals_8 rfl (lw_all_tbl q2352) hc2 hkc2 rfl ?_
    refine zW.if_eq (pc' := 14) 54 dJ7_equals_11 rfl (by decide) (fun b2 => ?_) (fun b2 => ?_)
    · exact absurd b2 (by decide)
    refine zW.aload_n (pc' := 15) dJ7_equals_14 rfl rfl (zgS (zg0)) rfl ?_
    refine zW.castS (pc' := 18) dJ7_equals_15 rfl (lw_all_tbl q2352) hc2 hkc2 rfl ?_
    refine zW.astore_n (pc' := 19) dJ7_equals_18 rfl rfl (Nat.le_of_ble_eq_true rfl) rfl (zsS (zsS (zs0))) ?_
    refine zW.gets (j := 0) (pc' := 22) dJ7_equals_19 rfl rfl (lw_all_tbl q498) ?_
    refine zW.if_eq (pc' := 25) 36 dJ7_equals_22 rfl (by decide) (fun b2 => ?_) (fun b2 => ?_)
    · exact absurd b2 (by decide)
    refine zW.aload_n (pc' := 26) dJ7_equals_25 rfl rfl zg0 rfl ?_
    refine zW.get (pc' := 29) dJ7_equals_26 rfl f_J7_15_14 hc hkc rfl ?_
    refine zW.aload_n (pc' := 30) dJ7_equals_29 rfl rfl (zgS (zgS (zg0))) rfl ?_
    refine zW.get (pc' := 33) dJ7_equals_30 rfl f_J7_15_14 hc2 hkc2 rfl ?_
    refine zW.icmp_neN (pc' := 36) 54 dJ7_equals_33 rfl (by decide) (by omega) (by omega) (fun b9 => absurd b9 (by omega)) (fun b9 => ?_)
    refine zW.aload_n (pc' := 37) dJ7_equals_36 rfl rfl zg0 rfl ?_
    refine zW.get (pc' := 40) dJ7_equals_37 rfl f_J7_9_14 hc hkc rfl ?_
    refine zW.aload_n (pc' := 41) dJ7_equals_40 rfl rfl (zgS (zgS (zg0))) rfl ?_
    refine zW.get (pc' := 44) dJ7_equals_41 rfl f_J7_9_14 hc2 hkc2 rfl ?_
    refine zW.callS (r' := 0) (pc' := 47) dJ7_equals_44 rfl l_J7_541 rfl (w_latEq hw hkw hw2 hkw2 hl hl2 h128 h1282) (zcc rfl (zcc rfl zc0)) rfl (Nat.le_of_ble_eq_true rfl) (Nat.le_of_ble_eq_true rfl) (Nat.le_of_ble_eq_true rfl) (fun _ _ q9 => ?_) (fun _ _ q9 => by cases q9.1)
    obtain ⟨q8, e9⟩ := q9
    cases q8
    replace e9 := e9.symm
    subst e9
    by_cases q : l = s
    · rw [if_pos q]
      refine zW.if_eqN (pc' := 50) 54 dJ7_equals_47 rfl (by decide) (by omega) (fun b9 => absurd b9 (by omega)) (fun b9 => ?_)
      refine zW.iconst (pc' := 51) (nI 1) dJ7_equals_50 rfl (by decide) ?_
      refine zW.goto 55 dJ7_equals_51 (by decide) ?_
      refine zW.iret dJ7_equals_55 rfl (rfl) ?_
      exact ⟨rfl, rfl⟩
    · rw [if_neg q]
      refine zW.if_eqN (pc' := 50) 54 dJ7_equals_47 rfl (by decide) (by omega) (fun b9 => ?_) (fun b9 => absurd b9 (by omega))
      refine zW.iconst (pc' := 55) (nI 0) dJ7_equals_54 rfl (by decide) ?_
      refine zW.iret dJ7_equals_55 rfl (rfl) ?_
      exact ⟨rfl, rfl⟩
theorem lat_sw : ∀ n : Fin 128, 2 ≤ n.1 → Op.lookupswitch.offset [(0, 26), (1, 30)] 40 (nI n.1).toInt = 40 := by decide +kernel
theorem w_latHash (hw : h w = some (103, btab l)) (h2 : 2 ≤ l.length) (hl : l.length < 128) (h128 : ∀ x ∈ l, x < 128) : zK G mJ19_hashCode 4 0 [.ref w] h (zPu h (some (.int (sHash l)))) := by
  have kh : zK G mJ15_signedHashCode 1 0 [.int (nI 0), .ref w, .int (nI 0), .int (nI l.length)] h (zPu h (some (.int (sHash l)))) := by
    have loop : ∀ (p r : List Nat) (z : Int32), l = p ++ r → r.foldl (fun r x => nI 31 * r + nI x) z = sHash l → zW G mJ15_signedHashCode 1 0 8 [.int z, .ref w, .int (nI 0), .int (nI l.length), .int (nI l.length), .int (nI p.length)] [] h (zPu h (some (.int (sHash l)))) := by
      intro p r
      induction r generalizing p with
      | nil =>
        intro z e1 e2
        have e4 : l.length = p.length := by rw [e1, List.append_nil]
        refine zW.iload (pc' := 10) dJ15_signedHashCode_8 rfl (zgS (zgS (zgS (zgS (zgS (zg0)))))) ?_
        refine zW.iload (pc' := 12) dJ15_signedHashCode_10 rfl (zgS (zgS (zgS (zgS (zg0))))) ?_
        refine zW.icmp_geN (pc' := 15) 35 dJ15_signedHashCode_12 rfl (by decide) (by omega) (by omega) (fun b9 => ?_) (fun b9 => absurd b9 (by omega))
        refine zW.iload_n (pc' := 36) dJ15_signedHashCode_35 rfl rfl zg0 ?_
        refine zW.iret dJ15_signedHashCode_36 rfl (rfl) ?_
        rw [← e2]
        exact ⟨rfl, rfl⟩
      | cons x r ih =>
        intro z e1 e2
        have e4 : l.length = p.length + (r.length + 1) := by rw [e1, List.length_append]; rfl
        have hx : l[p.length]? = some x := by rw [e1, List.getElem?_append_right (Nat.le_refl _), Nat.sub_self]; rfl
        have hx1 := h128 x (List.mem_of_getElem? hx)
        refine zW.iload (pc' := 10) dJ15_signedHashCode_8 rfl (zgS (zgS (zgS (zgS (zgS (zg0)))))) ?_
        refine zW.iload (pc' := 12) dJ15_signedHashCode_10 rfl (zgS (zgS (zgS (zgS (zg0))))) ?_
        refine zW.icmp_geN (pc' := 15) 35 dJ15_signedHashCode_12 rfl (by decide) (by omega) (by omega) (fun b9 => absurd b9 (by omega)) (fun b9 => ?_)
        refine zW.bipush (pc' := 17) (nI 31) dJ15_signedHashCode_15 rfl (by decide) ?_
        refine zW.iload_n (pc' := 18) dJ15_signedHashCode_17 rfl rfl zg0 ?_
        refine zW.imul (pc' := 19) dJ15_signedHashCode_18 rfl ?_
        refine zW.aload_n (pc' := 20) dJ15_signedHashCode_19 rfl rfl (zgS (zg0)) rfl ?_
        refine zW.iload (pc' := 22) dJ15_signedHashCode_20 rfl (zgS (zgS (zgS (zgS (zgS (zg0)))))) ?_
        refine zW.baldN (pc' := 23) dJ15_signedHashCode_22 rfl hw rfl (hx) (by omega) ?_
        refine zW.sipush (pc' := 26) (nI 255) dJ15_signedHashCode_23 rfl (by decide) ?_
        refine zW.iandB (pc' := 27) dJ15_signedHashCode_26 rfl (hx1) ?_
        refine zW.iadd (pc' := 28) dJ15_signedHashCode_27 rfl ?_
        refine zW.istore_n (pc' := 29) dJ15_signedHashCode_28 rfl rfl (Nat.le_of_ble_eq_true rfl) zs0 ?_
        refine zW.iincN (pc' := 32) (n := 1) dJ15_signedHashCode_29 rfl (Nat.le_of_ble_eq_true rfl) (zgS (zgS (zgS (zgS (zgS (zg0)))))) (zsS (zsS (zsS (zsS (zsS (zs0)))))) ?_
        refine zW.goto 8 dJ15_signedHashCode_32 (by decide) ?_
        have k := ih (p ++ [x]) (nI 31 * z + nI x) (by rw [e1, List.append_assoc]; rfl) e2
        rw [List.length_append] at k
        exact k
    show zW G mJ15_signedHashCode 1 0 0 [.int (nI 0), .ref w, .int (nI 0), .int (nI l.length), zho, zho] [] h _
    refine zW.iload_n (pc' := 1) dJ15_signedHashCode_0 rfl rfl (zgS (zgS (zg0))) ?_
    refine zW.iload_n (pc' := 2) dJ15_signedHashCode_1 rfl rfl (zgS (zgS (zgS (zg0)))) ?_
    refine zW.iaddN (pc' := 3) dJ15_signedHashCode_2 rfl ?_
    refine zW.istore (pc' := 5) dJ15_signedHashCode_3 rfl (Nat.le_of_ble_eq_true rfl) (zsS (zsS (zsS (zsS (zs0))))) ?_
    refine zW.iload_n (pc' := 6) dJ15_signedHashCode_5 rfl rfl (zgS (zgS (zg0))) ?_
    refine zW.istore (pc' := 8) dJ15_signedHashCode_6 rfl (Nat.le_of_ble_eq_true rfl) (zsS (zsS (zsS (zsS (zsS (zs0)))))) ?_
    rw [Nat.zero_add]
    exact loop [] l (nI 0) rfl rfl
  have kv : zK G mJ15_vectorizedHashCode 2 0 [.ref w, .int (nI 0), .int (nI l.length), .int (nI 0), .int (nI 4)] h (zPu h (some (.int (sHash l)))) := by
    show zW G mJ15_vectorizedHashCode 2 0 0 [.ref w, .int (nI 0), .int (nI l.length), .int (nI 0), .int (nI 4)] [] h _
    refine zW.iload (pc' := 2) dJ15_vectorizedHashCode_0 rfl (zgS (zgS (zgS (zgS (zg0))))) ?_
    refine zW.tableIn (off := 42) 44 dJ15_vectorizedHashCode_2 (by decide) (by decide) (by decide) (by decide) ?_
    refine zW.iload_n (pc' := 45) dJ15_vectorizedHashCode_44 rfl rfl (zgS (zgS (zgS (zg0)))) ?_
    refine zW.aload_n (pc' := 46) dJ15_vectorizedHashCode_45 rfl rfl zg0 rfl ?_
    refine zW.castB (pc' := 49) dJ15_vectorizedHashCode_46 rfl (lw_all_tbl q2439) hw ?_
    refine zW.iload_n (pc' := 50) dJ15_vectorizedHashCode_49 rfl rfl (zgS (zg0)) ?_
    refine zW.iload_n (pc' := 51) dJ15_vectorizedHashCode_50 rfl rfl (zgS (zgS (zg0))) ?_
    refine zW.callS (r' := 0) (pc' := 54) dJ15_vectorizedHashCode_51 rfl l_J15_62 rfl (kh) (zcc rfl (zcc rfl (zcc rfl (zcc rfl zc0)))) rfl (Nat.le_of_ble_eq_true rfl) (Nat.le_of_ble_eq_true rfl) (Nat.le_of_ble_eq_true rfl) (fun _ _ q9 => ?_) (fun _ _ q9 => by cases q9.1)
    obtain ⟨q8, e9⟩ := q9
    cases q8
    replace e9 := e9.symm
    subst e9
    refine zW.goto 157 dJ15_vectorizedHashCode_54 (by decide) ?_
    refine zW.iret dJ15_vectorizedHashCode_157 rfl (rfl) ?_
    exact ⟨rfl, rfl⟩
  show zW G mJ19_hashCode 4 0 0 [.ref w] [] h _
  refine zW.aload_n (pc' := 1) dJ19_hashCode_0 rfl rfl zg0 rfl ?_
  refine zW.alen (pc' := 2) dJ19_hashCode_1 rfl hw (by decide) (btab_n (rfl)) ?_
  refine zW.lookup (off := 40) 42 dJ19_hashCode_2 (by decide) (lat_sw ⟨l.length, hl⟩ h2) (by decide) ?_
  refine zW.aload_n (pc' := 43) dJ19_hashCode_42 rfl rfl zg0 rfl ?_
  refine zW.iconst (pc' := 44) (nI 0) dJ19_hashCode_43 rfl (by decide) ?_
  refine zW.aload_n (pc' := 45) dJ19_hashCode_44 rfl rfl zg0 rfl ?_
  refine zW.alen (pc' := 46) dJ19_hashCode_45 rfl hw (by decide) (btab_n (rfl)) ?_
  refine zW.iconst (pc' := 47) (nI 0) dJ19_hashCode_46 rfl (by decide) ?_
  refine zW.iconst (pc' := 48) (nI 4) dJ19_hashCode_47 rfl (by decide) ?_
  refine zW.callS (r' := 0) (pc' := 51) dJ19_hashCode_48 rfl l_J19_84 rfl (kv) (zcc rfl (zcc rfl (zcc rfl (zcc rfl (zcc rfl zc0))))) rfl (Nat.le_of_ble_eq_true rfl) (Nat.le_of_ble_eq_true rfl) (Nat.le_of_ble_eq_true rfl) (fun _ _ q9 => ?_) (fun _ _ q9 => by cases q9.1)
  obtain ⟨q8, e9⟩ := q9
  cases q8
  replace e9 := e9.symm
  subst e9
  refine zW.iret dJ19_hashCode_51 rfl (rfl) ?_
  exact ⟨rfl, rfl⟩
theorem w_strHash (k : cNew h c w l) (h2 : 2 ≤ l.length) (hl : l.length < 128) (h0 : sHash l ≠ 0) : zK G mJ7_hashCode 5 0 [.ref c] h (zO fun o h' => o = some (.int (sHash l)) ∧ cNew h' c w l ∧ zfr (fun b => b = c) h h') := by
  have k0 := k
  obtain ⟨hs, hc, hv, hw, h4, h128⟩ := k
  have zf := zfr.rf (A := fun b => b = c) (h := h)
  show zW G mJ7_hashCode 5 0 0 [.ref c, zho] [] h _
  refine zW.aload_n (pc' := 1) dJ7_hashCode_0 rfl rfl zg0 rfl ?_
  refine zW.get (pc' := 4) dJ7_hashCode_1 rfl f_J7_19_14 hc ⟨rfl, (Nat.le_of_ble_eq_true rfl)⟩ rfl ?_
  refine zW.istore_n (pc' := 5) dJ7_hashCode_4 rfl rfl (Nat.le_of_ble_eq_true rfl) (zsS (zs0)) ?_
  refine zW.iload_n (pc' := 6) dJ7_hashCode_5 rfl rfl (zgS (zg0)) ?_
  refine zW.if_ne (pc' := 9) 58 dJ7_hashCode_6 rfl (by decide) (fun b1 => ?_) (fun b1 => ?_)
  · refine zW.iload_n (pc' := 59) dJ7_hashCode_58 rfl rfl (zgS (zg0)) ?_
    refine zW.iret dJ7_hashCode_59 rfl (rfl) ?_
    rcases hv with q | q
    · exact absurd q b1
    · rw [q]
      exact ⟨_, rfl, rfl, k0, zf⟩
  · refine zW.aload_n (pc' := 10) dJ7_hashCode_9 rfl rfl zg0 rfl ?_
    refine zW.get (pc' := 13) dJ7_hashCode_10 rfl f_J7_23_14 hc ⟨rfl, (Nat.le_of_ble_eq_true rfl)⟩ rfl ?_
    refine zW.if_neN (pc' := 16) 58 dJ7_hashCode_13 rfl (by decide) (by omega) (fun b9 => absurd b9 (by omega)) (fun b9 => ?_)
    refine zW.aload_n (pc' := 17) dJ7_hashCode_16 rfl rfl zg0 rfl ?_
    refine zW.callV (r' := 0) (pc' := 20) dJ7_hashCode_17 rfl l_J7_492 rfl hc ⟨rfl, (Nat.le_of_ble_eq_true rfl)⟩ rfl (w_strLat k0.str) zc0 rfl (Nat.le_of_ble_eq_true rfl) (Nat.le_of_ble_eq_true rfl) (Nat.le_of_ble_eq_true rfl) (fun _ _ q9 => ?_) (fun _ _ q9 => by cases q9.1)
    obtain ⟨q8, e9⟩ := q9
    cases q8
    replace e9 := e9.symm
    subst e9
    refine zW.if_eqN (pc' := 23) 33 dJ7_hashCode_20 rfl (by decide) (by omega) (fun b9 => absurd b9 (by omega)) (fun b9 => ?_)
    refine zW.aload_n (pc' := 24) dJ7_hashCode_23 rfl rfl zg0 rfl ?_
    refine zW.get (pc' := 27) dJ7_hashCode_24 rfl f_J7_9_14 hc ⟨rfl, (Nat.le_of_ble_eq_true rfl)⟩ rfl ?_
    refine zW.callS (r' := 0) (pc' := 30) dJ7_hashCode_27 rfl l_J7_628 rfl (w_latHash hw h2 hl h128) (zcc rfl zc0) rfl (Nat.le_of_ble_eq_true rfl) (Nat.le_of_ble_eq_true rfl) (Nat.le_of_ble_eq_true rfl) (fun _ _ q9 => ?_) (fun _ _ q9 => by cases q9.1)
    obtain ⟨q8, e9⟩ := q9
    cases q8
    replace e9 := e9.symm
    subst e9
    refine zW.goto 40 dJ7_hashCode_30 (by decide) ?_
    refine zW.istore_n (pc' := 41) dJ7_hashCode_40 rfl rfl (Nat.le_of_ble_eq_true rfl) (zsS (zs0)) ?_
    refine zW.iload_n (pc' := 42) dJ7_hashCode_41 rfl rfl (zgS (zg0)) ?_
    refine zW.if_ne (pc' := 45) 53 dJ7_hashCode_42 rfl (by decide) (fun b2 => ?_) (fun b2 => ?_)
    rotate_left
    · exact absurd b2 h0
    refine zW.aload_n (pc' := 54) dJ7_hashCode_53 rfl rfl zg0 rfl ?_
    refine zW.iload_n (pc' := 55) dJ7_hashCode_54 rfl rfl (zgS (zg0)) ?_
    refine zW.putK (pc' := 58) dJ7_hashCode_55 rfl f_J7_19_14 hc ⟨⟨rfl, (Nat.le_of_ble_eq_true rfl)⟩, (Nat.le_of_ble_eq_true rfl)⟩ (zFw.of ft_14_2 rfl rfl) (zsS (zsS (zs0))) (fun _ e9 k9 => ?_)
    have hw := zpres e9 (zne hw hc (by decide)) hw
    have zf := zf.put e9 hc (by decide) (Or.inl rfl)
    replace hc := k9
    clear e9 k9
    refine zW.iload_n (pc' := 59) dJ7_hashCode_58 rfl rfl (zgS (zg0)) ?_
    refine zW.iret dJ7_hashCode_59 rfl (rfl) ?_
    exact ⟨_, rfl, rfl, ⟨sHash l, hc, Or.inr rfl, hw, h4, h128⟩, zf⟩
end
