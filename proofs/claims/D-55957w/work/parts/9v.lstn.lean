/-! List.of: seven constants (printed by mk9v.py) -/
section
set_option maxRecDepth 100000
variable {G : zG} {M : zM} {d r pc pc' : Nat} {L st : List Value} {h h' : zH} {Q : zR → zH → Prop} {a n kw ka : Nat}
theorem zW.aastL {a b i : Nat} {fs : List Value} {cb : zC} (hd : decode (zm_c M) pc = .ok (.aastore, 1)) (hn : pc + 1 = pc') (hh : h a = some (104, fs)) (hi : i < fs.length ∧ i < 2 ^ 31) (hb : h b = some cb) (ho : zObj cb) (kq : ∀ h', h' = zup h a (104, fs.set i (.ref b)) → h' a = some (104, fs.set i (.ref b)) → zW G M d r pc' L st h' Q) : zW G M d r pc L (.ref b :: .int (nI i) :: .ref a :: st) h Q :=
  zW.aast hd hn hh (nI_pos hi.2) (by rw [nI_clamp hi.2]; exact hi.1) hb ho (by rw [nI_clamp hi.2]) (kq _ rfl zup_s)
theorem zW.aaldL {a i kk : Nat} {fs : List Value} {v : Value} (hd : decode (zm_c M) pc = .ok (.aaload, 1)) (hn : pc + 1 = pc') (hh : h a = some (kk, fs)) (hk : 104 ≤ kk % 1000) (hv : fs[i]? = some v) (hi : i < 2 ^ 31) (kq : zW G M d r pc' L (v :: st) h Q) : zW G M d r pc L (.int (nI i) :: .ref a :: st) h Q :=
  zW.aald hd hn hh hk (nI_pos hi) (by rw [nI_clamp hi]; exact hv) kq
theorem zObj_str {k : Nat} {l : List Value} (hk : k % 1000 = 14) : zObj ((k, l) : zC) := ⟨by show k % 1000 < 50; omega, (RJ7, TJ7, 4), by show zcl[k % 1000]? = _; rw [hk]; rfl, id q3112⟩
/-- the keywords' addresses -/
def kTab (G : zG) : List Value := (List.range 7).map fun i => .ref (zg_a G (110 + i))
theorem kTab_len : (kTab G).length = 7 := by simp [kTab]
theorem kTab_get {i : Nat} (hi : i < 7) : (kTab G)[i]? = some (.ref (zg_a G (110 + i))) := by simp [kTab, hi]
/-- the list of keywords and its array -/
def cKw (G : zG) (h : zH) (kw ka : Nat) : Prop := h kw = some (16, [.ref ka, .int (nI 0)]) ∧ h ka = some (104, kTab G)
theorem cKw.fr {X : Nat → Prop} (k : cKw G h kw ka) (z : zfr X h h') (n1 : ¬ X kw) (n2 : ¬ X ka) : cKw G h' kw ka := ⟨z.at k.1 n1, z.at k.2 n2⟩
theorem w_ac0 : zK G mJ0_init 1 0 [.ref a] h (zPu h none) := by
  show zW G mJ0_init 1 0 0 [.ref a] [] h _
  refine zW.aload_n (pc' := 1) dJ0_init_0 rfl rfl zg0 rfl ?_
  refine zW.objInit (pc' := 4) dJ0_init_1 rfl (lw_all_tbl q173) (lw_all_tbl q151) (lw_all_tbl q152) (Nat.le_of_ble_eq_true rfl) (Nat.le_of_ble_eq_true rfl) ?_
  refine zW.vret dJ0_init_4 rfl ?_
  exact ⟨rfl, rfl⟩
theorem w_lnInit (ha : h n = some (16, [.null, .int 0])) : zK G mJ38_init 4 0 [.ref n, .ref a, .int (nI 0)] h (zPk h none n (16, [.ref a, .int (nI 0)])) := by
  have k2 : zK G mJ35_init 2 0 [.ref n] h (zPu h none) := by
    show zW G mJ35_init 2 0 0 [.ref n] [] h _
    refine zW.aload_n (pc' := 1) dJ35_init_0 rfl rfl zg0 rfl ?_
    refine zW.callI (r' := 0) (pc' := 4) dJ35_init_1 rfl l_J35_1 rfl (w_ac0) zc0 rfl (Nat.le_of_ble_eq_true rfl) (Nat.le_of_ble_eq_true rfl) (Nat.le_of_ble_eq_true rfl) (fun _ _ q9 => ?_) (fun _ _ q9 => by cases q9.1)
    obtain ⟨q8, e9⟩ := q9
    cases q8
    replace e9 := e9.symm
    subst e9
    refine zW.vret dJ35_init_4 rfl ?_
    exact ⟨rfl, rfl⟩
  have k3 : zK G mJ36_init 3 0 [.ref n] h (zPu h none) := by
    show zW G mJ36_init 3 0 0 [.ref n] [] h _
    refine zW.aload_n (pc' := 1) dJ36_init_0 rfl rfl zg0 rfl ?_
    refine zW.callI (r' := 0) (pc' := 4) dJ36_init_1 rfl l_J36_1 rfl (k2) zc0 rfl (Nat.le_of_ble_eq_true rfl) (Nat.le_of_ble_eq_true rfl) (Nat.le_of_ble_eq_true rfl) (fun _ _ q9 => ?_) (fun _ _ q9 => by cases q9.1)
    obtain ⟨q8, e9⟩ := q9
    cases q8
    replace e9 := e9.symm
    subst e9
    refine zW.vret dJ36_init_4 rfl ?_
    exact ⟨rfl, rfl⟩
  show zW G mJ38_init 4 0 0 [.ref n, .ref a, .int (nI 0)] [] h _
  refine zW.aload_n (pc' := 1) dJ38_init_0 rfl rfl zg0 rfl ?_
  refine zW.callI (r' := 0) (pc' := 4) dJ38_init_1 rfl l_J38_1 rfl (k3) zc0 rfl (Nat.le_of_ble_eq_true rfl) (Nat.le_of_ble_eq_true rfl) (Nat.le_of_ble_eq_true rfl) (fun _ _ q9 => ?_) (fun _ _ q9 => by cases q9.1)
  obtain ⟨q8, e9⟩ := q9
  cases q8
  replace e9 := e9.symm
  subst e9
  refine zW.aload_n (pc' := 5) dJ38_init_4 rfl rfl zg0 rfl ?_
  refine zW.aload_n (pc' := 6) dJ38_init_5 rfl rfl (zgS (zg0)) rfl ?_
  refine zW.putK (pc' := 9) dJ38_init_6 rfl f_J38_7_16 ha ⟨⟨rfl, (Nat.le_of_ble_eq_true rfl)⟩, (Nat.le_of_ble_eq_true rfl)⟩ (zFw.fin ft_16_0 rfl rfl rfl rfl rfl) zs0 (fun _ e9 k9 => ?_)
  have hq := e9
  replace ha := k9
  clear e9 k9
  refine zW.aload_n (pc' := 10) dJ38_init_9 rfl rfl zg0 rfl ?_
  refine zW.iload_n (pc' := 11) dJ38_init_10 rfl rfl (zgS (zgS (zg0))) ?_
  refine zW.putK (pc' := 14) dJ38_init_11 rfl f_J38_13_16 ha ⟨⟨rfl, (Nat.le_of_ble_eq_true rfl)⟩, (Nat.le_of_ble_eq_true rfl)⟩ (zFw.fin ft_16_1 rfl rfl rfl rfl rfl) (zsS (zs0)) (fun _ e9 k9 => ?_)
  have hq := ztrk hq e9
  replace ha := k9
  clear e9 k9
  refine zW.vret dJ38_init_14 rfl ?_
  exact ⟨_, rfl, rfl, hq, ha⟩
theorem w_reqNN : zK G mJ26_requireNonNull 1 0 [.ref a] h (zPu h (some (.ref a))) := by
  show zW G mJ26_requireNonNull 1 0 0 [.ref a] [] h _
  refine zW.aload_n (pc' := 1) dJ26_requireNonNull_0 rfl rfl zg0 rfl ?_
  refine zW.ifnonnull (pc' := 4) 12 dJ26_requireNonNull_1 rfl (by decide) rfl (fun b1 => ?_) (fun b1 => ?_)
  rotate_left
  · cases b1
  refine zW.aload_n (pc' := 13) dJ26_requireNonNull_12 rfl rfl zg0 rfl ?_
  refine zW.aret dJ26_requireNonNull_13 rfl (Or.inl ⟨_, rfl⟩) rfl ?_
  exact ⟨rfl, rfl⟩
theorem w_trusted (ha : h a = some (104, kTab G)) : zK G mJ28_listFromTrustedArray 5 1 [.ref a] h (zO fun o h' => ∃ n, o = some (.ref n) ∧ h n = none ∧ cKw G h' n a ∧ zfr (fun _ => False) h h') := by
  have zf := zfr.rf (A := fun _ => False) (h := h)
  have fin : ∀ v4, zW G mJ28_listFromTrustedArray 5 1 52 [.ref a, .ref a, .int (nI 7), .int (nI 7), v4] [] h (zO fun o h' => ∃ n, o = some (.ref n) ∧ h n = none ∧ cKw G h' n a ∧ zfr (fun _ => False) h h') := by
    intro v4
    refine zW.aload_n (pc' := 53) dJ28_listFromTrustedArray_52 rfl rfl zg0 rfl ?_
    refine zW.alen (pc' := 54) dJ28_listFromTrustedArray_53 rfl ha (by decide) (show Int32.ofNat (kTab G).length = nI 7 by rw [kTab_len]; rfl) ?_
    refine zW.tableOut 115 dJ28_listFromTrustedArray_54 (by decide) (by decide) ?_
    refine zW.newK (u := 1) (pc' := 118) dJ28_listFromTrustedArray_115 rfl n_J28_12 zd_16 (fun n _ nn e9 k9 => ?_)
    have ha := zpres e9 (zfresh nn ha) ha
    have on := zf.nn0 nn
    have zf := zf.new e9 nn
    have hn := k9
    clear k9
    clear e9
    refine zW.dup (pc' := 119) dJ28_listFromTrustedArray_118 rfl rfl ?_
    refine zW.aload_n (pc' := 120) dJ28_listFromTrustedArray_119 rfl rfl zg0 rfl ?_
    refine zW.iconst (pc' := 121) (nI 0) dJ28_listFromTrustedArray_120 rfl (by decide) ?_
    refine zW.callIN (r' := 0) (pc' := 124) dJ28_listFromTrustedArray_121 rfl l_J28_43 rfl (w_lnInit hn) (zcc rfl (zcc rfl zc0)) rfl (Nat.le_of_ble_eq_true rfl) (Nat.le_of_ble_eq_true rfl) (Nat.le_of_ble_eq_true rfl) (fun _ _ q9 => ?_) (fun _ _ q9 => absurd q9 zO.no)
    obtain ⟨_, q8, e1, e9, k9⟩ := q9
    cases q8
    subst e1
    have ha := zpres e9 (zne ha hn (by decide)) ha
    have zf := zf.put e9 hn (by decide) (Or.inr on)
    replace hn := k9
    clear e9 k9
    refine zW.aret dJ28_listFromTrustedArray_124 rfl (Or.inl ⟨_, rfl⟩) rfl ?_
    exact ⟨_, rfl, n, rfl, nn, ⟨hn, ha⟩, zf⟩
  have loop : ∀ (m k : Nat) (v4 : Value), k + m = 7 → zW G mJ28_listFromTrustedArray 5 1 30 [.ref a, .ref a, .int (nI 7), .int (nI k), v4] [] h (zO fun o h' => ∃ n, o = some (.ref n) ∧ h n = none ∧ cKw G h' n a ∧ zfr (fun _ => False) h h') := by
    intro m
    induction m with
    | zero =>
      intro k v4 hk
      obtain rfl : k = 7 := by omega
      refine zW.iload_n (pc' := 31) dJ28_listFromTrustedArray_30 rfl rfl (zgS (zgS (zgS (zg0)))) ?_
      refine zW.iload_n (pc' := 32) dJ28_listFromTrustedArray_31 rfl rfl (zgS (zgS (zg0))) ?_
      refine zW.icmp_geN (pc' := 35) 52 dJ28_listFromTrustedArray_32 rfl (by decide) (by omega) (by omega) (fun b9 => ?_) (fun b9 => absurd b9 (by omega))
      exact fin v4
    | succ m ih =>
      intro k v4 hk
      refine zW.iload_n (pc' := 31) dJ28_listFromTrustedArray_30 rfl rfl (zgS (zgS (zgS (zg0)))) ?_
      refine zW.iload_n (pc' := 32) dJ28_listFromTrustedArray_31 rfl rfl (zgS (zgS (zg0))) ?_
      refine zW.icmp_geN (pc' := 35) 52 dJ28_listFromTrustedArray_32 rfl (by decide) (by omega) (by omega) (fun b9 => absurd b9 (by omega)) (fun b9 => ?_)
      refine zW.aload_n (pc' := 36) dJ28_listFromTrustedArray_35 rfl rfl (zgS (zg0)) rfl ?_
      refine zW.iload_n (pc' := 37) dJ28_listFromTrustedArray_36 rfl rfl (zgS (zgS (zgS (zg0)))) ?_
      refine zW.aaldL (pc' := 38) dJ28_listFromTrustedArray_37 rfl ha (by decide) (kTab_get (by omega)) (by omega) ?_
      refine zW.astore (pc' := 40) dJ28_listFromTrustedArray_38 rfl (Nat.le_of_ble_eq_true rfl) rfl (zsS (zsS (zsS (zsS (zs0))))) ?_
      refine zW.aload (pc' := 42) dJ28_listFromTrustedArray_40 rfl (zgS (zgS (zgS (zgS (zg0))))) rfl ?_
      refine zW.callS (r' := 0) (pc' := 45) dJ28_listFromTrustedArray_42 rfl l_J28_37 rfl (w_reqNN) (zcc rfl zc0) rfl (Nat.le_of_ble_eq_true rfl) (Nat.le_of_ble_eq_true rfl) (Nat.le_of_ble_eq_true rfl) (fun _ _ q9 => ?_) (fun _ _ q9 => by cases q9.1)
      obtain ⟨q8, e9⟩ := q9
      cases q8
      replace e9 := e9.symm
      subst e9
      refine zW.pop (pc' := 46) dJ28_listFromTrustedArray_45 rfl rfl ?_
      refine zW.iincN (pc' := 49) (n := 1) dJ28_listFromTrustedArray_46 rfl (Nat.le_of_ble_eq_true rfl) (zgS (zgS (zgS (zg0)))) (zsS (zsS (zsS (zs0)))) ?_
      refine zW.goto 30 dJ28_listFromTrustedArray_49 (by decide) ?_
      exact ih (k + 1) _ (by omega)
  show zW G mJ28_listFromTrustedArray 5 1 0 [.ref a, zho, zho, zho, zho] [] h _
  refine zW.gets (j := 7) (pc' := 3) dJ28_listFromTrustedArray_0 rfl rfl (lw_all_tbl q2118) ?_
  refine zW.if_ne (pc' := 6) 23 dJ28_listFromTrustedArray_3 rfl (by decide) (fun b1 => ?_) (fun b1 => ?_)
  rotate_left
  · exact absurd b1 (by decide)
  refine zW.aload_n (pc' := 24) dJ28_listFromTrustedArray_23 rfl rfl zg0 rfl ?_
  refine zW.astore_n (pc' := 25) dJ28_listFromTrustedArray_24 rfl rfl (Nat.le_of_ble_eq_true rfl) rfl (zsS (zs0)) ?_
  refine zW.aload_n (pc' := 26) dJ28_listFromTrustedArray_25 rfl rfl (zgS (zg0)) rfl ?_
  refine zW.alen (pc' := 27) dJ28_listFromTrustedArray_26 rfl ha (by decide) (show Int32.ofNat (kTab G).length = nI 7 by rw [kTab_len]; rfl) ?_
  refine zW.istore_n (pc' := 28) dJ28_listFromTrustedArray_27 rfl rfl (Nat.le_of_ble_eq_true rfl) (zsS (zsS (zs0))) ?_
  refine zW.iconst (pc' := 29) (nI 0) dJ28_listFromTrustedArray_28 rfl (by decide) ?_
  refine zW.istore_n (pc' := 30) dJ28_listFromTrustedArray_29 rfl rfl (Nat.le_of_ble_eq_true rfl) (zsS (zsS (zsS (zs0)))) ?_
  exact loop 7 0 zho rfl
theorem w_listOf (hk : zkn G h) (hS : zkS G) : zK G mJ34_of 6 3 [.ref (zg_a G 110), .ref (zg_a G 111), .ref (zg_a G 112), .ref (zg_a G 113), .ref (zg_a G 114), .ref (zg_a G 115), .ref (zg_a G 116)] h (zO fun o h' => ∃ kw ka, o = some (.ref kw) ∧ (h kw = none ∧ h ka = none) ∧ cKw G h' kw ka ∧ zfr (fun _ => False) h h') := by
  have hb : ∀ (H : zH) (i : Nat), zkn G H → i < 7 → ∃ l : List Value, H (zg_a G (110 + i)) = some (1014, l) := fun H i hH hi => by
    obtain ⟨l, hl⟩ : ∃ l, zlt[10 + i]? = some l := ⟨_, List.getElem?_eq_getElem (by show 10 + i < 18; omega)⟩
    obtain ⟨hs, hz, g1, -⟩ := hS (10 + i) l hl
    rw [show 100 + (10 + i) = 110 + i by omega] at g1
    exact ⟨_, (hH _ _ g1).1⟩
  have zf := zfr.rf (A := fun _ => False) (h := h)
  show zW G mJ34_of 6 3 0 [.ref (zg_a G 110), .ref (zg_a G 111), .ref (zg_a G 112), .ref (zg_a G 113), .ref (zg_a G 114), .ref (zg_a G 115), .ref (zg_a G 116)] [] h _
  refine zW.bipush (pc' := 2) (nI 7) dJ34_of_0 rfl (by decide) ?_
  refine zW.anewK (u := 2) (N := 7) (pc' := 5) dJ34_of_2 rfl (lw_all_tbl q2114) q202 (by decide) (by decide) (by decide) ⟨by decide, by decide⟩ rfl (fun a _ na e9 k9 => ?_)
  have zf := zf.new e9 na
  have ha := k9
  clear e9 k9
  refine zW.dup (pc' := 6) dJ34_of_5 rfl rfl ?_
  refine zW.iconst (pc' := 7) (nI 0) dJ34_of_6 rfl (by decide) ?_
  refine zW.aload_n (pc' := 8) dJ34_of_7 rfl rfl zg0 rfl ?_
  obtain ⟨l0, hl0⟩ := hb _ 0 (zf.kn hk) (by decide)
  refine zW.aastL (i := 0) (pc' := 9) dJ34_of_8 rfl ha ⟨by simp, by decide⟩ hl0 (zObj_str rfl) (fun _ e9 k9 => ?_)
  have zf := zf.put e9 ha (by decide) (Or.inr na)
  have ha := k9
  clear e9 k9
  refine zW.dup (pc' := 10) dJ34_of_9 rfl rfl ?_
  refine zW.iconst (pc' := 11) (nI 1) dJ34_of_10 rfl (by decide) ?_
  refine zW.aload_n (pc' := 12) dJ34_of_11 rfl rfl (zgS (zg0)) rfl ?_
  obtain ⟨l1, hl1⟩ := hb _ 1 (zf.kn hk) (by decide)
  refine zW.aastL (i := 1) (pc' := 13) dJ34_of_12 rfl ha ⟨by simp, by decide⟩ hl1 (zObj_str rfl) (fun _ e9 k9 => ?_)
  have zf := zf.put e9 ha (by decide) (Or.inr na)
  have ha := k9
  clear e9 k9
  refine zW.dup (pc' := 14) dJ34_of_13 rfl rfl ?_
  refine zW.iconst (pc' := 15) (nI 2) dJ34_of_14 rfl (by decide) ?_
  refine zW.aload_n (pc' := 16) dJ34_of_15 rfl rfl (zgS (zgS (zg0))) rfl ?_
  obtain ⟨l2, hl2⟩ := hb _ 2 (zf.kn hk) (by decide)
  refine zW.aastL (i := 2) (pc' := 17) dJ34_of_16 rfl ha ⟨by simp, by decide⟩ hl2 (zObj_str rfl) (fun _ e9 k9 => ?_)
  have zf := zf.put e9 ha (by decide) (Or.inr na)
  have ha := k9
  clear e9 k9
  refine zW.dup (pc' := 18) dJ34_of_17 rfl rfl ?_
  refine zW.iconst (pc' := 19) (nI 3) dJ34_of_18 rfl (by decide) ?_
  refine zW.aload_n (pc' := 20) dJ34_of_19 rfl rfl (zgS (zgS (zgS (zg0)))) rfl ?_
  obtain ⟨l3, hl3⟩ := hb _ 3 (zf.kn hk) (by decide)
  refine zW.aastL (i := 3) (pc' := 21) dJ34_of_20 rfl ha ⟨by simp, by decide⟩ hl3 (zObj_str rfl) (fun _ e9 k9 => ?_)
  have zf := zf.put e9 ha (by decide) (Or.inr na)
  have ha := k9
  clear e9 k9
  refine zW.dup (pc' := 22) dJ34_of_21 rfl rfl ?_
  refine zW.iconst (pc' := 23) (nI 4) dJ34_of_22 rfl (by decide) ?_
  refine zW.aload (pc' := 25) dJ34_of_23 rfl (zgS (zgS (zgS (zgS (zg0))))) rfl ?_
  obtain ⟨l4, hl4⟩ := hb _ 4 (zf.kn hk) (by decide)
  refine zW.aastL (i := 4) (pc' := 26) dJ34_of_25 rfl ha ⟨by simp, by decide⟩ hl4 (zObj_str rfl) (fun _ e9 k9 => ?_)
  have zf := zf.put e9 ha (by decide) (Or.inr na)
  have ha := k9
  clear e9 k9
  refine zW.dup (pc' := 27) dJ34_of_26 rfl rfl ?_
  refine zW.iconst (pc' := 28) (nI 5) dJ34_of_27 rfl (by decide) ?_
  refine zW.aload (pc' := 30) dJ34_of_28 rfl (zgS (zgS (zgS (zgS (zgS (zg0)))))) rfl ?_
  obtain ⟨l5, hl5⟩ := hb _ 5 (zf.kn hk) (by decide)
  refine zW.aastL (i := 5) (pc' := 31) dJ34_of_30 rfl ha ⟨by simp, by decide⟩ hl5 (zObj_str rfl) (fun _ e9 k9 => ?_)
  have zf := zf.put e9 ha (by decide) (Or.inr na)
  have ha := k9
  clear e9 k9
  refine zW.dup (pc' := 32) dJ34_of_31 rfl rfl ?_
  refine zW.bipush (pc' := 34) (nI 6) dJ34_of_32 rfl (by decide) ?_
  refine zW.aload (pc' := 36) dJ34_of_34 rfl (zgS (zgS (zgS (zgS (zgS (zgS (zg0))))))) rfl ?_
  obtain ⟨l6, hl6⟩ := hb _ 6 (zf.kn hk) (by decide)
  refine zW.aastL (i := 6) (pc' := 37) dJ34_of_36 rfl ha ⟨by simp, by decide⟩ hl6 (zObj_str rfl) (fun _ e9 k9 => ?_)
  have zf := zf.put e9 ha (by decide) (Or.inr na)
  have ha := k9
  clear e9 k9
  refine zW.callS (r' := 1) (pc' := 40) dJ34_of_37 rfl l_J34_105 rfl (w_trusted (a := a) ha) (zcc rfl zc0) rfl (Nat.le_of_ble_eq_true rfl) (Nat.le_of_ble_eq_true rfl) (Nat.le_of_ble_eq_true rfl) (fun _ _ q9 => ?_) (fun _ _ q9 => absurd q9 zO.no)
  obtain ⟨_, q8, n, e1, nn, k, z⟩ := q9
  cases q8
  cases e1
  refine zW.aret dJ34_of_40 rfl (Or.inl ⟨_, rfl⟩) rfl ?_
  exact ⟨_, rfl, n, a, rfl, ⟨zf.nn0 nn, na⟩, k, zf.tr z fun _ q => q.elim⟩
end
