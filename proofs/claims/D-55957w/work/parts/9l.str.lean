/-! Strings: toString, charAt, substring, equals, hashCode -/
section
set_option maxRecDepth 100000
variable {G : zG} {h h' h1 : zH} {a v ml m n q i j x c w c2 w2 : Nat} {l t l1 s : List Nat}
/-- Java's hash of a text -/
def sHash (l : List Nat) : Int32 := l.foldl (fun r x => nI 31 * r + nI x) (nI 0)
/-- a String made by the run: its hash may be kept -/
def cNew (h : zH) (c w : Nat) (l : List Nat) : Prop := ∃ hs : Int32, h c = some (14, [.ref w, .int (nI 0), .int hs, .int (nI 0)]) ∧ (hs = 0 ∨ hs = sHash l) ∧ h w = some (103, btab l) ∧ l.length < 2 ^ 16 ∧ ∀ x ∈ l, x < 128
theorem cNew.str (k : cNew h c w l) : cStr h c w l := by
  obtain ⟨hs, h1, -, h3, h4⟩ := k
  exact ⟨14, 103, 0, hs, h1, rfl, h3, rfl, h4⟩
theorem cNew.fr {X : Nat → Prop} (k : cNew h c w l) (z : zfr X h h') (n1 : ¬ X c) (n2 : ¬ X w) : cNew h' c w l := by
  obtain ⟨hs, h1, h2, h3, h4⟩ := k
  exact ⟨hs, z.at h1 n1, h2, z.at h3 n2, h4⟩
/-- a new text -/
abbrev cTx (h : zH) (l : List Nat) : zR → zH → Prop := zO fun o h' => ∃ c w, o = some (.ref c) ∧ (h c = none ∧ h w = none ∧ c ≠ w) ∧ cNew h' c w l ∧ zfr (fun _ => False) h h'
theorem w_getValue {b : List Nat} (k : cSBt h a v ml n b) : zK G mJ5_getValue 1 0 [.ref a] h (zPu h (some (.ref v))) := by
  obtain ⟨ha, -⟩ := k
  show zW G mJ5_getValue 1 0 0 [.ref a] [] h _
  refine zW.aload_n (pc' := 1) dJ5_getValue_0 rfl rfl zg0 rfl ?_
  refine zW.get (pc' := 4) dJ5_getValue_1 rfl f_J5_15_13 ha ⟨rfl, (Nat.le_of_ble_eq_true rfl)⟩ rfl ?_
  refine zW.aret dJ5_getValue_4 rfl (Or.inr ⟨_, rfl⟩) rfl ?_
  exact ⟨rfl, rfl⟩
theorem w_strI2 (k : cSBt h a v ml l.length (l ++ t)) (hl : l.length ≤ 100) (hc : h c = some (14, [.null, .int 0, .int 0, .int 0])) : zK G mJ7_init_2 5 25 [.ref c, .ref a, .null] h (zO fun o h' => o = none ∧ ∃ w, h w = none ∧ cNew h' c w l ∧ zfr (fun b => b = c) h h') := by
  have k2 := k
  obtain ⟨ha, hv, ⟨h1, h2, h3⟩, h4⟩ := k
  have zf := zfr.rf (A := fun b => b = c) (h := h)
  show zW G mJ7_init_2 5 25 0 [.ref c, .ref a, .null, zho, zho] [] h _
  refine zW.aload_n (pc' := 1) dJ7_init_2_0 rfl rfl zg0 rfl ?_
  refine zW.objInit (pc' := 4) dJ7_init_2_1 rfl (lw_all_tbl q571) (lw_all_tbl q151) (lw_all_tbl q152) (Nat.le_of_ble_eq_true rfl) (Nat.le_of_ble_eq_true rfl) ?_
  refine zW.aload_n (pc' := 5) dJ7_init_2_4 rfl rfl (zgS (zg0)) rfl ?_
  refine zW.callU (r' := 0) (pc' := 8) dJ7_init_2_5 rfl l_J7_552_J6 rfl ha ⟨rfl, (Nat.le_of_ble_eq_true rfl)⟩ rfl (w_getValue k2) zc0 rfl (Nat.le_of_ble_eq_true rfl) (Nat.le_of_ble_eq_true rfl) (Nat.le_of_ble_eq_true rfl) (fun _ _ q9 => ?_) (fun _ _ q9 => by cases q9.1)
  obtain ⟨q8, e9⟩ := q9
  cases q8
  replace e9 := e9.symm
  subst e9
  refine zW.astore_n (pc' := 9) dJ7_init_2_8 rfl rfl (Nat.le_of_ble_eq_true rfl) rfl (zsS (zsS (zsS (zs0)))) ?_
  refine zW.aload_n (pc' := 10) dJ7_init_2_9 rfl rfl (zgS (zg0)) rfl ?_
  refine zW.callU (r' := 0) (pc' := 13) dJ7_init_2_10 rfl l_J7_549_J6 rfl ha ⟨rfl, (Nat.le_of_ble_eq_true rfl)⟩ rfl (w_sbLen k2.to) zc0 rfl (Nat.le_of_ble_eq_true rfl) (Nat.le_of_ble_eq_true rfl) (Nat.le_of_ble_eq_true rfl) (fun _ _ q9 => ?_) (fun _ _ q9 => by cases q9.1)
  obtain ⟨q8, e9⟩ := q9
  cases q8
  replace e9 := e9.symm
  subst e9
  refine zW.istore (pc' := 15) dJ7_init_2_13 rfl (Nat.le_of_ble_eq_true rfl) (zsS (zsS (zsS (zsS (zs0))))) ?_
  refine zW.aload_n (pc' := 16) dJ7_init_2_15 rfl rfl (zgS (zg0)) rfl ?_
  refine zW.callU (r' := 0) (pc' := 19) dJ7_init_2_16 rfl l_J7_1047_J6 rfl ha ⟨rfl, (Nat.le_of_ble_eq_true rfl)⟩ rfl (w_sbLatin k2) zc0 rfl (Nat.le_of_ble_eq_true rfl) (Nat.le_of_ble_eq_true rfl) (Nat.le_of_ble_eq_true rfl) (fun _ _ q9 => ?_) (fun _ _ q9 => by cases q9.1)
  obtain ⟨q8, e9⟩ := q9
  cases q8
  replace e9 := e9.symm
  subst e9
  refine zW.if_eqN (pc' := 22) 41 dJ7_init_2_19 rfl (by decide) (by omega) (fun b9 => absurd b9 (by omega)) (fun b9 => ?_)
  refine zW.aload_n (pc' := 23) dJ7_init_2_22 rfl rfl zg0 rfl ?_
  refine zW.iconst (pc' := 24) (nI 0) dJ7_init_2_23 rfl (by decide) ?_
  refine zW.putK (pc' := 27) dJ7_init_2_24 rfl f_J7_15_14 hc ⟨⟨rfl, (Nat.le_of_ble_eq_true rfl)⟩, (Nat.le_of_ble_eq_true rfl)⟩ (zFw.fin ft_14_1 rfl rfl rfl rfl rfl) (zsS (zs0)) (fun _ e9 k9 => ?_)
  have ha := zpres e9 (zne ha hc (by decide)) ha
  have hv := zpres e9 (zne hv hc (by decide)) hv
  have zf := zf.put e9 hc (by decide) (Or.inl rfl)
  replace hc := k9
  clear e9 k9
  refine zW.aload_n (pc' := 28) dJ7_init_2_27 rfl rfl zg0 rfl ?_
  refine zW.aload_n (pc' := 29) dJ7_init_2_28 rfl rfl (zgS (zgS (zgS (zg0)))) rfl ?_
  refine zW.iconst (pc' := 30) (nI 0) dJ7_init_2_29 rfl (by decide) ?_
  refine zW.iload (pc' := 32) dJ7_init_2_30 rfl (zgS (zgS (zgS (zgS (zg0))))) ?_
  refine zW.callS (r' := 25) (pc' := 35) dJ7_init_2_32 rfl l_J7_54 rfl (w_copyRg hv (Or.inl rfl) (i := 0) (j := l.length) (Nat.zero_le _) h2 (by omega) h4 (by omega)) (zcc rfl (zcc rfl (zcc rfl zc0))) rfl (Nat.le_of_ble_eq_true rfl) (Nat.le_of_ble_eq_true rfl) (Nat.le_of_ble_eq_true rfl) (fun _ _ q9 => ?_) (fun _ _ q9 => absurd q9 zO.no)
  obtain ⟨_, q8, w, e1, nw, e9, k9⟩ := q9
  cases q8
  cases e1
  have hc := zpres e9 (zfresh nw hc) hc
  have nw0 := zf.nn0 nw
  have zf := zf.new e9 nw
  have hw := k9
  clear e9 k9
  refine zW.putK (pc' := 38) dJ7_init_2_35 rfl f_J7_9_14 hc ⟨⟨rfl, (Nat.le_of_ble_eq_true rfl)⟩, (Nat.le_of_ble_eq_true rfl)⟩ (zFw.fin ft_14_0 rfl rfl rfl rfl rfl) zs0 (fun _ e9 k9 => ?_)
  have hw := zpres e9 (zne hw hc (by decide)) hw
  have zf := zf.put e9 hc (by decide) (Or.inl rfl)
  replace hc := k9
  clear e9 k9
  refine zW.goto 97 dJ7_init_2_38 (by decide) ?_
  refine zW.vret dJ7_init_2_97 rfl ?_
  rw [List.drop_zero, Nat.sub_zero, List.take_left'] at hw
  · exact ⟨_, rfl, rfl, w, nw0, ⟨0, hc, Or.inl rfl, hw, by omega, fun y hy => h4 y (List.mem_append_left _ hy)⟩, zf⟩
  · rfl
theorem w_strI1 (k : cSBt h a v ml l.length (l ++ t)) (hl : l.length ≤ 100) (hc : h c = some (14, [.null, .int 0, .int 0, .int 0])) : zK G mJ7_init 6 25 [.ref c, .ref a] h (zO fun o h' => o = none ∧ ∃ w, h w = none ∧ cNew h' c w l ∧ zfr (fun b => b = c) h h') := by
  show zW G mJ7_init 6 25 0 [.ref c, .ref a] [] h _
  refine zW.aload_n (pc' := 1) dJ7_init_0 rfl rfl zg0 rfl ?_
  refine zW.aload_n (pc' := 2) dJ7_init_1 rfl rfl (zgS (zg0)) rfl ?_
  refine zW.null (pc' := 3) dJ7_init_2 rfl ?_
  refine zW.callI (r' := 25) (pc' := 6) dJ7_init_3 rfl l_J7_489 rfl (w_strI2 k hl hc) (zcc rfl (zcc rfl zc0)) rfl (Nat.le_of_ble_eq_true rfl) (Nat.le_of_ble_eq_true rfl) (Nat.le_of_ble_eq_true rfl) (fun _ _ q9 => ?_) (fun _ _ q9 => absurd q9 zO.no)
  obtain ⟨_, q8, e1, k2⟩ := q9
  cases q8
  subst e1
  refine zW.vret dJ7_init_6 rfl ?_
  exact ⟨_, rfl, rfl, k2⟩
theorem w_sbStr (k : cSB h a v l) (hl : l.length ≤ 100) : zK G mJ6_toString 7 26 [.ref a] h (cTx h l) := by
  obtain ⟨ml, t, k0⟩ := cSBt.of k
  obtain ⟨ha, hv, k3⟩ := k0
  have zf := zfr.rf (A := fun _ => False) (h := h)
  show zW G mJ6_toString 7 26 0 [.ref a] [] h _
  refine zW.newK (u := 1) (pc' := 3) dJ6_toString_0 rfl n_J6_18 zd_14 (fun c _ nc e9 k9 => ?_)
  have ha := zpres e9 (zfresh nc ha) ha
  have hv := zpres e9 (zfresh nc hv) hv
  have oc := zf.nn0 nc
  have zf := zf.new e9 nc
  have hc := k9
  clear k9
  have k2 : cSBt _ a v ml l.length (l ++ t) := ⟨ha, hv, k3⟩
  clear e9
  refine zW.dup (pc' := 4) dJ6_toString_3 rfl rfl ?_
  refine zW.aload_n (pc' := 5) dJ6_toString_4 rfl rfl zg0 rfl ?_
  refine zW.callI (r' := 25) (pc' := 8) dJ6_toString_5 rfl l_J6_137 rfl (w_strI1 k2 hl hc) (zcc rfl zc0) rfl (Nat.le_of_ble_eq_true rfl) (Nat.le_of_ble_eq_true rfl) (Nat.le_of_ble_eq_true rfl) (fun _ _ q9 => ?_) (fun _ _ q9 => absurd q9 zO.no)
  obtain ⟨_, q8, e1, w, nw, k4, z2⟩ := q9
  cases q8
  subst e1
  refine zW.aret dJ6_toString_8 rfl (Or.inl ⟨_, rfl⟩) rfl ?_
  have nw0 := zf.nn0 nw
  exact ⟨_, rfl, c, w, rfl, ⟨nc, nw0, zfresh nw hc⟩, k4, zf.tr z2 fun b hb => Or.inr (by rw [hb]; exact nc)⟩
theorem w_strLat (k : cStr h c w l) : zK G mJ7_isLatin1 1 0 [.ref c] h (zPu h (some (.int (nI 1)))) := by
  obtain ⟨k, k2, hz, hs, hc, hk, -⟩ := k
  have hkc : k % 1000 = 14 ∧ 14 < 50 := ⟨hk, by decide⟩
  show zW G mJ7_isLatin1 1 0 0 [.ref c] [] h _
  refine zW.gets (j := 0) (pc' := 3) dJ7_isLatin1_0 rfl rfl (lw_all_tbl q498) ?_
  refine zW.if_eq (pc' := 6) 17 dJ7_isLatin1_3 rfl (by decide) (fun b1 => ?_) (fun b1 => ?_)
  · exact absurd b1 (by decide)
  refine zW.aload_n (pc' := 7) dJ7_isLatin1_6 rfl rfl zg0 rfl ?_
  refine zW.get (pc' := 10) dJ7_isLatin1_7 rfl f_J7_15_14 hc hkc rfl ?_
  refine zW.if_neN (pc' := 13) 17 dJ7_isLatin1_10 rfl (by decide) (by omega) (fun b9 => absurd b9 (by omega)) (fun b9 => ?_)
  refine zW.iconst (pc' := 14) (nI 1) dJ7_isLatin1_13 rfl (by decide) ?_
  refine zW.goto 18 dJ7_isLatin1_14 (by decide) ?_
  refine zW.iret dJ7_isLatin1_18 rfl (rfl) ?_
  exact ⟨rfl, rfl⟩
theorem w_strAt (k : cStr h c w l) (hx : l[i]? = some x) : zK G mJ7_charAt 5 0 [.ref c, .int (nI i)] h (zPu h (some (.int (nI x)))) := by
  have k0 := k
  obtain ⟨k, k2, hz, hs, hc, hk, hw, hk2, hl, h128⟩ := k
  have hkc : k % 1000 = 14 ∧ 14 < 50 := ⟨hk, by decide⟩
  have hi := (List.getElem?_eq_some_iff.mp hx).1
  have hx1 := h128 x (List.mem_of_getElem? hx)
  have kl : zK G mJ19_charAt 4 0 [.ref w, .int (nI i)] h (zPu h (some (.int (nI x)))) := by
    show zW G mJ19_charAt 4 0 0 [.ref w, .int (nI i)] [] h _
    refine zW.iload_n (pc' := 1) dJ19_charAt_0 rfl rfl (zgS (zg0)) ?_
    refine zW.aload_n (pc' := 2) dJ19_charAt_1 rfl rfl zg0 rfl ?_
    refine zW.alen (pc' := 3) dJ19_charAt_2 rfl hw (by omega) (btab_n (rfl)) ?_
    refine zW.callS (r' := 0) (pc' := 6) dJ19_charAt_3 rfl l_J19_9 rfl (w_sbChk (f := .null) hi (by omega)) (zcc rfl (zcc rfl zc0)) rfl (Nat.le_of_ble_eq_true rfl) (Nat.le_of_ble_eq_true rfl) (Nat.le_of_ble_eq_true rfl) (fun _ _ q9 => ?_) (fun _ _ q9 => by cases q9.1)
    obtain ⟨q8, e9⟩ := q9
    cases q8
    replace e9 := e9.symm
    subst e9
    refine zW.aload_n (pc' := 7) dJ19_charAt_6 rfl rfl zg0 rfl ?_
    refine zW.iload_n (pc' := 8) dJ19_charAt_7 rfl rfl (zgS (zg0)) ?_
    refine zW.baldN (pc' := 9) dJ19_charAt_8 rfl hw hk2 (hx) (by omega) ?_
    refine zW.sipush (pc' := 12) (nI 255) dJ19_charAt_9 rfl (by decide) ?_
    refine zW.iandB (pc' := 13) dJ19_charAt_12 rfl (hx1) ?_
    refine zW.i2cB (pc' := 14) dJ19_charAt_13 rfl (hx1) ?_
    refine zW.iret dJ19_charAt_14 rfl ((nI_char (by omega))) ?_
    exact ⟨rfl, rfl⟩
  show zW G mJ7_charAt 5 0 0 [.ref c, .int (nI i)] [] h _
  refine zW.aload_n (pc' := 1) dJ7_charAt_0 rfl rfl zg0 rfl ?_
  refine zW.callV (r' := 0) (pc' := 4) dJ7_charAt_1 rfl l_J7_492 rfl hc hkc rfl (w_strLat k0) zc0 rfl (Nat.le_of_ble_eq_true rfl) (Nat.le_of_ble_eq_true rfl) (Nat.le_of_ble_eq_true rfl) (fun _ _ q9 => ?_) (fun _ _ q9 => by cases q9.1)
  obtain ⟨q8, e9⟩ := q9
  cases q8
  replace e9 := e9.symm
  subst e9
  refine zW.if_eqN (pc' := 7) 16 dJ7_charAt_4 rfl (by decide) (by omega) (fun b9 => absurd b9 (by omega)) (fun b9 => ?_)
  refine zW.aload_n (pc' := 8) dJ7_charAt_7 rfl rfl zg0 rfl ?_
  refine zW.get (pc' := 11) dJ7_charAt_8 rfl f_J7_9_14 hc hkc rfl ?_
  refine zW.iload_n (pc' := 12) dJ7_charAt_11 rfl rfl (zgS (zg0)) ?_
  refine zW.callS (r' := 0) (pc' := 15) dJ7_charAt_12 rfl l_J7_495 rfl (kl) (zcc rfl (zcc rfl zc0)) rfl (Nat.le_of_ble_eq_true rfl) (Nat.le_of_ble_eq_true rfl) (Nat.le_of_ble_eq_true rfl) (fun _ _ q9 => ?_) (fun _ _ q9 => by cases q9.1)
  obtain ⟨q8, e9⟩ := q9
  cases q8
  replace e9 := e9.symm
  subst e9
  refine zW.iret dJ7_charAt_15 rfl ((nI_char (by omega))) ?_
  exact ⟨rfl, rfl⟩
theorem w_strBnd (hi : i ≤ j) (hj : j ≤ n) (hn : n < 2 ^ 31) : zK G mJ7_checkBoundsBeginEnd 3 0 [.int (nI i), .int (nI j), .int (nI n)] h (zPu h none) := by
  have kc : ∀ o, zK G mJ18_checkFromToIndex 1 0 [.int (nI i), .int (nI j), .int (nI n), zrf o] h (zPu h (some (.int (nI i)))) := fun o => by
    show zW G mJ18_checkFromToIndex 1 0 0 [.int (nI i), .int (nI j), .int (nI n), zrf o] [] h _
    refine zW.iload_n (pc' := 1) dJ18_checkFromToIndex_0 rfl rfl zg0 ?_
    refine zW.if_ltN (pc' := 4) (tg := 14) dJ18_checkFromToIndex_1 rfl (by decide) (by omega) ?_
    refine zW.iload_n (pc' := 5) dJ18_checkFromToIndex_4 rfl rfl zg0 ?_
    refine zW.iload_n (pc' := 6) dJ18_checkFromToIndex_5 rfl rfl (zgS (zg0)) ?_
    refine zW.icmp_gtN (pc' := 9) 14 dJ18_checkFromToIndex_6 rfl (by decide) (by omega) (by omega) (fun b9 => absurd b9 (by omega)) (fun b9 => ?_)
    refine zW.iload_n (pc' := 10) dJ18_checkFromToIndex_9 rfl rfl (zgS (zg0)) ?_
    refine zW.iload_n (pc' := 11) dJ18_checkFromToIndex_10 rfl rfl (zgS (zgS (zg0))) ?_
    refine zW.icmp_leN (pc' := 14) 22 dJ18_checkFromToIndex_11 rfl (by decide) (by omega) (by omega) (fun b9 => ?_) (fun b9 => absurd b9 (by omega))
    refine zW.iload_n (pc' := 23) dJ18_checkFromToIndex_22 rfl rfl zg0 ?_
    refine zW.iret dJ18_checkFromToIndex_23 rfl (rfl) ?_
    exact ⟨rfl, rfl⟩
  show zW G mJ7_checkBoundsBeginEnd 3 0 0 [.int (nI i), .int (nI j), .int (nI n)] [] h _
  refine zW.iload_n (pc' := 1) dJ7_checkBoundsBeginEnd_0 rfl rfl zg0 ?_
  refine zW.iload_n (pc' := 2) dJ7_checkBoundsBeginEnd_1 rfl rfl (zgS (zg0)) ?_
  refine zW.iload_n (pc' := 3) dJ7_checkBoundsBeginEnd_2 rfl rfl (zgS (zgS (zg0))) ?_
  refine zW.getsQ (pc' := 6) dJ7_checkBoundsBeginEnd_3 rfl (lw_all_tbl q476) (fun oq => ?_)
  refine zW.callS (r' := 0) (pc' := 9) dJ7_checkBoundsBeginEnd_6 rfl l_J7_1062 rfl (kc oq) (zcc rfl (zcc rfl (zcc rfl (zcc zrf_c zc0)))) rfl (Nat.le_of_ble_eq_true rfl) (Nat.le_of_ble_eq_true rfl) (Nat.le_of_ble_eq_true rfl) (fun _ _ q9 => ?_) (fun _ _ q9 => by cases q9.1)
  obtain ⟨q8, e9⟩ := q9
  cases q8
  replace e9 := e9.symm
  subst e9
  refine zW.pop (pc' := 10) dJ7_checkBoundsBeginEnd_9 rfl rfl ?_
  refine zW.vret dJ7_checkBoundsBeginEnd_10 rfl ?_
  exact ⟨rfl, rfl⟩
end
