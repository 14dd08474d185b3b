/-! Strings: constants, substring, equals, hashCode -/
section
set_option maxRecDepth 100000
variable {G : zG} {h h' h1 : zH} {a v ml m n q i j x c w c2 w2 : Nat} {l t l1 s : List Nat}
/-- the texts of the constants -/
def zlt : List (List Nat) := [[32, 64], [32, 115], [32, 99], [32, 33], [97, 100, 100], [115, 105, 103, 110], [99, 111, 117, 110, 116, 101, 114, 115, 105, 103, 110], [115, 101, 116, 116, 108, 101], [116, 105, 99, 107], [97, 117, 100, 105, 116], [97, 100, 100], [115, 105, 103, 110], [99, 111, 117, 110, 116, 101, 114, 115, 105, 103, 110], [115, 101, 116, 116, 108, 101], [116, 105, 99, 107], [97, 117, 100, 105, 116], [114, 97, 116, 101], []]
/-- the constants stand at the start -/
def zkS (G : zG) : Prop := ∀ j l, zlt[j]? = some l → ∃ (hs : Int32) (hz : Nat), zg_k G (zg_a G (100 + j)) = some (1014, [.ref (zg_a G (200 + j)), .int (nI 0), .int hs, .int (nI hz)]) ∧ zg_k G (zg_a G (200 + j)) = some (1103, btab l)
theorem zlt_ch : ∀ (j : Nat) (l : List Nat), zlt[j]? = some l → l.length < 2 ^ 16 ∧ ∀ x ∈ l, x < 128 := by
  have e : ∀ l ∈ zlt, l.length < 2 ^ 16 ∧ ∀ x ∈ l, x < 128 := by decide
  exact fun j l hj => e l (List.mem_of_getElem? hj)
theorem zkS.str (hS : zkS G) (hk : zkn G h) {j : Nat} {l : List Nat} (hj : zlt[j]? = some l) : cStr h (zg_a G (100 + j)) (zg_a G (200 + j)) l := by
  obtain ⟨hs, hz, h1, h2⟩ := hS j l hj
  exact ⟨1014, 1103, hz, hs, (hk _ _ h1).1, rfl, (hk _ _ h2).1, rfl, zlt_ch j l hj⟩
/-- a piece of the text at c -/
abbrev cSub (h : zH) (c w : Nat) (i j : Nat) (l : List Nat) : zR → zH → Prop := zO fun o h' => ∃ c' w', o = some (.ref c') ∧ zfr (fun _ => False) h h' ∧ cStr h' c' w' ((l.drop i).take (j - i)) ∧ (i < j → cNew h' c' w' ((l.drop i).take (j - i)) ∧ ((c' = c ∧ w' = w) ∨ (h c' = none ∧ h w' = none)))
theorem w_strNew {kk : Nat} (hS : zkS G) (hk : zkn G h) (hw : h w = some (kk, btab l)) (hkk : kk % 1000 = 103) (hi : i ≤ j) (hj : j ≤ l.length) (hij : ¬ (i = 0 ∧ j = l.length)) (hl : l.length ≤ 100) (h128 : ∀ x ∈ l, x < 128) : zK G mJ19_newString 4 26 [.ref w, .int (nI i), .int (nI (j - i))] h (cSub h c w i j l) := by
  have zf := zfr.rf (A := fun _ => False) (h := h)
  show zW G mJ19_newString 4 26 0 [.ref w, .int (nI i), .int (nI (j - i))] [] h _
  refine zW.iload_n (pc' := 1) dJ19_newString_0 rfl rfl (zgS (zgS (zg0))) ?_
  refine zW.if_neN (pc' := 4) 7 dJ19_newString_1 rfl (by decide) (by omega) (fun b1 => ?_) (fun b1 => ?_)
  rotate_left
  · refine zW.ldcS (j := 17) (pc' := 6) dJ19_newString_4 rfl rfl ?_
    refine zW.pay (r1 := 0) ?_ (Nat.zero_le _)
    refine zW.aret dJ19_newString_6 rfl (Or.inl ⟨_, rfl⟩) rfl ?_
    have e : (l.drop i).take (j - i) = [] := by rw [b1]; rfl
    refine ⟨_, rfl, zg_a G (100 + 17), zg_a G (200 + 17), rfl, zf, ?_, fun q => absurd q (by omega)⟩
    rw [e]
    exact hS.str hk (j := 17) rfl
  · refine zW.newK (u := 1) (pc' := 10) dJ19_newString_7 rfl n_J19_1 zd_14 (fun c _ nc e9 k9 => ?_)
    have hw := zpres e9 (zfresh nc hw) hw
    have oc := zf.nn0 nc
    have zf := zf.new e9 nc
    have hc := k9
    clear k9
    clear e9
    refine zW.dup (pc' := 11) dJ19_newString_10 rfl rfl ?_
    refine zW.aload_n (pc' := 12) dJ19_newString_11 rfl rfl zg0 rfl ?_
    refine zW.iload_n (pc' := 13) dJ19_newString_12 rfl rfl (zgS (zg0)) ?_
    refine zW.iload_n (pc' := 14) dJ19_newString_13 rfl rfl (zgS (zg0)) ?_
    refine zW.iload_n (pc' := 15) dJ19_newString_14 rfl rfl (zgS (zgS (zg0))) ?_
    refine zW.iaddN (pc' := 16) dJ19_newString_15 rfl ?_
    rw [show i + (j - i) = j by omega]
    refine zW.callS (r' := 25) (pc' := 19) dJ19_newString_16 rfl l_J19_232 rfl (w_copyRg hw (Or.inr ⟨hkk, hij⟩) (i := i) (j := j) hi hj (by omega) h128 (by omega)) (zcc rfl (zcc rfl (zcc rfl zc0))) rfl (Nat.le_of_ble_eq_true rfl) (Nat.le_of_ble_eq_true rfl) (Nat.le_of_ble_eq_true rfl) (fun _ _ q9 => ?_) (fun _ _ q9 => absurd q9 zO.no)
    obtain ⟨_, q8, w', e1, nw, e9, k9⟩ := q9
    cases q8
    cases e1
    have hc := zpres e9 (zfresh nw hc) hc
    have nw0 := zf.nn0 nw
    have zf := zf.new e9 nw
    have hw := k9
    clear e9 k9
    have kc : ∀ (H : zH), H c = some (14, [.null, .int 0, .int 0, .int 0]) → zK G mJ7_init_3 1 0 [.ref c, .ref w', .int (nI 0)] H (zPk H none c (14, [.ref w', .int (nI 0), .int 0, .int 0])) := fun H hc => by
      show zW G mJ7_init_3 1 0 0 [.ref c, .ref w', .int (nI 0)] [] H _
      refine zW.aload_n (pc' := 1) dJ7_init_3_0 rfl rfl zg0 rfl ?_
      refine zW.objInit (pc' := 4) dJ7_init_3_1 rfl (lw_all_tbl q571) (lw_all_tbl q151) (lw_all_tbl q152) (Nat.le_of_ble_eq_true rfl) (Nat.le_of_ble_eq_true rfl) ?_
      refine zW.aload_n (pc' := 5) dJ7_init_3_4 rfl rfl zg0 rfl ?_
      refine zW.aload_n (pc' := 6) dJ7_init_3_5 rfl rfl (zgS (zg0)) rfl ?_
      refine zW.putK (pc' := 9) dJ7_init_3_6 rfl f_J7_9_14 hc ⟨⟨rfl, (Nat.le_of_ble_eq_true rfl)⟩, (Nat.le_of_ble_eq_true rfl)⟩ (zFw.fin ft_14_0 rfl rfl rfl rfl rfl) zs0 (fun _ e9 k9 => ?_)
      have hq := e9
      replace hc := k9
      clear e9 k9
      refine zW.aload_n (pc' := 10) dJ7_init_3_9 rfl rfl zg0 rfl ?_
      refine zW.iload_n (pc' := 11) dJ7_init_3_10 rfl rfl (zgS (zgS (zg0))) ?_
      refine zW.putK (pc' := 14) dJ7_init_3_11 rfl f_J7_15_14 hc ⟨⟨rfl, (Nat.le_of_ble_eq_true rfl)⟩, (Nat.le_of_ble_eq_true rfl)⟩ (zFw.fin ft_14_1 rfl rfl rfl rfl rfl) (zsS (zs0)) (fun _ e9 k9 => ?_)
      have hq := ztrk hq e9
      replace hc := k9
      clear e9 k9
      refine zW.vret dJ7_init_3_14 rfl ?_
      exact ⟨_, rfl, rfl, hq, hc⟩
    refine zW.iconst (pc' := 20) (nI 0) dJ19_newString_19 rfl (by decide) ?_
    refine zW.callI (r' := 0) (pc' := 23) dJ19_newString_20 rfl l_J19_112 rfl (kc _ hc) (zcc rfl (zcc rfl zc0)) rfl (Nat.le_of_ble_eq_true rfl) (Nat.le_of_ble_eq_true rfl) (Nat.le_of_ble_eq_true rfl) (fun _ _ q9 => ?_) (fun _ _ q9 => absurd q9 zO.no)
    obtain ⟨_, q8, e1, e9, k9⟩ := q9
    cases q8
    subst e1
    have hw := zpres e9 (zne hw hc (by decide)) hw
    have zf := zf.put e9 hc (by decide) (Or.inr nc)
    replace hc := k9
    clear e9 k9
    refine zW.aret dJ19_newString_23 rfl (Or.inl ⟨_, rfl⟩) rfl ?_
    have hN : cNew _ c w' ((l.drop i).take (j - i)) := ⟨0, hc, Or.inl rfl, hw, by rw [List.length_take, List.length_drop]; omega, fun y hy => h128 y (List.mem_of_mem_drop (List.mem_of_mem_take hy))⟩
    exact ⟨_, rfl, c, w', rfl, zf, hN.str, fun _ => ⟨hN, Or.inr ⟨nc, nw0⟩⟩⟩
theorem w_strSub (hS : zkS G) (hk : zkn G h) (k : cNew h c w l) (hi : i ≤ j) (hj : j ≤ l.length) (hl : l.length ≤ 100) : zK G mJ7_substring 5 26 [.ref c, .int (nI i), .int (nI j)] h (cSub h c w i j l) := by
  have k0 := k
  obtain ⟨hs, hc, h2, hw, h4, h128⟩ := k
  have mid : ¬ (i = 0 ∧ j = l.length) → zW G mJ7_substring 5 26 22 [.ref c, .int (nI i), .int (nI j), .int (nI l.length), zho] [] h (cSub h c w i j l) := fun hij => by
    refine zW.iload_n (pc' := 23) dJ7_substring_22 rfl rfl (zgS (zgS (zg0))) ?_
    refine zW.iload_n (pc' := 24) dJ7_substring_23 rfl rfl (zgS (zg0)) ?_
    refine zW.isubN (pc' := 25) dJ7_substring_24 rfl (by omega) ?_
    refine zW.istore (pc' := 27) dJ7_substring_25 rfl (Nat.le_of_ble_eq_true rfl) (zsS (zsS (zsS (zsS (zs0))))) ?_
    refine zW.aload_n (pc' := 28) dJ7_substring_27 rfl rfl zg0 rfl ?_
    refine zW.callV (r' := 0) (pc' := 31) dJ7_substring_28 rfl l_J7_492 rfl hc ⟨rfl, (Nat.le_of_ble_eq_true rfl)⟩ rfl (w_strLat k0.str) zc0 rfl (Nat.le_of_ble_eq_true rfl) (Nat.le_of_ble_eq_true rfl) (Nat.le_of_ble_eq_true rfl) (fun _ _ q9 => ?_) (fun _ _ q9 => by cases q9.1)
    obtain ⟨q8, e9⟩ := q9
    cases q8
    replace e9 := e9.symm
    subst e9
    refine zW.if_eqN (pc' := 34) 47 dJ7_substring_31 rfl (by decide) (by omega) (fun b9 => absurd b9 (by omega)) (fun b9 => ?_)
    refine zW.aload_n (pc' := 35) dJ7_substring_34 rfl rfl zg0 rfl ?_
    refine zW.get (pc' := 38) dJ7_substring_35 rfl f_J7_9_14 hc ⟨rfl, (Nat.le_of_ble_eq_true rfl)⟩ rfl ?_
    refine zW.iload_n (pc' := 39) dJ7_substring_38 rfl rfl (zgS (zg0)) ?_
    refine zW.iload (pc' := 41) dJ7_substring_39 rfl (zgS (zgS (zgS (zgS (zg0))))) ?_
    refine zW.callS (r' := 26) (pc' := 44) dJ7_substring_41 rfl l_J7_685 rfl (w_strNew (c := c) hS hk hw rfl hi hj hij hl h128) (zcc rfl (zcc rfl (zcc rfl zc0))) rfl (Nat.le_of_ble_eq_true rfl) (Nat.le_of_ble_eq_true rfl) (Nat.le_of_ble_eq_true rfl) (fun _ _ q9 => ?_) (fun _ _ q9 => absurd q9 zO.no)
    obtain ⟨_, q8, c', w', e1, z, k2⟩ := q9
    cases q8
    cases e1
    refine zW.goto 57 dJ7_substring_44 (by decide) ?_
    refine zW.aret dJ7_substring_57 rfl (Or.inl ⟨_, rfl⟩) rfl ?_
    exact ⟨_, rfl, c', w', rfl, z, k2⟩
  show zW G mJ7_substring 5 26 0 [.ref c, .int (nI i), .int (nI j), zho, zho] [] h _
  refine zW.aload_n (pc' := 1) dJ7_substring_0 rfl rfl zg0 rfl ?_
  refine zW.callV (r' := 0) (pc' := 4) dJ7_substring_1 rfl l_J7_505 rfl hc ⟨rfl, (Nat.le_of_ble_eq_true rfl)⟩ rfl (w_strLen k0.str) zc0 rfl (Nat.le_of_ble_eq_true rfl) (Nat.le_of_ble_eq_true rfl) (Nat.le_of_ble_eq_true rfl) (fun _ _ q9 => ?_) (fun _ _ q9 => by cases q9.1)
  obtain ⟨q8, e9⟩ := q9
  cases q8
  replace e9 := e9.symm
  subst e9
  refine zW.istore_n (pc' := 5) dJ7_substring_4 rfl rfl (Nat.le_of_ble_eq_true rfl) (zsS (zsS (zsS (zs0)))) ?_
  refine zW.iload_n (pc' := 6) dJ7_substring_5 rfl rfl (zgS (zg0)) ?_
  refine zW.iload_n (pc' := 7) dJ7_substring_6 rfl rfl (zgS (zgS (zg0))) ?_
  refine zW.iload_n (pc' := 8) dJ7_substring_7 rfl rfl (zgS (zgS (zgS (zg0)))) ?_
  refine zW.callS (r' := 0) (pc' := 11) dJ7_substring_8 rfl l_J7_521 rfl (w_strBnd hi hj (by omega)) (zcc rfl (zcc rfl (zcc rfl zc0))) rfl (Nat.le_of_ble_eq_true rfl) (Nat.le_of_ble_eq_true rfl) (Nat.le_of_ble_eq_true rfl) (fun _ _ q9 => ?_) (fun _ _ q9 => by cases q9.1)
  obtain ⟨q8, e9⟩ := q9
  cases q8
  replace e9 := e9.symm
  subst e9
  refine zW.iload_n (pc' := 12) dJ7_substring_11 rfl rfl (zgS (zg0)) ?_
  refine zW.if_neN (pc' := 15) 22 dJ7_substring_12 rfl (by decide) (by omega) (fun b1 => ?_) (fun b1 => ?_)
  · exact mid fun q => b1 q.1
  · refine zW.iload_n (pc' := 16) dJ7_substring_15 rfl rfl (zgS (zgS (zg0))) ?_
    refine zW.iload_n (pc' := 17) dJ7_substring_16 rfl rfl (zgS (zgS (zgS (zg0)))) ?_
    refine zW.icmp_neN (pc' := 20) 22 dJ7_substring_17 rfl (by decide) (by omega) (by omega) (fun b2 => ?_) (fun b2 => ?_)
    · exact mid fun q => b2 q.2
    · refine zW.pay (r1 := 0) ?_ (Nat.zero_le _)
      refine zW.aload_n (pc' := 21) dJ7_substring_20 rfl rfl zg0 rfl ?_
      refine zW.aret dJ7_substring_21 rfl (Or.inl ⟨_, rfl⟩) rfl ?_
      have e : (l.drop i).take (j - i) = l := by rw [b1, b2, List.drop_zero, Nat.sub_zero, List.take_length]
      exact ⟨_, rfl, c, w, rfl, zfr.rf, by rw [e]; exact k0.str, fun _ => ⟨by rw [e]; exact k0, Or.inl ⟨rfl, rfl⟩⟩⟩
end
