/-! StringBuilder: made, emptied, append of a text -/
section
set_option maxRecDepth 100000
variable {G : zG} {h h' h1 : zH} {a v ml m n q i x c w : Nat} {l t l1 : List Nat}
theorem w_sbInit (ha : h a = some (13, [.null, .int 0, .int 0, .int 0])) : zK G mJ6_init 3 4 [.ref a] h (zO fun o h' => o = none ∧ ∃ v, h v = none ∧ cSB h' a v [] ∧ zfr (fun b => b = a) h h') := by
  have zf := zfr.rf (A := fun b => b = a) (h := h)
  have ki : zK G mJ5_init 2 4 [.ref a, .int (nI 16)] h (zO fun o h' => o = none ∧ ∃ v, h v = none ∧ cSB h' a v [] ∧ zfr (fun b => b = a) h h') := by
    show zW G mJ5_init 2 4 0 [.ref a, .int (nI 16)] [] h _
    refine zW.aload_n (pc' := 1) dJ5_init_0 rfl rfl zg0 rfl ?_
    refine zW.objInit (pc' := 4) dJ5_init_1 rfl (lw_all_tbl q274) (lw_all_tbl q151) (lw_all_tbl q152) (Nat.le_of_ble_eq_true rfl) (Nat.le_of_ble_eq_true rfl) ?_
    refine zW.gets (j := 0) (pc' := 7) dJ5_init_4 rfl rfl (lw_all_tbl q275) ?_
    refine zW.if_eq (pc' := 10) 25 dJ5_init_7 rfl (by decide) (fun b1 => ?_) (fun b1 => ?_)
    · exact absurd b1 (by decide)
    refine zW.aload_n (pc' := 11) dJ5_init_10 rfl rfl zg0 rfl ?_
    refine zW.iload_n (pc' := 12) dJ5_init_11 rfl rfl (zgS (zg0)) ?_
    refine zW.newaBK (u := 4) (N := 16) (pc' := 14) dJ5_init_12 rfl (nI_pos (by omega)) (nI_clamp (by omega)) (by omega) (⟨by decide, by decide⟩) (fun v _ nv e9 k9 => ?_)
    have ha := zpres e9 (zfresh nv ha) ha
    have ov := zf.nn0 nv
    have zf := zf.new e9 nv
    have hv := k9
    clear k9
    clear e9
    refine zW.putK (pc' := 17) dJ5_init_14 rfl f_J5_15_13 ha ⟨⟨rfl, (Nat.le_of_ble_eq_true rfl)⟩, (Nat.le_of_ble_eq_true rfl)⟩ (zFw.of ft_13_0 rfl rfl) zs0 (fun _ e9 k9 => ?_)
    have hv := zpres e9 (zne hv ha (by decide)) hv
    have zf := zf.put e9 ha (by decide) (Or.inl rfl)
    replace ha := k9
    clear e9 k9
    refine zW.aload_n (pc' := 18) dJ5_init_17 rfl rfl zg0 rfl ?_
    refine zW.iconst (pc' := 19) (nI 0) dJ5_init_18 rfl (by decide) ?_
    refine zW.putK (pc' := 22) dJ5_init_19 rfl f_J5_22_13 ha ⟨⟨rfl, (Nat.le_of_ble_eq_true rfl)⟩, (Nat.le_of_ble_eq_true rfl)⟩ (zFw.of ft_13_1 rfl rfl) (zsS (zs0)) (fun _ e9 k9 => ?_)
    have hv := zpres e9 (zne hv ha (by decide)) hv
    have zf := zf.put e9 ha (by decide) (Or.inl rfl)
    replace ha := k9
    clear e9 k9
    refine zW.goto 38 dJ5_init_22 (by decide) ?_
    refine zW.vret dJ5_init_38 rfl ?_
    exact ⟨_, rfl, rfl, v, nv, ⟨0, List.replicate 16 0, ha, hv, ⟨Nat.zero_le _, by rw [List.nil_append, List.length_replicate]; decide⟩, fun y hy => by rw [List.nil_append] at hy; rw [List.eq_of_mem_replicate hy]; decide⟩, zf⟩
  show zW G mJ6_init 3 4 0 [.ref a] [] h _
  refine zW.aload_n (pc' := 1) dJ6_init_0 rfl rfl zg0 rfl ?_
  refine zW.bipush (pc' := 3) (nI 16) dJ6_init_1 rfl (by decide) ?_
  refine zW.callI (r' := 4) (pc' := 6) dJ6_init_3 rfl l_J6_1 rfl (ki) (zcc rfl zc0) rfl (Nat.le_of_ble_eq_true rfl) (Nat.le_of_ble_eq_true rfl) (Nat.le_of_ble_eq_true rfl) (fun _ _ q9 => ?_) (fun _ _ q9 => absurd q9 zO.no)
  obtain ⟨_, q8, e1, k2⟩ := q9
  cases q8
  subst e1
  refine zW.vret dJ6_init_6 rfl ?_
  exact ⟨_, rfl, rfl, k2⟩
theorem w_sbClear (k : cSB h a v l) : zK G mJ6_setLength 6 51 [.ref a, .int (nI 0)] h (cSBp h a v [] none) := by
  have ks : zK G mJ5_setLength 5 51 [.ref a, .int (nI 0)] h (cSBp h a v [] none) := by
    obtain ⟨ml, t, k0⟩ := cSBt.of k
    have ha := k0.1
    show zW G mJ5_setLength 5 51 0 [.ref a, .int (nI 0)] [] h _
    refine zW.iload_n (pc' := 1) dJ5_setLength_0 rfl rfl (zgS (zg0)) ?_
    refine zW.if_geN 13 dJ5_setLength_1 (by decide) (by omega) ?_
    refine zW.aload_n (pc' := 14) dJ5_setLength_13 rfl rfl zg0 rfl ?_
    refine zW.iload_n (pc' := 15) dJ5_setLength_14 rfl rfl (zgS (zg0)) ?_
    refine zW.callP (r' := 51) (pc' := 18) dJ5_setLength_15 rfl l_J5_100 rfl ha ⟨rfl, (Nat.le_of_ble_eq_true rfl)⟩ rfl (w_sbEnsure k0 (q := 0) (by omega)) (zcc rfl zc0) rfl (Nat.le_of_ble_eq_true rfl) (Nat.le_of_ble_eq_true rfl) (Nat.le_of_ble_eq_true rfl) (fun _ _ q9 => ?_) (fun _ _ q9 => absurd q9 zO.no)
    obtain ⟨_, q8, e1, v', z, k1, hz, hv', z1⟩ := q9
    cases q8
    subst e1
    obtain ⟨ha, hv, ⟨h1, h2, h3⟩, h4⟩ := k1
    have zf : zfr (fun c => c = a ∨ c = v) h _ := z1.mono fun c hc => Or.inl (Or.inl hc)
    have fin : ∀ (H : zH) (y m : Nat), y ≤ 1 → H a = some (13, [.ref v', .int (nI 0), .int (nI y), .int (nI m)]) → H v' = some (103, btab (l ++ t ++ z)) → zfr (fun c => c = a ∨ c = v) h H → zW G mJ5_setLength 5 0 76 [.ref a, .int (nI 0)] [] H (cSBp h a v [] none) := by
      intro H y m hy ha hv zf
      refine zW.aload_n (pc' := 77) dJ5_setLength_76 rfl rfl zg0 rfl ?_
      refine zW.iload_n (pc' := 78) dJ5_setLength_77 rfl rfl (zgS (zg0)) ?_
      refine zW.putK (pc' := 81) dJ5_setLength_78 rfl f_J5_79_13 ha ⟨⟨rfl, (Nat.le_of_ble_eq_true rfl)⟩, (Nat.le_of_ble_eq_true rfl)⟩ (zFw.of ft_13_3 rfl rfl) (zsS (zsS (zsS (zs0)))) (fun _ e9 k9 => ?_)
      have hv := zpres e9 (zne hv ha (by decide)) hv
      have zf := zf.put e9 ha (by decide) (Or.inl (Or.inl rfl))
      replace ha := k9
      clear e9 k9
      refine zW.vret dJ5_setLength_81 rfl ?_
      exact ⟨_, rfl, rfl, v', ⟨y, l ++ t ++ z, ha, hv, ⟨hy, by rw [List.nil_append]; exact h3⟩, fun x hx => h4 x hx⟩, hv', zf⟩
    refine zW.aload_n (pc' := 19) dJ5_setLength_18 rfl rfl zg0 rfl ?_
    refine zW.get (pc' := 22) dJ5_setLength_19 rfl f_J5_79_13 ha ⟨rfl, (Nat.le_of_ble_eq_true rfl)⟩ rfl ?_
    refine zW.iload_n (pc' := 23) dJ5_setLength_22 rfl rfl (zgS (zg0)) ?_
    refine zW.icmp_geN (pc' := 26) 63 dJ5_setLength_23 rfl (by decide) (by omega) (by omega) (fun b9 => ?_) (fun b9 => absurd b9 (by omega))
    refine zW.aload_n (pc' := 64) dJ5_setLength_63 rfl rfl zg0 rfl ?_
    refine zW.get (pc' := 67) dJ5_setLength_64 rfl f_J5_79_13 ha ⟨rfl, (Nat.le_of_ble_eq_true rfl)⟩ rfl ?_
    refine zW.iload_n (pc' := 68) dJ5_setLength_67 rfl rfl (zgS (zg0)) ?_
    refine zW.icmp_leN (pc' := 71) 76 dJ5_setLength_68 rfl (by decide) (by omega) (by omega) (fun b1 => ?_) (fun b1 => ?_)
    · exact fin _ ml _ h1 ha hv zf
    · refine zW.aload_n (pc' := 72) dJ5_setLength_71 rfl rfl zg0 rfl ?_
      refine zW.iconst (pc' := 73) (nI 1) dJ5_setLength_72 rfl (by decide) ?_
      refine zW.putK (pc' := 76) dJ5_setLength_73 rfl f_J5_73_13 ha ⟨⟨rfl, (Nat.le_of_ble_eq_true rfl)⟩, (Nat.le_of_ble_eq_true rfl)⟩ (zFw.of ft_13_2 rfl rfl) (zsS (zsS (zs0))) (fun _ e9 k9 => ?_)
      have hv := zpres e9 (zne hv ha (by decide)) hv
      have zf := zf.put e9 ha (by decide) (Or.inl (Or.inl rfl))
      replace ha := k9
      clear e9 k9
      exact fin _ 1 _ (Nat.le_refl _) ha hv zf
  have ha : ∃ fs, h a = some (13, fs) := by obtain ⟨ml, t, k1, -⟩ := k; exact ⟨_, k1⟩
  obtain ⟨fs, ha⟩ := ha
  show zW G mJ6_setLength 6 51 0 [.ref a, .int (nI 0)] [] h _
  refine zW.aload_n (pc' := 1) dJ6_setLength_0 rfl rfl zg0 rfl ?_
  refine zW.iload_n (pc' := 2) dJ6_setLength_1 rfl rfl (zgS (zg0)) ?_
  refine zW.callSU (r' := 51) (pc' := 5) dJ6_setLength_2 rfl l_J6_333 rfl ha ⟨rfl, (Nat.le_of_ble_eq_true rfl)⟩ rfl (ks) (zcc rfl zc0) rfl (Nat.le_of_ble_eq_true rfl) (Nat.le_of_ble_eq_true rfl) (Nat.le_of_ble_eq_true rfl) (fun _ _ q9 => ?_) (fun _ _ q9 => absurd q9 zO.no)
  obtain ⟨_, q8, e1, k2⟩ := q9
  cases q8
  subst e1
  refine zW.vret dJ6_setLength_5 rfl ?_
  exact ⟨_, rfl, rfl, k2⟩
/-- a String -/
def cStr (h : zH) (c w : Nat) (l : List Nat) : Prop := ∃ (k k2 hz : Nat) (hs : Int32), h c = some (k, [.ref w, .int (nI 0), .int hs, .int (nI hz)]) ∧ k % 1000 = 14 ∧ h w = some (k2, btab l) ∧ k2 % 1000 = 103 ∧ l.length < 2 ^ 16 ∧ ∀ x ∈ l, x < 128
theorem w_strCoder (k : cStr h c w l) : zK G mJ7_coder 1 0 [.ref c] h (zPu h (some (.int (nI 0)))) := by
  obtain ⟨k, k2, hz, hs, hc, hk, -⟩ := k
  show zW G mJ7_coder 1 0 0 [.ref c] [] h _
  refine zW.gets (j := 0) (pc' := 3) dJ7_coder_0 rfl rfl (lw_all_tbl q498) ?_
  refine zW.if_eq (pc' := 6) 13 dJ7_coder_3 rfl (by decide) (fun b1 => ?_) (fun b1 => ?_)
  · exact absurd b1 (by decide)
  refine zW.aload_n (pc' := 7) dJ7_coder_6 rfl rfl zg0 rfl ?_
  refine zW.get (pc' := 10) dJ7_coder_7 rfl f_J7_15_14 hc ⟨hk, Nat.le_of_ble_eq_true rfl⟩ rfl ?_
  refine zW.goto 14 dJ7_coder_10 (by decide) ?_
  refine zW.iret dJ7_coder_14 rfl (rfl) ?_
  exact ⟨rfl, rfl⟩
theorem cStr.ob (k : cStr h c w l) : ∃ k fs, h c = some (k, fs) ∧ k % 1000 = 14 := by
  obtain ⟨k, k2, hz, hs, hc, hk, -⟩ := k
  exact ⟨_, _, hc, hk⟩
theorem w_strLen (k : cStr h c w l) : zK G mJ7_length 2 0 [.ref c] h (zPu h (some (.int (nI l.length)))) := by
  have k0 := k
  obtain ⟨k, k2, hz, hs, hc, hk, hw, hk2, hl, -⟩ := k
  have hkc : k % 1000 = 14 ∧ 14 < 50 := ⟨hk, by decide⟩
  show zW G mJ7_length 2 0 0 [.ref c] [] h _
  refine zW.aload_n (pc' := 1) dJ7_length_0 rfl rfl zg0 rfl ?_
  refine zW.get (pc' := 4) dJ7_length_1 rfl f_J7_9_14 hc hkc rfl ?_
  refine zW.alen (pc' := 5) dJ7_length_4 rfl hw (by omega) (btab_n (rfl)) ?_
  refine zW.aload_n (pc' := 6) dJ7_length_5 rfl rfl zg0 rfl ?_
  refine zW.callV (r' := 0) (pc' := 9) dJ7_length_6 rfl l_J7_335 rfl hc hkc rfl (w_strCoder k0) zc0 rfl (Nat.le_of_ble_eq_true rfl) (Nat.le_of_ble_eq_true rfl) (Nat.le_of_ble_eq_true rfl) (fun _ _ q9 => ?_) (fun _ _ q9 => by cases q9.1)
  obtain ⟨q8, e9⟩ := q9
  cases q8
  replace e9 := e9.symm
  subst e9
  refine zW.ishr0 (pc' := 10) dJ7_length_9 rfl ?_
  refine zW.iret dJ7_length_10 rfl (rfl) ?_
  exact ⟨rfl, rfl⟩
end
