/-! StringBuilder: capacity, append of a letter, of a text, length, charAt, setLength -/
section
set_option maxRecDepth 100000
variable {G : zG} {h h' h1 : zH} {a v ml m n q i x : Nat} {l t l1 : List Nat}
/-- the builder's two cells -/
def cSBt (h : zH) (a v ml n : Nat) (b : List Nat) : Prop := h a = some (13, [.ref v, .int (nI 0), .int (nI ml), .int (nI n)]) ∧ h v = some (103, btab b) ∧ (ml ≤ 1 ∧ n ≤ b.length ∧ b.length < 2 ^ 16) ∧ ∀ x ∈ b, x < 128
theorem cSBt.of (k : cSB h a v l) : ∃ ml t, cSBt h a v ml l.length (l ++ t) := by
  obtain ⟨ml, t, h1, h2, h3, h4⟩ := k
  exact ⟨ml, t, h1, h2, ⟨h3.1, by rw [List.length_append]; omega, h3.2⟩, h4⟩
theorem cSBt.to (k : cSBt h a v ml l.length (l ++ t)) : cSB h a v l := ⟨ml, t, k.1, k.2.1, ⟨k.2.2.1.1, k.2.2.1.2.2⟩, k.2.2.2⟩
theorem w_newLen {o mg pg : Nat} (ho : o < 2 ^ 20) (hm : mg < 2 ^ 20) (hp : pg < 2 ^ 20) (h0 : 0 < o + max mg pg) : zK G mJ15_newLength 2 0 [.int (nI o), .int (nI mg), .int (nI pg)] h (zPu h (some (.int (nI (o + max mg pg))))) := by
  have hb : o + max mg pg < 2 ^ 21 + 2 ^ 20 := by rw [Nat.max_def]; split <;> omega
  have hb2 : max mg pg < 2 ^ 20 := by rw [Nat.max_def]; split <;> omega
  show zW G mJ15_newLength 2 0 0 [.int (nI o), .int (nI mg), .int (nI pg), zho] [] h _
  refine zW.iload_n (pc' := 1) dJ15_newLength_0 rfl rfl zg0 ?_
  refine zW.iload_n (pc' := 2) dJ15_newLength_1 rfl rfl (zgS (zg0)) ?_
  refine zW.iload_n (pc' := 3) dJ15_newLength_2 rfl rfl (zgS (zgS (zg0))) ?_
  refine zW.mmax (pc' := 6) dJ15_newLength_3 rfl (lw_all_tbl q435) (Nat.le_of_ble_eq_true rfl) (Nat.le_of_ble_eq_true rfl) (by omega) (by omega) ?_
  refine zW.iaddN (pc' := 7) dJ15_newLength_6 rfl ?_
  refine zW.istore_n (pc' := 8) dJ15_newLength_7 rfl rfl (Nat.le_of_ble_eq_true rfl) (zsS (zsS (zsS (zs0)))) ?_
  refine zW.iconst (pc' := 9) (nI 0) dJ15_newLength_8 rfl (by decide) ?_
  refine zW.iload_n (pc' := 10) dJ15_newLength_9 rfl rfl (zgS (zgS (zgS (zg0)))) ?_
  refine zW.icmp_geN (pc' := 13) 21 dJ15_newLength_10 rfl (by decide) (by omega) (by omega) (fun b9 => absurd b9 (by omega)) (fun b9 => ?_)
  refine zW.iload_n (pc' := 14) dJ15_newLength_13 rfl rfl (zgS (zgS (zgS (zg0)))) ?_
  refine zW.ldc (pc' := 16) (nI 2147483639) dJ15_newLength_14 rfl (lw_all_tbl q438) ?_
  refine zW.icmp_gtN (pc' := 19) 21 dJ15_newLength_16 rfl (by decide) (by omega) (by omega) (fun b9 => absurd b9 (by omega)) (fun b9 => ?_)
  refine zW.iload_n (pc' := 20) dJ15_newLength_19 rfl rfl (zgS (zgS (zgS (zg0)))) ?_
  refine zW.iret dJ15_newLength_20 rfl (rfl) ?_
  exact ⟨rfl, rfl⟩
theorem w_sbNewCap {b : List Nat} (k : cSBt h a v ml n b) (hq : b.length < q) (hq2 : q < 2 ^ 16) : zK G mJ5_newCapacity 3 0 [.ref a, .int (nI q)] h (zPu h (some (.int (nI (b.length + max (q - b.length) (b.length + 2)))))) := by
  obtain ⟨ha, hv, ⟨h1, h2, h3⟩, h4⟩ := k
  have hb : b.length + max (q - b.length) (b.length + 2) < 2 ^ 20 := by rw [Nat.max_def]; split <;> omega
  show zW G mJ5_newCapacity 3 0 0 [.ref a, .int (nI q), zho, zho, zho, zho] [] h _
  refine zW.aload_n (pc' := 1) dJ5_newCapacity_0 rfl rfl zg0 rfl ?_
  refine zW.get (pc' := 4) dJ5_newCapacity_1 rfl f_J5_15_13 ha ⟨rfl, (Nat.le_of_ble_eq_true rfl)⟩ rfl ?_
  refine zW.alen (pc' := 5) dJ5_newCapacity_4 rfl hv (by decide) (btab_n (rfl)) ?_
  refine zW.istore_n (pc' := 6) dJ5_newCapacity_5 rfl rfl (Nat.le_of_ble_eq_true rfl) (zsS (zsS (zs0))) ?_
  refine zW.iload_n (pc' := 7) dJ5_newCapacity_6 rfl rfl (zgS (zg0)) ?_
  refine zW.aload_n (pc' := 8) dJ5_newCapacity_7 rfl rfl zg0 rfl ?_
  refine zW.get (pc' := 11) dJ5_newCapacity_8 rfl f_J5_22_13 ha ⟨rfl, (Nat.le_of_ble_eq_true rfl)⟩ rfl ?_
  refine zW.ishl0 (pc' := 12) dJ5_newCapacity_11 rfl ?_
  refine zW.istore_n (pc' := 13) dJ5_newCapacity_12 rfl rfl (Nat.le_of_ble_eq_true rfl) (zsS (zsS (zsS (zs0)))) ?_
  refine zW.iload_n (pc' := 14) dJ5_newCapacity_13 rfl rfl (zgS (zgS (zgS (zg0)))) ?_
  refine zW.iload_n (pc' := 15) dJ5_newCapacity_14 rfl rfl (zgS (zgS (zg0))) ?_
  refine zW.isubN (pc' := 16) dJ5_newCapacity_15 rfl (by omega) ?_
  refine zW.istore (pc' := 18) dJ5_newCapacity_16 rfl (Nat.le_of_ble_eq_true rfl) (zsS (zsS (zsS (zsS (zs0))))) ?_
  refine zW.iload_n (pc' := 19) dJ5_newCapacity_18 rfl rfl (zgS (zgS (zg0))) ?_
  refine zW.iload (pc' := 21) dJ5_newCapacity_19 rfl (zgS (zgS (zgS (zgS (zg0))))) ?_
  refine zW.iload_n (pc' := 22) dJ5_newCapacity_21 rfl rfl (zgS (zgS (zg0))) ?_
  refine zW.iconst (pc' := 23) (nI 2) dJ5_newCapacity_22 rfl (by decide) ?_
  refine zW.aload_n (pc' := 24) dJ5_newCapacity_23 rfl rfl zg0 rfl ?_
  refine zW.get (pc' := 27) dJ5_newCapacity_24 rfl f_J5_22_13 ha ⟨rfl, (Nat.le_of_ble_eq_true rfl)⟩ rfl ?_
  refine zW.ishl0 (pc' := 28) dJ5_newCapacity_27 rfl ?_
  refine zW.iaddN (pc' := 29) dJ5_newCapacity_28 rfl ?_
  refine zW.callS (r' := 0) (pc' := 32) dJ5_newCapacity_29 rfl l_J5_114 rfl (w_newLen (o := b.length) (mg := q - b.length) (pg := b.length + 2) (by omega) (by omega) (by omega) (by omega)) (zcc rfl (zcc rfl (zcc rfl zc0))) rfl (Nat.le_of_ble_eq_true rfl) (Nat.le_of_ble_eq_true rfl) (Nat.le_of_ble_eq_true rfl) (fun _ _ q9 => ?_) (fun _ _ q9 => by cases q9.1)
  obtain ⟨q8, e9⟩ := q9
  cases q8
  replace e9 := e9.symm
  subst e9
  refine zW.istore (pc' := 34) dJ5_newCapacity_32 rfl (Nat.le_of_ble_eq_true rfl) (zsS (zsS (zsS (zsS (zsS (zs0)))))) ?_
  refine zW.iload (pc' := 36) dJ5_newCapacity_34 rfl (zgS (zgS (zgS (zgS (zgS (zg0)))))) ?_
  refine zW.ldc (pc' := 38) (nI 2147483647) dJ5_newCapacity_36 rfl (lw_all_tbl q442) ?_
  refine zW.icmp_neN (pc' := 41) 51 dJ5_newCapacity_38 rfl (by decide) (by omega) (by omega) (fun b9 => ?_) (fun b9 => absurd b9 (by omega))
  refine zW.iload (pc' := 53) dJ5_newCapacity_51 rfl (zgS (zgS (zgS (zgS (zgS (zg0)))))) ?_
  refine zW.aload_n (pc' := 54) dJ5_newCapacity_53 rfl rfl zg0 rfl ?_
  refine zW.get (pc' := 57) dJ5_newCapacity_54 rfl f_J5_22_13 ha ⟨rfl, (Nat.le_of_ble_eq_true rfl)⟩ rfl ?_
  refine zW.ishr0 (pc' := 58) dJ5_newCapacity_57 rfl ?_
  refine zW.iret dJ5_newCapacity_58 rfl (rfl) ?_
  exact ⟨rfl, rfl⟩
theorem w_copyOfB {v kk N u : Nat} {b : List Nat} (hv : h v = some (kk, btab b)) (hk : kk % 1000 = 103) (hN : b.length < N) (h16 : N < 2 ^ 20) (hb : ∀ x ∈ b, x < 128) (hu : N ≤ 4 * u) : zK G mJ17_copyOf 2 u [.ref v, .int (nI N)] h (zO fun o h' => ∃ v', o = some (.ref v') ∧ h v' = none ∧ h' = zup h v' (103, btab (b ++ List.replicate (N - b.length) 0)) ∧ h' v' = some (103, btab (b ++ List.replicate (N - b.length) 0))) := by
  have zf := zfr.rf (A := fun _ => False) (h := h)
  refine zW.pay (r1 := 0 + u) ?_ (by omega)
  show zW G mJ17_copyOf 2 (0+u) 0 [.ref v, .int (nI N), zho] [] h _
  refine zW.iload_n (pc' := 1) dJ17_copyOf_0 rfl rfl (zgS (zg0)) ?_
  refine zW.aload_n (pc' := 2) dJ17_copyOf_1 rfl rfl zg0 rfl ?_
  refine zW.alen (pc' := 3) dJ17_copyOf_2 rfl hv (by omega) (btab_n (rfl)) ?_
  refine zW.icmp_neN (pc' := 6) 14 dJ17_copyOf_3 rfl (by decide) (by omega) (by omega) (fun b9 => ?_) (fun b9 => absurd b9 (by omega))
  refine zW.iload_n (pc' := 15) dJ17_copyOf_14 rfl rfl (zgS (zg0)) ?_
  refine zW.newaBK (u := u) (N := N) (pc' := 17) dJ17_copyOf_15 rfl (nI_pos (by omega)) (nI_clamp (by omega)) (by omega) (⟨by omega, hu⟩) (fun v9 _ nv9 e9 k9 => ?_)
  have q_hv_v9 := zfresh nv9 hv
  have hv := zpres e9 (zfresh nv9 hv) hv
  have hv9 := k9
  clear k9
  have e8 := e9
  refine zW.astore_n (pc' := 18) dJ17_copyOf_17 rfl rfl (Nat.le_of_ble_eq_true rfl) rfl (zsS (zsS (zs0))) ?_
  refine zW.aload_n (pc' := 19) dJ17_copyOf_18 rfl rfl zg0 rfl ?_
  refine zW.iconst (pc' := 20) (nI 0) dJ17_copyOf_19 rfl (by decide) ?_
  refine zW.aload_n (pc' := 21) dJ17_copyOf_20 rfl rfl (zgS (zgS (zg0))) rfl ?_
  refine zW.iconst (pc' := 22) (nI 0) dJ17_copyOf_21 rfl (by decide) ?_
  refine zW.aload_n (pc' := 23) dJ17_copyOf_22 rfl rfl zg0 rfl ?_
  refine zW.alen (pc' := 24) dJ17_copyOf_23 rfl hv (by omega) (btab_n (rfl)) ?_
  refine zW.iload_n (pc' := 25) dJ17_copyOf_24 rfl rfl (zgS (zg0)) ?_
  refine zW.mmin (pc' := 28) dJ17_copyOf_25 rfl (lw_all_tbl q453) (Nat.le_of_ble_eq_true rfl) (Nat.le_of_ble_eq_true rfl) (by omega) (by omega) ?_
  rw [Nat.min_eq_left (by omega)]
  refine zW.acopyB (pc' := 31) dJ17_copyOf_28 rfl (lw_all_tbl q456) hv hv9 hk (by omega) (by rw [List.length_replicate]; omega) (by rw [List.length_replicate]; omega) (hb) (Nat.le_of_ble_eq_true rfl) (Nat.le_of_ble_eq_true rfl) (fun _ e9 k9 => ?_)
  have hv := zpres e9 q_hv_v9 hv
  have e8 := ztrk e8 e9
  replace hv9 := k9
  clear e9 k9
  refine zW.aload_n (pc' := 32) dJ17_copyOf_31 rfl rfl (zgS (zgS (zg0))) rfl ?_
  refine zW.aret dJ17_copyOf_32 rfl (Or.inr ⟨_, rfl⟩) rfl ?_
  have e : (List.replicate N 0).take 0 ++ (b.drop 0).take b.length ++ (List.replicate N 0).drop (0 + b.length) = b ++ List.replicate (N - b.length) 0 := by
    rw [List.take_zero, List.drop_zero, List.nil_append, List.take_length, List.drop_replicate, Nat.zero_add]
  rw [e] at e8 hv9
  exact ⟨_, rfl, v9, rfl, nv9, e8, hv9⟩
/-- behind it q letters have room -/
theorem w_sbEnsure {b : List Nat} (k : cSBt h a v ml n b) (hq : q ≤ 100) : zK G mJ5_ensureCapacityInternal 4 51 [.ref a, .int (nI q)] h (zO fun o h' => o = none ∧ ∃ v' z, cSBt h' a v' ml n (b ++ z) ∧ q ≤ (b ++ z).length ∧ (v' = v ∨ h v' = none) ∧ zfr (fun c => c = a) h h') := by
  have k0 := k
  obtain ⟨ha, hv, ⟨h1, h2, h3⟩, h4⟩ := k
  have zf := zfr.rf (A := fun c => c = a) (h := h)
  show zW G mJ5_ensureCapacityInternal 4 51 0 [.ref a, .int (nI q), zho] [] h _
  refine zW.aload_n (pc' := 1) dJ5_ensureCapacityInternal_0 rfl rfl zg0 rfl ?_
  refine zW.get (pc' := 4) dJ5_ensureCapacityInternal_1 rfl f_J5_15_13 ha ⟨rfl, (Nat.le_of_ble_eq_true rfl)⟩ rfl ?_
  refine zW.alen (pc' := 5) dJ5_ensureCapacityInternal_4 rfl hv (by decide) (btab_n (rfl)) ?_
  refine zW.aload_n (pc' := 6) dJ5_ensureCapacityInternal_5 rfl rfl zg0 rfl ?_
  refine zW.get (pc' := 9) dJ5_ensureCapacityInternal_6 rfl f_J5_22_13 ha ⟨rfl, (Nat.le_of_ble_eq_true rfl)⟩ rfl ?_
  refine zW.ishr0 (pc' := 10) dJ5_ensureCapacityInternal_9 rfl ?_
  refine zW.istore_n (pc' := 11) dJ5_ensureCapacityInternal_10 rfl rfl (Nat.le_of_ble_eq_true rfl) (zsS (zsS (zs0))) ?_
  refine zW.iload_n (pc' := 12) dJ5_ensureCapacityInternal_11 rfl rfl (zgS (zg0)) ?_
  refine zW.iload_n (pc' := 13) dJ5_ensureCapacityInternal_12 rfl rfl (zgS (zgS (zg0))) ?_
  refine zW.isub (pc' := 14) dJ5_ensureCapacityInternal_13 rfl ?_
  by_cases hc : q ≤ b.length
  · refine zW.if_le (pc' := 17) 38 dJ5_ensureCapacityInternal_14 rfl (by decide) (fun b1 => ?_) (fun b1 => ?_)
    rotate_left
    · exact absurd ((nI_sub_le (by omega) (by omega)).mpr hc) b1
    refine zW.vret dJ5_ensureCapacityInternal_38 rfl ?_
    exact ⟨_, rfl, rfl, v, [], by rw [List.append_nil]; exact k0, by rw [List.append_nil]; exact hc, Or.inl rfl, zf⟩
  · refine zW.if_le (pc' := 17) 38 dJ5_ensureCapacityInternal_14 rfl (by decide) (fun b1 => ?_) (fun b1 => ?_)
    · exact absurd ((nI_sub_le (by omega) (by omega)).mp b1) hc
    have hN : b.length + max (q - b.length) (b.length + 2) ≤ 202 := by rw [Nat.max_def]; split <;> omega
    have hN2 : q ≤ b.length + max (q - b.length) (b.length + 2) := by rw [Nat.max_def]; split <;> omega
    refine zW.aload_n (pc' := 18) dJ5_ensureCapacityInternal_17 rfl rfl zg0 rfl ?_
    refine zW.aload_n (pc' := 19) dJ5_ensureCapacityInternal_18 rfl rfl zg0 rfl ?_
    refine zW.get (pc' := 22) dJ5_ensureCapacityInternal_19 rfl f_J5_15_13 ha ⟨rfl, (Nat.le_of_ble_eq_true rfl)⟩ rfl ?_
    refine zW.aload_n (pc' := 23) dJ5_ensureCapacityInternal_22 rfl rfl zg0 rfl ?_
    refine zW.iload_n (pc' := 24) dJ5_ensureCapacityInternal_23 rfl rfl (zgS (zg0)) ?_
    refine zW.callP (r' := 0) (pc' := 27) dJ5_ensureCapacityInternal_24 rfl l_J5_104 rfl ha ⟨rfl, (Nat.le_of_ble_eq_true rfl)⟩ rfl (w_sbNewCap k0 (q := q) (by omega) (by omega)) (zcc rfl zc0) rfl (Nat.le_of_ble_eq_true rfl) (Nat.le_of_ble_eq_true rfl) (Nat.le_of_ble_eq_true rfl) (fun _ _ q9 => ?_) (fun _ _ q9 => by cases q9.1)
    obtain ⟨q8, e9⟩ := q9
    cases q8
    replace e9 := e9.symm
    subst e9
    refine zW.aload_n (pc' := 28) dJ5_ensureCapacityInternal_27 rfl rfl zg0 rfl ?_
    refine zW.get (pc' := 31) dJ5_ensureCapacityInternal_28 rfl f_J5_22_13 ha ⟨rfl, (Nat.le_of_ble_eq_true rfl)⟩ rfl ?_
    refine zW.ishl0 (pc' := 32) dJ5_ensureCapacityInternal_31 rfl ?_
    refine zW.callS (r' := 51) (pc' := 35) dJ5_ensureCapacityInternal_32 rfl l_J5_108 rfl (w_copyOfB (u := 51) hv rfl (N := b.length + max (q - b.length) (b.length + 2)) (by omega) (by omega) h4 (by omega)) (zcc rfl (zcc rfl zc0)) rfl (Nat.le_of_ble_eq_true rfl) (Nat.le_of_ble_eq_true rfl) (Nat.le_of_ble_eq_true rfl) (fun _ _ q9 => ?_) (fun _ _ q9 => absurd q9 zO.no)
    obtain ⟨_, q8, v', e1, nv, e9, k9⟩ := q9
    cases q8
    cases e1
    have zf := zf.new e9 nv
    have ha := zpres e9 (zfresh nv ha) ha
    clear e9
    have hv9 := k9
    refine zW.putK (pc' := 38) dJ5_ensureCapacityInternal_35 rfl f_J5_15_13 ha ⟨⟨rfl, (Nat.le_of_ble_eq_true rfl)⟩, (Nat.le_of_ble_eq_true rfl)⟩ (zFw.of ft_13_0 rfl rfl) zs0 (fun _ e9 k9 => ?_)
    have hv9 := zpres e9 (zne hv9 ha (by decide)) hv9
    have zf := zf.put e9 ha (by decide) (Or.inl rfl)
    replace ha := k9
    clear e9 k9
    refine zW.vret dJ5_ensureCapacityInternal_38 rfl ?_
    refine ⟨_, rfl, rfl, v', _, ⟨ha, hv9, ⟨h1, ?_, ?_⟩, ?_⟩, ?_, Or.inr nv, zf⟩
    · rw [List.length_append]; omega
    · rw [List.length_append, List.length_replicate]; omega
    · intro x hx
      rcases List.mem_append.mp hx with q | q
      · exact h4 x q
      · rw [List.eq_of_mem_replicate q]; decide
    · rw [List.length_append, List.length_replicate]; omega
theorem w_sbLatin {b : List Nat} (k : cSBt h a v ml n b) : zK G mJ5_isLatin1 1 0 [.ref a] h (zPu h (some (.int (nI 1)))) := by
  obtain ⟨ha, -⟩ := k
  show zW G mJ5_isLatin1 1 0 0 [.ref a] [] h _
  refine zW.gets (j := 0) (pc' := 3) dJ5_isLatin1_0 rfl rfl (lw_all_tbl q275) ?_
  refine zW.if_eq (pc' := 6) 17 dJ5_isLatin1_3 rfl (by decide) (fun b1 => ?_) (fun b1 => ?_)
  · exact absurd b1 (by decide)
  refine zW.aload_n (pc' := 7) dJ5_isLatin1_6 rfl rfl zg0 rfl ?_
  refine zW.get (pc' := 10) dJ5_isLatin1_7 rfl f_J5_22_13 ha ⟨rfl, (Nat.le_of_ble_eq_true rfl)⟩ rfl ?_
  refine zW.if_neN (pc' := 13) 17 dJ5_isLatin1_10 rfl (by decide) (by omega) (fun b9 => absurd b9 (by omega)) (fun b9 => ?_)
  refine zW.iconst (pc' := 14) (nI 1) dJ5_isLatin1_13 rfl (by decide) ?_
  refine zW.goto 18 dJ5_isLatin1_14 (by decide) ?_
  refine zW.iret dJ5_isLatin1_18 rfl (rfl) ?_
  exact ⟨rfl, rfl⟩
theorem w_canEnc (hx : x < 128) : zK G mJ19_canEncode 1 0 [.int (nI x)] h (zPu h (some (.int (nI 1)))) := by
  show zW G mJ19_canEncode 1 0 0 [.int (nI x)] [] h _
  refine zW.iload_n (pc' := 1) dJ19_canEncode_0 rfl rfl zg0 ?_
  refine zW.sipush (pc' := 4) (nI 255) dJ19_canEncode_1 rfl (by decide) ?_
  refine zW.icmp_gtN (pc' := 7) 11 dJ19_canEncode_4 rfl (by decide) (by omega) (by omega) (fun b9 => absurd b9 (by omega)) (fun b9 => ?_)
  refine zW.iconst (pc' := 8) (nI 1) dJ19_canEncode_7 rfl (by decide) ?_
  refine zW.goto 12 dJ19_canEncode_8 (by decide) ?_
  refine zW.iret dJ19_canEncode_12 rfl (rfl) ?_
  exact ⟨rfl, rfl⟩
theorem set_app {z : List Nat} (hz : 0 < z.length) : (l ++ z).set l.length x = (l ++ [x]) ++ z.tail := by
  cases z with
  | nil => cases hz
  | cons y z =>
    rw [List.set_append_right _ _ (Nat.le_refl _), Nat.sub_self]
    simp
/-- the footprint's growth of a builder -/
abbrev cSBw (a : Nat) (v : Nat) (h : zH) : Nat → Prop := fun c => c = a ∨ c = v ∨ h c = none
abbrev cSBp (h : zH) (a v : Nat) (l : List Nat) (ov : Option Value) : zR → zH → Prop := zO fun o h' => o = ov ∧ ∃ v', cSB h' a v' l ∧ (v' = v ∨ h v' = none) ∧ zfr (fun c => c = a ∨ c = v) h h'
theorem w_sbPut (k : cSB h a v l) (hl : l.length < 100) (hx : x < 128) : zK G mJ5_append_3 5 51 [.ref a, .int (nI x)] h (cSBp h a v (l ++ [x]) (some (.ref a))) := by
  obtain ⟨ml, t, k0⟩ := cSBt.of k
  have ha := k0.1
  show zW G mJ5_append_3 5 51 0 [.ref a, .int (nI x)] [] h _
  refine zW.aload_n (pc' := 1) dJ5_append_3_0 rfl rfl zg0 rfl ?_
  refine zW.aload_n (pc' := 2) dJ5_append_3_1 rfl rfl zg0 rfl ?_
  refine zW.get (pc' := 5) dJ5_append_3_2 rfl f_J5_79_13 ha ⟨rfl, (Nat.le_of_ble_eq_true rfl)⟩ rfl ?_
  refine zW.iconst (pc' := 6) (nI 1) dJ5_append_3_5 rfl (by decide) ?_
  refine zW.iaddN (pc' := 7) dJ5_append_3_6 rfl ?_
  refine zW.callP (r' := 51) (pc' := 10) dJ5_append_3_7 rfl l_J5_100 rfl ha ⟨rfl, (Nat.le_of_ble_eq_true rfl)⟩ rfl (w_sbEnsure k0 (q := l.length + 1) (by omega)) (zcc rfl zc0) rfl (Nat.le_of_ble_eq_true rfl) (Nat.le_of_ble_eq_true rfl) (Nat.le_of_ble_eq_true rfl) (fun _ _ q9 => ?_) (fun _ _ q9 => absurd q9 zO.no)
  obtain ⟨_, q8, e1, v', z, k1, hz, hv', z1⟩ := q9
  cases q8
  subst e1
  have ha := k1.1
  refine zW.aload_n (pc' := 11) dJ5_append_3_10 rfl rfl zg0 rfl ?_
  refine zW.callU (r' := 0) (pc' := 14) dJ5_append_3_11 rfl l_J5_83_J6 rfl ha ⟨rfl, (Nat.le_of_ble_eq_true rfl)⟩ rfl (w_sbLatin k1) zc0 rfl (Nat.le_of_ble_eq_true rfl) (Nat.le_of_ble_eq_true rfl) (Nat.le_of_ble_eq_true rfl) (fun _ _ q9 => ?_) (fun _ _ q9 => by cases q9.1)
  obtain ⟨q8, e9⟩ := q9
  cases q8
  replace e9 := e9.symm
  subst e9
  refine zW.if_eqN (pc' := 17) 45 dJ5_append_3_14 rfl (by decide) (by omega) (fun b9 => absurd b9 (by omega)) (fun b9 => ?_)
  refine zW.iload_n (pc' := 18) dJ5_append_3_17 rfl rfl (zgS (zg0)) ?_
  refine zW.callS (r' := 0) (pc' := 21) dJ5_append_3_18 rfl l_J5_191 rfl (w_canEnc hx) (zcc rfl zc0) rfl (Nat.le_of_ble_eq_true rfl) (Nat.le_of_ble_eq_true rfl) (Nat.le_of_ble_eq_true rfl) (fun _ _ q9 => ?_) (fun _ _ q9 => by cases q9.1)
  obtain ⟨q8, e9⟩ := q9
  cases q8
  replace e9 := e9.symm
  subst e9
  refine zW.if_eqN (pc' := 24) 45 dJ5_append_3_21 rfl (by decide) (by omega) (fun b9 => absurd b9 (by omega)) (fun b9 => ?_)
  have hv := k1.2.1
  obtain ⟨-, -, ⟨h1, h2, h3⟩, h4⟩ := k1
  have zf : zfr (fun c => c = a ∨ c = v) h _ := z1.mono fun c hc => Or.inl (Or.inl hc)
  refine zW.aload_n (pc' := 25) dJ5_append_3_24 rfl rfl zg0 rfl ?_
  refine zW.get (pc' := 28) dJ5_append_3_25 rfl f_J5_15_13 ha ⟨rfl, (Nat.le_of_ble_eq_true rfl)⟩ rfl ?_
  refine zW.aload_n (pc' := 29) dJ5_append_3_28 rfl rfl zg0 rfl ?_
  refine zW.dup (pc' := 30) dJ5_append_3_29 rfl rfl ?_
  refine zW.get (pc' := 33) dJ5_append_3_30 rfl f_J5_79_13 ha ⟨rfl, (Nat.le_of_ble_eq_true rfl)⟩ rfl ?_
  refine zW.dup_x1 (pc' := 34) dJ5_append_3_33 rfl rfl rfl ?_
  refine zW.iconst (pc' := 35) (nI 1) dJ5_append_3_34 rfl (by decide) ?_
  refine zW.iaddN (pc' := 36) dJ5_append_3_35 rfl ?_
  refine zW.putK (pc' := 39) dJ5_append_3_36 rfl f_J5_79_13 ha ⟨⟨rfl, (Nat.le_of_ble_eq_true rfl)⟩, (Nat.le_of_ble_eq_true rfl)⟩ (zFw.of ft_13_3 rfl rfl) (zsS (zsS (zsS (zs0)))) (fun _ e9 k9 => ?_)
  have hv := zpres e9 (zne hv ha (by decide)) hv
  have zf := zf.put e9 ha (by decide) (Or.inl (Or.inl rfl))
  replace ha := k9
  clear e9 k9
  refine zW.iload_n (pc' := 40) dJ5_append_3_39 rfl rfl (zgS (zg0)) ?_
  refine zW.i2bB (pc' := 41) dJ5_append_3_40 rfl (hx) ?_
  refine zW.bastN (pc' := 42) dJ5_append_3_41 rfl hv (by omega) (hx) (by omega) (fun _ e9 k9 => ?_)
  have ha := zpres e9 (zne ha hv (by decide)) ha
  have zf := zf.put e9 hv (by decide) (hv'.elim (fun q => Or.inl (Or.inr q)) Or.inr)
  replace hv := k9
  clear e9 k9
  refine zW.goto 75 dJ5_append_3_42 (by decide) ?_
  refine zW.aload_n (pc' := 76) dJ5_append_3_75 rfl rfl zg0 rfl ?_
  refine zW.aret dJ5_append_3_76 rfl (Or.inl ⟨_, rfl⟩) rfl ?_
  have hlz : l.length < ((l ++ t) ++ z).length := by omega
  rw [List.append_assoc, set_app (by rw [List.append_assoc, List.length_append] at hlz; omega)] at hv
  refine ⟨_, rfl, rfl, v', ⟨ml, (t ++ z).tail, ?_, hv, ⟨h1, ?_⟩, fun y hy => ?_⟩, hv', zf⟩
  · rw [List.length_append]; exact ha
  · have : (t ++ z).tail.length = (t ++ z).length - 1 := List.length_tail
    rw [List.append_assoc, List.length_append] at hlz h3
    rw [List.length_append, List.length_append, List.length_singleton, this]
    omega
  · rw [List.append_assoc] at h4
    rcases List.mem_append.mp hy with q | q
    · rcases List.mem_append.mp q with q | q
      · exact h4 y (List.mem_append_left _ q)
      · rw [List.mem_singleton.mp q]; exact hx
    · exact h4 y (List.mem_append_right _ (List.mem_of_mem_tail q))
theorem w_sbAppC (k : cSB h a v l) (hl : l.length < 100) (hx : x < 128) : zK G mJ6_append_3 6 51 [.ref a, .int (nI x)] h (cSBp h a v (l ++ [x]) (some (.ref a))) := by
  have ha : ∃ fs, h a = some (13, fs) := by obtain ⟨ml, t, k1, -⟩ := k; exact ⟨_, k1⟩
  obtain ⟨fs, ha⟩ := ha
  show zW G mJ6_append_3 6 51 0 [.ref a, .int (nI x)] [] h _
  refine zW.aload_n (pc' := 1) dJ6_append_3_0 rfl rfl zg0 rfl ?_
  refine zW.iload_n (pc' := 2) dJ6_append_3_1 rfl rfl (zgS (zg0)) ?_
  refine zW.callSU (r' := 51) (pc' := 5) dJ6_append_3_2 rfl l_J6_50 rfl ha ⟨rfl, (Nat.le_of_ble_eq_true rfl)⟩ rfl (w_sbPut k hl hx) (zcc rfl zc0) rfl (Nat.le_of_ble_eq_true rfl) (Nat.le_of_ble_eq_true rfl) (Nat.le_of_ble_eq_true rfl) (fun _ _ q9 => ?_) (fun _ _ q9 => absurd q9 zO.no)
  obtain ⟨_, q8, e1, k2⟩ := q9
  cases q8
  subst e1
  refine zW.pop (pc' := 6) dJ6_append_3_5 rfl rfl ?_
  refine zW.aload_n (pc' := 7) dJ6_append_3_6 rfl rfl zg0 rfl ?_
  refine zW.aret dJ6_append_3_7 rfl (Or.inl ⟨_, rfl⟩) rfl ?_
  exact ⟨_, rfl, rfl, k2⟩
theorem w_sbLen (k : cSB h a v l) : zK G mJ6_length 2 0 [.ref a] h (zPu h (some (.int (nI l.length)))) := by
  obtain ⟨ml, t, ha, -⟩ := k
  show zW G mJ6_length 2 0 0 [.ref a] [] h _
  refine zW.aload_n (pc' := 1) dJ6_length_0 rfl rfl zg0 rfl ?_
  have kl : zK G mJ5_length 1 0 [.ref a] h (zPu h (some (.int (nI l.length)))) := by
    show zW G mJ5_length 1 0 0 [.ref a] [] h _
    refine zW.aload_n (pc' := 1) dJ5_length_0 rfl rfl zg0 rfl ?_
    refine zW.get (pc' := 4) dJ5_length_1 rfl f_J5_79_13 ha ⟨rfl, (Nat.le_of_ble_eq_true rfl)⟩ rfl ?_
    refine zW.iret dJ5_length_4 rfl (rfl) ?_
    exact ⟨rfl, rfl⟩
  refine zW.callSU (r' := 0) (pc' := 4) dJ6_length_1 rfl l_J6_343 rfl ha ⟨rfl, (Nat.le_of_ble_eq_true rfl)⟩ rfl (kl) zc0 rfl (Nat.le_of_ble_eq_true rfl) (Nat.le_of_ble_eq_true rfl) (Nat.le_of_ble_eq_true rfl) (fun _ _ q9 => ?_) (fun _ _ q9 => by cases q9.1)
  obtain ⟨q8, e9⟩ := q9
  cases q8
  replace e9 := e9.symm
  subst e9
  refine zW.iret dJ6_length_4 rfl (rfl) ?_
  exact ⟨rfl, rfl⟩
theorem w_sbChk {f : Value} (hi : i < n) (hn : n < 2 ^ 31) : zK G mJ7_checkIndex 3 0 [.int (nI i), .int (nI n)] h (zPu h none) := by
  have kc : ∀ o, zK G mJ18_checkIndex 1 0 [.int (nI i), .int (nI n), zrf o] h (zPu h (some (.int (nI i)))) := fun o => by
    show zW G mJ18_checkIndex 1 0 0 [.int (nI i), .int (nI n), zrf o] [] h _
    refine zW.iload_n (pc' := 1) dJ18_checkIndex_0 rfl rfl zg0 ?_
    refine zW.if_ltN (pc' := 4) (tg := 9) dJ18_checkIndex_1 rfl (by decide) (by omega) ?_
    refine zW.iload_n (pc' := 5) dJ18_checkIndex_4 rfl rfl zg0 ?_
    refine zW.iload_n (pc' := 6) dJ18_checkIndex_5 rfl rfl (zgS (zg0)) ?_
    refine zW.icmp_ltN (pc' := 9) 16 dJ18_checkIndex_6 rfl (by decide) (by omega) (by omega) (fun b9 => ?_) (fun b9 => absurd b9 (by omega))
    refine zW.iload_n (pc' := 17) dJ18_checkIndex_16 rfl rfl zg0 ?_
    refine zW.iret dJ18_checkIndex_17 rfl (rfl) ?_
    exact ⟨rfl, rfl⟩
  show zW G mJ7_checkIndex 3 0 0 [.int (nI i), .int (nI n)] [] h _
  refine zW.iload_n (pc' := 1) dJ7_checkIndex_0 rfl rfl zg0 ?_
  refine zW.iload_n (pc' := 2) dJ7_checkIndex_1 rfl rfl (zgS (zg0)) ?_
  refine zW.getsQ (pc' := 5) dJ7_checkIndex_2 rfl (lw_all_tbl q476) (fun oq => ?_)
  refine zW.callS (r' := 0) (pc' := 8) dJ7_checkIndex_5 rfl l_J7_1059 rfl (kc oq) (zcc rfl (zcc rfl (zcc zrf_c zc0))) rfl (Nat.le_of_ble_eq_true rfl) (Nat.le_of_ble_eq_true rfl) (Nat.le_of_ble_eq_true rfl) (fun _ _ q9 => ?_) (fun _ _ q9 => by cases q9.1)
  obtain ⟨q8, e9⟩ := q9
  cases q8
  replace e9 := e9.symm
  subst e9
  refine zW.pop (pc' := 9) dJ7_checkIndex_8 rfl rfl ?_
  refine zW.vret dJ7_checkIndex_9 rfl ?_
  exact ⟨rfl, rfl⟩
theorem w_sbAt (k : cSB h a v l) (hx : l[i]? = some x) : zK G mJ6_charAt 6 0 [.ref a, .int (nI i)] h (zPu h (some (.int (nI x)))) := by
  obtain ⟨ml, t, ha, hv, ⟨h1, h2⟩, h4⟩ := k
  have hi := (List.getElem?_eq_some_iff.mp hx).1
  have hm : l.length ≤ (l ++ t).length := by rw [List.length_append]; omega
  have hx2 : (l ++ t)[i]? = some x := by rw [List.getElem?_append_left hi]; exact hx
  have hx1 := h4 x (List.mem_of_getElem? hx2)
  have kl : zK G mJ5_charAt 5 0 [.ref a, .int (nI i)] h (zPu h (some (.int (nI x)))) := by
    show zW G mJ5_charAt 5 0 0 [.ref a, .int (nI i), zho, zho, zho] [] h _
    refine zW.aload_n (pc' := 1) dJ5_charAt_0 rfl rfl zg0 rfl ?_
    refine zW.get (pc' := 4) dJ5_charAt_1 rfl f_J5_22_13 ha ⟨rfl, (Nat.le_of_ble_eq_true rfl)⟩ rfl ?_
    refine zW.istore_n (pc' := 5) dJ5_charAt_4 rfl rfl (Nat.le_of_ble_eq_true rfl) (zsS (zsS (zs0))) ?_
    refine zW.aload_n (pc' := 6) dJ5_charAt_5 rfl rfl zg0 rfl ?_
    refine zW.get (pc' := 9) dJ5_charAt_6 rfl f_J5_15_13 ha ⟨rfl, (Nat.le_of_ble_eq_true rfl)⟩ rfl ?_
    refine zW.astore_n (pc' := 10) dJ5_charAt_9 rfl rfl (Nat.le_of_ble_eq_true rfl) rfl (zsS (zsS (zsS (zs0)))) ?_
    refine zW.aload_n (pc' := 11) dJ5_charAt_10 rfl rfl zg0 rfl ?_
    refine zW.get (pc' := 14) dJ5_charAt_11 rfl f_J5_79_13 ha ⟨rfl, (Nat.le_of_ble_eq_true rfl)⟩ rfl ?_
    refine zW.aload_n (pc' := 15) dJ5_charAt_14 rfl rfl (zgS (zgS (zgS (zg0)))) rfl ?_
    refine zW.alen (pc' := 16) dJ5_charAt_15 rfl hv (by decide) (btab_n (rfl)) ?_
    refine zW.iload_n (pc' := 17) dJ5_charAt_16 rfl rfl (zgS (zgS (zg0))) ?_
    refine zW.ishr0 (pc' := 18) dJ5_charAt_17 rfl ?_
    refine zW.mmin (pc' := 21) dJ5_charAt_18 rfl (lw_all_tbl q2080) (Nat.le_of_ble_eq_true rfl) (Nat.le_of_ble_eq_true rfl) (by omega) (by omega) ?_
    rw [Nat.min_eq_left hm]
    refine zW.istore (pc' := 23) dJ5_charAt_21 rfl (Nat.le_of_ble_eq_true rfl) (zsS (zsS (zsS (zsS (zs0))))) ?_
    refine zW.iload_n (pc' := 24) dJ5_charAt_23 rfl rfl (zgS (zg0)) ?_
    refine zW.iload (pc' := 26) dJ5_charAt_24 rfl (zgS (zgS (zgS (zgS (zg0))))) ?_
    refine zW.callS (r' := 0) (pc' := 29) dJ5_charAt_26 rfl l_J5_144 rfl (w_sbChk (f := .null) hi (by omega)) (zcc rfl (zcc rfl zc0)) rfl (Nat.le_of_ble_eq_true rfl) (Nat.le_of_ble_eq_true rfl) (Nat.le_of_ble_eq_true rfl) (fun _ _ q9 => ?_) (fun _ _ q9 => by cases q9.1)
    obtain ⟨q8, e9⟩ := q9
    cases q8
    replace e9 := e9.symm
    subst e9
    refine zW.iload_n (pc' := 30) dJ5_charAt_29 rfl rfl (zgS (zgS (zg0))) ?_
    refine zW.if_neN (pc' := 33) 42 dJ5_charAt_30 rfl (by decide) (by omega) (fun b9 => absurd b9 (by omega)) (fun b9 => ?_)
    refine zW.aload_n (pc' := 34) dJ5_charAt_33 rfl rfl (zgS (zgS (zgS (zg0)))) rfl ?_
    refine zW.iload_n (pc' := 35) dJ5_charAt_34 rfl rfl (zgS (zg0)) ?_
    refine zW.baldN (pc' := 36) dJ5_charAt_35 rfl hv rfl (hx2) (by omega) ?_
    refine zW.sipush (pc' := 39) (nI 255) dJ5_charAt_36 rfl (by decide) ?_
    refine zW.iandB (pc' := 40) dJ5_charAt_39 rfl (hx1) ?_
    refine zW.i2cB (pc' := 41) dJ5_charAt_40 rfl (hx1) ?_
    refine zW.iret dJ5_charAt_41 rfl ((nI_char (by omega))) ?_
    exact ⟨rfl, rfl⟩
  show zW G mJ6_charAt 6 0 0 [.ref a, .int (nI i)] [] h _
  refine zW.aload_n (pc' := 1) dJ6_charAt_0 rfl rfl zg0 rfl ?_
  refine zW.iload_n (pc' := 2) dJ6_charAt_1 rfl rfl (zgS (zg0)) ?_
  refine zW.callSU (r' := 0) (pc' := 5) dJ6_charAt_2 rfl l_J6_329 rfl ha ⟨rfl, (Nat.le_of_ble_eq_true rfl)⟩ rfl (kl) (zcc rfl zc0) rfl (Nat.le_of_ble_eq_true rfl) (Nat.le_of_ble_eq_true rfl) (Nat.le_of_ble_eq_true rfl) (fun _ _ q9 => ?_) (fun _ _ q9 => by cases q9.1)
  obtain ⟨q8, e9⟩ := q9
  cases q8
  replace e9 := e9.symm
  subst e9
  refine zW.iret dJ6_charAt_5 rfl ((nI_char (by omega))) ?_
  exact ⟨rfl, rfl⟩
end
