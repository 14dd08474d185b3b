/-! THE LAW: its loop (printed by mk9zk.py) -/
section
set_option maxRecDepth 100000
variable {G : zG} {h : zH} {Q : zR → zH → Prop} {x o b i r T N n : Nat} {a : tA} {xs : List Value}
theorem and63 (y : Int32) : ∃ k : Nat, k < 64 ∧ y &&& nI 63 = nI k := by
  have h1 : (y.toBitVec &&& 63#32).toNat ≤ 63 := by
    rw [BitVec.toNat_and]
    exact Nat.and_le_right
  refine ⟨(y.toBitVec &&& 63#32).toNat, by omega, ?_⟩
  apply Int32.toBitVec_inj.mp
  rw [Int32.toBitVec_and]
  show y.toBitVec &&& 63#32 = (Int32.ofNat (y.toBitVec &&& 63#32).toNat).toBitVec
  rw [Int32.toBitVec_ofNat', BitVec.ofNat_toNat, BitVec.setWidth_eq]
/-- one operation, by its number -/
theorem g_all {k : Nat} (hk64 : k < 64) (hZ : zkI G) (hS : zkS G) (hL : zkL G) (hE : zkE G) (hF : zkD G) (hb : zg_k G b = some (1100, xs)) {y1 y2 y3 y4 : Int32} (hy1 : xs[i + 1]? = some (.int y1)) (hy2 : xs[i + 2]? = some (.int y2)) (hy3 : xs[i + 3]? = some (.int y3)) (hy4 : xs[i + 4]? = some (.int y4)) (hi : i < 200) (I : lwI G x o a T N h) (hT9 : T + 3200 < 100000) (hN9 : N + 100 ≤ 10000) (kont : ∀ (h' : zH) (v5 v6 : Value), lwI G x o a (T + 3100) (N + 62) h' → zW G mL_law 42 r 3347 [.ref b, .ref x, .ref a.1, .ref o, .int (nI i), v5, v6] [] h' Q) {v5 v6 : Value} : zW G mL_law 42 (r + 46060) 39 [.ref b, .ref x, .ref a.1, .ref o, .int (nI i), v5, v6] [.int (nI k)] h Q := by
  match k, hk64 with
  | 0, _ => exact zW.tableIn (off := 269) 308 dL_law_39 (by decide) (by decide) rfl rfl (g_add hZ hS hL hE hF hb hy1 hy2 hy3 hy4 hi I hT9 hN9 kont)
  | 1, _ => exact zW.tableIn (off := 361) 400 dL_law_39 (by decide) (by decide) rfl rfl (g_sign hZ hS hL hE hF hb hy1 hy2 hi I hT9 hN9 kont)
  | 2, _ => exact zW.tableIn (off := 429) 468 dL_law_39 (by decide) (by decide) rfl rfl (g_countersign hZ hS hL hE hF hb hy1 hy2 hi I hT9 hN9 kont)
  | 3, _ => exact zW.tableIn (off := 497) 536 dL_law_39 (by decide) (by decide) rfl rfl (g_settle hZ hS hL hE hF hb hy1 hi I hT9 hN9 kont)
  | 4, _ => exact zW.tableIn (off := 553) 592 dL_law_39 (by decide) (by decide) rfl rfl (g_tick hZ hS hL hE hF hb hi I hT9 hN9 kont)
  | 5, _ => exact zW.tableIn (off := 566) 605 dL_law_39 (by decide) (by decide) rfl rfl (g_advance hZ hS hL hE hF hb hy1 hi I hT9 hN9 kont)
  | 6, _ => exact zW.tableIn (off := 622) 661 dL_law_39 (by decide) (by decide) rfl rfl (g_audit hZ hS hL hE hF hb hy1 hi I hT9 hN9 kont)
  | 7, _ => exact zW.tableIn (off := 678) 717 dL_law_39 (by decide) (by decide) rfl rfl (g_setRate hZ hS hL hE hF hb hy1 hy2 hi I hT9 hN9 kont)
  | 8, _ => exact zW.tableIn (off := 746) 785 dL_law_39 (by decide) (by decide) rfl rfl (g_time hZ hS hL hE hF hb hi I hT9 hN9 kont)
  | 9, _ => exact zW.tableIn (off := 759) 798 dL_law_39 (by decide) (by decide) rfl rfl (g_phase hZ hS hL hE hF hb hi I hT9 hN9 kont)
  | 10, _ => exact zW.tableIn (off := 772) 811 dL_law_39 (by decide) (by decide) rfl rfl (g_rate hZ hS hL hE hF hb hy1 hi I hT9 hN9 kont)
  | 11, _ => exact zW.tableIn (off := 828) 867 dL_law_39 (by decide) (by decide) rfl rfl (g_activeCount hZ hS hL hE hF hb hi I hT9 hN9 kont)
  | 12, _ => exact zW.tableIn (off := 841) 880 dL_law_39 (by decide) (by decide) rfl rfl (g_isActive hZ hS hL hE hF hb hy1 hi I hT9 hN9 kont)
  | 13, _ => exact zW.tableIn (off := 866) 905 dL_law_39 (by decide) (by decide) rfl rfl (g_idAt hZ hS hL hE hF hb hy1 hi I hT9 hN9 kont)
  | 14, _ => exact zW.tableIn (off := 922) 961 dL_law_39 (by decide) (by decide) rfl rfl (g_debtor hZ hS hL hE hF hb hy1 hi I hT9 hN9 kont)
  | 15, _ => exact zW.tableIn (off := 978) 1017 dL_law_39 (by decide) (by decide) rfl rfl (g_creditor hZ hS hL hE hF hb hy1 hi I hT9 hN9 kont)
  | 16, _ => exact zW.tableIn (off := 1034) 1073 dL_law_39 (by decide) (by decide) rfl rfl (g_weight hZ hS hL hE hF hb hy1 hi I hT9 hN9 kont)
  | 17, _ => exact zW.tableIn (off := 1090) 1129 dL_law_39 (by decide) (by decide) rfl rfl (g_expiry hZ hS hL hE hF hb hy1 hi I hT9 hN9 kont)
  | 18, _ => exact zW.tableIn (off := 1146) 1185 dL_law_39 (by decide) (by decide) rfl rfl (g_strikes hZ hS hL hE hF hb hy1 hi I hT9 hN9 kont)
  | 19, _ => exact zW.tableIn (off := 1202) 1241 dL_law_39 (by decide) (by decide) rfl rfl (g_isSigned hZ hS hL hE hF hb hy1 hi I hT9 hN9 kont)
  | 20, _ => exact zW.tableIn (off := 1265) 1304 dL_law_39 (by decide) (by decide) rfl rfl (g_isCountersigned hZ hS hL hE hF hb hy1 hi I hT9 hN9 kont)
  | 21, _ => exact zW.tableIn (off := 1328) 1367 dL_law_39 (by decide) (by decide) rfl rfl (g_signer hZ hS hL hE hF hb hy1 hi I hT9 hN9 kont)
  | 22, _ => exact zW.tableIn (off := 1384) 1423 dL_law_39 (by decide) (by decide) rfl rfl (g_countersigner hZ hS hL hE hF hb hy1 hi I hT9 hN9 kont)
  | 23, _ => exact zW.tableIn (off := 1440) 1479 dL_law_39 (by decide) (by decide) rfl rfl (g_signaturesOf hZ hS hL hE hF hb hy1 hi I hT9 hN9 kont)
  | 24, _ => exact zW.tableIn (off := 1496) 1535 dL_law_39 (by decide) (by decide) rfl rfl (g_countersignaturesOf hZ hS hL hE hF hb hy1 hi I hT9 hN9 kont)
  | 25, _ => exact zW.tableIn (off := 1552) 1591 dL_law_39 (by decide) (by decide) rfl rfl (g_owedBy hZ hS hL hE hF hb hy1 hi I hT9 hN9 kont)
  | 26, _ => exact zW.tableIn (off := 1608) 1647 dL_law_39 (by decide) (by decide) rfl rfl (g_owedTo hZ hS hL hE hF hb hy1 hi I hT9 hN9 kont)
  | 27, _ => exact zW.tableIn (off := 1664) 1703 dL_law_39 (by decide) (by decide) rfl rfl (g_balance hZ hS hL hE hF hb hy1 hi I hT9 hN9 kont)
  | 28, _ => exact zW.tableIn (off := 1720) 1759 dL_law_39 (by decide) (by decide) rfl rfl (g_mostIndebted hZ hS hL hE hF hb hi I hT9 hN9 kont)
  | 29, _ => exact zW.tableIn (off := 1764) 1803 dL_law_39 (by decide) (by decide) rfl rfl (g_heaviest hZ hS hL hE hF hb hi I hT9 hN9 kont)
  | 30, _ => exact zW.tableIn (off := 1808) 1847 dL_law_39 (by decide) (by decide) rfl rfl (g_nextExpiry hZ hS hL hE hF hb hi I hT9 hN9 kont)
  | 31, _ => exact zW.tableIn (off := 1852) 1891 dL_law_39 (by decide) (by decide) rfl rfl (g_nextToAudit hZ hS hL hE hF hb hi I hT9 hN9 kont)
  | 32, _ => exact zW.tableIn (off := 1896) 1935 dL_law_39 (by decide) (by decide) rfl rfl (g_auditPosition hZ hS hL hE hF hb hy1 hi I hT9 hN9 kont)
  | 33, _ => exact zW.tableIn (off := 1952) 1991 dL_law_39 (by decide) (by decide) rfl rfl (g_owes hZ hS hL hE hF hb hy1 hy2 hi I hT9 hN9 kont)
  | 34, _ => exact zW.tableIn (off := 2027) 2066 dL_law_39 (by decide) (by decide) rfl rfl (g_pairBalance hZ hS hL hE hF hb hy1 hy2 hi I hT9 hN9 kont)
  | 35, _ => exact zW.tableIn (off := 2095) 2134 dL_law_39 (by decide) (by decide) rfl rfl (g_chainLength hZ hS hL hE hF hb hy1 hy2 hi I hT9 hN9 kont)
  | 36, _ => exact zW.tableIn (off := 2163) 2202 dL_law_39 (by decide) (by decide) rfl rfl (g_chainLengthByRounds hZ hS hL hE hF hb hy1 hy2 hi I hT9 hN9 kont)
  | 37, _ => exact zW.tableIn (off := 2231) 2270 dL_law_39 (by decide) (by decide) rfl rfl (g_reachableFrom hZ hS hL hE hF hb hy1 hi I hT9 hN9 kont)
  | 38, _ => exact zW.tableIn (off := 2287) 2326 dL_law_39 (by decide) (by decide) rfl rfl (g_hasCycle hZ hS hL hE hF hb hi I hT9 hN9 kont)
  | 39, _ => exact zW.tableIn (off := 2300) 2339 dL_law_39 (by decide) (by decide) rfl rfl (g_idByExpiry hZ hS hL hE hF hb hy1 hi I hT9 hN9 kont)
  | 40, _ => exact zW.tableIn (off := 2356) 2395 dL_law_39 (by decide) (by decide) rfl rfl (g_expiryRank hZ hS hL hE hF hb hy1 hi I hT9 hN9 kont)
  | 41, _ => exact zW.tableIn (off := 2412) 2451 dL_law_39 (by decide) (by decide) rfl rfl (g_expiringWithin hZ hS hL hE hF hb hy1 hi I hT9 hN9 kont)
  | 42, _ => exact zW.tableIn (off := 2468) 2507 dL_law_39 (by decide) (by decide) rfl rfl (g_expiringBySimulation hZ hS hL hE hF hb hy1 hi I hT9 hN9 kont)
  | 43, _ => exact zW.tableIn (off := 2524) 2563 dL_law_39 (by decide) (by decide) rfl rfl (g_weightAfter hZ hS hL hE hF hb hy1 hy2 hi I hT9 hN9 kont)
  | 44, _ => exact zW.tableIn (off := 2592) 2631 dL_law_39 (by decide) (by decide) rfl rfl (g_canSign hZ hS hL hE hF hb hy1 hy2 hi I hT9 hN9 kont)
  | 45, _ => exact zW.tableIn (off := 2667) 2706 dL_law_39 (by decide) (by decide) rfl rfl (g_canCountersign hZ hS hL hE hF hb hy1 hy2 hi I hT9 hN9 kont)
  | 46, _ => exact zW.tableIn (off := 2742) 2781 dL_law_39 (by decide) (by decide) rfl rfl (g_recentlyExpired hZ hS hL hE hF hb hy1 hi I hT9 hN9 kont)
  | 47, _ => exact zW.tableIn (off := 2798) 2837 dL_law_39 (by decide) (by decide) rfl rfl (g_expiredCount hZ hS hL hE hF hb hi I hT9 hN9 kont)
  | 48, _ => exact zW.tableIn (off := 2811) 2850 dL_law_39 (by decide) (by decide) rfl rfl (g_settledCount hZ hS hL hE hF hb hi I hT9 hN9 kont)
  | 49, _ => exact zW.tableIn (off := 2824) 2863 dL_law_39 (by decide) (by decide) rfl rfl (g_voidedCount hZ hS hL hE hF hb hi I hT9 hN9 kont)
  | 50, _ => exact zW.tableIn (off := 2837) 2876 dL_law_39 (by decide) (by decide) rfl rfl (g_interestTotal hZ hS hL hE hF hb hi I hT9 hN9 kont)
  | 51, _ => exact zW.tableIn (off := 2851) 2890 dL_law_39 (by decide) (by decide) rfl rfl (g_activeWeight hZ hS hL hE hF hb hi I hT9 hN9 kont)
  | 52, _ => exact zW.tableIn (off := 2865) 2904 dL_law_39 (by decide) (by decide) rfl rfl (g_closedWeight hZ hS hL hE hF hb hi I hT9 hN9 kont)
  | 53, _ => exact zW.tableIn (off := 2879) 2918 dL_law_39 (by decide) (by decide) rfl rfl (g_isConsistent hZ hS hL hE hF hb hi I hT9 hN9 kont)
  | 54, _ => exact zW.tableIn (off := 2892) 2931 dL_law_39 (by decide) (by decide) rfl rfl (g_format hZ hS hL hE hF hb hy1 hi I hT9 hN9 kont)
  | 55, _ => exact zW.tableIn (off := 2948) 2987 dL_law_39 (by decide) (by decide) rfl rfl (g_lineChar hZ hS hL hE hF hb hy1 hi I hT9 hN9 kont)
  | 56, _ => exact zW.tableIn (off := 3004) 3043 dL_law_39 (by decide) (by decide) rfl rfl (g_append hZ hS hL hE hF hb hy1 hi I hT9 hN9 kont)
  | 57, _ => exact zW.tableIn (off := 3062) 3101 dL_law_39 (by decide) (by decide) rfl rfl (g_run hZ hS hL hE hF hb hi I hT9 hN9 kont)
  | 58, _ => exact zW.tableIn (off := 3106) 3145 dL_law_39 (by decide) (by decide) rfl rfl (g_errorPosition hZ hS hL hE hF hb hi I hT9 hN9 kont)
  | 59, _ => exact zW.tableIn (off := 3150) 3189 dL_law_39 (by decide) (by decide) rfl rfl (g_failedCommand hZ hS hL hE hF hb hi I hT9 hN9 kont)
  | 60, _ => exact zW.tableIn (off := 3194) 3233 dL_law_39 (by decide) (by decide) rfl rfl (g_undoableCount hZ hS hL hE hF hb hi I hT9 hN9 kont)
  | 61, _ => exact zW.tableIn (off := 3207) 3246 dL_law_39 (by decide) (by decide) rfl rfl (g_undo hZ hS hL hE hF hb hi I hT9 hN9 kont)
  | 62, _ => exact zW.tableIn (off := 3251) 3290 dL_law_39 (by decide) (by decide) rfl rfl (g_save hZ hS hL hE hF hb hi I hT9 hN9 kont)
  | 63, _ => exact zW.tableIn (off := 3264) 3303 dL_law_39 (by decide) (by decide) rfl rfl (g_restore hZ hS hL hE hF hb hi I hT9 hN9 kont)
  | k + 64, z => exact absurd z (by omega)
theorem nI_m5 {n : Nat} (hn : n < 2 ^ 20) : (nI n - nI 5).toInt = (n : Int) - 5 := pk_sub_toInt (by omega) (by decide)
/-- the loop, with m operations left -/
theorem lw_loop (hZ : zkI G) (hS : zkS G) (hL : zkL G) (hE : zkE G) (hF : zkD G) (hb : zg_k G b = some (1100, xs)) (hx : ∀ j, j < xs.length → ∃ y : Int32, xs[j]? = some (.int y)) (h120 : xs.length ≤ 120) (hQ : ∀ h', Q (.inl (some (.int (nI 1)))) h') : ∀ (m n : Nat) (h : zH) (v5 v6 : Value), n + m = 24 → lwI G x o a (3100 * n) (62 * n) h → zW G mL_law 42 (46060 * m) 23 [.ref b, .ref x, .ref a.1, .ref o, .int (nI (5 * n)), v5, v6] [] h Q := by
  intro m
  induction m with
  | zero =>
    intro n h v5 v6 hn I
    obtain ⟨w, S, M, W⟩ := id I
    have hbh := M.scr hb
    refine zW.iload (pc' := 25) dL_law_23 rfl (zgS (zgS (zgS (zgS (zg0))))) ?_
    refine zW.aload_n (pc' := 26) dL_law_25 rfl rfl zg0 rfl ?_
    refine zW.alen (pc' := 27) dL_law_26 rfl hbh (by decide) rfl ?_
    refine zW.iconst (pc' := 28) (nI 5) dL_law_27 rfl (by decide) ?_
    refine zW.isub (pc' := 29) dL_law_28 rfl ?_
    refine zW.icmp_gt (pc' := 32) 3353 dL_law_29 rfl (by decide) (fun b1 => ?_) (fun b1 => ?_)
    · refine zW.iconst (pc' := 3354) (nI 1) dL_law_3353 rfl (by decide) ?_
      refine zW.iret dL_law_3354 rfl (rfl) ?_
      exact hQ _
    · refine absurd ?_ b1
      have e := nI_m5 (n := xs.length) (by omega)
      show nI xs.length - nI 5 < nI (5 * n)
      rw [Int32.lt_iff_toInt_lt, e, nI_toInt (by omega)]
      omega
  | succ m ih =>
    intro n h v5 v6 hn I
    obtain ⟨w, S, M, W⟩ := id I
    have hbh := M.scr hb
    refine zW.iload (pc' := 25) dL_law_23 rfl (zgS (zgS (zgS (zgS (zg0))))) ?_
    refine zW.aload_n (pc' := 26) dL_law_25 rfl rfl zg0 rfl ?_
    refine zW.alen (pc' := 27) dL_law_26 rfl hbh (by decide) rfl ?_
    refine zW.iconst (pc' := 28) (nI 5) dL_law_27 rfl (by decide) ?_
    refine zW.isub (pc' := 29) dL_law_28 rfl ?_
    refine zW.icmp_gt (pc' := 32) 3353 dL_law_29 rfl (by decide) (fun b1 => ?_) (fun b1 => ?_)
    · refine zW.iconst (pc' := 3354) (nI 1) dL_law_3353 rfl (by decide) ?_
      refine zW.iret dL_law_3354 rfl (rfl) ?_
      exact hQ _
    have hlt : 5 * n + 4 < xs.length := by
      have e := nI_m5 (n := xs.length) (by omega)
      have b2 : ¬ nI xs.length - nI 5 < nI (5 * n) := b1
      rw [Int32.lt_iff_toInt_lt, e, nI_toInt (by omega)] at b2
      omega
    obtain ⟨y0, hy0⟩ := hx (5 * n) (by omega)
    obtain ⟨y1, hy1⟩ := hx (5 * n + 1) (by omega)
    obtain ⟨y2, hy2⟩ := hx (5 * n + 2) (by omega)
    obtain ⟨y3, hy3⟩ := hx (5 * n + 3) (by omega)
    obtain ⟨y4, hy4⟩ := hx (5 * n + 4) (by omega)
    refine zW.aload_n (pc' := 33) dL_law_32 rfl rfl zg0 rfl ?_
    refine zW.iload (pc' := 35) dL_law_33 rfl (zgS (zgS (zgS (zgS (zg0))))) ?_
    refine zW.scr (pc' := 36) dL_law_35 rfl hbh hy0 (by omega) ?_
    refine zW.bipush (pc' := 38) (nI 63) dL_law_36 rfl (by decide) ?_
    refine zW.iand (pc' := 39) dL_law_38 rfl ?_
    obtain ⟨k, hk, ek⟩ := and63 y0
    rw [ek]
    refine zW.pay (r1 := 46060 * m + 46060) ?_ (Nat.le_of_eq rfl)
    refine g_all hk hZ hS hL hE hF hb hy1 hy2 hy3 hy4 (by omega) I (by omega) (by omega) fun h' v5 v6 I' => ?_
    refine zW.iincN (pc' := 3350) (n := 5) dL_law_3347 rfl (Nat.le_of_ble_eq_true rfl) (zgS (zgS (zgS (zgS (zg0))))) (zsS (zsS (zsS (zsS (zs0))))) ?_
    refine zW.goto 23 dL_law_3350 (by decide) ?_
    exact ih (n + 1) h' v5 v6 (by omega) (by rw [show 3100 * (n + 1) = 3100 * n + 3100 by omega, show 62 * (n + 1) = 62 * n + 62 by omega]; exact I')
end
