/-! THE LAW: its operations (printed by mk9zj.py) -/
section
set_option maxRecDepth 100000
variable {G : zG} {h : zH} {Q : zR → zH → Prop} {x o b i r T N : Nat} {a : tA} {xs : List Value}
theorem g_add {y1 : Int32} {y2 : Int32} {y3 : Int32} {y4 : Int32} (hZ : zkI G) (hS : zkS G) (hL : zkL G) (hE : zkE G) (hF : zkD G) (hb : zg_k G b = some (1100, xs)) (hy1 : xs[i + 1]? = some (.int y1)) (hy2 : xs[i + 2]? = some (.int y2)) (hy3 : xs[i + 3]? = some (.int y3)) (hy4 : xs[i + 4]? = some (.int y4)) (hi : i < 200) (I : lwI G x o a T N h) (hT9 : T + 3200 < 100000) (hN9 : N + 100 ≤ 10000) (kont : ∀ (h' : zH) (v5 v6 : Value), lwI G x o a (T + 3100) (N + 62) h' → zW G mL_law 42 r 3347 [.ref b, .ref x, .ref a.1, .ref o, .int (nI i), v5, v6] [] h' Q) {v5 v6 : Value} : zW G mL_law 42 (r + 46060) 308 [.ref b, .ref x, .ref a.1, .ref o, .int (nI i), v5, v6] [] h Q := by
  obtain ⟨w, S, M, W⟩ := I
  have hJ := W.1
  have hT5 : T + 50 < 100000 := by omega
  have hT : T ≤ 100000 := by omega
  have hTl : T < 100000 := by omega
  have hN : N ≤ 10000 := by omega
  have hk := M.kn
  obtain ⟨hD, hW⟩ := M.tt
  have hB := hJ.1.tB hT hN
  have cB := hJ.1.cB hN
  have hb0 := hB.2.2 0 (by decide)
  exact y_add (q := sEnd w (sAdd w.1 y1 y2 y3 y4) 0 1 2) hb hy1 hy2 hy3 hy4 hi M (fun U hG => kC (c_add hk hZ hG (Nat.zero_le _) hJ hN hT5) hG (fun z => th_012 sAdd_c.1 sAdd_c.2 z)) (fun h0 => zW.deep (w_add hD hW) (by decide)) (fun h' S' v5 v6 M' => kont h' v5 v6 ⟨_, S', M', W.fin hJ.add⟩)
theorem g_sign {y1 : Int32} {y2 : Int32} (hZ : zkI G) (hS : zkS G) (hL : zkL G) (hE : zkE G) (hF : zkD G) (hb : zg_k G b = some (1100, xs)) (hy1 : xs[i + 1]? = some (.int y1)) (hy2 : xs[i + 2]? = some (.int y2)) (hi : i < 200) (I : lwI G x o a T N h) (hT9 : T + 3200 < 100000) (hN9 : N + 100 ≤ 10000) (kont : ∀ (h' : zH) (v5 v6 : Value), lwI G x o a (T + 3100) (N + 62) h' → zW G mL_law 42 r 3347 [.ref b, .ref x, .ref a.1, .ref o, .int (nI i), v5, v6] [] h' Q) {v5 v6 : Value} : zW G mL_law 42 (r + 46060) 400 [.ref b, .ref x, .ref a.1, .ref o, .int (nI i), v5, v6] [] h Q := by
  obtain ⟨w, S, M, W⟩ := I
  have hJ := W.1
  have hT5 : T + 50 < 100000 := by omega
  have hT : T ≤ 100000 := by omega
  have hTl : T < 100000 := by omega
  have hN : N ≤ 10000 := by omega
  have hk := M.kn
  obtain ⟨hD, hW⟩ := M.tt
  have hB := hJ.1.tB hT hN
  have cB := hJ.1.cB hN
  have hb0 := hB.2.2 0 (by decide)
  exact y_sign (q := sEnd w (sSign w.1 y1 y2) 1 2 3) hb hy1 hy2 hi M (fun U hG => kC (c_sign hk hZ hG (Nat.zero_le _) hJ hN hT5) hG (fun z => th_123 sSign_c z)) (fun h0 => zW.deep (w_sign hD hW hB) (by decide)) (fun h' S' v5 v6 M' => kont h' v5 v6 ⟨_, S', M', W.fin hJ.sign⟩)
theorem g_countersign {y1 : Int32} {y2 : Int32} (hZ : zkI G) (hS : zkS G) (hL : zkL G) (hE : zkE G) (hF : zkD G) (hb : zg_k G b = some (1100, xs)) (hy1 : xs[i + 1]? = some (.int y1)) (hy2 : xs[i + 2]? = some (.int y2)) (hi : i < 200) (I : lwI G x o a T N h) (hT9 : T + 3200 < 100000) (hN9 : N + 100 ≤ 10000) (kont : ∀ (h' : zH) (v5 v6 : Value), lwI G x o a (T + 3100) (N + 62) h' → zW G mL_law 42 r 3347 [.ref b, .ref x, .ref a.1, .ref o, .int (nI i), v5, v6] [] h' Q) {v5 v6 : Value} : zW G mL_law 42 (r + 46060) 468 [.ref b, .ref x, .ref a.1, .ref o, .int (nI i), v5, v6] [] h Q := by
  obtain ⟨w, S, M, W⟩ := I
  have hJ := W.1
  have hT5 : T + 50 < 100000 := by omega
  have hT : T ≤ 100000 := by omega
  have hTl : T < 100000 := by omega
  have hN : N ≤ 10000 := by omega
  have hk := M.kn
  obtain ⟨hD, hW⟩ := M.tt
  have hB := hJ.1.tB hT hN
  have cB := hJ.1.cB hN
  have hb0 := hB.2.2 0 (by decide)
  exact y_countersign (q := sEnd w (sCosign w.1 y1 y2) 1 2 3) hb hy1 hy2 hi M (fun U hG => kC (c_countersign hk hZ hG (Nat.zero_le _) hJ hN hT5) hG (fun z => th_123 sCosign_c z)) (fun h0 => zW.deep (w_countersign hD hW hB) (by decide)) (fun h' S' v5 v6 M' => kont h' v5 v6 ⟨_, S', M', W.fin hJ.cosign⟩)
theorem g_settle {y1 : Int32} (hZ : zkI G) (hS : zkS G) (hL : zkL G) (hE : zkE G) (hF : zkD G) (hb : zg_k G b = some (1100, xs)) (hy1 : xs[i + 1]? = some (.int y1)) (hi : i < 200) (I : lwI G x o a T N h) (hT9 : T + 3200 < 100000) (hN9 : N + 100 ≤ 10000) (kont : ∀ (h' : zH) (v5 v6 : Value), lwI G x o a (T + 3100) (N + 62) h' → zW G mL_law 42 r 3347 [.ref b, .ref x, .ref a.1, .ref o, .int (nI i), v5, v6] [] h' Q) {v5 v6 : Value} : zW G mL_law 42 (r + 46060) 536 [.ref b, .ref x, .ref a.1, .ref o, .int (nI i), v5, v6] [] h Q := by
  obtain ⟨w, S, M, W⟩ := I
  have hJ := W.1
  have hT5 : T + 50 < 100000 := by omega
  have hT : T ≤ 100000 := by omega
  have hTl : T < 100000 := by omega
  have hN : N ≤ 10000 := by omega
  have hk := M.kn
  obtain ⟨hD, hW⟩ := M.tt
  have hB := hJ.1.tB hT hN
  have cB := hJ.1.cB hN
  have hb0 := hB.2.2 0 (by decide)
  exact y_settle (q := sEnd w (sSettle w.1 y1) 1 0 2) hb hy1 hi M (fun U hG => kC (c_settle hk hZ hG (Nat.zero_le _) hJ hN) hG (fun z => th_102 sSettle_c z)) (fun h0 => zW.deep (w_settle hD hW hB (fun j hj => hJ.1.qu hj)) (by decide)) (fun h' S' v5 v6 M' => kont h' v5 v6 ⟨_, S', M', W.fin hJ.settle⟩)
theorem g_tick (hZ : zkI G) (hS : zkS G) (hL : zkL G) (hE : zkE G) (hF : zkD G) (hb : zg_k G b = some (1100, xs)) (hi : i < 200) (I : lwI G x o a T N h) (hT9 : T + 3200 < 100000) (hN9 : N + 100 ≤ 10000) (kont : ∀ (h' : zH) (v5 v6 : Value), lwI G x o a (T + 3100) (N + 62) h' → zW G mL_law 42 r 3347 [.ref b, .ref x, .ref a.1, .ref o, .int (nI i), v5, v6] [] h' Q) {v5 v6 : Value} : zW G mL_law 42 (r + 46060) 592 [.ref b, .ref x, .ref a.1, .ref o, .int (nI i), v5, v6] [] h Q := by
  obtain ⟨w, S, M, W⟩ := I
  have hJ := W.1
  have hT5 : T + 50 < 100000 := by omega
  have hT : T ≤ 100000 := by omega
  have hTl : T < 100000 := by omega
  have hN : N ≤ 10000 := by omega
  have hk := M.kn
  obtain ⟨hD, hW⟩ := M.tt
  have hB := hJ.1.tB hT hN
  have cB := hJ.1.cB hN
  have hb0 := hB.2.2 0 (by decide)
  have hc : (sAdvance w.1 (nI 1)).1 = 0 := by
    unfold sAdvance
    rw [if_pos (by decide)]
  exact y_tick (q := sEnd w (sAdvance w.1 (nI 1)) 0 0 0) hb hi M (fun U hG => kC (by rw [← sTick1_eq]; exact c_tick hk hZ hG (Nat.zero_le _) hJ hN hT5) hG (fun z => absurd hc z)) (fun h0 => zW.deep (w_tick hD hW hJ.1 hJ.2 hT5 hN) (by decide)) (fun h' S' v5 v6 M' => kont h' v5 v6 ⟨_, S', M', W.fin hJ.advance⟩)
theorem g_advance {y1 : Int32} (hZ : zkI G) (hS : zkS G) (hL : zkL G) (hE : zkE G) (hF : zkD G) (hb : zg_k G b = some (1100, xs)) (hy1 : xs[i + 1]? = some (.int y1)) (hi : i < 200) (I : lwI G x o a T N h) (hT9 : T + 3200 < 100000) (hN9 : N + 100 ≤ 10000) (kont : ∀ (h' : zH) (v5 v6 : Value), lwI G x o a (T + 3100) (N + 62) h' → zW G mL_law 42 r 3347 [.ref b, .ref x, .ref a.1, .ref o, .int (nI i), v5, v6] [] h' Q) {v5 v6 : Value} : zW G mL_law 42 (r + 46060) 605 [.ref b, .ref x, .ref a.1, .ref o, .int (nI i), v5, v6] [] h Q := by
  obtain ⟨w, S, M, W⟩ := I
  have hJ := W.1
  have hT5 : T + 50 < 100000 := by omega
  have hT : T ≤ 100000 := by omega
  have hTl : T < 100000 := by omega
  have hN : N ≤ 10000 := by omega
  have hk := M.kn
  obtain ⟨hD, hW⟩ := M.tt
  have hB := hJ.1.tB hT hN
  have cB := hJ.1.cB hN
  have hb0 := hB.2.2 0 (by decide)
  exact y_advance (q := sEnd w (sAdvance w.1 y1) 0 1 0) hb hy1 hi M (fun U hG => kC (c_advance hk hZ hG (Nat.zero_le _) hJ hN hT5) hG (fun z => th_010 sAdvance_c z)) (fun h0 => zW.deep (w_advance hD hW hJ.1 hJ.2 hT5 hN) (by decide)) (fun h' S' v5 v6 M' => kont h' v5 v6 ⟨_, S', M', W.fin hJ.advance⟩)
theorem g_audit {y1 : Int32} (hZ : zkI G) (hS : zkS G) (hL : zkL G) (hE : zkE G) (hF : zkD G) (hb : zg_k G b = some (1100, xs)) (hy1 : xs[i + 1]? = some (.int y1)) (hi : i < 200) (I : lwI G x o a T N h) (hT9 : T + 3200 < 100000) (hN9 : N + 100 ≤ 10000) (kont : ∀ (h' : zH) (v5 v6 : Value), lwI G x o a (T + 3100) (N + 62) h' → zW G mL_law 42 r 3347 [.ref b, .ref x, .ref a.1, .ref o, .int (nI i), v5, v6] [] h' Q) {v5 v6 : Value} : zW G mL_law 42 (r + 46060) 661 [.ref b, .ref x, .ref a.1, .ref o, .int (nI i), v5, v6] [] h Q := by
  obtain ⟨w, S, M, W⟩ := I
  have hJ := W.1
  have hT5 : T + 50 < 100000 := by omega
  have hT : T ≤ 100000 := by omega
  have hTl : T < 100000 := by omega
  have hN : N ≤ 10000 := by omega
  have hk := M.kn
  obtain ⟨hD, hW⟩ := M.tt
  have hB := hJ.1.tB hT hN
  have cB := hJ.1.cB hN
  have hb0 := hB.2.2 0 (by decide)
  exact y_audit (q := sEnd w (sAudit w.1 y1) 0 1 0) hb hy1 hi M (fun U hG => kC (c_audit hk hZ hG (Nat.zero_le _) hJ hN) hG (fun z => th_010 sAudit_c z)) (fun h0 => zW.deep (w_audit hD hW hJ.1 hJ.2 hT5 hN) (by decide)) (fun h' S' v5 v6 M' => kont h' v5 v6 ⟨_, S', M', W.fin (hJ.audit hN)⟩)
theorem g_setRate {y1 : Int32} {y2 : Int32} (hZ : zkI G) (hS : zkS G) (hL : zkL G) (hE : zkE G) (hF : zkD G) (hb : zg_k G b = some (1100, xs)) (hy1 : xs[i + 1]? = some (.int y1)) (hy2 : xs[i + 2]? = some (.int y2)) (hi : i < 200) (I : lwI G x o a T N h) (hT9 : T + 3200 < 100000) (hN9 : N + 100 ≤ 10000) (kont : ∀ (h' : zH) (v5 v6 : Value), lwI G x o a (T + 3100) (N + 62) h' → zW G mL_law 42 r 3347 [.ref b, .ref x, .ref a.1, .ref o, .int (nI i), v5, v6] [] h' Q) {v5 v6 : Value} : zW G mL_law 42 (r + 46060) 717 [.ref b, .ref x, .ref a.1, .ref o, .int (nI i), v5, v6] [] h Q := by
  obtain ⟨w, S, M, W⟩ := I
  have hJ := W.1
  have hT5 : T + 50 < 100000 := by omega
  have hT : T ≤ 100000 := by omega
  have hTl : T < 100000 := by omega
  have hN : N ≤ 10000 := by omega
  have hk := M.kn
  obtain ⟨hD, hW⟩ := M.tt
  have hB := hJ.1.tB hT hN
  have cB := hJ.1.cB hN
  have hb0 := hB.2.2 0 (by decide)
  exact y_setRate (q := sEnd w (sSetRate w.1 y1 y2) 0 1 0) hb hy1 hy2 hi M (fun U hG => kC (c_setRate hk hZ hG (Nat.zero_le _) hJ hN) hG (fun z => th_010 sSetRate_c z)) (fun h0 => zW.deep (w_setRate hD hW) (by decide)) (fun h' S' v5 v6 M' => kont h' v5 v6 ⟨_, S', M', W.fin hJ.setRate⟩)
theorem g_time (hZ : zkI G) (hS : zkS G) (hL : zkL G) (hE : zkE G) (hF : zkD G) (hb : zg_k G b = some (1100, xs)) (hi : i < 200) (I : lwI G x o a T N h) (hT9 : T + 3200 < 100000) (hN9 : N + 100 ≤ 10000) (kont : ∀ (h' : zH) (v5 v6 : Value), lwI G x o a (T + 3100) (N + 62) h' → zW G mL_law 42 r 3347 [.ref b, .ref x, .ref a.1, .ref o, .int (nI i), v5, v6] [] h' Q) {v5 v6 : Value} : zW G mL_law 42 (r + 46060) 785 [.ref b, .ref x, .ref a.1, .ref o, .int (nI i), v5, v6] [] h Q := by
  obtain ⟨w, S, M, W⟩ := I
  have hJ := W.1
  have hT5 : T + 50 < 100000 := by omega
  have hT : T ≤ 100000 := by omega
  have hTl : T < 100000 := by omega
  have hN : N ≤ 10000 := by omega
  have hk := M.kn
  obtain ⟨hD, hW⟩ := M.tt
  have hB := hJ.1.tB hT hN
  have cB := hJ.1.cB hN
  have hb0 := hB.2.2 0 (by decide)
  exact y_time (q := ((qTime w.1).1, (qTime w.1).2, w)) hb hi M (fun U hG => kQ hG (fun hx hP => c_time hx hP) (by decide)) (fun h0 => zW.deep (w_time hD hW) (by decide)) (fun h' S' v5 v6 M' => kont h' v5 v6 ⟨_, S', M', W.same⟩)
theorem g_phase (hZ : zkI G) (hS : zkS G) (hL : zkL G) (hE : zkE G) (hF : zkD G) (hb : zg_k G b = some (1100, xs)) (hi : i < 200) (I : lwI G x o a T N h) (hT9 : T + 3200 < 100000) (hN9 : N + 100 ≤ 10000) (kont : ∀ (h' : zH) (v5 v6 : Value), lwI G x o a (T + 3100) (N + 62) h' → zW G mL_law 42 r 3347 [.ref b, .ref x, .ref a.1, .ref o, .int (nI i), v5, v6] [] h' Q) {v5 v6 : Value} : zW G mL_law 42 (r + 46060) 798 [.ref b, .ref x, .ref a.1, .ref o, .int (nI i), v5, v6] [] h Q := by
  obtain ⟨w, S, M, W⟩ := I
  have hJ := W.1
  have hT5 : T + 50 < 100000 := by omega
  have hT : T ≤ 100000 := by omega
  have hTl : T < 100000 := by omega
  have hN : N ≤ 10000 := by omega
  have hk := M.kn
  obtain ⟨hD, hW⟩ := M.tt
  have hB := hJ.1.tB hT hN
  have cB := hJ.1.cB hN
  have hb0 := hB.2.2 0 (by decide)
  exact y_phase (q := ((qPhase w.1).1, (qPhase w.1).2, w)) hb hi M (fun U hG => kQ hG (fun hx hP => c_phase hx hP hb0) (by decide)) (fun h0 => zW.deep (w_phase hD hW hb0) (by decide)) (fun h' S' v5 v6 M' => kont h' v5 v6 ⟨_, S', M', W.same⟩)
theorem g_rate {y1 : Int32} (hZ : zkI G) (hS : zkS G) (hL : zkL G) (hE : zkE G) (hF : zkD G) (hb : zg_k G b = some (1100, xs)) (hy1 : xs[i + 1]? = some (.int y1)) (hi : i < 200) (I : lwI G x o a T N h) (hT9 : T + 3200 < 100000) (hN9 : N + 100 ≤ 10000) (kont : ∀ (h' : zH) (v5 v6 : Value), lwI G x o a (T + 3100) (N + 62) h' → zW G mL_law 42 r 3347 [.ref b, .ref x, .ref a.1, .ref o, .int (nI i), v5, v6] [] h' Q) {v5 v6 : Value} : zW G mL_law 42 (r + 46060) 811 [.ref b, .ref x, .ref a.1, .ref o, .int (nI i), v5, v6] [] h Q := by
  obtain ⟨w, S, M, W⟩ := I
  have hJ := W.1
  have hT5 : T + 50 < 100000 := by omega
  have hT : T ≤ 100000 := by omega
  have hTl : T < 100000 := by omega
  have hN : N ≤ 10000 := by omega
  have hk := M.kn
  obtain ⟨hD, hW⟩ := M.tt
  have hB := hJ.1.tB hT hN
  have cB := hJ.1.cB hN
  have hb0 := hB.2.2 0 (by decide)
  exact y_rate (q := ((qRate w.1 y1).1, (qRate w.1 y1).2, w)) hb hy1 hi M (fun U hG => kQ hG (fun hx hP => c_rate hx hP) (by decide)) (fun h0 => zW.deep (w_rate hD hW) (by decide)) (fun h' S' v5 v6 M' => kont h' v5 v6 ⟨_, S', M', W.same⟩)
theorem g_activeCount (hZ : zkI G) (hS : zkS G) (hL : zkL G) (hE : zkE G) (hF : zkD G) (hb : zg_k G b = some (1100, xs)) (hi : i < 200) (I : lwI G x o a T N h) (hT9 : T + 3200 < 100000) (hN9 : N + 100 ≤ 10000) (kont : ∀ (h' : zH) (v5 v6 : Value), lwI G x o a (T + 3100) (N + 62) h' → zW G mL_law 42 r 3347 [.ref b, .ref x, .ref a.1, .ref o, .int (nI i), v5, v6] [] h' Q) {v5 v6 : Value} : zW G mL_law 42 (r + 46060) 867 [.ref b, .ref x, .ref a.1, .ref o, .int (nI i), v5, v6] [] h Q := by
  obtain ⟨w, S, M, W⟩ := I
  have hJ := W.1
  have hT5 : T + 50 < 100000 := by omega
  have hT : T ≤ 100000 := by omega
  have hTl : T < 100000 := by omega
  have hN : N ≤ 10000 := by omega
  have hk := M.kn
  obtain ⟨hD, hW⟩ := M.tt
  have hB := hJ.1.tB hT hN
  have cB := hJ.1.cB hN
  have hb0 := hB.2.2 0 (by decide)
  exact y_activeCount (q := ((qActive w.1).1, (qActive w.1).2, w)) hb hi M (fun U hG => kQ hG (fun hx hP => c_activeCount hx hP) (by decide)) (fun h0 => zW.deep (w_activeCount hD hW) (by decide)) (fun h' S' v5 v6 M' => kont h' v5 v6 ⟨_, S', M', W.same⟩)
theorem g_isActive {y1 : Int32} (hZ : zkI G) (hS : zkS G) (hL : zkL G) (hE : zkE G) (hF : zkD G) (hb : zg_k G b = some (1100, xs)) (hy1 : xs[i + 1]? = some (.int y1)) (hi : i < 200) (I : lwI G x o a T N h) (hT9 : T + 3200 < 100000) (hN9 : N + 100 ≤ 10000) (kont : ∀ (h' : zH) (v5 v6 : Value), lwI G x o a (T + 3100) (N + 62) h' → zW G mL_law 42 r 3347 [.ref b, .ref x, .ref a.1, .ref o, .int (nI i), v5, v6] [] h' Q) {v5 v6 : Value} : zW G mL_law 42 (r + 46060) 880 [.ref b, .ref x, .ref a.1, .ref o, .int (nI i), v5, v6] [] h Q := by
  obtain ⟨w, S, M, W⟩ := I
  have hJ := W.1
  have hT5 : T + 50 < 100000 := by omega
  have hT : T ≤ 100000 := by omega
  have hTl : T < 100000 := by omega
  have hN : N ≤ 10000 := by omega
  have hk := M.kn
  obtain ⟨hD, hW⟩ := M.tt
  have hB := hJ.1.tB hT hN
  have cB := hJ.1.cB hN
  have hb0 := hB.2.2 0 (by decide)
  exact y_isActive (q := ((qIsActive w.1 y1).1, (qIsActive w.1 y1).2, w)) hb hy1 hi M (fun U hG => kQ hG (fun hx hP => c_isActive hx hP cB) (by decide)) (fun h0 => zW.deep (w_isActive hD hW) (by decide)) (fun h' S' v5 v6 M' => kont h' v5 v6 ⟨_, S', M', W.same⟩)
theorem g_idAt {y1 : Int32} (hZ : zkI G) (hS : zkS G) (hL : zkL G) (hE : zkE G) (hF : zkD G) (hb : zg_k G b = some (1100, xs)) (hy1 : xs[i + 1]? = some (.int y1)) (hi : i < 200) (I : lwI G x o a T N h) (hT9 : T + 3200 < 100000) (hN9 : N + 100 ≤ 10000) (kont : ∀ (h' : zH) (v5 v6 : Value), lwI G x o a (T + 3100) (N + 62) h' → zW G mL_law 42 r 3347 [.ref b, .ref x, .ref a.1, .ref o, .int (nI i), v5, v6] [] h' Q) {v5 v6 : Value} : zW G mL_law 42 (r + 46060) 905 [.ref b, .ref x, .ref a.1, .ref o, .int (nI i), v5, v6] [] h Q := by
  obtain ⟨w, S, M, W⟩ := I
  have hJ := W.1
  have hT5 : T + 50 < 100000 := by omega
  have hT : T ≤ 100000 := by omega
  have hTl : T < 100000 := by omega
  have hN : N ≤ 10000 := by omega
  have hk := M.kn
  obtain ⟨hD, hW⟩ := M.tt
  have hB := hJ.1.tB hT hN
  have cB := hJ.1.cB hN
  have hb0 := hB.2.2 0 (by decide)
  exact y_idAt (q := ((qIdAt w.1 y1).1, (qIdAt w.1 y1).2, w)) hb hy1 hi M (fun U hG => kQ hG (fun hx hP => c_idAt hx hP hJ hN) (by decide)) (fun h0 => zW.deep (w_idAt hD hW) (by decide)) (fun h' S' v5 v6 M' => kont h' v5 v6 ⟨_, S', M', W.same⟩)
theorem g_debtor {y1 : Int32} (hZ : zkI G) (hS : zkS G) (hL : zkL G) (hE : zkE G) (hF : zkD G) (hb : zg_k G b = some (1100, xs)) (hy1 : xs[i + 1]? = some (.int y1)) (hi : i < 200) (I : lwI G x o a T N h) (hT9 : T + 3200 < 100000) (hN9 : N + 100 ≤ 10000) (kont : ∀ (h' : zH) (v5 v6 : Value), lwI G x o a (T + 3100) (N + 62) h' → zW G mL_law 42 r 3347 [.ref b, .ref x, .ref a.1, .ref o, .int (nI i), v5, v6] [] h' Q) {v5 v6 : Value} : zW G mL_law 42 (r + 46060) 961 [.ref b, .ref x, .ref a.1, .ref o, .int (nI i), v5, v6] [] h Q := by
  obtain ⟨w, S, M, W⟩ := I
  have hJ := W.1
  have hT5 : T + 50 < 100000 := by omega
  have hT : T ≤ 100000 := by omega
  have hTl : T < 100000 := by omega
  have hN : N ≤ 10000 := by omega
  have hk := M.kn
  obtain ⟨hD, hW⟩ := M.tt
  have hB := hJ.1.tB hT hN
  have cB := hJ.1.cB hN
  have hb0 := hB.2.2 0 (by decide)
  exact y_debtor (q := ((qOf w.1 y1 1).1, (qOf w.1 y1 1).2, w)) hb hy1 hi M (fun U hG => kQ hG (fun hx hP => c_debtor hx hP hJ hN) (by decide)) (fun h0 => zW.deep (w_debtor hD hW) (by decide)) (fun h' S' v5 v6 M' => kont h' v5 v6 ⟨_, S', M', W.same⟩)
theorem g_creditor {y1 : Int32} (hZ : zkI G) (hS : zkS G) (hL : zkL G) (hE : zkE G) (hF : zkD G) (hb : zg_k G b = some (1100, xs)) (hy1 : xs[i + 1]? = some (.int y1)) (hi : i < 200) (I : lwI G x o a T N h) (hT9 : T + 3200 < 100000) (hN9 : N + 100 ≤ 10000) (kont : ∀ (h' : zH) (v5 v6 : Value), lwI G x o a (T + 3100) (N + 62) h' → zW G mL_law 42 r 3347 [.ref b, .ref x, .ref a.1, .ref o, .int (nI i), v5, v6] [] h' Q) {v5 v6 : Value} : zW G mL_law 42 (r + 46060) 1017 [.ref b, .ref x, .ref a.1, .ref o, .int (nI i), v5, v6] [] h Q := by
  obtain ⟨w, S, M, W⟩ := I
  have hJ := W.1
  have hT5 : T + 50 < 100000 := by omega
  have hT : T ≤ 100000 := by omega
  have hTl : T < 100000 := by omega
  have hN : N ≤ 10000 := by omega
  have hk := M.kn
  obtain ⟨hD, hW⟩ := M.tt
  have hB := hJ.1.tB hT hN
  have cB := hJ.1.cB hN
  have hb0 := hB.2.2 0 (by decide)
  exact y_creditor (q := ((qOf w.1 y1 2).1, (qOf w.1 y1 2).2, w)) hb hy1 hi M (fun U hG => kQ hG (fun hx hP => c_creditor hx hP hJ hN) (by decide)) (fun h0 => zW.deep (w_creditor hD hW) (by decide)) (fun h' S' v5 v6 M' => kont h' v5 v6 ⟨_, S', M', W.same⟩)
theorem g_weight {y1 : Int32} (hZ : zkI G) (hS : zkS G) (hL : zkL G) (hE : zkE G) (hF : zkD G) (hb : zg_k G b = some (1100, xs)) (hy1 : xs[i + 1]? = some (.int y1)) (hi : i < 200) (I : lwI G x o a T N h) (hT9 : T + 3200 < 100000) (hN9 : N + 100 ≤ 10000) (kont : ∀ (h' : zH) (v5 v6 : Value), lwI G x o a (T + 3100) (N + 62) h' → zW G mL_law 42 r 3347 [.ref b, .ref x, .ref a.1, .ref o, .int (nI i), v5, v6] [] h' Q) {v5 v6 : Value} : zW G mL_law 42 (r + 46060) 1073 [.ref b, .ref x, .ref a.1, .ref o, .int (nI i), v5, v6] [] h Q := by
  obtain ⟨w, S, M, W⟩ := I
  have hJ := W.1
  have hT5 : T + 50 < 100000 := by omega
  have hT : T ≤ 100000 := by omega
  have hTl : T < 100000 := by omega
  have hN : N ≤ 10000 := by omega
  have hk := M.kn
  obtain ⟨hD, hW⟩ := M.tt
  have hB := hJ.1.tB hT hN
  have cB := hJ.1.cB hN
  have hb0 := hB.2.2 0 (by decide)
  exact y_weight (q := ((qOf w.1 y1 3).1, (qOf w.1 y1 3).2, w)) hb hy1 hi M (fun U hG => kQ hG (fun hx hP => c_weight hx hP hJ hN) (by decide)) (fun h0 => zW.deep (w_weight hD hW) (by decide)) (fun h' S' v5 v6 M' => kont h' v5 v6 ⟨_, S', M', W.same⟩)
theorem g_expiry {y1 : Int32} (hZ : zkI G) (hS : zkS G) (hL : zkL G) (hE : zkE G) (hF : zkD G) (hb : zg_k G b = some (1100, xs)) (hy1 : xs[i + 1]? = some (.int y1)) (hi : i < 200) (I : lwI G x o a T N h) (hT9 : T + 3200 < 100000) (hN9 : N + 100 ≤ 10000) (kont : ∀ (h' : zH) (v5 v6 : Value), lwI G x o a (T + 3100) (N + 62) h' → zW G mL_law 42 r 3347 [.ref b, .ref x, .ref a.1, .ref o, .int (nI i), v5, v6] [] h' Q) {v5 v6 : Value} : zW G mL_law 42 (r + 46060) 1129 [.ref b, .ref x, .ref a.1, .ref o, .int (nI i), v5, v6] [] h Q := by
  obtain ⟨w, S, M, W⟩ := I
  have hJ := W.1
  have hT5 : T + 50 < 100000 := by omega
  have hT : T ≤ 100000 := by omega
  have hTl : T < 100000 := by omega
  have hN : N ≤ 10000 := by omega
  have hk := M.kn
  obtain ⟨hD, hW⟩ := M.tt
  have hB := hJ.1.tB hT hN
  have cB := hJ.1.cB hN
  have hb0 := hB.2.2 0 (by decide)
  exact y_expiry (q := ((qOf w.1 y1 4).1, (qOf w.1 y1 4).2, w)) hb hy1 hi M (fun U hG => kQ hG (fun hx hP => c_expiry hx hP hJ hN) (by decide)) (fun h0 => zW.deep (w_expiry hD hW) (by decide)) (fun h' S' v5 v6 M' => kont h' v5 v6 ⟨_, S', M', W.same⟩)
theorem g_strikes {y1 : Int32} (hZ : zkI G) (hS : zkS G) (hL : zkL G) (hE : zkE G) (hF : zkD G) (hb : zg_k G b = some (1100, xs)) (hy1 : xs[i + 1]? = some (.int y1)) (hi : i < 200) (I : lwI G x o a T N h) (hT9 : T + 3200 < 100000) (hN9 : N + 100 ≤ 10000) (kont : ∀ (h' : zH) (v5 v6 : Value), lwI G x o a (T + 3100) (N + 62) h' → zW G mL_law 42 r 3347 [.ref b, .ref x, .ref a.1, .ref o, .int (nI i), v5, v6] [] h' Q) {v5 v6 : Value} : zW G mL_law 42 (r + 46060) 1185 [.ref b, .ref x, .ref a.1, .ref o, .int (nI i), v5, v6] [] h Q := by
  obtain ⟨w, S, M, W⟩ := I
  have hJ := W.1
  have hT5 : T + 50 < 100000 := by omega
  have hT : T ≤ 100000 := by omega
  have hTl : T < 100000 := by omega
  have hN : N ≤ 10000 := by omega
  have hk := M.kn
  obtain ⟨hD, hW⟩ := M.tt
  have hB := hJ.1.tB hT hN
  have cB := hJ.1.cB hN
  have hb0 := hB.2.2 0 (by decide)
  exact y_strikes (q := ((qOf w.1 y1 5).1, (qOf w.1 y1 5).2, w)) hb hy1 hi M (fun U hG => kQ hG (fun hx hP => c_strikes hx hP hJ hN) (by decide)) (fun h0 => zW.deep (w_strikes hD hW) (by decide)) (fun h' S' v5 v6 M' => kont h' v5 v6 ⟨_, S', M', W.same⟩)
theorem g_isSigned {y1 : Int32} (hZ : zkI G) (hS : zkS G) (hL : zkL G) (hE : zkE G) (hF : zkD G) (hb : zg_k G b = some (1100, xs)) (hy1 : xs[i + 1]? = some (.int y1)) (hi : i < 200) (I : lwI G x o a T N h) (hT9 : T + 3200 < 100000) (hN9 : N + 100 ≤ 10000) (kont : ∀ (h' : zH) (v5 v6 : Value), lwI G x o a (T + 3100) (N + 62) h' → zW G mL_law 42 r 3347 [.ref b, .ref x, .ref a.1, .ref o, .int (nI i), v5, v6] [] h' Q) {v5 v6 : Value} : zW G mL_law 42 (r + 46060) 1241 [.ref b, .ref x, .ref a.1, .ref o, .int (nI i), v5, v6] [] h Q := by
  obtain ⟨w, S, M, W⟩ := I
  have hJ := W.1
  have hT5 : T + 50 < 100000 := by omega
  have hT : T ≤ 100000 := by omega
  have hTl : T < 100000 := by omega
  have hN : N ≤ 10000 := by omega
  have hk := M.kn
  obtain ⟨hD, hW⟩ := M.tt
  have hB := hJ.1.tB hT hN
  have cB := hJ.1.cB hN
  have hb0 := hB.2.2 0 (by decide)
  exact y_isSigned (q := ((qIs w.1 y1 6).1, (qIs w.1 y1 6).2, w)) hb hy1 hi M (fun U hG => kQ hG (fun hx hP => c_isSigned hx hP hJ hN) (by decide)) (fun h0 => zW.deep (w_isSigned hD hW hB) (by decide)) (fun e => qIs01 e) (fun h' S' v5 v6 M' => kont h' v5 v6 ⟨_, S', M', W.same⟩)
theorem g_isCountersigned {y1 : Int32} (hZ : zkI G) (hS : zkS G) (hL : zkL G) (hE : zkE G) (hF : zkD G) (hb : zg_k G b = some (1100, xs)) (hy1 : xs[i + 1]? = some (.int y1)) (hi : i < 200) (I : lwI G x o a T N h) (hT9 : T + 3200 < 100000) (hN9 : N + 100 ≤ 10000) (kont : ∀ (h' : zH) (v5 v6 : Value), lwI G x o a (T + 3100) (N + 62) h' → zW G mL_law 42 r 3347 [.ref b, .ref x, .ref a.1, .ref o, .int (nI i), v5, v6] [] h' Q) {v5 v6 : Value} : zW G mL_law 42 (r + 46060) 1304 [.ref b, .ref x, .ref a.1, .ref o, .int (nI i), v5, v6] [] h Q := by
  obtain ⟨w, S, M, W⟩ := I
  have hJ := W.1
  have hT5 : T + 50 < 100000 := by omega
  have hT : T ≤ 100000 := by omega
  have hTl : T < 100000 := by omega
  have hN : N ≤ 10000 := by omega
  have hk := M.kn
  obtain ⟨hD, hW⟩ := M.tt
  have hB := hJ.1.tB hT hN
  have cB := hJ.1.cB hN
  have hb0 := hB.2.2 0 (by decide)
  exact y_isCountersigned (q := ((qIs w.1 y1 7).1, (qIs w.1 y1 7).2, w)) hb hy1 hi M (fun U hG => kQ hG (fun hx hP => c_isCountersigned hx hP hJ hN) (by decide)) (fun h0 => zW.deep (w_isCountersigned hD hW hB) (by decide)) (fun e => qIs01 e) (fun h' S' v5 v6 M' => kont h' v5 v6 ⟨_, S', M', W.same⟩)
theorem g_signer {y1 : Int32} (hZ : zkI G) (hS : zkS G) (hL : zkL G) (hE : zkE G) (hF : zkD G) (hb : zg_k G b = some (1100, xs)) (hy1 : xs[i + 1]? = some (.int y1)) (hi : i < 200) (I : lwI G x o a T N h) (hT9 : T + 3200 < 100000) (hN9 : N + 100 ≤ 10000) (kont : ∀ (h' : zH) (v5 v6 : Value), lwI G x o a (T + 3100) (N + 62) h' → zW G mL_law 42 r 3347 [.ref b, .ref x, .ref a.1, .ref o, .int (nI i), v5, v6] [] h' Q) {v5 v6 : Value} : zW G mL_law 42 (r + 46060) 1367 [.ref b, .ref x, .ref a.1, .ref o, .int (nI i), v5, v6] [] h Q := by
  obtain ⟨w, S, M, W⟩ := I
  have hJ := W.1
  have hT5 : T + 50 < 100000 := by omega
  have hT : T ≤ 100000 := by omega
  have hTl : T < 100000 := by omega
  have hN : N ≤ 10000 := by omega
  have hk := M.kn
  obtain ⟨hD, hW⟩ := M.tt
  have hB := hJ.1.tB hT hN
  have cB := hJ.1.cB hN
  have hb0 := hB.2.2 0 (by decide)
  exact y_signer (q := ((qWho w.1 y1 6).1, (qWho w.1 y1 6).2, w)) hb hy1 hi M (fun U hG => kQ hG (fun hx hP => c_signer hx hP hJ hN) (by decide)) (fun h0 => zW.deep (w_signer hD hW hB) (by decide)) (fun h' S' v5 v6 M' => kont h' v5 v6 ⟨_, S', M', W.same⟩)
theorem g_countersigner {y1 : Int32} (hZ : zkI G) (hS : zkS G) (hL : zkL G) (hE : zkE G) (hF : zkD G) (hb : zg_k G b = some (1100, xs)) (hy1 : xs[i + 1]? = some (.int y1)) (hi : i < 200) (I : lwI G x o a T N h) (hT9 : T + 3200 < 100000) (hN9 : N + 100 ≤ 10000) (kont : ∀ (h' : zH) (v5 v6 : Value), lwI G x o a (T + 3100) (N + 62) h' → zW G mL_law 42 r 3347 [.ref b, .ref x, .ref a.1, .ref o, .int (nI i), v5, v6] [] h' Q) {v5 v6 : Value} : zW G mL_law 42 (r + 46060) 1423 [.ref b, .ref x, .ref a.1, .ref o, .int (nI i), v5, v6] [] h Q := by
  obtain ⟨w, S, M, W⟩ := I
  have hJ := W.1
  have hT5 : T + 50 < 100000 := by omega
  have hT : T ≤ 100000 := by omega
  have hTl : T < 100000 := by omega
  have hN : N ≤ 10000 := by omega
  have hk := M.kn
  obtain ⟨hD, hW⟩ := M.tt
  have hB := hJ.1.tB hT hN
  have cB := hJ.1.cB hN
  have hb0 := hB.2.2 0 (by decide)
  exact y_countersigner (q := ((qWho w.1 y1 7).1, (qWho w.1 y1 7).2, w)) hb hy1 hi M (fun U hG => kQ hG (fun hx hP => c_countersigner hx hP hJ hN) (by decide)) (fun h0 => zW.deep (w_countersigner hD hW hB) (by decide)) (fun h' S' v5 v6 M' => kont h' v5 v6 ⟨_, S', M', W.same⟩)
theorem g_signaturesOf {y1 : Int32} (hZ : zkI G) (hS : zkS G) (hL : zkL G) (hE : zkE G) (hF : zkD G) (hb : zg_k G b = some (1100, xs)) (hy1 : xs[i + 1]? = some (.int y1)) (hi : i < 200) (I : lwI G x o a T N h) (hT9 : T + 3200 < 100000) (hN9 : N + 100 ≤ 10000) (kont : ∀ (h' : zH) (v5 v6 : Value), lwI G x o a (T + 3100) (N + 62) h' → zW G mL_law 42 r 3347 [.ref b, .ref x, .ref a.1, .ref o, .int (nI i), v5, v6] [] h' Q) {v5 v6 : Value} : zW G mL_law 42 (r + 46060) 1479 [.ref b, .ref x, .ref a.1, .ref o, .int (nI i), v5, v6] [] h Q := by
  obtain ⟨w, S, M, W⟩ := I
  have hJ := W.1
  have hT5 : T + 50 < 100000 := by omega
  have hT : T ≤ 100000 := by omega
  have hTl : T < 100000 := by omega
  have hN : N ≤ 10000 := by omega
  have hk := M.kn
  obtain ⟨hD, hW⟩ := M.tt
  have hB := hJ.1.tB hT hN
  have cB := hJ.1.cB hN
  have hb0 := hB.2.2 0 (by decide)
  exact y_signaturesOf (q := ((qSigs w.1 6 y1).1, (qSigs w.1 6 y1).2, w)) hb hy1 hi M (fun U hG => kQ hG (fun hx hP => c_signaturesOf hx hP hJ hN hT) (by decide)) (fun h0 => zW.deep (w_signaturesOf hD hW hB) (by decide)) (fun h' S' v5 v6 M' => kont h' v5 v6 ⟨_, S', M', W.same⟩)
theorem g_countersignaturesOf {y1 : Int32} (hZ : zkI G) (hS : zkS G) (hL : zkL G) (hE : zkE G) (hF : zkD G) (hb : zg_k G b = some (1100, xs)) (hy1 : xs[i + 1]? = some (.int y1)) (hi : i < 200) (I : lwI G x o a T N h) (hT9 : T + 3200 < 100000) (hN9 : N + 100 ≤ 10000) (kont : ∀ (h' : zH) (v5 v6 : Value), lwI G x o a (T + 3100) (N + 62) h' → zW G mL_law 42 r 3347 [.ref b, .ref x, .ref a.1, .ref o, .int (nI i), v5, v6] [] h' Q) {v5 v6 : Value} : zW G mL_law 42 (r + 46060) 1535 [.ref b, .ref x, .ref a.1, .ref o, .int (nI i), v5, v6] [] h Q := by
  obtain ⟨w, S, M, W⟩ := I
  have hJ := W.1
  have hT5 : T + 50 < 100000 := by omega
  have hT : T ≤ 100000 := by omega
  have hTl : T < 100000 := by omega
  have hN : N ≤ 10000 := by omega
  have hk := M.kn
  obtain ⟨hD, hW⟩ := M.tt
  have hB := hJ.1.tB hT hN
  have cB := hJ.1.cB hN
  have hb0 := hB.2.2 0 (by decide)
  exact y_countersignaturesOf (q := ((qSigs w.1 7 y1).1, (qSigs w.1 7 y1).2, w)) hb hy1 hi M (fun U hG => kQ hG (fun hx hP => c_countersignaturesOf hx hP hJ hN hT) (by decide)) (fun h0 => zW.deep (w_countersignaturesOf hD hW hB) (by decide)) (fun h' S' v5 v6 M' => kont h' v5 v6 ⟨_, S', M', W.same⟩)
theorem g_owedBy {y1 : Int32} (hZ : zkI G) (hS : zkS G) (hL : zkL G) (hE : zkE G) (hF : zkD G) (hb : zg_k G b = some (1100, xs)) (hy1 : xs[i + 1]? = some (.int y1)) (hi : i < 200) (I : lwI G x o a T N h) (hT9 : T + 3200 < 100000) (hN9 : N + 100 ≤ 10000) (kont : ∀ (h' : zH) (v5 v6 : Value), lwI G x o a (T + 3100) (N + 62) h' → zW G mL_law 42 r 3347 [.ref b, .ref x, .ref a.1, .ref o, .int (nI i), v5, v6] [] h' Q) {v5 v6 : Value} : zW G mL_law 42 (r + 46060) 1591 [.ref b, .ref x, .ref a.1, .ref o, .int (nI i), v5, v6] [] h Q := by
  obtain ⟨w, S, M, W⟩ := I
  have hJ := W.1
  have hT5 : T + 50 < 100000 := by omega
  have hT : T ≤ 100000 := by omega
  have hTl : T < 100000 := by omega
  have hN : N ≤ 10000 := by omega
  have hk := M.kn
  obtain ⟨hD, hW⟩ := M.tt
  have hB := hJ.1.tB hT hN
  have cB := hJ.1.cB hN
  have hb0 := hB.2.2 0 (by decide)
  exact y_owedBy (q := ((qOwed w.1 1 y1).1, (qOwed w.1 1 y1).2, w)) hb hy1 hi M (fun U hG => kQ hG (fun hx hP => c_owedBy hx hP hJ hN hT) (by decide)) (fun h0 => zW.deep (w_owedBy hD hW hB) (by decide)) (fun h' S' v5 v6 M' => kont h' v5 v6 ⟨_, S', M', W.same⟩)
theorem g_owedTo {y1 : Int32} (hZ : zkI G) (hS : zkS G) (hL : zkL G) (hE : zkE G) (hF : zkD G) (hb : zg_k G b = some (1100, xs)) (hy1 : xs[i + 1]? = some (.int y1)) (hi : i < 200) (I : lwI G x o a T N h) (hT9 : T + 3200 < 100000) (hN9 : N + 100 ≤ 10000) (kont : ∀ (h' : zH) (v5 v6 : Value), lwI G x o a (T + 3100) (N + 62) h' → zW G mL_law 42 r 3347 [.ref b, .ref x, .ref a.1, .ref o, .int (nI i), v5, v6] [] h' Q) {v5 v6 : Value} : zW G mL_law 42 (r + 46060) 1647 [.ref b, .ref x, .ref a.1, .ref o, .int (nI i), v5, v6] [] h Q := by
  obtain ⟨w, S, M, W⟩ := I
  have hJ := W.1
  have hT5 : T + 50 < 100000 := by omega
  have hT : T ≤ 100000 := by omega
  have hTl : T < 100000 := by omega
  have hN : N ≤ 10000 := by omega
  have hk := M.kn
  obtain ⟨hD, hW⟩ := M.tt
  have hB := hJ.1.tB hT hN
  have cB := hJ.1.cB hN
  have hb0 := hB.2.2 0 (by decide)
  exact y_owedTo (q := ((qOwed w.1 2 y1).1, (qOwed w.1 2 y1).2, w)) hb hy1 hi M (fun U hG => kQ hG (fun hx hP => c_owedTo hx hP hJ hN hT) (by decide)) (fun h0 => zW.deep (w_owedTo hD hW hB) (by decide)) (fun h' S' v5 v6 M' => kont h' v5 v6 ⟨_, S', M', W.same⟩)
theorem g_balance {y1 : Int32} (hZ : zkI G) (hS : zkS G) (hL : zkL G) (hE : zkE G) (hF : zkD G) (hb : zg_k G b = some (1100, xs)) (hy1 : xs[i + 1]? = some (.int y1)) (hi : i < 200) (I : lwI G x o a T N h) (hT9 : T + 3200 < 100000) (hN9 : N + 100 ≤ 10000) (kont : ∀ (h' : zH) (v5 v6 : Value), lwI G x o a (T + 3100) (N + 62) h' → zW G mL_law 42 r 3347 [.ref b, .ref x, .ref a.1, .ref o, .int (nI i), v5, v6] [] h' Q) {v5 v6 : Value} : zW G mL_law 42 (r + 46060) 1703 [.ref b, .ref x, .ref a.1, .ref o, .int (nI i), v5, v6] [] h Q := by
  obtain ⟨w, S, M, W⟩ := I
  have hJ := W.1
  have hT5 : T + 50 < 100000 := by omega
  have hT : T ≤ 100000 := by omega
  have hTl : T < 100000 := by omega
  have hN : N ≤ 10000 := by omega
  have hk := M.kn
  obtain ⟨hD, hW⟩ := M.tt
  have hB := hJ.1.tB hT hN
  have cB := hJ.1.cB hN
  have hb0 := hB.2.2 0 (by decide)
  exact y_balance (q := ((qBalance w.1 y1).1, (qBalance w.1 y1).2, w)) hb hy1 hi M (fun U hG => kQ hG (fun hx hP => c_balance hx hP hJ hN hT) (by decide)) (fun h0 => zW.deep (w_balance hD hW hB) (by decide)) (fun h' S' v5 v6 M' => kont h' v5 v6 ⟨_, S', M', W.same⟩)
theorem g_mostIndebted (hZ : zkI G) (hS : zkS G) (hL : zkL G) (hE : zkE G) (hF : zkD G) (hb : zg_k G b = some (1100, xs)) (hi : i < 200) (I : lwI G x o a T N h) (hT9 : T + 3200 < 100000) (hN9 : N + 100 ≤ 10000) (kont : ∀ (h' : zH) (v5 v6 : Value), lwI G x o a (T + 3100) (N + 62) h' → zW G mL_law 42 r 3347 [.ref b, .ref x, .ref a.1, .ref o, .int (nI i), v5, v6] [] h' Q) {v5 v6 : Value} : zW G mL_law 42 (r + 46060) 1759 [.ref b, .ref x, .ref a.1, .ref o, .int (nI i), v5, v6] [] h Q := by
  obtain ⟨w, S, M, W⟩ := I
  have hJ := W.1
  have hT5 : T + 50 < 100000 := by omega
  have hT : T ≤ 100000 := by omega
  have hTl : T < 100000 := by omega
  have hN : N ≤ 10000 := by omega
  have hk := M.kn
  obtain ⟨hD, hW⟩ := M.tt
  have hB := hJ.1.tB hT hN
  have cB := hJ.1.cB hN
  have hb0 := hB.2.2 0 (by decide)
  exact y_mostIndebted (q := ((qMost w.1).1, (qMost w.1).2, w)) hb hi M (fun U hG => kQ hG (fun hx hP => c_mostIndebted hx hP hJ hN hT) (by decide)) (fun h0 => zW.deep (w_mostIndebted hD hW hB) (by decide)) (fun h' S' v5 v6 M' => kont h' v5 v6 ⟨_, S', M', W.same⟩)
theorem g_heaviest (hZ : zkI G) (hS : zkS G) (hL : zkL G) (hE : zkE G) (hF : zkD G) (hb : zg_k G b = some (1100, xs)) (hi : i < 200) (I : lwI G x o a T N h) (hT9 : T + 3200 < 100000) (hN9 : N + 100 ≤ 10000) (kont : ∀ (h' : zH) (v5 v6 : Value), lwI G x o a (T + 3100) (N + 62) h' → zW G mL_law 42 r 3347 [.ref b, .ref x, .ref a.1, .ref o, .int (nI i), v5, v6] [] h' Q) {v5 v6 : Value} : zW G mL_law 42 (r + 46060) 1803 [.ref b, .ref x, .ref a.1, .ref o, .int (nI i), v5, v6] [] h Q := by
  obtain ⟨w, S, M, W⟩ := I
  have hJ := W.1
  have hT5 : T + 50 < 100000 := by omega
  have hT : T ≤ 100000 := by omega
  have hTl : T < 100000 := by omega
  have hN : N ≤ 10000 := by omega
  have hk := M.kn
  obtain ⟨hD, hW⟩ := M.tt
  have hB := hJ.1.tB hT hN
  have cB := hJ.1.cB hN
  have hb0 := hB.2.2 0 (by decide)
  exact y_heaviest (q := ((qHeaviest w.1).1, (qHeaviest w.1).2, w)) hb hi M (fun U hG => kQ hG (fun hx hP => c_heaviest hx hP hJ hN hT hk hL) (by decide)) (fun h0 => zW.deep (w_heaviest hD hW hB) (by decide)) (fun h' S' v5 v6 M' => kont h' v5 v6 ⟨_, S', M', W.same⟩)
theorem g_nextExpiry (hZ : zkI G) (hS : zkS G) (hL : zkL G) (hE : zkE G) (hF : zkD G) (hb : zg_k G b = some (1100, xs)) (hi : i < 200) (I : lwI G x o a T N h) (hT9 : T + 3200 < 100000) (hN9 : N + 100 ≤ 10000) (kont : ∀ (h' : zH) (v5 v6 : Value), lwI G x o a (T + 3100) (N + 62) h' → zW G mL_law 42 r 3347 [.ref b, .ref x, .ref a.1, .ref o, .int (nI i), v5, v6] [] h' Q) {v5 v6 : Value} : zW G mL_law 42 (r + 46060) 1847 [.ref b, .ref x, .ref a.1, .ref o, .int (nI i), v5, v6] [] h Q := by
  obtain ⟨w, S, M, W⟩ := I
  have hJ := W.1
  have hT5 : T + 50 < 100000 := by omega
  have hT : T ≤ 100000 := by omega
  have hTl : T < 100000 := by omega
  have hN : N ≤ 10000 := by omega
  have hk := M.kn
  obtain ⟨hD, hW⟩ := M.tt
  have hB := hJ.1.tB hT hN
  have cB := hJ.1.cB hN
  have hb0 := hB.2.2 0 (by decide)
  exact y_nextExpiry (q := ((qNext w.1).1, (qNext w.1).2, w)) hb hi M (fun U hG => kQ hG (fun hx hP => c_nextExpiry hx hP hJ hN hT hk hL) (by decide)) (fun h0 => zW.deep (w_nextExpiry hD hW hB) (by decide)) (fun h' S' v5 v6 M' => kont h' v5 v6 ⟨_, S', M', W.same⟩)
theorem g_nextToAudit (hZ : zkI G) (hS : zkS G) (hL : zkL G) (hE : zkE G) (hF : zkD G) (hb : zg_k G b = some (1100, xs)) (hi : i < 200) (I : lwI G x o a T N h) (hT9 : T + 3200 < 100000) (hN9 : N + 100 ≤ 10000) (kont : ∀ (h' : zH) (v5 v6 : Value), lwI G x o a (T + 3100) (N + 62) h' → zW G mL_law 42 r 3347 [.ref b, .ref x, .ref a.1, .ref o, .int (nI i), v5, v6] [] h' Q) {v5 v6 : Value} : zW G mL_law 42 (r + 46060) 1891 [.ref b, .ref x, .ref a.1, .ref o, .int (nI i), v5, v6] [] h Q := by
  obtain ⟨w, S, M, W⟩ := I
  have hJ := W.1
  have hT5 : T + 50 < 100000 := by omega
  have hT : T ≤ 100000 := by omega
  have hTl : T < 100000 := by omega
  have hN : N ≤ 10000 := by omega
  have hk := M.kn
  obtain ⟨hD, hW⟩ := M.tt
  have hB := hJ.1.tB hT hN
  have cB := hJ.1.cB hN
  have hb0 := hB.2.2 0 (by decide)
  exact y_nextToAudit (q := ((qNextAudit w.1).1, (qNextAudit w.1).2, w)) hb hi M (fun U hG => kQ hG (fun hx hP => c_nextToAudit hx hP) (by decide)) (fun h0 => zW.deep (w_nextToAudit hD hW) (by decide)) (fun h' S' v5 v6 M' => kont h' v5 v6 ⟨_, S', M', W.same⟩)
theorem g_auditPosition {y1 : Int32} (hZ : zkI G) (hS : zkS G) (hL : zkL G) (hE : zkE G) (hF : zkD G) (hb : zg_k G b = some (1100, xs)) (hy1 : xs[i + 1]? = some (.int y1)) (hi : i < 200) (I : lwI G x o a T N h) (hT9 : T + 3200 < 100000) (hN9 : N + 100 ≤ 10000) (kont : ∀ (h' : zH) (v5 v6 : Value), lwI G x o a (T + 3100) (N + 62) h' → zW G mL_law 42 r 3347 [.ref b, .ref x, .ref a.1, .ref o, .int (nI i), v5, v6] [] h' Q) {v5 v6 : Value} : zW G mL_law 42 (r + 46060) 1935 [.ref b, .ref x, .ref a.1, .ref o, .int (nI i), v5, v6] [] h Q := by
  obtain ⟨w, S, M, W⟩ := I
  have hJ := W.1
  have hT5 : T + 50 < 100000 := by omega
  have hT : T ≤ 100000 := by omega
  have hTl : T < 100000 := by omega
  have hN : N ≤ 10000 := by omega
  have hk := M.kn
  obtain ⟨hD, hW⟩ := M.tt
  have hB := hJ.1.tB hT hN
  have cB := hJ.1.cB hN
  have hb0 := hB.2.2 0 (by decide)
  exact y_auditPosition (q := ((qAuditPos w.1 y1).1, (qAuditPos w.1 y1).2, w)) hb hy1 hi M (fun U hG => kQ hG (fun hx hP => c_auditPosition hx hP hJ hN hT) (by decide)) (fun h0 => zW.deep (w_auditPosition hD hW hB (fun j hj => hJ.1.qu hj)) (by decide)) (fun h' S' v5 v6 M' => kont h' v5 v6 ⟨_, S', M', W.same⟩)
theorem g_owes {y1 : Int32} {y2 : Int32} (hZ : zkI G) (hS : zkS G) (hL : zkL G) (hE : zkE G) (hF : zkD G) (hb : zg_k G b = some (1100, xs)) (hy1 : xs[i + 1]? = some (.int y1)) (hy2 : xs[i + 2]? = some (.int y2)) (hi : i < 200) (I : lwI G x o a T N h) (hT9 : T + 3200 < 100000) (hN9 : N + 100 ≤ 10000) (kont : ∀ (h' : zH) (v5 v6 : Value), lwI G x o a (T + 3100) (N + 62) h' → zW G mL_law 42 r 3347 [.ref b, .ref x, .ref a.1, .ref o, .int (nI i), v5, v6] [] h' Q) {v5 v6 : Value} : zW G mL_law 42 (r + 46060) 1991 [.ref b, .ref x, .ref a.1, .ref o, .int (nI i), v5, v6] [] h Q := by
  obtain ⟨w, S, M, W⟩ := I
  have hJ := W.1
  have hT5 : T + 50 < 100000 := by omega
  have hT : T ≤ 100000 := by omega
  have hTl : T < 100000 := by omega
  have hN : N ≤ 10000 := by omega
  have hk := M.kn
  obtain ⟨hD, hW⟩ := M.tt
  have hB := hJ.1.tB hT hN
  have cB := hJ.1.cB hN
  have hb0 := hB.2.2 0 (by decide)
  exact y_owes (q := ((qOwes w.1 y1 y2).1, (qOwes w.1 y1 y2).2, w)) hb hy1 hy2 hi M (fun U hG => kQ hG (fun hx hP => c_owes hx hP hJ hN hT) (by decide)) (fun h0 => zW.deep (w_owes hD hW hB) (by decide)) (fun e => qOwes01 e) (fun h' S' v5 v6 M' => kont h' v5 v6 ⟨_, S', M', W.same⟩)
theorem g_pairBalance {y1 : Int32} {y2 : Int32} (hZ : zkI G) (hS : zkS G) (hL : zkL G) (hE : zkE G) (hF : zkD G) (hb : zg_k G b = some (1100, xs)) (hy1 : xs[i + 1]? = some (.int y1)) (hy2 : xs[i + 2]? = some (.int y2)) (hi : i < 200) (I : lwI G x o a T N h) (hT9 : T + 3200 < 100000) (hN9 : N + 100 ≤ 10000) (kont : ∀ (h' : zH) (v5 v6 : Value), lwI G x o a (T + 3100) (N + 62) h' → zW G mL_law 42 r 3347 [.ref b, .ref x, .ref a.1, .ref o, .int (nI i), v5, v6] [] h' Q) {v5 v6 : Value} : zW G mL_law 42 (r + 46060) 2066 [.ref b, .ref x, .ref a.1, .ref o, .int (nI i), v5, v6] [] h Q := by
  obtain ⟨w, S, M, W⟩ := I
  have hJ := W.1
  have hT5 : T + 50 < 100000 := by omega
  have hT : T ≤ 100000 := by omega
  have hTl : T < 100000 := by omega
  have hN : N ≤ 10000 := by omega
  have hk := M.kn
  obtain ⟨hD, hW⟩ := M.tt
  have hB := hJ.1.tB hT hN
  have cB := hJ.1.cB hN
  have hb0 := hB.2.2 0 (by decide)
  exact y_pairBalance (q := ((qPair w.1 y1 y2).1, (qPair w.1 y1 y2).2, w)) hb hy1 hy2 hi M (fun U hG => kQ hG (fun hx hP => c_pairBalance hx hP hJ hN hT) (by decide)) (fun h0 => zW.deep (w_pairBalance hD hW hB) (by decide)) (fun h' S' v5 v6 M' => kont h' v5 v6 ⟨_, S', M', W.same⟩)
theorem g_chainLength {y1 : Int32} {y2 : Int32} (hZ : zkI G) (hS : zkS G) (hL : zkL G) (hE : zkE G) (hF : zkD G) (hb : zg_k G b = some (1100, xs)) (hy1 : xs[i + 1]? = some (.int y1)) (hy2 : xs[i + 2]? = some (.int y2)) (hi : i < 200) (I : lwI G x o a T N h) (hT9 : T + 3200 < 100000) (hN9 : N + 100 ≤ 10000) (kont : ∀ (h' : zH) (v5 v6 : Value), lwI G x o a (T + 3100) (N + 62) h' → zW G mL_law 42 r 3347 [.ref b, .ref x, .ref a.1, .ref o, .int (nI i), v5, v6] [] h' Q) {v5 v6 : Value} : zW G mL_law 42 (r + 46060) 2134 [.ref b, .ref x, .ref a.1, .ref o, .int (nI i), v5, v6] [] h Q := by
  obtain ⟨w, S, M, W⟩ := I
  have hJ := W.1
  have hT5 : T + 50 < 100000 := by omega
  have hT : T ≤ 100000 := by omega
  have hTl : T < 100000 := by omega
  have hN : N ≤ 10000 := by omega
  have hk := M.kn
  obtain ⟨hD, hW⟩ := M.tt
  have hB := hJ.1.tB hT hN
  have cB := hJ.1.cB hN
  have hb0 := hB.2.2 0 (by decide)
  exact y_chainLength (q := ((qChain w.1 y1 y2).1, (qChain w.1 y1 y2).2, w)) hb hy1 hy2 hi M (fun U hG => kQ hG (fun hx hP => c_chainLength hk hZ hx hP hJ hN hT) (by decide)) (fun h0 => zW.deep (w_chainLength hD hW hJ.1) (by decide)) (fun h' S' v5 v6 M' => kont h' v5 v6 ⟨_, S', M', W.same⟩)
theorem g_chainLengthByRounds {y1 : Int32} {y2 : Int32} (hZ : zkI G) (hS : zkS G) (hL : zkL G) (hE : zkE G) (hF : zkD G) (hb : zg_k G b = some (1100, xs)) (hy1 : xs[i + 1]? = some (.int y1)) (hy2 : xs[i + 2]? = some (.int y2)) (hi : i < 200) (I : lwI G x o a T N h) (hT9 : T + 3200 < 100000) (hN9 : N + 100 ≤ 10000) (kont : ∀ (h' : zH) (v5 v6 : Value), lwI G x o a (T + 3100) (N + 62) h' → zW G mL_law 42 r 3347 [.ref b, .ref x, .ref a.1, .ref o, .int (nI i), v5, v6] [] h' Q) {v5 v6 : Value} : zW G mL_law 42 (r + 46060) 2202 [.ref b, .ref x, .ref a.1, .ref o, .int (nI i), v5, v6] [] h Q := by
  obtain ⟨w, S, M, W⟩ := I
  have hJ := W.1
  have hT5 : T + 50 < 100000 := by omega
  have hT : T ≤ 100000 := by omega
  have hTl : T < 100000 := by omega
  have hN : N ≤ 10000 := by omega
  have hk := M.kn
  obtain ⟨hD, hW⟩ := M.tt
  have hB := hJ.1.tB hT hN
  have cB := hJ.1.cB hN
  have hb0 := hB.2.2 0 (by decide)
  exact y_chainLengthByRounds (q := ((qChain w.1 y1 y2).1, (qChain w.1 y1 y2).2, w)) hb hy1 hy2 hi M (fun U hG => kQ hG (fun hx hP => c_chainLengthByRounds hk hZ hx hP hJ hN hT) (by decide)) (fun h0 => zW.deep (w_chainLengthByRounds hD hW hJ.1) (by decide)) (fun h' S' v5 v6 M' => kont h' v5 v6 ⟨_, S', M', W.same⟩)
theorem g_reachableFrom {y1 : Int32} (hZ : zkI G) (hS : zkS G) (hL : zkL G) (hE : zkE G) (hF : zkD G) (hb : zg_k G b = some (1100, xs)) (hy1 : xs[i + 1]? = some (.int y1)) (hi : i < 200) (I : lwI G x o a T N h) (hT9 : T + 3200 < 100000) (hN9 : N + 100 ≤ 10000) (kont : ∀ (h' : zH) (v5 v6 : Value), lwI G x o a (T + 3100) (N + 62) h' → zW G mL_law 42 r 3347 [.ref b, .ref x, .ref a.1, .ref o, .int (nI i), v5, v6] [] h' Q) {v5 v6 : Value} : zW G mL_law 42 (r + 46060) 2270 [.ref b, .ref x, .ref a.1, .ref o, .int (nI i), v5, v6] [] h Q := by
  obtain ⟨w, S, M, W⟩ := I
  have hJ := W.1
  have hT5 : T + 50 < 100000 := by omega
  have hT : T ≤ 100000 := by omega
  have hTl : T < 100000 := by omega
  have hN : N ≤ 10000 := by omega
  have hk := M.kn
  obtain ⟨hD, hW⟩ := M.tt
  have hB := hJ.1.tB hT hN
  have cB := hJ.1.cB hN
  have hb0 := hB.2.2 0 (by decide)
  exact y_reachableFrom (q := ((qReach w.1 y1).1, (qReach w.1 y1).2, w)) hb hy1 hi M (fun U hG => kQ hG (fun hx hP => c_reachableFrom hk hZ hx hP hJ hN hT) (by decide)) (fun h0 => zW.deep (w_reachableFrom hD hW hJ.1) (by decide)) (fun h' S' v5 v6 M' => kont h' v5 v6 ⟨_, S', M', W.same⟩)
theorem g_hasCycle (hZ : zkI G) (hS : zkS G) (hL : zkL G) (hE : zkE G) (hF : zkD G) (hb : zg_k G b = some (1100, xs)) (hi : i < 200) (I : lwI G x o a T N h) (hT9 : T + 3200 < 100000) (hN9 : N + 100 ≤ 10000) (kont : ∀ (h' : zH) (v5 v6 : Value), lwI G x o a (T + 3100) (N + 62) h' → zW G mL_law 42 r 3347 [.ref b, .ref x, .ref a.1, .ref o, .int (nI i), v5, v6] [] h' Q) {v5 v6 : Value} : zW G mL_law 42 (r + 46060) 2326 [.ref b, .ref x, .ref a.1, .ref o, .int (nI i), v5, v6] [] h Q := by
  obtain ⟨w, S, M, W⟩ := I
  have hJ := W.1
  have hT5 : T + 50 < 100000 := by omega
  have hT : T ≤ 100000 := by omega
  have hTl : T < 100000 := by omega
  have hN : N ≤ 10000 := by omega
  have hk := M.kn
  obtain ⟨hD, hW⟩ := M.tt
  have hB := hJ.1.tB hT hN
  have cB := hJ.1.cB hN
  have hb0 := hB.2.2 0 (by decide)
  exact y_hasCycle (q := ((qCycle w.1).1, (qCycle w.1).2, w)) hb hi M (fun U hG => kQ hG (fun hx hP => c_hasCycle hk hZ hx hP hJ hN hT) (by decide)) (fun h0 => zW.deep (w_hasCycle hD hW hJ.1) (by decide)) (fun h' S' v5 v6 M' => kont h' v5 v6 ⟨_, S', M', W.same⟩)
theorem g_idByExpiry {y1 : Int32} (hZ : zkI G) (hS : zkS G) (hL : zkL G) (hE : zkE G) (hF : zkD G) (hb : zg_k G b = some (1100, xs)) (hy1 : xs[i + 1]? = some (.int y1)) (hi : i < 200) (I : lwI G x o a T N h) (hT9 : T + 3200 < 100000) (hN9 : N + 100 ≤ 10000) (kont : ∀ (h' : zH) (v5 v6 : Value), lwI G x o a (T + 3100) (N + 62) h' → zW G mL_law 42 r 3347 [.ref b, .ref x, .ref a.1, .ref o, .int (nI i), v5, v6] [] h' Q) {v5 v6 : Value} : zW G mL_law 42 (r + 46060) 2339 [.ref b, .ref x, .ref a.1, .ref o, .int (nI i), v5, v6] [] h Q := by
  obtain ⟨w, S, M, W⟩ := I
  have hJ := W.1
  have hT5 : T + 50 < 100000 := by omega
  have hT : T ≤ 100000 := by omega
  have hTl : T < 100000 := by omega
  have hN : N ≤ 10000 := by omega
  have hk := M.kn
  obtain ⟨hD, hW⟩ := M.tt
  have hB := hJ.1.tB hT hN
  have cB := hJ.1.cB hN
  have hb0 := hB.2.2 0 (by decide)
  exact y_idByExpiry (q := ((qByExp w.1 y1).1, (qByExp w.1 y1).2, w)) hb hy1 hi M (fun U hG => kQ hG (fun hx hP => c_idByExpiry hx hP hJ hN hT) (by decide)) (fun h0 => zW.deep (w_idByExpiry hD hW hB) (by decide)) (fun h' S' v5 v6 M' => kont h' v5 v6 ⟨_, S', M', W.same⟩)
theorem g_expiryRank {y1 : Int32} (hZ : zkI G) (hS : zkS G) (hL : zkL G) (hE : zkE G) (hF : zkD G) (hb : zg_k G b = some (1100, xs)) (hy1 : xs[i + 1]? = some (.int y1)) (hi : i < 200) (I : lwI G x o a T N h) (hT9 : T + 3200 < 100000) (hN9 : N + 100 ≤ 10000) (kont : ∀ (h' : zH) (v5 v6 : Value), lwI G x o a (T + 3100) (N + 62) h' → zW G mL_law 42 r 3347 [.ref b, .ref x, .ref a.1, .ref o, .int (nI i), v5, v6] [] h' Q) {v5 v6 : Value} : zW G mL_law 42 (r + 46060) 2395 [.ref b, .ref x, .ref a.1, .ref o, .int (nI i), v5, v6] [] h Q := by
  obtain ⟨w, S, M, W⟩ := I
  have hJ := W.1
  have hT5 : T + 50 < 100000 := by omega
  have hT : T ≤ 100000 := by omega
  have hTl : T < 100000 := by omega
  have hN : N ≤ 10000 := by omega
  have hk := M.kn
  obtain ⟨hD, hW⟩ := M.tt
  have hB := hJ.1.tB hT hN
  have cB := hJ.1.cB hN
  have hb0 := hB.2.2 0 (by decide)
  exact y_expiryRank (q := ((qRank w.1 y1).1, (qRank w.1 y1).2, w)) hb hy1 hi M (fun U hG => kQ hG (fun hx hP => c_expiryRank hx hP hJ hN hT) (by decide)) (fun h0 => zW.deep (w_expiryRank hD hW hB) (by decide)) (fun h' S' v5 v6 M' => kont h' v5 v6 ⟨_, S', M', W.same⟩)
theorem g_expiringWithin {y1 : Int32} (hZ : zkI G) (hS : zkS G) (hL : zkL G) (hE : zkE G) (hF : zkD G) (hb : zg_k G b = some (1100, xs)) (hy1 : xs[i + 1]? = some (.int y1)) (hi : i < 200) (I : lwI G x o a T N h) (hT9 : T + 3200 < 100000) (hN9 : N + 100 ≤ 10000) (kont : ∀ (h' : zH) (v5 v6 : Value), lwI G x o a (T + 3100) (N + 62) h' → zW G mL_law 42 r 3347 [.ref b, .ref x, .ref a.1, .ref o, .int (nI i), v5, v6] [] h' Q) {v5 v6 : Value} : zW G mL_law 42 (r + 46060) 2451 [.ref b, .ref x, .ref a.1, .ref o, .int (nI i), v5, v6] [] h Q := by
  obtain ⟨w, S, M, W⟩ := I
  have hJ := W.1
  have hT5 : T + 50 < 100000 := by omega
  have hT : T ≤ 100000 := by omega
  have hTl : T < 100000 := by omega
  have hN : N ≤ 10000 := by omega
  have hk := M.kn
  obtain ⟨hD, hW⟩ := M.tt
  have hB := hJ.1.tB hT hN
  have cB := hJ.1.cB hN
  have hb0 := hB.2.2 0 (by decide)
  exact y_expiringWithin (q := ((qExpW w.1 y1).1, (qExpW w.1 y1).2, w)) hb hy1 hi M (fun U hG => kQ hG (fun hx hP => c_expiringWithin hx hP hJ hN hT) (by decide)) (fun h0 => zW.deep (w_expiringWithin hD hW hB) (by decide)) (fun h' S' v5 v6 M' => kont h' v5 v6 ⟨_, S', M', W.same⟩)
theorem g_expiringBySimulation {y1 : Int32} (hZ : zkI G) (hS : zkS G) (hL : zkL G) (hE : zkE G) (hF : zkD G) (hb : zg_k G b = some (1100, xs)) (hy1 : xs[i + 1]? = some (.int y1)) (hi : i < 200) (I : lwI G x o a T N h) (hT9 : T + 3200 < 100000) (hN9 : N + 100 ≤ 10000) (kont : ∀ (h' : zH) (v5 v6 : Value), lwI G x o a (T + 3100) (N + 62) h' → zW G mL_law 42 r 3347 [.ref b, .ref x, .ref a.1, .ref o, .int (nI i), v5, v6] [] h' Q) {v5 v6 : Value} : zW G mL_law 42 (r + 46060) 2507 [.ref b, .ref x, .ref a.1, .ref o, .int (nI i), v5, v6] [] h Q := by
  obtain ⟨w, S, M, W⟩ := I
  have hJ := W.1
  have hT5 : T + 50 < 100000 := by omega
  have hT : T ≤ 100000 := by omega
  have hTl : T < 100000 := by omega
  have hN : N ≤ 10000 := by omega
  have hk := M.kn
  obtain ⟨hD, hW⟩ := M.tt
  have hB := hJ.1.tB hT hN
  have cB := hJ.1.cB hN
  have hb0 := hB.2.2 0 (by decide)
  exact y_expiringBySimulation (q := ((qExpS w.1 y1).1, (qExpS w.1 y1).2, w)) hb hy1 hi M (fun U hG => kQ hG (fun hx hP => c_expiringBySimulation hx hP hJ hN hT5 hk hZ) (by decide)) (fun h0 => zW.deep (w_expiringBySimulation hD hW hJ.1 hJ.2 hT5 hN) (by decide)) (fun h' S' v5 v6 M' => kont h' v5 v6 ⟨_, S', M', W.same⟩)
theorem g_weightAfter {y1 : Int32} {y2 : Int32} (hZ : zkI G) (hS : zkS G) (hL : zkL G) (hE : zkE G) (hF : zkD G) (hb : zg_k G b = some (1100, xs)) (hy1 : xs[i + 1]? = some (.int y1)) (hy2 : xs[i + 2]? = some (.int y2)) (hi : i < 200) (I : lwI G x o a T N h) (hT9 : T + 3200 < 100000) (hN9 : N + 100 ≤ 10000) (kont : ∀ (h' : zH) (v5 v6 : Value), lwI G x o a (T + 3100) (N + 62) h' → zW G mL_law 42 r 3347 [.ref b, .ref x, .ref a.1, .ref o, .int (nI i), v5, v6] [] h' Q) {v5 v6 : Value} : zW G mL_law 42 (r + 46060) 2563 [.ref b, .ref x, .ref a.1, .ref o, .int (nI i), v5, v6] [] h Q := by
  obtain ⟨w, S, M, W⟩ := I
  have hJ := W.1
  have hT5 : T + 50 < 100000 := by omega
  have hT : T ≤ 100000 := by omega
  have hTl : T < 100000 := by omega
  have hN : N ≤ 10000 := by omega
  have hk := M.kn
  obtain ⟨hD, hW⟩ := M.tt
  have hB := hJ.1.tB hT hN
  have cB := hJ.1.cB hN
  have hb0 := hB.2.2 0 (by decide)
  exact y_weightAfter (q := ((qAfter w.1 y1 y2).1, (qAfter w.1 y1 y2).2, w)) hb hy1 hy2 hi M (fun U hG => kQ hG (fun hx hP => c_weightAfter hx hP hJ hN hT5) (by decide)) (fun h0 => zW.deep (w_weightAfter hD hW hJ.1 hTl hN) (by decide)) (fun h' S' v5 v6 M' => kont h' v5 v6 ⟨_, S', M', W.same⟩)
theorem g_canSign {y1 : Int32} {y2 : Int32} (hZ : zkI G) (hS : zkS G) (hL : zkL G) (hE : zkE G) (hF : zkD G) (hb : zg_k G b = some (1100, xs)) (hy1 : xs[i + 1]? = some (.int y1)) (hy2 : xs[i + 2]? = some (.int y2)) (hi : i < 200) (I : lwI G x o a T N h) (hT9 : T + 3200 < 100000) (hN9 : N + 100 ≤ 10000) (kont : ∀ (h' : zH) (v5 v6 : Value), lwI G x o a (T + 3100) (N + 62) h' → zW G mL_law 42 r 3347 [.ref b, .ref x, .ref a.1, .ref o, .int (nI i), v5, v6] [] h' Q) {v5 v6 : Value} : zW G mL_law 42 (r + 46060) 2631 [.ref b, .ref x, .ref a.1, .ref o, .int (nI i), v5, v6] [] h Q := by
  obtain ⟨w, S, M, W⟩ := I
  have hJ := W.1
  have hT5 : T + 50 < 100000 := by omega
  have hT : T ≤ 100000 := by omega
  have hTl : T < 100000 := by omega
  have hN : N ≤ 10000 := by omega
  have hk := M.kn
  obtain ⟨hD, hW⟩ := M.tt
  have hB := hJ.1.tB hT hN
  have cB := hJ.1.cB hN
  have hb0 := hB.2.2 0 (by decide)
  exact y_canSign (q := ((qCanS w.1 y1 y2).1, (qCanS w.1 y1 y2).2, w)) hb hy1 hy2 hi M (fun U hG => kQ hG (fun hx hP => c_canSign hx hP hJ hN hT) (by decide)) (fun h0 => zW.deep (w_canSign hD hW hB) (by decide)) (fun e => qCanS01 e) (fun h' S' v5 v6 M' => kont h' v5 v6 ⟨_, S', M', W.same⟩)
theorem g_canCountersign {y1 : Int32} {y2 : Int32} (hZ : zkI G) (hS : zkS G) (hL : zkL G) (hE : zkE G) (hF : zkD G) (hb : zg_k G b = some (1100, xs)) (hy1 : xs[i + 1]? = some (.int y1)) (hy2 : xs[i + 2]? = some (.int y2)) (hi : i < 200) (I : lwI G x o a T N h) (hT9 : T + 3200 < 100000) (hN9 : N + 100 ≤ 10000) (kont : ∀ (h' : zH) (v5 v6 : Value), lwI G x o a (T + 3100) (N + 62) h' → zW G mL_law 42 r 3347 [.ref b, .ref x, .ref a.1, .ref o, .int (nI i), v5, v6] [] h' Q) {v5 v6 : Value} : zW G mL_law 42 (r + 46060) 2706 [.ref b, .ref x, .ref a.1, .ref o, .int (nI i), v5, v6] [] h Q := by
  obtain ⟨w, S, M, W⟩ := I
  have hJ := W.1
  have hT5 : T + 50 < 100000 := by omega
  have hT : T ≤ 100000 := by omega
  have hTl : T < 100000 := by omega
  have hN : N ≤ 10000 := by omega
  have hk := M.kn
  obtain ⟨hD, hW⟩ := M.tt
  have hB := hJ.1.tB hT hN
  have cB := hJ.1.cB hN
  have hb0 := hB.2.2 0 (by decide)
  exact y_canCountersign (q := ((qCanC w.1 y1 y2).1, (qCanC w.1 y1 y2).2, w)) hb hy1 hy2 hi M (fun U hG => kQ hG (fun hx hP => c_canCountersign hx hP hJ hN hT) (by decide)) (fun h0 => zW.deep (w_canCountersign hD hW hB) (by decide)) (fun e => qCanC01 e) (fun h' S' v5 v6 M' => kont h' v5 v6 ⟨_, S', M', W.same⟩)
theorem g_recentlyExpired {y1 : Int32} (hZ : zkI G) (hS : zkS G) (hL : zkL G) (hE : zkE G) (hF : zkD G) (hb : zg_k G b = some (1100, xs)) (hy1 : xs[i + 1]? = some (.int y1)) (hi : i < 200) (I : lwI G x o a T N h) (hT9 : T + 3200 < 100000) (hN9 : N + 100 ≤ 10000) (kont : ∀ (h' : zH) (v5 v6 : Value), lwI G x o a (T + 3100) (N + 62) h' → zW G mL_law 42 r 3347 [.ref b, .ref x, .ref a.1, .ref o, .int (nI i), v5, v6] [] h' Q) {v5 v6 : Value} : zW G mL_law 42 (r + 46060) 2781 [.ref b, .ref x, .ref a.1, .ref o, .int (nI i), v5, v6] [] h Q := by
  obtain ⟨w, S, M, W⟩ := I
  have hJ := W.1
  have hT5 : T + 50 < 100000 := by omega
  have hT : T ≤ 100000 := by omega
  have hTl : T < 100000 := by omega
  have hN : N ≤ 10000 := by omega
  have hk := M.kn
  obtain ⟨hD, hW⟩ := M.tt
  have hB := hJ.1.tB hT hN
  have cB := hJ.1.cB hN
  have hb0 := hB.2.2 0 (by decide)
  exact y_recentlyExpired (q := ((qRecent w.1 y1).1, (qRecent w.1 y1).2, w)) hb hy1 hi M (fun U hG => kQ hG (fun hx hP => c_recentlyExpired hx hP cB) (by decide)) (fun h0 => zW.deep (w_recentlyExpired hD hW) (by decide)) (fun h' S' v5 v6 M' => kont h' v5 v6 ⟨_, S', M', W.same⟩)
theorem g_expiredCount (hZ : zkI G) (hS : zkS G) (hL : zkL G) (hE : zkE G) (hF : zkD G) (hb : zg_k G b = some (1100, xs)) (hi : i < 200) (I : lwI G x o a T N h) (hT9 : T + 3200 < 100000) (hN9 : N + 100 ≤ 10000) (kont : ∀ (h' : zH) (v5 v6 : Value), lwI G x o a (T + 3100) (N + 62) h' → zW G mL_law 42 r 3347 [.ref b, .ref x, .ref a.1, .ref o, .int (nI i), v5, v6] [] h' Q) {v5 v6 : Value} : zW G mL_law 42 (r + 46060) 2837 [.ref b, .ref x, .ref a.1, .ref o, .int (nI i), v5, v6] [] h Q := by
  obtain ⟨w, S, M, W⟩ := I
  have hJ := W.1
  have hT5 : T + 50 < 100000 := by omega
  have hT : T ≤ 100000 := by omega
  have hTl : T < 100000 := by omega
  have hN : N ≤ 10000 := by omega
  have hk := M.kn
  obtain ⟨hD, hW⟩ := M.tt
  have hB := hJ.1.tB hT hN
  have cB := hJ.1.cB hN
  have hb0 := hB.2.2 0 (by decide)
  exact y_expiredCount (q := ((qNum w.1 5).1, (qNum w.1 5).2, w)) hb hi M (fun U hG => kQ hG (fun hx hP => c_expiredCount hx hP) (by decide)) (fun h0 => zW.deep (w_expiredCount hD hW) (by decide)) (fun h' S' v5 v6 M' => kont h' v5 v6 ⟨_, S', M', W.same⟩)
theorem g_settledCount (hZ : zkI G) (hS : zkS G) (hL : zkL G) (hE : zkE G) (hF : zkD G) (hb : zg_k G b = some (1100, xs)) (hi : i < 200) (I : lwI G x o a T N h) (hT9 : T + 3200 < 100000) (hN9 : N + 100 ≤ 10000) (kont : ∀ (h' : zH) (v5 v6 : Value), lwI G x o a (T + 3100) (N + 62) h' → zW G mL_law 42 r 3347 [.ref b, .ref x, .ref a.1, .ref o, .int (nI i), v5, v6] [] h' Q) {v5 v6 : Value} : zW G mL_law 42 (r + 46060) 2850 [.ref b, .ref x, .ref a.1, .ref o, .int (nI i), v5, v6] [] h Q := by
  obtain ⟨w, S, M, W⟩ := I
  have hJ := W.1
  have hT5 : T + 50 < 100000 := by omega
  have hT : T ≤ 100000 := by omega
  have hTl : T < 100000 := by omega
  have hN : N ≤ 10000 := by omega
  have hk := M.kn
  obtain ⟨hD, hW⟩ := M.tt
  have hB := hJ.1.tB hT hN
  have cB := hJ.1.cB hN
  have hb0 := hB.2.2 0 (by decide)
  exact y_settledCount (q := ((qNum w.1 6).1, (qNum w.1 6).2, w)) hb hi M (fun U hG => kQ hG (fun hx hP => c_settledCount hx hP) (by decide)) (fun h0 => zW.deep (w_settledCount hD hW) (by decide)) (fun h' S' v5 v6 M' => kont h' v5 v6 ⟨_, S', M', W.same⟩)
theorem g_voidedCount (hZ : zkI G) (hS : zkS G) (hL : zkL G) (hE : zkE G) (hF : zkD G) (hb : zg_k G b = some (1100, xs)) (hi : i < 200) (I : lwI G x o a T N h) (hT9 : T + 3200 < 100000) (hN9 : N + 100 ≤ 10000) (kont : ∀ (h' : zH) (v5 v6 : Value), lwI G x o a (T + 3100) (N + 62) h' → zW G mL_law 42 r 3347 [.ref b, .ref x, .ref a.1, .ref o, .int (nI i), v5, v6] [] h' Q) {v5 v6 : Value} : zW G mL_law 42 (r + 46060) 2863 [.ref b, .ref x, .ref a.1, .ref o, .int (nI i), v5, v6] [] h Q := by
  obtain ⟨w, S, M, W⟩ := I
  have hJ := W.1
  have hT5 : T + 50 < 100000 := by omega
  have hT : T ≤ 100000 := by omega
  have hTl : T < 100000 := by omega
  have hN : N ≤ 10000 := by omega
  have hk := M.kn
  obtain ⟨hD, hW⟩ := M.tt
  have hB := hJ.1.tB hT hN
  have cB := hJ.1.cB hN
  have hb0 := hB.2.2 0 (by decide)
  exact y_voidedCount (q := ((qNum w.1 7).1, (qNum w.1 7).2, w)) hb hi M (fun U hG => kQ hG (fun hx hP => c_voidedCount hx hP) (by decide)) (fun h0 => zW.deep (w_voidedCount hD hW) (by decide)) (fun h' S' v5 v6 M' => kont h' v5 v6 ⟨_, S', M', W.same⟩)
theorem g_interestTotal (hZ : zkI G) (hS : zkS G) (hL : zkL G) (hE : zkE G) (hF : zkD G) (hb : zg_k G b = some (1100, xs)) (hi : i < 200) (I : lwI G x o a T N h) (hT9 : T + 3200 < 100000) (hN9 : N + 100 ≤ 10000) (kont : ∀ (h' : zH) (v5 v6 : Value), lwI G x o a (T + 3100) (N + 62) h' → zW G mL_law 42 r 3347 [.ref b, .ref x, .ref a.1, .ref o, .int (nI i), v5, v6] [] h' Q) {v5 v6 : Value} : zW G mL_law 42 (r + 46060) 2876 [.ref b, .ref x, .ref a.1, .ref o, .int (nI i), v5, v6] [] h Q := by
  obtain ⟨w, S, M, W⟩ := I
  have hJ := W.1
  have hT5 : T + 50 < 100000 := by omega
  have hT : T ≤ 100000 := by omega
  have hTl : T < 100000 := by omega
  have hN : N ≤ 10000 := by omega
  have hk := M.kn
  obtain ⟨hD, hW⟩ := M.tt
  have hB := hJ.1.tB hT hN
  have cB := hJ.1.cB hN
  have hb0 := hB.2.2 0 (by decide)
  obtain ⟨U0, hG⟩ := M.reg
  exact y_interestTotal (lv := (nI (w.1.1 3)).toInt64) hb hi M (kL hG (fun hx hP => c_interestTotal hx hP (hB.2.2 3 (by decide))) (by decide)) (fun h0 => zW.deep (w_interestTotal hD hW) (by decide)) (fun h' S' v5 v6 M' => kont h' v5 v6 ⟨_, S', M', W.same⟩)
theorem g_activeWeight (hZ : zkI G) (hS : zkS G) (hL : zkL G) (hE : zkE G) (hF : zkD G) (hb : zg_k G b = some (1100, xs)) (hi : i < 200) (I : lwI G x o a T N h) (hT9 : T + 3200 < 100000) (hN9 : N + 100 ≤ 10000) (kont : ∀ (h' : zH) (v5 v6 : Value), lwI G x o a (T + 3100) (N + 62) h' → zW G mL_law 42 r 3347 [.ref b, .ref x, .ref a.1, .ref o, .int (nI i), v5, v6] [] h' Q) {v5 v6 : Value} : zW G mL_law 42 (r + 46060) 2890 [.ref b, .ref x, .ref a.1, .ref o, .int (nI i), v5, v6] [] h Q := by
  obtain ⟨w, S, M, W⟩ := I
  have hJ := W.1
  have hT5 : T + 50 < 100000 := by omega
  have hT : T ≤ 100000 := by omega
  have hTl : T < 100000 := by omega
  have hN : N ≤ 10000 := by omega
  have hk := M.kn
  obtain ⟨hD, hW⟩ := M.tt
  have hB := hJ.1.tB hT hN
  have cB := hJ.1.cB hN
  have hb0 := hB.2.2 0 (by decide)
  obtain ⟨U0, hG⟩ := M.reg
  exact y_activeWeight (lv := (nI (sUp (fun k => sAt w.1.2.1 k 3) w.1.2.1.length)).toInt64) hb hi M (kL hG (fun hx hP => c_activeWeight hx hP hJ hN hT hk hL) (by decide)) (fun h0 => zW.deep (w_activeWeight hD hW) (by decide)) (fun h' S' v5 v6 M' => kont h' v5 v6 ⟨_, S', M', W.same⟩)
theorem g_closedWeight (hZ : zkI G) (hS : zkS G) (hL : zkL G) (hE : zkE G) (hF : zkD G) (hb : zg_k G b = some (1100, xs)) (hi : i < 200) (I : lwI G x o a T N h) (hT9 : T + 3200 < 100000) (hN9 : N + 100 ≤ 10000) (kont : ∀ (h' : zH) (v5 v6 : Value), lwI G x o a (T + 3100) (N + 62) h' → zW G mL_law 42 r 3347 [.ref b, .ref x, .ref a.1, .ref o, .int (nI i), v5, v6] [] h' Q) {v5 v6 : Value} : zW G mL_law 42 (r + 46060) 2904 [.ref b, .ref x, .ref a.1, .ref o, .int (nI i), v5, v6] [] h Q := by
  obtain ⟨w, S, M, W⟩ := I
  have hJ := W.1
  have hT5 : T + 50 < 100000 := by omega
  have hT : T ≤ 100000 := by omega
  have hTl : T < 100000 := by omega
  have hN : N ≤ 10000 := by omega
  have hk := M.kn
  obtain ⟨hD, hW⟩ := M.tt
  have hB := hJ.1.tB hT hN
  have cB := hJ.1.cB hN
  have hb0 := hB.2.2 0 (by decide)
  obtain ⟨U0, hG⟩ := M.reg
  exact y_closedWeight (lv := (nI (w.1.1 8)).toInt64) hb hi M (kL hG (fun hx hP => c_closedWeight hx hP (hB.2.2 8 (by decide))) (by decide)) (fun h0 => zW.deep (w_closedWeight hD hW) (by decide)) (fun h' S' v5 v6 M' => kont h' v5 v6 ⟨_, S', M', W.same⟩)
theorem g_isConsistent (hZ : zkI G) (hS : zkS G) (hL : zkL G) (hE : zkE G) (hF : zkD G) (hb : zg_k G b = some (1100, xs)) (hi : i < 200) (I : lwI G x o a T N h) (hT9 : T + 3200 < 100000) (hN9 : N + 100 ≤ 10000) (kont : ∀ (h' : zH) (v5 v6 : Value), lwI G x o a (T + 3100) (N + 62) h' → zW G mL_law 42 r 3347 [.ref b, .ref x, .ref a.1, .ref o, .int (nI i), v5, v6] [] h' Q) {v5 v6 : Value} : zW G mL_law 42 (r + 46060) 2918 [.ref b, .ref x, .ref a.1, .ref o, .int (nI i), v5, v6] [] h Q := by
  obtain ⟨w, S, M, W⟩ := I
  have hJ := W.1
  have hT5 : T + 50 < 100000 := by omega
  have hT : T ≤ 100000 := by omega
  have hTl : T < 100000 := by omega
  have hN : N ≤ 10000 := by omega
  have hk := M.kn
  obtain ⟨hD, hW⟩ := M.tt
  have hB := hJ.1.tB hT hN
  have cB := hJ.1.cB hN
  have hb0 := hB.2.2 0 (by decide)
  exact y_isConsistent (q := ((((0, nI 1) : Nat × Int32)).1, (((0, nI 1) : Nat × Int32)).2, w)) hb hi M (fun U hG => kQ hG (fun hx hP => c_isConsistent hk hZ hL hx hP hJ hN hT5) (by decide)) (fun h0 => zW.deep (w_isConsistent hD hW) (by decide)) (fun h' S' v5 v6 M' => kont h' v5 v6 ⟨_, S', M', W.same⟩)
theorem g_format {y1 : Int32} (hZ : zkI G) (hS : zkS G) (hL : zkL G) (hE : zkE G) (hF : zkD G) (hb : zg_k G b = some (1100, xs)) (hy1 : xs[i + 1]? = some (.int y1)) (hi : i < 200) (I : lwI G x o a T N h) (hT9 : T + 3200 < 100000) (hN9 : N + 100 ≤ 10000) (kont : ∀ (h' : zH) (v5 v6 : Value), lwI G x o a (T + 3100) (N + 62) h' → zW G mL_law 42 r 3347 [.ref b, .ref x, .ref a.1, .ref o, .int (nI i), v5, v6] [] h' Q) {v5 v6 : Value} : zW G mL_law 42 (r + 46060) 2931 [.ref b, .ref x, .ref a.1, .ref o, .int (nI i), v5, v6] [] h Q := by
  obtain ⟨w, S, M, W⟩ := I
  have hJ := W.1
  have hT5 : T + 50 < 100000 := by omega
  have hT : T ≤ 100000 := by omega
  have hTl : T < 100000 := by omega
  have hN : N ≤ 10000 := by omega
  have hk := M.kn
  obtain ⟨hD, hW⟩ := M.tt
  have hB := hJ.1.tB hT hN
  have cB := hJ.1.cB hN
  have hb0 := hB.2.2 0 (by decide)
  have h40 := hW.2.2.2.1.2.1
  have h60 := hW.2.2.2.2.1.2.1
  exact y_format (q := sForm w y1) hb hy1 hi M (fun U hG => kUp (c_format hk hS hF hG hJ hN hT5) (by decide) (by decide)) (fun h0 => zW.deep (w_format hD hW hJ.1 hTl hN) (by decide)) (fun h' S' v5 v6 M' => kont h' v5 v6 ⟨_, S', M', W.form⟩)
theorem g_lineChar {y1 : Int32} (hZ : zkI G) (hS : zkS G) (hL : zkL G) (hE : zkE G) (hF : zkD G) (hb : zg_k G b = some (1100, xs)) (hy1 : xs[i + 1]? = some (.int y1)) (hi : i < 200) (I : lwI G x o a T N h) (hT9 : T + 3200 < 100000) (hN9 : N + 100 ≤ 10000) (kont : ∀ (h' : zH) (v5 v6 : Value), lwI G x o a (T + 3100) (N + 62) h' → zW G mL_law 42 r 3347 [.ref b, .ref x, .ref a.1, .ref o, .int (nI i), v5, v6] [] h' Q) {v5 v6 : Value} : zW G mL_law 42 (r + 46060) 2987 [.ref b, .ref x, .ref a.1, .ref o, .int (nI i), v5, v6] [] h Q := by
  obtain ⟨w, S, M, W⟩ := I
  have hJ := W.1
  have hT5 : T + 50 < 100000 := by omega
  have hT : T ≤ 100000 := by omega
  have hTl : T < 100000 := by omega
  have hN : N ≤ 10000 := by omega
  have hk := M.kn
  obtain ⟨hD, hW⟩ := M.tt
  have hB := hJ.1.tB hT hN
  have cB := hJ.1.cB hN
  have hb0 := hB.2.2 0 (by decide)
  have h40 := hW.2.2.2.1.2.1
  have h60 := hW.2.2.2.2.1.2.1
  exact y_lineChar (q := ((qLine w.2.2.2.1 y1).1, (qLine w.2.2.2.1 y1).2, w)) hb hy1 hi M (fun U hG => kUp (c_lineChar hG (by omega)) (by decide) (by decide)) (fun h0 => zW.deep (w_lineChar hD hW (fun y hy => by have := M.chars.1 y hy; omega)) (by decide)) (fun h' S' v5 v6 M' => kont h' v5 v6 ⟨_, S', M', W.same⟩)
theorem g_append {y1 : Int32} (hZ : zkI G) (hS : zkS G) (hL : zkL G) (hE : zkE G) (hF : zkD G) (hb : zg_k G b = some (1100, xs)) (hy1 : xs[i + 1]? = some (.int y1)) (hi : i < 200) (I : lwI G x o a T N h) (hT9 : T + 3200 < 100000) (hN9 : N + 100 ≤ 10000) (kont : ∀ (h' : zH) (v5 v6 : Value), lwI G x o a (T + 3100) (N + 62) h' → zW G mL_law 42 r 3347 [.ref b, .ref x, .ref a.1, .ref o, .int (nI i), v5, v6] [] h' Q) {v5 v6 : Value} : zW G mL_law 42 (r + 46060) 3043 [.ref b, .ref x, .ref a.1, .ref o, .int (nI i), v5, v6] [] h Q := by
  obtain ⟨w, S, M, W⟩ := I
  have hJ := W.1
  have hT5 : T + 50 < 100000 := by omega
  have hT : T ≤ 100000 := by omega
  have hTl : T < 100000 := by omega
  have hN : N ≤ 10000 := by omega
  have hk := M.kn
  obtain ⟨hD, hW⟩ := M.tt
  have hB := hJ.1.tB hT hN
  have cB := hJ.1.cB hN
  have hb0 := hB.2.2 0 (by decide)
  have h40 := hW.2.2.2.1.2.1
  have h60 := hW.2.2.2.2.1.2.1
  exact y_append (q := sAppend w (y1.toUInt32 % 65536).toInt32) hb hy1 hi M (fun U hG => kUp (c_append hG h60) (by decide) (by decide)) (fun h0 => zW.deep (w_append hD hW) (by decide)) (fun h' S' v5 v6 M' => kont h' v5 v6 ⟨_, S', M', W.app⟩)
theorem g_run (hZ : zkI G) (hS : zkS G) (hL : zkL G) (hE : zkE G) (hF : zkD G) (hb : zg_k G b = some (1100, xs)) (hi : i < 200) (I : lwI G x o a T N h) (hT9 : T + 3200 < 100000) (hN9 : N + 100 ≤ 10000) (kont : ∀ (h' : zH) (v5 v6 : Value), lwI G x o a (T + 3100) (N + 62) h' → zW G mL_law 42 r 3347 [.ref b, .ref x, .ref a.1, .ref o, .int (nI i), v5, v6] [] h' Q) {v5 v6 : Value} : zW G mL_law 42 (r + 46060) 3101 [.ref b, .ref x, .ref a.1, .ref o, .int (nI i), v5, v6] [] h Q := by
  obtain ⟨w, S, M, W⟩ := I
  have hJ := W.1
  have hT5 : T + 50 < 100000 := by omega
  have hT : T ≤ 100000 := by omega
  have hTl : T < 100000 := by omega
  have hN : N ≤ 10000 := by omega
  have hk := M.kn
  obtain ⟨hD, hW⟩ := M.tt
  have hB := hJ.1.tB hT hN
  have cB := hJ.1.cB hN
  have hb0 := hB.2.2 0 (by decide)
  have h40 := hW.2.2.2.1.2.1
  have h60 := hW.2.2.2.2.1.2.1
  exact y_run (q := sRun w) hb hi M (fun U hG => kUp (c_run hk hZ hS hL hE hG hJ (by omega) (by omega) h60) (by decide) (by decide)) (fun h0 => zW.deep (w_run hD hW hJ (by omega) (by omega) M.chars.2) (by decide)) (fun h' S' v5 v6 M' => kont h' v5 v6 ⟨_, S', M', W.run M.chars.2 h60 (by omega)⟩)
theorem g_errorPosition (hZ : zkI G) (hS : zkS G) (hL : zkL G) (hE : zkE G) (hF : zkD G) (hb : zg_k G b = some (1100, xs)) (hi : i < 200) (I : lwI G x o a T N h) (hT9 : T + 3200 < 100000) (hN9 : N + 100 ≤ 10000) (kont : ∀ (h' : zH) (v5 v6 : Value), lwI G x o a (T + 3100) (N + 62) h' → zW G mL_law 42 r 3347 [.ref b, .ref x, .ref a.1, .ref o, .int (nI i), v5, v6] [] h' Q) {v5 v6 : Value} : zW G mL_law 42 (r + 46060) 3145 [.ref b, .ref x, .ref a.1, .ref o, .int (nI i), v5, v6] [] h Q := by
  obtain ⟨w, S, M, W⟩ := I
  have hJ := W.1
  have hT5 : T + 50 < 100000 := by omega
  have hT : T ≤ 100000 := by omega
  have hTl : T < 100000 := by omega
  have hN : N ≤ 10000 := by omega
  have hk := M.kn
  obtain ⟨hD, hW⟩ := M.tt
  have hB := hJ.1.tB hT hN
  have cB := hJ.1.cB hN
  have hb0 := hB.2.2 0 (by decide)
  have h40 := hW.2.2.2.1.2.1
  have h60 := hW.2.2.2.2.1.2.1
  exact y_errorPosition (q := ((qPlace w.2.2.2.2.2.1).1, (qPlace w.2.2.2.2.2.1).2, w)) hb hi M (fun U hG => kUp (c_errorPosition hG W.2.2.2.1) (by decide) (by decide)) (fun h0 => zW.deep (w_errorPosition hD hW W.2.2.2.1) (by decide)) (fun h' S' v5 v6 M' => kont h' v5 v6 ⟨_, S', M', W.same⟩)
theorem g_failedCommand (hZ : zkI G) (hS : zkS G) (hL : zkL G) (hE : zkE G) (hF : zkD G) (hb : zg_k G b = some (1100, xs)) (hi : i < 200) (I : lwI G x o a T N h) (hT9 : T + 3200 < 100000) (hN9 : N + 100 ≤ 10000) (kont : ∀ (h' : zH) (v5 v6 : Value), lwI G x o a (T + 3100) (N + 62) h' → zW G mL_law 42 r 3347 [.ref b, .ref x, .ref a.1, .ref o, .int (nI i), v5, v6] [] h' Q) {v5 v6 : Value} : zW G mL_law 42 (r + 46060) 3189 [.ref b, .ref x, .ref a.1, .ref o, .int (nI i), v5, v6] [] h Q := by
  obtain ⟨w, S, M, W⟩ := I
  have hJ := W.1
  have hT5 : T + 50 < 100000 := by omega
  have hT : T ≤ 100000 := by omega
  have hTl : T < 100000 := by omega
  have hN : N ≤ 10000 := by omega
  have hk := M.kn
  obtain ⟨hD, hW⟩ := M.tt
  have hB := hJ.1.tB hT hN
  have cB := hJ.1.cB hN
  have hb0 := hB.2.2 0 (by decide)
  have h40 := hW.2.2.2.1.2.1
  have h60 := hW.2.2.2.2.1.2.1
  exact y_failedCommand (q := ((qPlace w.2.2.2.2.2.2).1, (qPlace w.2.2.2.2.2.2).2, w)) hb hi M (fun U hG => kUp (c_failedCommand hG W.2.2.2.2) (by decide) (by decide)) (fun h0 => zW.deep (w_failedCommand hD hW W.2.2.2.2) (by decide)) (fun h' S' v5 v6 M' => kont h' v5 v6 ⟨_, S', M', W.same⟩)
theorem g_undoableCount (hZ : zkI G) (hS : zkS G) (hL : zkL G) (hE : zkE G) (hF : zkD G) (hb : zg_k G b = some (1100, xs)) (hi : i < 200) (I : lwI G x o a T N h) (hT9 : T + 3200 < 100000) (hN9 : N + 100 ≤ 10000) (kont : ∀ (h' : zH) (v5 v6 : Value), lwI G x o a (T + 3100) (N + 62) h' → zW G mL_law 42 r 3347 [.ref b, .ref x, .ref a.1, .ref o, .int (nI i), v5, v6] [] h' Q) {v5 v6 : Value} : zW G mL_law 42 (r + 46060) 3233 [.ref b, .ref x, .ref a.1, .ref o, .int (nI i), v5, v6] [] h Q := by
  obtain ⟨w, S, M, W⟩ := I
  have hJ := W.1
  have hT5 : T + 50 < 100000 := by omega
  have hT : T ≤ 100000 := by omega
  have hTl : T < 100000 := by omega
  have hN : N ≤ 10000 := by omega
  have hk := M.kn
  obtain ⟨hD, hW⟩ := M.tt
  have hB := hJ.1.tB hT hN
  have cB := hJ.1.cB hN
  have hb0 := hB.2.2 0 (by decide)
  have h40 := hW.2.2.2.1.2.1
  have h60 := hW.2.2.2.2.1.2.1
  exact y_undoableCount (q := ((sUndoable w).1, (sUndoable w).2, w)) hb hi M (fun U hG => kUp (c_undoableCount hG) (by decide) (by decide)) (fun h0 => zW.deep (w_undoableCount hD hW) (by decide)) (fun h' S' v5 v6 M' => kont h' v5 v6 ⟨_, S', M', W.same⟩)
theorem g_undo (hZ : zkI G) (hS : zkS G) (hL : zkL G) (hE : zkE G) (hF : zkD G) (hb : zg_k G b = some (1100, xs)) (hi : i < 200) (I : lwI G x o a T N h) (hT9 : T + 3200 < 100000) (hN9 : N + 100 ≤ 10000) (kont : ∀ (h' : zH) (v5 v6 : Value), lwI G x o a (T + 3100) (N + 62) h' → zW G mL_law 42 r 3347 [.ref b, .ref x, .ref a.1, .ref o, .int (nI i), v5, v6] [] h' Q) {v5 v6 : Value} : zW G mL_law 42 (r + 46060) 3246 [.ref b, .ref x, .ref a.1, .ref o, .int (nI i), v5, v6] [] h Q := by
  obtain ⟨w, S, M, W⟩ := I
  have hJ := W.1
  have hT5 : T + 50 < 100000 := by omega
  have hT : T ≤ 100000 := by omega
  have hTl : T < 100000 := by omega
  have hN : N ≤ 10000 := by omega
  have hk := M.kn
  obtain ⟨hD, hW⟩ := M.tt
  have hB := hJ.1.tB hT hN
  have cB := hJ.1.cB hN
  have hb0 := hB.2.2 0 (by decide)
  have h40 := hW.2.2.2.1.2.1
  have h60 := hW.2.2.2.2.1.2.1
  exact y_undo (q := sUndo w) hb hi M (fun U hG => kUp (c_undo hG) (by decide) (by decide)) (fun h0 => zW.deep (w_undo hD hW) (by decide)) (fun h' S' v5 v6 M' => kont h' v5 v6 ⟨_, S', M', W.undo⟩)
theorem g_save (hZ : zkI G) (hS : zkS G) (hL : zkL G) (hE : zkE G) (hF : zkD G) (hb : zg_k G b = some (1100, xs)) (hi : i < 200) (I : lwI G x o a T N h) (hT9 : T + 3200 < 100000) (hN9 : N + 100 ≤ 10000) (kont : ∀ (h' : zH) (v5 v6 : Value), lwI G x o a (T + 3100) (N + 62) h' → zW G mL_law 42 r 3347 [.ref b, .ref x, .ref a.1, .ref o, .int (nI i), v5, v6] [] h' Q) {v5 v6 : Value} : zW G mL_law 42 (r + 46060) 3290 [.ref b, .ref x, .ref a.1, .ref o, .int (nI i), v5, v6] [] h Q := by
  obtain ⟨w, S, M, W⟩ := I
  have hJ := W.1
  have hT5 : T + 50 < 100000 := by omega
  have hT : T ≤ 100000 := by omega
  have hTl : T < 100000 := by omega
  have hN : N ≤ 10000 := by omega
  have hk := M.kn
  obtain ⟨hD, hW⟩ := M.tt
  have hB := hJ.1.tB hT hN
  have cB := hJ.1.cB hN
  have hb0 := hB.2.2 0 (by decide)
  have h40 := hW.2.2.2.1.2.1
  have h60 := hW.2.2.2.2.1.2.1
  exact y_save (q := (0, nI w.1.2.1.length, sSave w)) hb hi M (fun U hG => kUp (c_save hk hZ hG hJ hN) (by decide) (by decide)) (fun h0 => zW.deep (w_save hD hW) (by decide)) (fun h' S' v5 v6 M' => kont h' v5 v6 ⟨_, S', M', W.save⟩)
theorem g_restore (hZ : zkI G) (hS : zkS G) (hL : zkL G) (hE : zkE G) (hF : zkD G) (hb : zg_k G b = some (1100, xs)) (hi : i < 200) (I : lwI G x o a T N h) (hT9 : T + 3200 < 100000) (hN9 : N + 100 ≤ 10000) (kont : ∀ (h' : zH) (v5 v6 : Value), lwI G x o a (T + 3100) (N + 62) h' → zW G mL_law 42 r 3347 [.ref b, .ref x, .ref a.1, .ref o, .int (nI i), v5, v6] [] h' Q) {v5 v6 : Value} : zW G mL_law 42 (r + 46060) 3303 [.ref b, .ref x, .ref a.1, .ref o, .int (nI i), v5, v6] [] h Q := by
  obtain ⟨w, S, M, W⟩ := I
  have hJ := W.1
  have hT5 : T + 50 < 100000 := by omega
  have hT : T ≤ 100000 := by omega
  have hTl : T < 100000 := by omega
  have hN : N ≤ 10000 := by omega
  have hk := M.kn
  obtain ⟨hD, hW⟩ := M.tt
  have hB := hJ.1.tB hT hN
  have cB := hJ.1.cB hN
  have hb0 := hB.2.2 0 (by decide)
  have h40 := hW.2.2.2.1.2.1
  have h60 := hW.2.2.2.2.1.2.1
  exact y_restore (q := sRestore w) hb hi M (fun U hG => kUp (c_restore hk hZ hG W.2.2.1 hN) (by decide) (by decide)) (fun h0 => zW.deep (w_restore hD hW) (by decide)) (fun h' S' v5 v6 M' => kont h' v5 v6 ⟨_, S', M', W.rest⟩)
end
