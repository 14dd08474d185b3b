/-! THE REFERENCE's questions: places, forecasts, totals -/
section
set_option maxRecDepth 100000
variable {G : zG} {h0 : zH} {a : tA} {T : tS} {tt nn n : Nat}
theorem sIn_pos {p : Int32} {n : Nat} (hn : n < 2 ^ 30) : sIn p (nI 0) (nI n - nI 1) = sPos p n := by
  unfold sIn sPos
  rw [nI_0]
  apply Bool.eq_iff_iff.mpr
  rw [decide_eq_true_eq, decide_eq_true_eq]
  by_cases hp : p < 0
  · exact ⟨fun q => absurd hp (Int32.not_lt.mpr q.1), fun q => absurd hp (Int32.not_lt.mpr q.1)⟩
  obtain ⟨k, hk, rfl⟩ := nI_of hp
  rw [iN_nI hk]
  cases n with
  | zero =>
    constructor
    · intro q
      have h1 := Int32.le_trans q.1 q.2
      exact absurd h1 (by decide)
    · intro q; exact absurd q.2 (Nat.not_lt_zero _)
  | succ m =>
    rw [nI_sub (by omega), Nat.add_sub_cancel]
    exact ⟨fun q => ⟨q.1, Nat.lt_succ_of_le ((nI_leI hk (by omega)).mp q.2)⟩, fun q => ⟨q.1, (nI_leI hk (by omega)).mpr (Nat.le_of_lt_succ q.2)⟩⟩
theorem sPos_nat {p : Int32} {n : Nat} (h : sPos p n = true) : ∃ k, p = nI k ∧ k < n ∧ iN p = k := by
  have h1 := of_decide_eq_true h
  obtain ⟨k, hk, rfl⟩ := nI_of (Int32.not_lt.mpr h1.1)
  rw [iN_nI hk] at h1
  exact ⟨k, rfl, h1.2, iN_nI hk⟩
def qRecent (s : sS) (p : Int32) : Nat × Int32 := if sPos p s.2.2.2.length = true then (0, nI (s.2.2.2.getD (iN p) 0)) else (1, nI 0)
def qNum (s : sS) (i : Nat) : Nat × Int32 := (0, nI (s.1 i))
def qExpW (s : sS) (t : Int32) : Nat × Int32 := if sIn t (nI 0) (nI 50) = true then (0, nI (sUp (fun k => if sAt s.2.1 k 4 ≤ s.1 0 + iN t then 1 else 0) s.2.1.length)) else (1, nI 0)
def qExpS (s : sS) (t : Int32) : Nat × Int32 := if sIn t (nI 0) (nI 50) = true then (0, nI (sTicks s (iN t)).1) else (1, nI 0)
def sAft (s : sS) (i : Nat) : Nat → Nat
  | 0 => sAt s.2.1 i 3
  | k + 1 => if sAt s.2.1 i 6 = 0 then sGrow (sAft s i k) (s.1 (10 + (s.1 0 + (k + 1)) / 4 % 4)) else sAft s i k
def qAfter (s : sS) (id t : Int32) : Nat × Int32 := match sFind s.2.1 id with | none => (1, nI 0) | some i => if sIn t (nI 0) (nI 50) = true then (0, nI (sAft s i (iN t))) else (2, nI 0)
def qCanS (s : sS) (id x : Int32) : Nat × Int32 := match sFind s.2.1 id with | none => (1, nI 0) | some i => if sIn x (nI 0) (nI 3) = true then (0, nI (if sAt s.2.1 i 6 = 0 ∧ sCount s.2.1 6 (iN x) < 3 then 1 else 0)) else (2, nI 0)
def qCanC (s : sS) (id x : Int32) : Nat × Int32 := match sFind s.2.1 id with | none => (1, nI 0) | some i => if sIn x (nI 0) (nI 3) = true then (0, nI (if 0 < sAt s.2.1 i 6 ∧ sAt s.2.1 i 7 = 0 ∧ sCount s.2.1 7 (iN x) < 2 then 1 else 0)) else (2, nI 0)
theorem w_idAt (hD : tD a) {w : sW} (hW : tW T w) {p : Int32} : zK G mX3_idAt 3 0 [.ref a.1, .int p] (tH h0 a T) (tAns h0 a w (qIdAt w.1 p)) := by
  have hac := hW.1.ac
  have h12 := hW.1.n12
  have hin := sIn_pos (p := p) (n := w.1.2.1.length) (by omega)
  unfold qIdAt
  show zW G mX3_idAt 3 0 0 [.ref a.1, .int p] [] (tH h0 a T) _
  by_cases q : sPos p w.1.2.1.length = true
  rotate_left
  · rw [if_neg q]
    rw [← hin] at q
    refine zW.aload_n (pc' := 1) dX3_idAt_0 rfl rfl zg0 rfl ?_
    refine zW.iload_n (pc' := 2) dX3_idAt_1 rfl rfl (zgS (zg0)) ?_
    refine zW.iconst (pc' := 3) (nI 0) dX3_idAt_2 rfl (by decide) ?_
    refine zW.aload_n (pc' := 4) dX3_idAt_3 rfl rfl zg0 rfl ?_
    refine zT.get (pc' := 7) dX3_idAt_4 rfl f_X3_9_3 rfl ?_
    try dsimp only
    refine zW.iconst (pc' := 8) (nI 2) dX3_idAt_7 rfl (by decide) ?_
    first | refine zT.ald1 (pc' := 9) dX3_idAt_8 rfl hD (by omega) ?_ | refine zT.ald4 (pc' := 9) dX3_idAt_8 rfl hD (by omega) ?_
    try dsimp only
    rw [hac]
    refine zW.iconst (pc' := 10) (nI 1) dX3_idAt_9 rfl (by decide) ?_
    refine zW.isub (pc' := 11) dX3_idAt_10 rfl ?_
    refine zW.callS (pc' := 14) dX3_idAt_11 rfl l_X3_55 rfl (w_in0 q) (zcc rfl (zcc rfl (zcc rfl zc0))) rfl (Nat.le_of_ble_eq_true rfl) (Nat.le_of_ble_eq_true rfl) (Nat.le_of_ble_eq_true rfl) (fun _ _ ⟨e1, e3⟩ => ?_) (fun _ _ q9 => by cases q9.1)
    cases e1; subst e3
    refine zT.call (pc' := 17) dX3_idAt_14 rfl l_X3_124 rfl rfl (w_fine0) (zcc rfl zc0) rfl (Nat.le_of_ble_eq_true rfl) (Nat.le_of_ble_eq_true rfl) (Nat.le_of_ble_eq_true rfl) (fun _ _ ⟨e1, e2⟩ => ?_)
    subst e1; rw [e2]
    refine zW.if_eqN (pc' := 20) 29 dX3_idAt_17 rfl (by decide) (by omega) (fun b9 => ?_) (fun b9 => absurd b9 (by omega))
    refine zW.iconst (pc' := 30) (nI 0) dX3_idAt_29 rfl (by decide) ?_
    refine zW.iret dX3_idAt_30 rfl (rfl) ?_
    exact tO.q hW
  · rw [if_pos q]
    obtain ⟨k, ek, hk, ik⟩ := sPos_nat q
    rw [ik]
    rw [← hin] at q
    refine zW.aload_n (pc' := 1) dX3_idAt_0 rfl rfl zg0 rfl ?_
    refine zW.iload_n (pc' := 2) dX3_idAt_1 rfl rfl (zgS (zg0)) ?_
    refine zW.iconst (pc' := 3) (nI 0) dX3_idAt_2 rfl (by decide) ?_
    refine zW.aload_n (pc' := 4) dX3_idAt_3 rfl rfl zg0 rfl ?_
    refine zT.get (pc' := 7) dX3_idAt_4 rfl f_X3_9_3 rfl ?_
    try dsimp only
    refine zW.iconst (pc' := 8) (nI 2) dX3_idAt_7 rfl (by decide) ?_
    first | refine zT.ald1 (pc' := 9) dX3_idAt_8 rfl hD (by omega) ?_ | refine zT.ald4 (pc' := 9) dX3_idAt_8 rfl hD (by omega) ?_
    try dsimp only
    rw [hac]
    refine zW.iconst (pc' := 10) (nI 1) dX3_idAt_9 rfl (by decide) ?_
    refine zW.isub (pc' := 11) dX3_idAt_10 rfl ?_
    refine zW.callS (pc' := 14) dX3_idAt_11 rfl l_X3_55 rfl (w_in1 q) (zcc rfl (zcc rfl (zcc rfl zc0))) rfl (Nat.le_of_ble_eq_true rfl) (Nat.le_of_ble_eq_true rfl) (Nat.le_of_ble_eq_true rfl) (fun _ _ ⟨e1, e3⟩ => ?_) (fun _ _ q9 => by cases q9.1)
    cases e1; subst e3
    refine zT.call (pc' := 17) dX3_idAt_14 rfl l_X3_124 rfl rfl (w_fine1) (zcc rfl zc0) rfl (Nat.le_of_ble_eq_true rfl) (Nat.le_of_ble_eq_true rfl) (Nat.le_of_ble_eq_true rfl) (fun _ _ ⟨e1, e2⟩ => ?_)
    subst e1; rw [e2]
    refine zW.if_eqN (pc' := 20) 29 dX3_idAt_17 rfl (by decide) (by omega) (fun b9 => absurd b9 (by omega)) (fun b9 => ?_)
    subst ek
    refine zW.aload_n (pc' := 21) dX3_idAt_20 rfl rfl zg0 rfl ?_
    refine zW.iload_n (pc' := 22) dX3_idAt_21 rfl rfl (zgS (zg0)) ?_
    refine zW.iconst (pc' := 23) (nI 0) dX3_idAt_22 rfl (by decide) ?_
    refine zT.call (pc' := 26) dX3_idAt_23 rfl l_X3_43 rfl rfl (w_cS (T := (zu T.1 0 0, T.2)) hD hW.1 hk (f := 0) (by omega)) (zcc rfl (zcc rfl zc0)) rfl (Nat.le_of_ble_eq_true rfl) (Nat.le_of_ble_eq_true rfl) (Nat.le_of_ble_eq_true rfl) (fun _ _ ⟨e1, e2⟩ => ?_)
    subst e1; rw [e2]
    refine zW.goto 30 dX3_idAt_26 (by decide) ?_
    refine zW.iret dX3_idAt_30 rfl (rfl) ?_
    exact tO.q hW
theorem w_recentlyExpired (hD : tD a) {w : sW} (hW : tW T w) {p : Int32} : zK G mX3_recentlyExpired 3 0 [.ref a.1, .int p] (tH h0 a T) (tAns h0 a w (qRecent w.1 p)) := by
  have hke := hW.1.kept
  have h8 := hW.1.2.2.2.2.2.2.2.2
  have hin := sIn_pos (p := p) (n := w.1.2.2.2.length) (by omega)
  unfold qRecent
  show zW G mX3_recentlyExpired 3 0 0 [.ref a.1, .int p] [] (tH h0 a T) _
  by_cases q : sPos p w.1.2.2.2.length = true
  rotate_left
  · rw [if_neg q]
    rw [← hin] at q
    refine zW.aload_n (pc' := 1) dX3_recentlyExpired_0 rfl rfl zg0 rfl ?_
    refine zW.iload_n (pc' := 2) dX3_recentlyExpired_1 rfl rfl (zgS (zg0)) ?_
    refine zW.iconst (pc' := 3) (nI 0) dX3_recentlyExpired_2 rfl (by decide) ?_
    refine zW.aload_n (pc' := 4) dX3_recentlyExpired_3 rfl rfl zg0 rfl ?_
    refine zT.get (pc' := 7) dX3_recentlyExpired_4 rfl f_X3_9_3 rfl ?_
    try dsimp only
    refine zW.bipush (pc' := 9) (nI 9) dX3_recentlyExpired_7 rfl (by decide) ?_
    first | refine zT.ald1 (pc' := 10) dX3_recentlyExpired_9 rfl hD (by omega) ?_ | refine zT.ald4 (pc' := 10) dX3_recentlyExpired_9 rfl hD (by omega) ?_
    try dsimp only
    rw [hke]
    refine zW.iconst (pc' := 11) (nI 1) dX3_recentlyExpired_10 rfl (by decide) ?_
    refine zW.isub (pc' := 12) dX3_recentlyExpired_11 rfl ?_
    refine zW.callS (pc' := 15) dX3_recentlyExpired_12 rfl l_X3_55 rfl (w_in0 q) (zcc rfl (zcc rfl (zcc rfl zc0))) rfl (Nat.le_of_ble_eq_true rfl) (Nat.le_of_ble_eq_true rfl) (Nat.le_of_ble_eq_true rfl) (fun _ _ ⟨e1, e3⟩ => ?_) (fun _ _ q9 => by cases q9.1)
    cases e1; subst e3
    refine zT.call (pc' := 18) dX3_recentlyExpired_15 rfl l_X3_124 rfl rfl (w_fine0) (zcc rfl zc0) rfl (Nat.le_of_ble_eq_true rfl) (Nat.le_of_ble_eq_true rfl) (Nat.le_of_ble_eq_true rfl) (fun _ _ ⟨e1, e2⟩ => ?_)
    subst e1; rw [e2]
    refine zW.if_eqN (pc' := 21) 33 dX3_recentlyExpired_18 rfl (by decide) (by omega) (fun b9 => ?_) (fun b9 => absurd b9 (by omega))
    refine zW.iconst (pc' := 34) (nI 0) dX3_recentlyExpired_33 rfl (by decide) ?_
    refine zW.iret dX3_recentlyExpired_34 rfl (rfl) ?_
    exact tO.q hW
  · rw [if_pos q]
    obtain ⟨k, ek, hk, ik⟩ := sPos_nat q
    rw [ik]
    rw [← hin] at q
    refine zW.aload_n (pc' := 1) dX3_recentlyExpired_0 rfl rfl zg0 rfl ?_
    refine zW.iload_n (pc' := 2) dX3_recentlyExpired_1 rfl rfl (zgS (zg0)) ?_
    refine zW.iconst (pc' := 3) (nI 0) dX3_recentlyExpired_2 rfl (by decide) ?_
    refine zW.aload_n (pc' := 4) dX3_recentlyExpired_3 rfl rfl zg0 rfl ?_
    refine zT.get (pc' := 7) dX3_recentlyExpired_4 rfl f_X3_9_3 rfl ?_
    try dsimp only
    refine zW.bipush (pc' := 9) (nI 9) dX3_recentlyExpired_7 rfl (by decide) ?_
    first | refine zT.ald1 (pc' := 10) dX3_recentlyExpired_9 rfl hD (by omega) ?_ | refine zT.ald4 (pc' := 10) dX3_recentlyExpired_9 rfl hD (by omega) ?_
    try dsimp only
    rw [hke]
    refine zW.iconst (pc' := 11) (nI 1) dX3_recentlyExpired_10 rfl (by decide) ?_
    refine zW.isub (pc' := 12) dX3_recentlyExpired_11 rfl ?_
    refine zW.callS (pc' := 15) dX3_recentlyExpired_12 rfl l_X3_55 rfl (w_in1 q) (zcc rfl (zcc rfl (zcc rfl zc0))) rfl (Nat.le_of_ble_eq_true rfl) (Nat.le_of_ble_eq_true rfl) (Nat.le_of_ble_eq_true rfl) (fun _ _ ⟨e1, e3⟩ => ?_) (fun _ _ q9 => by cases q9.1)
    cases e1; subst e3
    refine zT.call (pc' := 18) dX3_recentlyExpired_15 rfl l_X3_124 rfl rfl (w_fine1) (zcc rfl zc0) rfl (Nat.le_of_ble_eq_true rfl) (Nat.le_of_ble_eq_true rfl) (Nat.le_of_ble_eq_true rfl) (fun _ _ ⟨e1, e2⟩ => ?_)
    subst e1; rw [e2]
    refine zW.if_eqN (pc' := 21) 33 dX3_recentlyExpired_18 rfl (by decide) (by omega) (fun b9 => absurd b9 (by omega)) (fun b9 => ?_)
    subst ek
    refine zW.aload_n (pc' := 22) dX3_recentlyExpired_21 rfl rfl zg0 rfl ?_
    refine zT.get (pc' := 25) dX3_recentlyExpired_22 rfl f_X3_9_3 rfl ?_
    try dsimp only
    refine zW.bipush (pc' := 27) (nI 14) dX3_recentlyExpired_25 rfl (by decide) ?_
    refine zW.iload_n (pc' := 28) dX3_recentlyExpired_27 rfl rfl (zgS (zg0)) ?_
    refine zW.iaddN (pc' := 29) dX3_recentlyExpired_28 rfl ?_
    first | refine zT.ald1 (pc' := 30) dX3_recentlyExpired_29 rfl hD (by omega) ?_ | refine zT.ald4 (pc' := 30) dX3_recentlyExpired_29 rfl hD (by omega) ?_
    try dsimp only
    rw [hW.1.re hk]
    refine zW.goto 34 dX3_recentlyExpired_30 (by decide) ?_
    refine zW.iret dX3_recentlyExpired_34 rfl (rfl) ?_
    rw [List.getD_eq_getElem?_getD, List.getElem?_eq_getElem hk, Option.getD_some]
    exact tO.q hW
theorem w_expiredCount (hD : tD a) {w : sW} (hW : tW T w) : zK G mX3_expiredCount 3 0 [.ref a.1] (tH h0 a T) (tAns h0 a w (qNum w.1 5)) := by
  show zW G mX3_expiredCount 3 0 0 [.ref a.1] [] (tH h0 a T) _
  refine zW.aload_n (pc' := 1) dX3_expiredCount_0 rfl rfl zg0 rfl ?_
  refine zW.iconst (pc' := 2) (nI 0) dX3_expiredCount_1 rfl (by decide) ?_
  refine zT.putN (pc' := 5) dX3_expiredCount_2 rfl f_X3_30_3 (zFw.of ft_3_0 rfl rfl) rfl ?_
  try dsimp only
  refine zW.aload_n (pc' := 6) dX3_expiredCount_5 rfl rfl zg0 rfl ?_
  refine zT.get (pc' := 9) dX3_expiredCount_6 rfl f_X3_9_3 rfl ?_
  try dsimp only
  refine zW.iconst (pc' := 10) (nI 5) dX3_expiredCount_9 rfl (by decide) ?_
  first | refine zT.ald1 (pc' := 11) dX3_expiredCount_10 rfl hD (by omega) ?_ | refine zT.ald4 (pc' := 11) dX3_expiredCount_10 rfl hD (by omega) ?_
  try dsimp only
  rw [hW.1.sc (i := 5) (by decide) (by decide) (by decide)]
  refine zW.iret dX3_expiredCount_11 rfl (rfl) ?_
  exact tO.q hW
theorem w_settledCount (hD : tD a) {w : sW} (hW : tW T w) : zK G mX3_settledCount 3 0 [.ref a.1] (tH h0 a T) (tAns h0 a w (qNum w.1 6)) := by
  show zW G mX3_settledCount 3 0 0 [.ref a.1] [] (tH h0 a T) _
  refine zW.aload_n (pc' := 1) dX3_settledCount_0 rfl rfl zg0 rfl ?_
  refine zW.iconst (pc' := 2) (nI 0) dX3_settledCount_1 rfl (by decide) ?_
  refine zT.putN (pc' := 5) dX3_settledCount_2 rfl f_X3_30_3 (zFw.of ft_3_0 rfl rfl) rfl ?_
  try dsimp only
  refine zW.aload_n (pc' := 6) dX3_settledCount_5 rfl rfl zg0 rfl ?_
  refine zT.get (pc' := 9) dX3_settledCount_6 rfl f_X3_9_3 rfl ?_
  try dsimp only
  refine zW.bipush (pc' := 11) (nI 6) dX3_settledCount_9 rfl (by decide) ?_
  first | refine zT.ald1 (pc' := 12) dX3_settledCount_11 rfl hD (by omega) ?_ | refine zT.ald4 (pc' := 12) dX3_settledCount_11 rfl hD (by omega) ?_
  try dsimp only
  rw [hW.1.sc (i := 6) (by decide) (by decide) (by decide)]
  refine zW.iret dX3_settledCount_12 rfl (rfl) ?_
  exact tO.q hW
theorem w_voidedCount (hD : tD a) {w : sW} (hW : tW T w) : zK G mX3_voidedCount 3 0 [.ref a.1] (tH h0 a T) (tAns h0 a w (qNum w.1 7)) := by
  show zW G mX3_voidedCount 3 0 0 [.ref a.1] [] (tH h0 a T) _
  refine zW.aload_n (pc' := 1) dX3_voidedCount_0 rfl rfl zg0 rfl ?_
  refine zW.iconst (pc' := 2) (nI 0) dX3_voidedCount_1 rfl (by decide) ?_
  refine zT.putN (pc' := 5) dX3_voidedCount_2 rfl f_X3_30_3 (zFw.of ft_3_0 rfl rfl) rfl ?_
  try dsimp only
  refine zW.aload_n (pc' := 6) dX3_voidedCount_5 rfl rfl zg0 rfl ?_
  refine zT.get (pc' := 9) dX3_voidedCount_6 rfl f_X3_9_3 rfl ?_
  try dsimp only
  refine zW.bipush (pc' := 11) (nI 7) dX3_voidedCount_9 rfl (by decide) ?_
  first | refine zT.ald1 (pc' := 12) dX3_voidedCount_11 rfl hD (by omega) ?_ | refine zT.ald4 (pc' := 12) dX3_voidedCount_11 rfl hD (by omega) ?_
  try dsimp only
  rw [hW.1.sc (i := 7) (by decide) (by decide) (by decide)]
  refine zW.iret dX3_voidedCount_12 rfl (rfl) ?_
  exact tO.q hW
theorem w_interestTotal (hD : tD a) {w : sW} (hW : tW T w) : zK G mX3_interestTotal 3 0 [.ref a.1] (tH h0 a T) (tO h0 a 0 (.long (nI (w.1.1 3)).toInt64) w) := by
  show zW G mX3_interestTotal 3 0 0 [.ref a.1] [] (tH h0 a T) _
  refine zW.aload_n (pc' := 1) dX3_interestTotal_0 rfl rfl zg0 rfl ?_
  refine zW.iconst (pc' := 2) (nI 0) dX3_interestTotal_1 rfl (by decide) ?_
  refine zT.putN (pc' := 5) dX3_interestTotal_2 rfl f_X3_30_3 (zFw.of ft_3_0 rfl rfl) rfl ?_
  try dsimp only
  refine zW.aload_n (pc' := 6) dX3_interestTotal_5 rfl rfl zg0 rfl ?_
  refine zT.get (pc' := 9) dX3_interestTotal_6 rfl f_X3_9_3 rfl ?_
  try dsimp only
  refine zW.iconst (pc' := 10) (nI 3) dX3_interestTotal_9 rfl (by decide) ?_
  first | refine zT.ald1 (pc' := 11) dX3_interestTotal_10 rfl hD (by omega) ?_ | refine zT.ald4 (pc' := 11) dX3_interestTotal_10 rfl hD (by omega) ?_
  try dsimp only
  rw [hW.1.sc (i := 3) (by decide) (by decide) (by decide)]
  refine zW.i2l (pc' := 12) dX3_interestTotal_11 rfl ?_
  refine zW.lret dX3_interestTotal_12 rfl ?_
  exact tO.q hW
theorem w_closedWeight (hD : tD a) {w : sW} (hW : tW T w) : zK G mX3_closedWeight 3 0 [.ref a.1] (tH h0 a T) (tO h0 a 0 (.long (nI (w.1.1 8)).toInt64) w) := by
  show zW G mX3_closedWeight 3 0 0 [.ref a.1] [] (tH h0 a T) _
  refine zW.aload_n (pc' := 1) dX3_closedWeight_0 rfl rfl zg0 rfl ?_
  refine zW.iconst (pc' := 2) (nI 0) dX3_closedWeight_1 rfl (by decide) ?_
  refine zT.putN (pc' := 5) dX3_closedWeight_2 rfl f_X3_30_3 (zFw.of ft_3_0 rfl rfl) rfl ?_
  try dsimp only
  refine zW.aload_n (pc' := 6) dX3_closedWeight_5 rfl rfl zg0 rfl ?_
  refine zT.get (pc' := 9) dX3_closedWeight_6 rfl f_X3_9_3 rfl ?_
  try dsimp only
  refine zW.bipush (pc' := 11) (nI 8) dX3_closedWeight_9 rfl (by decide) ?_
  first | refine zT.ald1 (pc' := 12) dX3_closedWeight_11 rfl hD (by omega) ?_ | refine zT.ald4 (pc' := 12) dX3_closedWeight_11 rfl hD (by omega) ?_
  try dsimp only
  rw [hW.1.sc (i := 8) (by decide) (by decide) (by decide)]
  refine zW.i2l (pc' := 13) dX3_closedWeight_12 rfl ?_
  refine zW.lret dX3_closedWeight_13 rfl ?_
  exact tO.q hW
theorem w_activeWeight (hD : tD a) {w : sW} (hW : tW T w) : zK G mX3_activeWeight 3 0 [.ref a.1] (tH h0 a T) (tO h0 a 0 (.long (nI (sUp (fun k => sAt w.1.2.1 k 3) w.1.2.1.length)).toInt64) w) := by
  have hac := hW.1.ac
  have h12 := hW.1.n12
  have loop : ∀ n k, k + n = w.1.2.1.length → zW G mX3_activeWeight 3 0 9 [.ref a.1, .int (nI (sUp (fun k => sAt w.1.2.1 k 3) k)), .int (nI k)] [] (tH h0 a (zu T.1 0 0, T.2)) (tO h0 a 0 (.long (nI (sUp (fun k => sAt w.1.2.1 k 3) w.1.2.1.length)).toInt64) w) := by
    intro n
    induction n with
    | zero =>
      intro k hk
      have hk : k = w.1.2.1.length := by omega
      subst hk
      refine zW.iload_n (pc' := 10) dX3_activeWeight_9 rfl rfl (zgS (zgS (zg0))) ?_
      refine zW.aload_n (pc' := 11) dX3_activeWeight_10 rfl rfl zg0 rfl ?_
      refine zT.get (pc' := 14) dX3_activeWeight_11 rfl f_X3_9_3 rfl ?_
      try dsimp only
      refine zW.iconst (pc' := 15) (nI 2) dX3_activeWeight_14 rfl (by decide) ?_
      first | refine zT.ald1 (pc' := 16) dX3_activeWeight_15 rfl hD (by omega) ?_ | refine zT.ald4 (pc' := 16) dX3_activeWeight_15 rfl hD (by omega) ?_
      try dsimp only
      refine zW.icmp_geN (pc' := 19) 34 dX3_activeWeight_16 rfl (by decide) (by omega) (by omega) (fun b9 => ?_) (fun b9 => absurd b9 (by omega))
      refine zW.iload_n (pc' := 35) dX3_activeWeight_34 rfl rfl (zgS (zg0)) ?_
      refine zW.i2l (pc' := 36) dX3_activeWeight_35 rfl ?_
      refine zW.lret dX3_activeWeight_36 rfl ?_
      exact tO.q hW
    | succ n ih =>
      intro k hk
      have hkl : k < w.1.2.1.length := by omega
      refine zW.iload_n (pc' := 10) dX3_activeWeight_9 rfl rfl (zgS (zgS (zg0))) ?_
      refine zW.aload_n (pc' := 11) dX3_activeWeight_10 rfl rfl zg0 rfl ?_
      refine zT.get (pc' := 14) dX3_activeWeight_11 rfl f_X3_9_3 rfl ?_
      try dsimp only
      refine zW.iconst (pc' := 15) (nI 2) dX3_activeWeight_14 rfl (by decide) ?_
      first | refine zT.ald1 (pc' := 16) dX3_activeWeight_15 rfl hD (by omega) ?_ | refine zT.ald4 (pc' := 16) dX3_activeWeight_15 rfl hD (by omega) ?_
      try dsimp only
      refine zW.icmp_geN (pc' := 19) 34 dX3_activeWeight_16 rfl (by decide) (by omega) (by omega) (fun b9 => absurd b9 (by omega)) (fun b9 => ?_)
      refine zW.iload_n (pc' := 20) dX3_activeWeight_19 rfl rfl (zgS (zg0)) ?_
      refine zW.aload_n (pc' := 21) dX3_activeWeight_20 rfl rfl zg0 rfl ?_
      refine zW.iload_n (pc' := 22) dX3_activeWeight_21 rfl rfl (zgS (zgS (zg0))) ?_
      refine zW.iconst (pc' := 23) (nI 3) dX3_activeWeight_22 rfl (by decide) ?_
      refine zT.call (pc' := 26) dX3_activeWeight_23 rfl l_X3_43 rfl rfl (w_cS (T := (zu T.1 0 0, T.2)) hD hW.1 hkl (f := 3) (by omega)) (zcc rfl (zcc rfl zc0)) rfl (Nat.le_of_ble_eq_true rfl) (Nat.le_of_ble_eq_true rfl) (Nat.le_of_ble_eq_true rfl) (fun _ _ ⟨e1, e2⟩ => ?_)
      subst e1; rw [e2]
      refine zW.iaddN (pc' := 27) dX3_activeWeight_26 rfl ?_
      refine zW.istore_n (pc' := 28) dX3_activeWeight_27 rfl rfl (Nat.le_of_ble_eq_true rfl) (zsS (zs0)) ?_
      refine zW.iincN (pc' := 31) (n := 1) dX3_activeWeight_28 rfl (Nat.le_of_ble_eq_true rfl) (zgS (zgS (zg0))) (zsS (zsS (zs0))) ?_
      refine zW.goto 9 dX3_activeWeight_31 (by decide) ?_
      exact ih (k + 1) (by omega)
  show zW G mX3_activeWeight 3 0 0 [.ref a.1, zho, zho] [] (tH h0 a T) _
  refine zW.aload_n (pc' := 1) dX3_activeWeight_0 rfl rfl zg0 rfl ?_
  refine zW.iconst (pc' := 2) (nI 0) dX3_activeWeight_1 rfl (by decide) ?_
  refine zT.putN (pc' := 5) dX3_activeWeight_2 rfl f_X3_30_3 (zFw.of ft_3_0 rfl rfl) rfl ?_
  try dsimp only
  refine zW.iconst (pc' := 6) (nI 0) dX3_activeWeight_5 rfl (by decide) ?_
  refine zW.istore_n (pc' := 7) dX3_activeWeight_6 rfl rfl (Nat.le_of_ble_eq_true rfl) (zsS (zs0)) ?_
  refine zW.iconst (pc' := 8) (nI 0) dX3_activeWeight_7 rfl (by decide) ?_
  refine zW.istore_n (pc' := 9) dX3_activeWeight_8 rfl rfl (Nat.le_of_ble_eq_true rfl) (zsS (zsS (zs0))) ?_
  exact loop _ 0 (Nat.zero_add _)
theorem w_isConsistent (hD : tD a) {w : sW} (hW : tW T w) : zK G mX3_isConsistent 3 0 [.ref a.1] (tH h0 a T) (tAns h0 a w (0, nI 1)) := by
  show zW G mX3_isConsistent 3 0 0 [.ref a.1] [] (tH h0 a T) _
  refine zW.aload_n (pc' := 1) dX3_isConsistent_0 rfl rfl zg0 rfl ?_
  refine zW.iconst (pc' := 2) (nI 0) dX3_isConsistent_1 rfl (by decide) ?_
  refine zT.putN (pc' := 5) dX3_isConsistent_2 rfl f_X3_30_3 (zFw.of ft_3_0 rfl rfl) rfl ?_
  try dsimp only
  refine zW.iconst (pc' := 6) (nI 1) dX3_isConsistent_5 rfl (by decide) ?_
  refine zW.iret dX3_isConsistent_6 rfl (rfl) ?_
  exact tO.q hW
theorem w_expiringWithin (hD : tD a) {w : sW} (hW : tW T w) (hB : tB w.1) {t : Int32} : zK G mX3_expiringWithin 3 0 [.ref a.1, .int t] (tH h0 a T) (tAns h0 a w (qExpW w.1 t)) := by
  have hac := hW.1.ac
  have h12 := hW.1.n12
  have ht0 := hB.2.2 0 (by omega)
  have e0 := hW.1.sc (i := 0) (by omega) (by omega) (by omega)
  unfold qExpW
  show zW G mX3_expiringWithin 3 0 0 [.ref a.1, .int t, zho, zho] [] (tH h0 a T) _
  by_cases q : sIn t (nI 0) (nI 50) = true
  rotate_left
  · rw [if_neg q]
    refine zW.aload_n (pc' := 1) dX3_expiringWithin_0 rfl rfl zg0 rfl ?_
    refine zW.iload_n (pc' := 2) dX3_expiringWithin_1 rfl rfl (zgS (zg0)) ?_
    refine zW.iconst (pc' := 3) (nI 0) dX3_expiringWithin_2 rfl (by decide) ?_
    refine zW.bipush (pc' := 5) (nI 50) dX3_expiringWithin_3 rfl (by decide) ?_
    refine zW.callS (pc' := 8) dX3_expiringWithin_5 rfl l_X3_55 rfl (w_in0 q) (zcc rfl (zcc rfl (zcc rfl zc0))) rfl (Nat.le_of_ble_eq_true rfl) (Nat.le_of_ble_eq_true rfl) (Nat.le_of_ble_eq_true rfl) (fun _ _ ⟨e1, e3⟩ => ?_) (fun _ _ q9 => by cases q9.1)
    cases e1; subst e3
    refine zT.call (pc' := 11) dX3_expiringWithin_8 rfl l_X3_124 rfl rfl (w_fine0) (zcc rfl zc0) rfl (Nat.le_of_ble_eq_true rfl) (Nat.le_of_ble_eq_true rfl) (Nat.le_of_ble_eq_true rfl) (fun _ _ ⟨e1, e2⟩ => ?_)
    subst e1; rw [e2]
    refine zW.if_neN (pc' := 14) 16 dX3_expiringWithin_11 rfl (by decide) (by omega) (fun b9 => absurd b9 (by omega)) (fun b9 => ?_)
    refine zW.iconst (pc' := 15) (nI 0) dX3_expiringWithin_14 rfl (by decide) ?_
    refine zW.iret dX3_expiringWithin_15 rfl (rfl) ?_
    exact tO.q hW
  · rw [if_pos q]
    obtain ⟨t, et, -, ht, it'⟩ := sIn_nat q (by decide) (by decide)
    rw [it']
    refine zW.aload_n (pc' := 1) dX3_expiringWithin_0 rfl rfl zg0 rfl ?_
    refine zW.iload_n (pc' := 2) dX3_expiringWithin_1 rfl rfl (zgS (zg0)) ?_
    refine zW.iconst (pc' := 3) (nI 0) dX3_expiringWithin_2 rfl (by decide) ?_
    refine zW.bipush (pc' := 5) (nI 50) dX3_expiringWithin_3 rfl (by decide) ?_
    refine zW.callS (pc' := 8) dX3_expiringWithin_5 rfl l_X3_55 rfl (w_in1 q) (zcc rfl (zcc rfl (zcc rfl zc0))) rfl (Nat.le_of_ble_eq_true rfl) (Nat.le_of_ble_eq_true rfl) (Nat.le_of_ble_eq_true rfl) (fun _ _ ⟨e1, e3⟩ => ?_) (fun _ _ q9 => by cases q9.1)
    cases e1; subst e3
    refine zT.call (pc' := 11) dX3_expiringWithin_8 rfl l_X3_124 rfl rfl (w_fine1) (zcc rfl zc0) rfl (Nat.le_of_ble_eq_true rfl) (Nat.le_of_ble_eq_true rfl) (Nat.le_of_ble_eq_true rfl) (fun _ _ ⟨e1, e2⟩ => ?_)
    subst e1; rw [e2]
    refine zW.if_neN (pc' := 14) 16 dX3_expiringWithin_11 rfl (by decide) (by omega) (fun b9 => ?_) (fun b9 => absurd b9 (by omega))
    subst et
    generalize hg : (fun k => if sAt w.1.2.1 k 4 ≤ w.1.1 0 + t then 1 else 0) = g
    have loop : ∀ n k, k + n = w.1.2.1.length → zW G mX3_expiringWithin 3 0 20 [.ref a.1, .int (nI t), .int (nI (sUp g k)), .int (nI k)] [] (tH h0 a (zu T.1 0 0, T.2)) (tAns h0 a w (0, nI (sUp g w.1.2.1.length))) := by
      intro n
      induction n with
      | zero =>
        intro k hk
        have hk : k = w.1.2.1.length := by omega
        subst hk
        refine zW.iload_n (pc' := 21) dX3_expiringWithin_20 rfl rfl (zgS (zgS (zgS (zg0)))) ?_
        refine zW.aload_n (pc' := 22) dX3_expiringWithin_21 rfl rfl zg0 rfl ?_
        refine zT.get (pc' := 25) dX3_expiringWithin_22 rfl f_X3_9_3 rfl ?_
        try dsimp only
        refine zW.iconst (pc' := 26) (nI 2) dX3_expiringWithin_25 rfl (by decide) ?_
        first | refine zT.ald1 (pc' := 27) dX3_expiringWithin_26 rfl hD (by omega) ?_ | refine zT.ald4 (pc' := 27) dX3_expiringWithin_26 rfl hD (by omega) ?_
        try dsimp only
        refine zW.icmp_geN (pc' := 30) 61 dX3_expiringWithin_27 rfl (by decide) (by omega) (by omega) (fun b9 => ?_) (fun b9 => absurd b9 (by omega))
        refine zW.iload_n (pc' := 62) dX3_expiringWithin_61 rfl rfl (zgS (zgS (zg0))) ?_
        refine zW.iret dX3_expiringWithin_62 rfl (rfl) ?_
        exact tO.q hW
      | succ n ih =>
        intro k hk
        have hkl : k < w.1.2.1.length := by omega
        have b4 := hB.at hkl (f := 4) (by omega)
        have hgk : g k = if sAt w.1.2.1 k 4 ≤ w.1.1 0 + t then 1 else 0 := by rw [← hg]
        refine zW.iload_n (pc' := 21) dX3_expiringWithin_20 rfl rfl (zgS (zgS (zgS (zg0)))) ?_
        refine zW.aload_n (pc' := 22) dX3_expiringWithin_21 rfl rfl zg0 rfl ?_
        refine zT.get (pc' := 25) dX3_expiringWithin_22 rfl f_X3_9_3 rfl ?_
        try dsimp only
        refine zW.iconst (pc' := 26) (nI 2) dX3_expiringWithin_25 rfl (by decide) ?_
        first | refine zT.ald1 (pc' := 27) dX3_expiringWithin_26 rfl hD (by omega) ?_ | refine zT.ald4 (pc' := 27) dX3_expiringWithin_26 rfl hD (by omega) ?_
        try dsimp only
        refine zW.icmp_geN (pc' := 30) 61 dX3_expiringWithin_27 rfl (by decide) (by omega) (by omega) (fun b9 => absurd b9 (by omega)) (fun b9 => ?_)
        refine zW.iload_n (pc' := 31) dX3_expiringWithin_30 rfl rfl (zgS (zgS (zg0))) ?_
        refine zW.aload_n (pc' := 32) dX3_expiringWithin_31 rfl rfl zg0 rfl ?_
        refine zW.iload_n (pc' := 33) dX3_expiringWithin_32 rfl rfl (zgS (zgS (zgS (zg0)))) ?_
        refine zW.iconst (pc' := 34) (nI 4) dX3_expiringWithin_33 rfl (by decide) ?_
        refine zT.call (pc' := 37) dX3_expiringWithin_34 rfl l_X3_43 rfl rfl (w_cS (T := (zu T.1 0 0, T.2)) hD hW.1 hkl (f := 4) (by omega)) (zcc rfl (zcc rfl zc0)) rfl (Nat.le_of_ble_eq_true rfl) (Nat.le_of_ble_eq_true rfl) (Nat.le_of_ble_eq_true rfl) (fun _ _ ⟨e1, e2⟩ => ?_)
        subst e1; rw [e2]
        refine zW.aload_n (pc' := 38) dX3_expiringWithin_37 rfl rfl zg0 rfl ?_
        refine zT.get (pc' := 41) dX3_expiringWithin_38 rfl f_X3_9_3 rfl ?_
        try dsimp only
        refine zW.iconst (pc' := 42) (nI 0) dX3_expiringWithin_41 rfl (by decide) ?_
        first | refine zT.ald1 (pc' := 43) dX3_expiringWithin_42 rfl hD (by omega) ?_ | refine zT.ald4 (pc' := 43) dX3_expiringWithin_42 rfl hD (by omega) ?_
        try dsimp only
        rw [e0]
        refine zW.iload_n (pc' := 44) dX3_expiringWithin_43 rfl rfl (zgS (zg0)) ?_
        refine zW.iaddN (pc' := 45) dX3_expiringWithin_44 rfl ?_
        refine zW.icmp_gtN (pc' := 48) 52 dX3_expiringWithin_45 rfl (by decide) (by omega) (by omega) (fun b1 => ?_) (fun b1 => ?_)
        · refine zW.iconst (pc' := 53) (nI 0) dX3_expiringWithin_52 rfl (by decide) ?_
          refine zW.iaddN (pc' := 54) dX3_expiringWithin_53 rfl ?_
          refine zW.istore_n (pc' := 55) dX3_expiringWithin_54 rfl rfl (Nat.le_of_ble_eq_true rfl) (zsS (zsS (zs0))) ?_
          refine zW.iincN (pc' := 58) (n := 1) dX3_expiringWithin_55 rfl (Nat.le_of_ble_eq_true rfl) (zgS (zgS (zgS (zg0)))) (zsS (zsS (zsS (zs0)))) ?_
          refine zW.goto 20 dX3_expiringWithin_58 (by decide) ?_
          refine zW.congr (ih (k + 1) (by omega)) ?_ rfl rfl
          show _ = [_, _, Value.int (nI (sUp g k + g k)), _]
          rw [hgk, if_neg (by omega)]
        · refine zW.iconst (pc' := 49) (nI 1) dX3_expiringWithin_48 rfl (by decide) ?_
          refine zW.goto 53 dX3_expiringWithin_49 (by decide) ?_
          refine zW.iaddN (pc' := 54) dX3_expiringWithin_53 rfl ?_
          refine zW.istore_n (pc' := 55) dX3_expiringWithin_54 rfl rfl (Nat.le_of_ble_eq_true rfl) (zsS (zsS (zs0))) ?_
          refine zW.iincN (pc' := 58) (n := 1) dX3_expiringWithin_55 rfl (Nat.le_of_ble_eq_true rfl) (zgS (zgS (zgS (zg0)))) (zsS (zsS (zsS (zs0)))) ?_
          refine zW.goto 20 dX3_expiringWithin_58 (by decide) ?_
          refine zW.congr (ih (k + 1) (by omega)) ?_ rfl rfl
          show _ = [_, _, Value.int (nI (sUp g k + g k)), _]
          rw [hgk, if_pos b1]
    refine zW.iconst (pc' := 17) (nI 0) dX3_expiringWithin_16 rfl (by decide) ?_
    refine zW.istore_n (pc' := 18) dX3_expiringWithin_17 rfl rfl (Nat.le_of_ble_eq_true rfl) (zsS (zsS (zs0))) ?_
    refine zW.iconst (pc' := 19) (nI 0) dX3_expiringWithin_18 rfl (by decide) ?_
    refine zW.istore_n (pc' := 20) dX3_expiringWithin_19 rfl rfl (Nat.le_of_ble_eq_true rfl) (zsS (zsS (zsS (zs0)))) ?_
    exact loop _ 0 (Nat.zero_add _)
theorem w_expiringBySimulation (hD : tD a) {w : sW} (hW : tW T w) (hI : sI tt nn 0 w.1) (hE : sE w.1) (hT : tt + 50 < 100000) (hN : nn ≤ 10000) {t : Int32} : zK G mX3_expiringBySimulation 5 0 [.ref a.1, .int t] (tH h0 a T) (tAns h0 a w (qExpS w.1 t)) := by
  unfold qExpS
  show zW G mX3_expiringBySimulation 5 0 0 [.ref a.1, .int t, zho, zho] [] (tH h0 a T) _
  by_cases q : sIn t (nI 0) (nI 50) = true
  rotate_left
  · rw [if_neg q]
    refine zW.aload_n (pc' := 1) dX3_expiringBySimulation_0 rfl rfl zg0 rfl ?_
    refine zW.iload_n (pc' := 2) dX3_expiringBySimulation_1 rfl rfl (zgS (zg0)) ?_
    refine zW.iconst (pc' := 3) (nI 0) dX3_expiringBySimulation_2 rfl (by decide) ?_
    refine zW.bipush (pc' := 5) (nI 50) dX3_expiringBySimulation_3 rfl (by decide) ?_
    refine zW.callS (pc' := 8) dX3_expiringBySimulation_5 rfl l_X3_55 rfl (w_in0 q) (zcc rfl (zcc rfl (zcc rfl zc0))) rfl (Nat.le_of_ble_eq_true rfl) (Nat.le_of_ble_eq_true rfl) (Nat.le_of_ble_eq_true rfl) (fun _ _ ⟨e1, e3⟩ => ?_) (fun _ _ q9 => by cases q9.1)
    cases e1; subst e3
    refine zT.call (pc' := 11) dX3_expiringBySimulation_8 rfl l_X3_124 rfl rfl (w_fine0) (zcc rfl zc0) rfl (Nat.le_of_ble_eq_true rfl) (Nat.le_of_ble_eq_true rfl) (Nat.le_of_ble_eq_true rfl) (fun _ _ ⟨e1, e2⟩ => ?_)
    subst e1; rw [e2]
    refine zW.if_neN (pc' := 14) 16 dX3_expiringBySimulation_11 rfl (by decide) (by omega) (fun b9 => absurd b9 (by omega)) (fun b9 => ?_)
    refine zW.iconst (pc' := 15) (nI 0) dX3_expiringBySimulation_14 rfl (by decide) ?_
    refine zW.iret dX3_expiringBySimulation_15 rfl (rfl) ?_
    exact tO.q hW
  · rw [if_pos q]
    obtain ⟨t, et, -, ht, it'⟩ := sIn_nat q (by decide) (by decide)
    rw [it']
    refine zW.aload_n (pc' := 1) dX3_expiringBySimulation_0 rfl rfl zg0 rfl ?_
    refine zW.iload_n (pc' := 2) dX3_expiringBySimulation_1 rfl rfl (zgS (zg0)) ?_
    refine zW.iconst (pc' := 3) (nI 0) dX3_expiringBySimulation_2 rfl (by decide) ?_
    refine zW.bipush (pc' := 5) (nI 50) dX3_expiringBySimulation_3 rfl (by decide) ?_
    refine zW.callS (pc' := 8) dX3_expiringBySimulation_5 rfl l_X3_55 rfl (w_in1 q) (zcc rfl (zcc rfl (zcc rfl zc0))) rfl (Nat.le_of_ble_eq_true rfl) (Nat.le_of_ble_eq_true rfl) (Nat.le_of_ble_eq_true rfl) (fun _ _ ⟨e1, e3⟩ => ?_) (fun _ _ q9 => by cases q9.1)
    cases e1; subst e3
    refine zT.call (pc' := 11) dX3_expiringBySimulation_8 rfl l_X3_124 rfl rfl (w_fine1) (zcc rfl zc0) rfl (Nat.le_of_ble_eq_true rfl) (Nat.le_of_ble_eq_true rfl) (Nat.le_of_ble_eq_true rfl) (fun _ _ ⟨e1, e2⟩ => ?_)
    subst e1; rw [e2]
    refine zW.if_neN (pc' := 14) 16 dX3_expiringBySimulation_11 rfl (by decide) (by omega) (fun b9 => ?_) (fun b9 => absurd b9 (by omega))
    subst et
    have hc11 : tR (tcp T.2.1 0 11 130) (130 * 11) w.1 := tR.cp (f := 0) hW.1
    have hc0 : tR (tcp T.2.1 0 11 130) (130 * 0) w.1 := hW.1.cpo (k := 0) (by decide)
    have hcx : ∀ j, j < 1430 → tcp T.2.1 0 11 130 j = T.2.1 j := fun j hj => by unfold tcp; rw [if_neg (by omega)]
    have loop : ∀ m k (T1 : tS), k + m = t → tR T1.2.1 0 (sTicks w.1 k).2 → T1.1 = zu T.1 0 0 → tF (zu T.1 0 0, tcp T.2.1 0 11 130, T.2.2) T1 → zW G mX3_expiringBySimulation 5 0 27 [.ref a.1, .int (nI t), .int (nI (sTicks w.1 k).1), .int (nI k)] [] (tH h0 a T1) (tAns h0 a w (0, nI (sTicks w.1 t).1)) := by
      intro m
      induction m with
      | zero =>
        intro k T1 hk hR1 h1 hF
        have hk : k = t := by omega
        subst hk
        refine zW.iload_n (pc' := 28) dX3_expiringBySimulation_27 rfl rfl (zgS (zgS (zgS (zg0)))) ?_
        refine zW.iload_n (pc' := 29) dX3_expiringBySimulation_28 rfl rfl (zgS (zg0)) ?_
        refine zW.icmp_geN (pc' := 32) 45 dX3_expiringBySimulation_29 rfl (by decide) (by omega) (by omega) (fun b9 => ?_) (fun b9 => absurd b9 (by omega))
        refine zW.aload_n (pc' := 46) dX3_expiringBySimulation_45 rfl rfl zg0 rfl ?_
        refine zW.bipush (pc' := 48) (nI 11) dX3_expiringBySimulation_46 rfl (by decide) ?_
        refine zW.iconst (pc' := 49) (nI 0) dX3_expiringBySimulation_48 rfl (by decide) ?_
        refine zT.call (pc' := 52) dX3_expiringBySimulation_49 rfl l_X3_33 rfl rfl (w_copies hD (f := 11) (t := 0) (by omega) (by omega) (by omega)) (zcc rfl (zcc rfl zc0)) rfl (Nat.le_of_ble_eq_true rfl) (Nat.le_of_ble_eq_true rfl) (Nat.le_of_ble_eq_true rfl) (fun _ _ ⟨e1, e2⟩ => ?_)
        subst e1; rw [e2]
        refine zW.iload_n (pc' := 53) dX3_expiringBySimulation_52 rfl rfl (zgS (zgS (zg0))) ?_
        refine zW.iret dX3_expiringBySimulation_53 rfl (rfl) ?_
        have h11 : tR T1.2.1 (130 * 11) w.1 := hc11.cg fun j hj => hF.1 _ (by omega)
        have hx : tX T w := hW.2
        refine ⟨_, (T1.1, tcp T1.2.1 11 0 130, T1.2.2), rfl, ⟨rfl, by rw [h1]; exact zu_s (f := T.1) (k := 0) (x := 0), tR.cp (f := 11) (t := 0) h11, hW.2.cg (fun j a1 a2 => ?_) (fun f a1 a2 => by rw [h1]; exact zu_n a1) hF.2.2⟩, rfl⟩
        show tcp T1.2.1 11 0 130 j = _
        unfold tcp
        rw [if_neg (by omega), hF.1 j a1]
        exact hcx j (by omega)
      | succ m ih =>
        intro k T1 hk hR1 h1 hF
        have hI1 := hI.ticks hE (k := k)
        refine zW.iload_n (pc' := 28) dX3_expiringBySimulation_27 rfl rfl (zgS (zgS (zgS (zg0)))) ?_
        refine zW.iload_n (pc' := 29) dX3_expiringBySimulation_28 rfl rfl (zgS (zg0)) ?_
        refine zW.icmp_geN (pc' := 32) 45 dX3_expiringBySimulation_29 rfl (by decide) (by omega) (by omega) (fun b9 => absurd b9 (by omega)) (fun b9 => ?_)
        refine zW.iload_n (pc' := 33) dX3_expiringBySimulation_32 rfl rfl (zgS (zgS (zg0))) ?_
        refine zW.aload_n (pc' := 34) dX3_expiringBySimulation_33 rfl rfl zg0 rfl ?_
        refine zT.call (pc' := 37) dX3_expiringBySimulation_34 rfl l_X3_108 rfl rfl (w_ticksOnce hD hR1 hI1.1 hI1.2 (by omega) hN) zc0 rfl (Nat.le_of_ble_eq_true rfl) (Nat.le_of_ble_eq_true rfl) (Nat.le_of_ble_eq_true rfl) (fun _ T2 ⟨e1, e2, e3, e4⟩ => ?_)
        subst e1
        refine zW.iaddN (pc' := 38) dX3_expiringBySimulation_37 rfl ?_
        refine zW.istore_n (pc' := 39) dX3_expiringBySimulation_38 rfl rfl (Nat.le_of_ble_eq_true rfl) (zsS (zsS (zs0))) ?_
        refine zW.iincN (pc' := 42) (n := 1) dX3_expiringBySimulation_39 rfl (Nat.le_of_ble_eq_true rfl) (zgS (zgS (zgS (zg0)))) (zsS (zsS (zsS (zs0)))) ?_
        refine zW.goto 27 dX3_expiringBySimulation_42 (by decide) ?_
        exact ih (k + 1) T2 (by omega) e2 (e3.trans h1) (hF.tr e4)
    refine zW.aload_n (pc' := 17) dX3_expiringBySimulation_16 rfl rfl zg0 rfl ?_
    refine zW.iconst (pc' := 18) (nI 0) dX3_expiringBySimulation_17 rfl (by decide) ?_
    refine zW.bipush (pc' := 20) (nI 11) dX3_expiringBySimulation_18 rfl (by decide) ?_
    refine zT.call (pc' := 23) dX3_expiringBySimulation_20 rfl l_X3_33 rfl rfl (w_copies (T := (zu T.1 0 0, T.2)) hD (f := 0) (t := 11) (by omega) (by omega) (by omega)) (zcc rfl (zcc rfl zc0)) rfl (Nat.le_of_ble_eq_true rfl) (Nat.le_of_ble_eq_true rfl) (Nat.le_of_ble_eq_true rfl) (fun _ _ ⟨e1, e2⟩ => ?_)
    subst e1; rw [e2]
    refine zW.iconst (pc' := 24) (nI 0) dX3_expiringBySimulation_23 rfl (by decide) ?_
    refine zW.istore_n (pc' := 25) dX3_expiringBySimulation_24 rfl rfl (Nat.le_of_ble_eq_true rfl) (zsS (zsS (zs0))) ?_
    refine zW.iconst (pc' := 26) (nI 0) dX3_expiringBySimulation_25 rfl (by decide) ?_
    refine zW.istore_n (pc' := 27) dX3_expiringBySimulation_26 rfl rfl (Nat.le_of_ble_eq_true rfl) (zsS (zsS (zsS (zs0)))) ?_
    exact loop t 0 _ (Nat.zero_add _) hc0 rfl tF.rf
end
