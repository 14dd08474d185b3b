/-! THE REFERENCE's questions -/
section
set_option maxRecDepth 100000
variable {G : zG} {h0 : zH} {a : tA} {T : tS} {tt nn n : Nat}
theorem tW.th {T : tS} {w : sW} (h : tW T w) {x : Nat} : tW (zu T.1 0 x, T.2) w := ⟨h.1, h.2.cg (fun _ _ _ => rfl) (fun f hf _ => zu_n hf) rfl⟩
/-- an answer of a question -/
theorem tO.q {T : tS} {w : sW} (h : tW T w) {x : Nat} {v : Value} : tO h0 a x v w (.inl (some v)) (tH h0 a (zu T.1 0 x, T.2)) := ⟨_, (zu T.1 0 x, T.2), rfl, ⟨rfl, zu_s (f := T.1) (k := 0) (x := x), h.th⟩, rfl⟩
theorem w_fine1 : zK G mX3_isFine 1 0 [.ref a.1, .int (nI 1)] (tH h0 a T) (tQ h0 a fun v T' => v = some (.int (nI 1)) ∧ T' = (zu T.1 0 0, T.2)) := w_isFine (Or.inr rfl)
theorem w_fine0 : zK G mX3_isFine 1 0 [.ref a.1, .int (nI 0)] (tH h0 a T) (tQ h0 a fun v T' => v = some (.int (nI 0)) ∧ T' = (zu T.1 0 1, T.2)) := w_isFine (Or.inl rfl)
theorem w_in1 {h : zH} {v lo hi : Int32} (q : sIn v lo hi = true) : zK G mX3_in 1 0 [.int v, .int lo, .int hi] h (fun o h' => o = .inl (some (.int (nI 1))) ∧ h' = h) := by
  have := w_in (G := G) (h := h) (v := v) (lo := lo) (hi := hi)
  rwa [if_pos q] at this
theorem w_in0 {h : zH} {v lo hi : Int32} (q : ¬ sIn v lo hi = true) : zK G mX3_in 1 0 [.int v, .int lo, .int hi] h (fun o h' => o = .inl (some (.int (nI 0))) ∧ h' = h) := by
  have := w_in (G := G) (h := h) (v := v) (lo := lo) (hi := hi)
  rwa [if_neg q] at this
theorem w_pers1 {h : zH} {v : Int32} (q : sIn v (nI 0) (nI 7) = true) : zK G mX3_isPerson 2 0 [.int v] h (fun o h' => o = .inl (some (.int (nI 1))) ∧ h' = h) := by
  have := w_isPerson (G := G) (h := h) (v := v)
  rwa [if_pos q] at this
theorem w_pers0 {h : zH} {v : Int32} (q : ¬ sIn v (nI 0) (nI 7) = true) : zK G mX3_isPerson 2 0 [.int v] h (fun o h' => o = .inl (some (.int (nI 0))) ∧ h' = h) := by
  have := w_isPerson (G := G) (h := h) (v := v)
  rwa [if_neg q] at this
def qTime (s : sS) : Nat × Int32 := (0, nI (s.1 0))
def qPhase (s : sS) : Nat × Int32 := (0, nI (s.1 0 / 4 % 4))
def qRate (s : sS) (p : Int32) : Nat × Int32 := if sIn p (nI 0) (nI 3) = true then (0, nI (s.1 (10 + iN p))) else (1, nI 0)
def qActive (s : sS) : Nat × Int32 := (0, nI s.2.1.length)
def qIsActive (s : sS) (id : Int32) : Nat × Int32 := (0, match sFind s.2.1 id with | none => nI 0 | some _ => nI 1)
def sPos (p : Int32) (n : Nat) : Bool := decide (0 ≤ p ∧ iN p < n)
def qIdAt (s : sS) (p : Int32) : Nat × Int32 := if sPos p s.2.1.length = true then (0, nI (sAt s.2.1 (iN p) 0)) else (1, nI 0)
def qOf (s : sS) (id : Int32) (f : Nat) : Nat × Int32 := match sFind s.2.1 id with | none => (1, nI 0) | some i => (0, nI (sAt s.2.1 i f))
def qIs (s : sS) (id : Int32) (f : Nat) : Nat × Int32 := match sFind s.2.1 id with | none => (1, nI 0) | some i => (0, nI (if sAt s.2.1 i f = 0 then 0 else 1))
def qWho (s : sS) (id : Int32) (f : Nat) : Nat × Int32 := match sFind s.2.1 id with | none => (1, nI 0) | some i => if sAt s.2.1 i f = 0 then (2, nI 0) else (0, nI (sAt s.2.1 i f - 1))
def qSigs (s : sS) (f : Nat) (x : Int32) : Nat × Int32 := if sIn x (nI 0) (nI 3) = true then (0, nI (sCount s.2.1 f (iN x))) else (1, nI 0)
abbrev tAns (h0 : zH) (a : tA) (w : sW) (q : Nat × Int32) : zR → zH → Prop := tO h0 a q.1 (.int q.2) w
theorem tAns.of {w : sW} {q : Nat × Int32} {x : Nat} {v : Int32} {T : tS} (h : tW T w) (e : q = (x, v)) : tAns h0 a w q (.inl (some (.int v))) (tH h0 a (zu T.1 0 x, T.2)) := by
  subst e; exact tO.q h

theorem w_time (hD : tD a) {w : sW} (hW : tW T w) : zK G mX3_time 3 0 [.ref a.1] (tH h0 a T) (tAns h0 a w (qTime w.1)) := by
  show zW G mX3_time 3 0 0 [.ref a.1] [] (tH h0 a T) _
  refine zW.aload_n (pc' := 1) dX3_time_0 rfl rfl zg0 rfl ?_
  refine zW.iconst (pc' := 2) (nI 0) dX3_time_1 rfl (by decide) ?_
  refine zT.putN (pc' := 5) dX3_time_2 rfl f_X3_30_3 (zFw.of ft_3_0 rfl rfl) rfl ?_
  try dsimp only
  refine zW.aload_n (pc' := 6) dX3_time_5 rfl rfl zg0 rfl ?_
  refine zT.get (pc' := 9) dX3_time_6 rfl f_X3_9_3 rfl ?_
  try dsimp only
  refine zW.iconst (pc' := 10) (nI 0) dX3_time_9 rfl (by decide) ?_
  first | refine zT.ald1 (pc' := 11) dX3_time_10 rfl hD (by omega) ?_ | refine zT.ald4 (pc' := 11) dX3_time_10 rfl hD (by omega) ?_
  try dsimp only
  rw [hW.1.sc (i := 0) (by decide) (by decide) (by decide)]
  refine zW.iret dX3_time_11 rfl (rfl) ?_
  exact tAns.of hW rfl
theorem w_activeCount (hD : tD a) {w : sW} (hW : tW T w) : zK G mX3_activeCount 3 0 [.ref a.1] (tH h0 a T) (tAns h0 a w (qActive w.1)) := by
  show zW G mX3_activeCount 3 0 0 [.ref a.1] [] (tH h0 a T) _
  refine zW.aload_n (pc' := 1) dX3_activeCount_0 rfl rfl zg0 rfl ?_
  refine zW.iconst (pc' := 2) (nI 0) dX3_activeCount_1 rfl (by decide) ?_
  refine zT.putN (pc' := 5) dX3_activeCount_2 rfl f_X3_30_3 (zFw.of ft_3_0 rfl rfl) rfl ?_
  try dsimp only
  refine zW.aload_n (pc' := 6) dX3_activeCount_5 rfl rfl zg0 rfl ?_
  refine zT.get (pc' := 9) dX3_activeCount_6 rfl f_X3_9_3 rfl ?_
  try dsimp only
  refine zW.iconst (pc' := 10) (nI 2) dX3_activeCount_9 rfl (by decide) ?_
  first | refine zT.ald1 (pc' := 11) dX3_activeCount_10 rfl hD (by omega) ?_ | refine zT.ald4 (pc' := 11) dX3_activeCount_10 rfl hD (by omega) ?_
  try dsimp only
  rw [hW.1.ac]
  refine zW.iret dX3_activeCount_11 rfl (rfl) ?_
  exact tAns.of hW rfl
theorem w_phase (hD : tD a) {w : sW} (hW : tW T w) (hb : w.1.1 0 < 2 ^ 30) : zK G mX3_phase 3 0 [.ref a.1] (tH h0 a T) (tAns h0 a w (qPhase w.1)) := by
  show zW G mX3_phase 3 0 0 [.ref a.1] [] (tH h0 a T) _
  refine zW.aload_n (pc' := 1) dX3_phase_0 rfl rfl zg0 rfl ?_
  refine zW.iconst (pc' := 2) (nI 0) dX3_phase_1 rfl (by decide) ?_
  refine zT.putN (pc' := 5) dX3_phase_2 rfl f_X3_30_3 (zFw.of ft_3_0 rfl rfl) rfl ?_
  try dsimp only
  refine zW.aload_n (pc' := 6) dX3_phase_5 rfl rfl zg0 rfl ?_
  refine zW.aload_n (pc' := 7) dX3_phase_6 rfl rfl zg0 rfl ?_
  refine zT.get (pc' := 10) dX3_phase_7 rfl f_X3_9_3 rfl ?_
  try dsimp only
  refine zW.iconst (pc' := 11) (nI 0) dX3_phase_10 rfl (by decide) ?_
  first | refine zT.ald1 (pc' := 12) dX3_phase_11 rfl hD (by omega) ?_ | refine zT.ald4 (pc' := 12) dX3_phase_11 rfl hD (by omega) ?_
  try dsimp only
  rw [hW.1.sc (i := 0) (by decide) (by decide) (by decide)]
  refine zT.call (pc' := 15) dX3_phase_12 rfl l_X3_99 rfl rfl (w_phaseAt (Nat.lt_trans hb (by decide))) (zcc rfl zc0) rfl (Nat.le_of_ble_eq_true rfl) (Nat.le_of_ble_eq_true rfl) (Nat.le_of_ble_eq_true rfl) (fun _ _ ⟨e1, e2⟩ => ?_)
  subst e1; rw [e2]
  refine zW.iret dX3_phase_15 rfl (rfl) ?_
  exact tAns.of hW rfl
theorem w_rate (hD : tD a) {w : sW} (hW : tW T w) {p : Int32} : zK G mX3_rate 3 0 [.ref a.1, .int p] (tH h0 a T) (tAns h0 a w (qRate w.1 p)) := by
  show zW G mX3_rate 3 0 0 [.ref a.1, .int p] [] (tH h0 a T) _
  unfold qRate
  by_cases q : sIn p (nI 0) (nI 3) = true
  rotate_left
  · rw [if_neg q]
    refine zW.aload_n (pc' := 1) dX3_rate_0 rfl rfl zg0 rfl ?_
    refine zW.iload_n (pc' := 2) dX3_rate_1 rfl rfl (zgS (zg0)) ?_
    refine zW.iconst (pc' := 3) (nI 0) dX3_rate_2 rfl (by decide) ?_
    refine zW.iconst (pc' := 4) (nI 3) dX3_rate_3 rfl (by decide) ?_
    refine zW.callS (pc' := 7) dX3_rate_4 rfl l_X3_55 rfl (w_in0 q) (zcc rfl (zcc rfl (zcc rfl zc0))) rfl (Nat.le_of_ble_eq_true rfl) (Nat.le_of_ble_eq_true rfl) (Nat.le_of_ble_eq_true rfl) (fun _ _ ⟨e1, e3⟩ => ?_) (fun _ _ q9 => by cases q9.1)
    cases e1; subst e3
    refine zT.call (pc' := 10) dX3_rate_7 rfl l_X3_124 rfl rfl (w_fine0) (zcc rfl zc0) rfl (Nat.le_of_ble_eq_true rfl) (Nat.le_of_ble_eq_true rfl) (Nat.le_of_ble_eq_true rfl) (fun _ _ ⟨e1, e2⟩ => ?_)
    subst e1; rw [e2]
    refine zW.if_eqN (pc' := 13) 25 dX3_rate_10 rfl (by decide) (by omega) (fun b9 => ?_) (fun b9 => absurd b9 (by omega))
    refine zW.iconst (pc' := 26) (nI 0) dX3_rate_25 rfl (by decide) ?_
    refine zW.iret dX3_rate_26 rfl (rfl) ?_
    exact tO.q hW
  · rw [if_pos q]
    obtain ⟨n, en, -, hn, iw⟩ := sIn_nat q (by decide) (by decide)
    rw [iw]
    subst en
    refine zW.aload_n (pc' := 1) dX3_rate_0 rfl rfl zg0 rfl ?_
    refine zW.iload_n (pc' := 2) dX3_rate_1 rfl rfl (zgS (zg0)) ?_
    refine zW.iconst (pc' := 3) (nI 0) dX3_rate_2 rfl (by decide) ?_
    refine zW.iconst (pc' := 4) (nI 3) dX3_rate_3 rfl (by decide) ?_
    refine zW.callS (pc' := 7) dX3_rate_4 rfl l_X3_55 rfl (w_in1 q) (zcc rfl (zcc rfl (zcc rfl zc0))) rfl (Nat.le_of_ble_eq_true rfl) (Nat.le_of_ble_eq_true rfl) (Nat.le_of_ble_eq_true rfl) (fun _ _ ⟨e1, e3⟩ => ?_) (fun _ _ q9 => by cases q9.1)
    cases e1; subst e3
    refine zT.call (pc' := 10) dX3_rate_7 rfl l_X3_124 rfl rfl (w_fine1) (zcc rfl zc0) rfl (Nat.le_of_ble_eq_true rfl) (Nat.le_of_ble_eq_true rfl) (Nat.le_of_ble_eq_true rfl) (fun _ _ ⟨e1, e2⟩ => ?_)
    subst e1; rw [e2]
    refine zW.if_eqN (pc' := 13) 25 dX3_rate_10 rfl (by decide) (by omega) (fun b9 => absurd b9 (by omega)) (fun b9 => ?_)
    refine zW.aload_n (pc' := 14) dX3_rate_13 rfl rfl zg0 rfl ?_
    refine zT.get (pc' := 17) dX3_rate_14 rfl f_X3_9_3 rfl ?_
    try dsimp only
    refine zW.bipush (pc' := 19) (nI 10) dX3_rate_17 rfl (by decide) ?_
    refine zW.iload_n (pc' := 20) dX3_rate_19 rfl rfl (zgS (zg0)) ?_
    refine zW.iaddN (pc' := 21) dX3_rate_20 rfl ?_
    first | refine zT.ald1 (pc' := 22) dX3_rate_21 rfl hD (by omega) ?_ | refine zT.ald4 (pc' := 22) dX3_rate_21 rfl hD (by omega) ?_
    try dsimp only
    rw [hW.1.sc (i := 10 + n) (by omega) (by omega) (by omega)]
    refine zW.goto 26 dX3_rate_22 (by decide) ?_
    refine zW.iret dX3_rate_26 rfl (rfl) ?_
    exact tO.q hW
theorem w_signaturesOf (hD : tD a) {w : sW} (hW : tW T w) {p : Int32} (hB : tB w.1) : zK G mX3_signaturesOf 3 0 [.ref a.1, .int p] (tH h0 a T) (tAns h0 a w (qSigs w.1 6 p)) := by
  show zW G mX3_signaturesOf 3 0 0 [.ref a.1, .int p] [] (tH h0 a T) _
  unfold qSigs
  by_cases q : sIn p (nI 0) (nI 3) = true
  rotate_left
  · rw [if_neg q]
    refine zW.aload_n (pc' := 1) dX3_signaturesOf_0 rfl rfl zg0 rfl ?_
    refine zW.iload_n (pc' := 2) dX3_signaturesOf_1 rfl rfl (zgS (zg0)) ?_
    refine zW.iconst (pc' := 3) (nI 0) dX3_signaturesOf_2 rfl (by decide) ?_
    refine zW.iconst (pc' := 4) (nI 3) dX3_signaturesOf_3 rfl (by decide) ?_
    refine zW.callS (pc' := 7) dX3_signaturesOf_4 rfl l_X3_55 rfl (w_in0 q) (zcc rfl (zcc rfl (zcc rfl zc0))) rfl (Nat.le_of_ble_eq_true rfl) (Nat.le_of_ble_eq_true rfl) (Nat.le_of_ble_eq_true rfl) (fun _ _ ⟨e1, e3⟩ => ?_) (fun _ _ q9 => by cases q9.1)
    cases e1; subst e3
    refine zT.call (pc' := 10) dX3_signaturesOf_7 rfl l_X3_124 rfl rfl (w_fine0) (zcc rfl zc0) rfl (Nat.le_of_ble_eq_true rfl) (Nat.le_of_ble_eq_true rfl) (Nat.le_of_ble_eq_true rfl) (fun _ _ ⟨e1, e2⟩ => ?_)
    subst e1; rw [e2]
    refine zW.if_eqN (pc' := 13) 23 dX3_signaturesOf_10 rfl (by decide) (by omega) (fun b9 => ?_) (fun b9 => absurd b9 (by omega))
    refine zW.iconst (pc' := 24) (nI 0) dX3_signaturesOf_23 rfl (by decide) ?_
    refine zW.iret dX3_signaturesOf_24 rfl (rfl) ?_
    exact tO.q hW
  · rw [if_pos q]
    obtain ⟨n, en, -, hn, iw⟩ := sIn_nat q (by decide) (by decide)
    rw [iw]
    subst en
    refine zW.aload_n (pc' := 1) dX3_signaturesOf_0 rfl rfl zg0 rfl ?_
    refine zW.iload_n (pc' := 2) dX3_signaturesOf_1 rfl rfl (zgS (zg0)) ?_
    refine zW.iconst (pc' := 3) (nI 0) dX3_signaturesOf_2 rfl (by decide) ?_
    refine zW.iconst (pc' := 4) (nI 3) dX3_signaturesOf_3 rfl (by decide) ?_
    refine zW.callS (pc' := 7) dX3_signaturesOf_4 rfl l_X3_55 rfl (w_in1 q) (zcc rfl (zcc rfl (zcc rfl zc0))) rfl (Nat.le_of_ble_eq_true rfl) (Nat.le_of_ble_eq_true rfl) (Nat.le_of_ble_eq_true rfl) (fun _ _ ⟨e1, e3⟩ => ?_) (fun _ _ q9 => by cases q9.1)
    cases e1; subst e3
    refine zT.call (pc' := 10) dX3_signaturesOf_7 rfl l_X3_124 rfl rfl (w_fine1) (zcc rfl zc0) rfl (Nat.le_of_ble_eq_true rfl) (Nat.le_of_ble_eq_true rfl) (Nat.le_of_ble_eq_true rfl) (fun _ _ ⟨e1, e2⟩ => ?_)
    subst e1; rw [e2]
    refine zW.if_eqN (pc' := 13) 23 dX3_signaturesOf_10 rfl (by decide) (by omega) (fun b9 => absurd b9 (by omega)) (fun b9 => ?_)
    refine zW.aload_n (pc' := 14) dX3_signaturesOf_13 rfl rfl zg0 rfl ?_
    refine zW.bipush (pc' := 16) (nI 6) dX3_signaturesOf_14 rfl (by decide) ?_
    refine zW.iload_n (pc' := 17) dX3_signaturesOf_16 rfl rfl (zgS (zg0)) ?_
    refine zT.call (pc' := 20) dX3_signaturesOf_17 rfl l_X3_73 rfl rfl (w_signedByS (T := (zu T.1 0 0, T.2)) hD hW.1 hB (by omega) (by omega)) (zcc rfl (zcc rfl zc0)) rfl (Nat.le_of_ble_eq_true rfl) (Nat.le_of_ble_eq_true rfl) (Nat.le_of_ble_eq_true rfl) (fun _ _ ⟨e1, e2⟩ => ?_)
    subst e1; rw [e2]
    refine zW.goto 24 dX3_signaturesOf_20 (by decide) ?_
    refine zW.iret dX3_signaturesOf_24 rfl (rfl) ?_
    exact tO.q hW
theorem w_countersignaturesOf (hD : tD a) {w : sW} (hW : tW T w) {p : Int32} (hB : tB w.1) : zK G mX3_countersignaturesOf 3 0 [.ref a.1, .int p] (tH h0 a T) (tAns h0 a w (qSigs w.1 7 p)) := by
  show zW G mX3_countersignaturesOf 3 0 0 [.ref a.1, .int p] [] (tH h0 a T) _
  unfold qSigs
  by_cases q : sIn p (nI 0) (nI 3) = true
  rotate_left
  · rw [if_neg q]
    refine zW.aload_n (pc' := 1) dX3_countersignaturesOf_0 rfl rfl zg0 rfl ?_
    refine zW.iload_n (pc' := 2) dX3_countersignaturesOf_1 rfl rfl (zgS (zg0)) ?_
    refine zW.iconst (pc' := 3) (nI 0) dX3_countersignaturesOf_2 rfl (by decide) ?_
    refine zW.iconst (pc' := 4) (nI 3) dX3_countersignaturesOf_3 rfl (by decide) ?_
    refine zW.callS (pc' := 7) dX3_countersignaturesOf_4 rfl l_X3_55 rfl (w_in0 q) (zcc rfl (zcc rfl (zcc rfl zc0))) rfl (Nat.le_of_ble_eq_true rfl) (Nat.le_of_ble_eq_true rfl) (Nat.le_of_ble_eq_true rfl) (fun _ _ ⟨e1, e3⟩ => ?_) (fun _ _ q9 => by cases q9.1)
    cases e1; subst e3
    refine zT.call (pc' := 10) dX3_countersignaturesOf_7 rfl l_X3_124 rfl rfl (w_fine0) (zcc rfl zc0) rfl (Nat.le_of_ble_eq_true rfl) (Nat.le_of_ble_eq_true rfl) (Nat.le_of_ble_eq_true rfl) (fun _ _ ⟨e1, e2⟩ => ?_)
    subst e1; rw [e2]
    refine zW.if_eqN (pc' := 13) 23 dX3_countersignaturesOf_10 rfl (by decide) (by omega) (fun b9 => ?_) (fun b9 => absurd b9 (by omega))
    refine zW.iconst (pc' := 24) (nI 0) dX3_countersignaturesOf_23 rfl (by decide) ?_
    refine zW.iret dX3_countersignaturesOf_24 rfl (rfl) ?_
    exact tO.q hW
  · rw [if_pos q]
    obtain ⟨n, en, -, hn, iw⟩ := sIn_nat q (by decide) (by decide)
    rw [iw]
    subst en
    refine zW.aload_n (pc' := 1) dX3_countersignaturesOf_0 rfl rfl zg0 rfl ?_
    refine zW.iload_n (pc' := 2) dX3_countersignaturesOf_1 rfl rfl (zgS (zg0)) ?_
    refine zW.iconst (pc' := 3) (nI 0) dX3_countersignaturesOf_2 rfl (by decide) ?_
    refine zW.iconst (pc' := 4) (nI 3) dX3_countersignaturesOf_3 rfl (by decide) ?_
    refine zW.callS (pc' := 7) dX3_countersignaturesOf_4 rfl l_X3_55 rfl (w_in1 q) (zcc rfl (zcc rfl (zcc rfl zc0))) rfl (Nat.le_of_ble_eq_true rfl) (Nat.le_of_ble_eq_true rfl) (Nat.le_of_ble_eq_true rfl) (fun _ _ ⟨e1, e3⟩ => ?_) (fun _ _ q9 => by cases q9.1)
    cases e1; subst e3
    refine zT.call (pc' := 10) dX3_countersignaturesOf_7 rfl l_X3_124 rfl rfl (w_fine1) (zcc rfl zc0) rfl (Nat.le_of_ble_eq_true rfl) (Nat.le_of_ble_eq_true rfl) (Nat.le_of_ble_eq_true rfl) (fun _ _ ⟨e1, e2⟩ => ?_)
    subst e1; rw [e2]
    refine zW.if_eqN (pc' := 13) 23 dX3_countersignaturesOf_10 rfl (by decide) (by omega) (fun b9 => absurd b9 (by omega)) (fun b9 => ?_)
    refine zW.aload_n (pc' := 14) dX3_countersignaturesOf_13 rfl rfl zg0 rfl ?_
    refine zW.bipush (pc' := 16) (nI 7) dX3_countersignaturesOf_14 rfl (by decide) ?_
    refine zW.iload_n (pc' := 17) dX3_countersignaturesOf_16 rfl rfl (zgS (zg0)) ?_
    refine zT.call (pc' := 20) dX3_countersignaturesOf_17 rfl l_X3_73 rfl rfl (w_signedByS (T := (zu T.1 0 0, T.2)) hD hW.1 hB (by omega) (by omega)) (zcc rfl (zcc rfl zc0)) rfl (Nat.le_of_ble_eq_true rfl) (Nat.le_of_ble_eq_true rfl) (Nat.le_of_ble_eq_true rfl) (fun _ _ ⟨e1, e2⟩ => ?_)
    subst e1; rw [e2]
    refine zW.goto 24 dX3_countersignaturesOf_20 (by decide) ?_
    refine zW.iret dX3_countersignaturesOf_24 rfl (rfl) ?_
    exact tO.q hW
theorem sFind_c {s : sS} (h : tR T.2.1 0 s) {id : Int32} : (sFind s.2.1 id = none) ∨ ∃ i, sFind s.2.1 id = some i ∧ i < s.2.1.length ∧ i < 12 := by
  cases e : sFind s.2.1 id with
  | none => exact Or.inl rfl
  | some i => have := sFind_lt e; have h12 := h.2.2.2.2.2.2.1; exact Or.inr ⟨i, rfl, this, by omega⟩
theorem w_find0 (hD : tD a) {s : sS} (hR : tR T.2.1 0 s) {id : Int32} (q : sFind s.2.1 id = none) : zK G mX3_find 2 0 [.ref a.1, .int id] (tH h0 a T) (tQ h0 a fun v T' => v = some (.int (-1)) ∧ T' = T) :=
  zW.post (w_findS hD hR) fun o h' ⟨v, T', e1, ⟨e2, e3⟩, e4⟩ => by
    rcases e2 with ⟨i, q1, -, -⟩ | ⟨-, q1⟩
    · rw [q] at q1; exact absurd q1 (by simp)
    · exact ⟨v, T', e1, ⟨q1, e3⟩, e4⟩
theorem w_find1 (hD : tD a) {s : sS} (hR : tR T.2.1 0 s) {id : Int32} {k : Nat} (q : sFind s.2.1 id = some k) : zK G mX3_find 2 0 [.ref a.1, .int id] (tH h0 a T) (tQ h0 a fun v T' => v = some (.int (nI k)) ∧ T' = T) :=
  zW.post (w_findS hD hR) fun o h' ⟨v, T', e1, ⟨e2, e3⟩, e4⟩ => by
    rcases e2 with ⟨i, q1, -, q2⟩ | ⟨q1, -⟩
    · rw [q] at q1; cases q1; exact ⟨v, T', e1, ⟨q2, e3⟩, e4⟩
    · rw [q] at q1; exact absurd q1 (by simp)
theorem w_isActive (hD : tD a) {w : sW} (hW : tW T w) {id : Int32} : zK G mX3_isActive 3 0 [.ref a.1, .int id] (tH h0 a T) (tAns h0 a w (qIsActive w.1 id)) := by
  show zW G mX3_isActive 3 0 0 [.ref a.1, .int id] [] (tH h0 a T) _
  unfold qIsActive
  rcases sFind_c hW.1 (id := id) with q | ⟨k, q, hk, hk2⟩
  · rw [q]
    refine zW.aload_n (pc' := 1) dX3_isActive_0 rfl rfl zg0 rfl ?_
    refine zW.iconst (pc' := 2) (nI 0) dX3_isActive_1 rfl (by decide) ?_
    refine zT.putN (pc' := 5) dX3_isActive_2 rfl f_X3_30_3 (zFw.of ft_3_0 rfl rfl) rfl ?_
    try dsimp only
    refine zW.aload_n (pc' := 6) dX3_isActive_5 rfl rfl zg0 rfl ?_
    refine zW.iload_n (pc' := 7) dX3_isActive_6 rfl rfl (zgS (zg0)) ?_
    refine zT.call (pc' := 10) dX3_isActive_7 rfl l_X3_76 rfl rfl (w_find0 (T := (zu T.1 0 0, T.2)) hD hW.1 q) (zcc rfl zc0) rfl (Nat.le_of_ble_eq_true rfl) (Nat.le_of_ble_eq_true rfl) (Nat.le_of_ble_eq_true rfl) (fun _ _ ⟨e1, e2⟩ => ?_)
    subst e1; rw [e2]
    refine zW.if_lt (pc' := 13) 17 dX3_isActive_10 rfl (by decide) (fun b1 => ?_) (fun b1 => ?_)
    rotate_left
    · exact absurd b1 (by decide)
    refine zW.iconst (pc' := 18) (nI 0) dX3_isActive_17 rfl (by decide) ?_
    refine zW.iret dX3_isActive_18 rfl (rfl) ?_
    exact tO.q hW
  · rw [q]
    refine zW.aload_n (pc' := 1) dX3_isActive_0 rfl rfl zg0 rfl ?_
    refine zW.iconst (pc' := 2) (nI 0) dX3_isActive_1 rfl (by decide) ?_
    refine zT.putN (pc' := 5) dX3_isActive_2 rfl f_X3_30_3 (zFw.of ft_3_0 rfl rfl) rfl ?_
    try dsimp only
    refine zW.aload_n (pc' := 6) dX3_isActive_5 rfl rfl zg0 rfl ?_
    refine zW.iload_n (pc' := 7) dX3_isActive_6 rfl rfl (zgS (zg0)) ?_
    refine zT.call (pc' := 10) dX3_isActive_7 rfl l_X3_76 rfl rfl (w_find1 (T := (zu T.1 0 0, T.2)) hD hW.1 q) (zcc rfl zc0) rfl (Nat.le_of_ble_eq_true rfl) (Nat.le_of_ble_eq_true rfl) (Nat.le_of_ble_eq_true rfl) (fun _ _ ⟨e1, e2⟩ => ?_)
    subst e1; rw [e2]
    refine zW.if_ltN (pc' := 13) (tg := 17) dX3_isActive_10 rfl (by decide) (by omega) ?_
    refine zW.iconst (pc' := 14) (nI 1) dX3_isActive_13 rfl (by decide) ?_
    refine zW.goto 18 dX3_isActive_14 (by decide) ?_
    refine zW.iret dX3_isActive_18 rfl (rfl) ?_
    exact tO.q hW
theorem w_ofClaim (hD : tD a) {w : sW} (hW : tW T w) {id : Int32} {f : Nat} (hf : f < 8) : zK G mX3_ofClaim 3 0 [.ref a.1, .int id, .int (nI f)] (tH h0 a T) (tQ h0 a fun v T' => v = some (.int (qOf w.1 id f).2) ∧ T' = (zu T.1 0 (qOf w.1 id f).1, T.2)) := by
  unfold qOf
  show zW G mX3_ofClaim 3 0 0 [.ref a.1, .int id, .int (nI f), zho] [] (tH h0 a T) _
  rcases sFind_c hW.1 (id := id) with q | ⟨k, q, hk, hk2⟩
  · rw [q]
    refine zW.aload_n (pc' := 1) dX3_ofClaim_0 rfl rfl zg0 rfl ?_
    refine zW.iload_n (pc' := 2) dX3_ofClaim_1 rfl rfl (zgS (zg0)) ?_
    refine zT.call (pc' := 5) dX3_ofClaim_2 rfl l_X3_76 rfl rfl (w_find0 hD hW.1 q) (zcc rfl zc0) rfl (Nat.le_of_ble_eq_true rfl) (Nat.le_of_ble_eq_true rfl) (Nat.le_of_ble_eq_true rfl) (fun _ _ ⟨e1, e2⟩ => ?_)
    subst e1; rw [e2]
    refine zW.istore_n (pc' := 6) dX3_ofClaim_5 rfl rfl (Nat.le_of_ble_eq_true rfl) (zsS (zsS (zsS (zs0)))) ?_
    refine zW.aload_n (pc' := 7) dX3_ofClaim_6 rfl rfl zg0 rfl ?_
    refine zW.iload_n (pc' := 8) dX3_ofClaim_7 rfl rfl (zgS (zgS (zgS (zg0)))) ?_
    refine zW.if_lt (pc' := 11) 15 dX3_ofClaim_8 rfl (by decide) (fun b1 => ?_) (fun b1 => ?_)
    rotate_left
    · exact absurd b1 (by decide)
    refine zW.iconst (pc' := 16) (nI 0) dX3_ofClaim_15 rfl (by decide) ?_
    refine zT.call (pc' := 19) dX3_ofClaim_16 rfl l_X3_124 rfl rfl (w_fine0) (zcc rfl zc0) rfl (Nat.le_of_ble_eq_true rfl) (Nat.le_of_ble_eq_true rfl) (Nat.le_of_ble_eq_true rfl) (fun _ _ ⟨e1, e2⟩ => ?_)
    subst e1; rw [e2]
    refine zW.if_eqN (pc' := 22) 31 dX3_ofClaim_19 rfl (by decide) (by omega) (fun b9 => ?_) (fun b9 => absurd b9 (by omega))
    refine zW.iconst (pc' := 32) (nI 0) dX3_ofClaim_31 rfl (by decide) ?_
    refine zW.iret dX3_ofClaim_32 rfl (rfl) ?_
    exact ⟨_, _, rfl, ⟨rfl, rfl⟩, rfl⟩
  · rw [q]
    refine zW.aload_n (pc' := 1) dX3_ofClaim_0 rfl rfl zg0 rfl ?_
    refine zW.iload_n (pc' := 2) dX3_ofClaim_1 rfl rfl (zgS (zg0)) ?_
    refine zT.call (pc' := 5) dX3_ofClaim_2 rfl l_X3_76 rfl rfl (w_find1 hD hW.1 q) (zcc rfl zc0) rfl (Nat.le_of_ble_eq_true rfl) (Nat.le_of_ble_eq_true rfl) (Nat.le_of_ble_eq_true rfl) (fun _ _ ⟨e1, e2⟩ => ?_)
    subst e1; rw [e2]
    refine zW.istore_n (pc' := 6) dX3_ofClaim_5 rfl rfl (Nat.le_of_ble_eq_true rfl) (zsS (zsS (zsS (zs0)))) ?_
    refine zW.aload_n (pc' := 7) dX3_ofClaim_6 rfl rfl zg0 rfl ?_
    refine zW.iload_n (pc' := 8) dX3_ofClaim_7 rfl rfl (zgS (zgS (zgS (zg0)))) ?_
    refine zW.if_ltN (pc' := 11) (tg := 15) dX3_ofClaim_8 rfl (by decide) (by omega) ?_
    refine zW.iconst (pc' := 12) (nI 1) dX3_ofClaim_11 rfl (by decide) ?_
    refine zW.goto 16 dX3_ofClaim_12 (by decide) ?_
    refine zT.call (pc' := 19) dX3_ofClaim_16 rfl l_X3_124 rfl rfl (w_fine1) (zcc rfl zc0) rfl (Nat.le_of_ble_eq_true rfl) (Nat.le_of_ble_eq_true rfl) (Nat.le_of_ble_eq_true rfl) (fun _ _ ⟨e1, e2⟩ => ?_)
    subst e1; rw [e2]
    refine zW.if_eqN (pc' := 22) 31 dX3_ofClaim_19 rfl (by decide) (by omega) (fun b9 => absurd b9 (by omega)) (fun b9 => ?_)
    refine zW.aload_n (pc' := 23) dX3_ofClaim_22 rfl rfl zg0 rfl ?_
    refine zW.iload_n (pc' := 24) dX3_ofClaim_23 rfl rfl (zgS (zgS (zgS (zg0)))) ?_
    refine zW.iload_n (pc' := 25) dX3_ofClaim_24 rfl rfl (zgS (zgS (zg0))) ?_
    refine zT.call (pc' := 28) dX3_ofClaim_25 rfl l_X3_43 rfl rfl (w_cS (T := (zu T.1 0 0, T.2)) hD hW.1 hk hf) (zcc rfl (zcc rfl zc0)) rfl (Nat.le_of_ble_eq_true rfl) (Nat.le_of_ble_eq_true rfl) (Nat.le_of_ble_eq_true rfl) (fun _ _ ⟨e1, e2⟩ => ?_)
    subst e1; rw [e2]
    refine zW.goto 32 dX3_ofClaim_28 (by decide) ?_
    refine zW.iret dX3_ofClaim_32 rfl (rfl) ?_
    exact ⟨_, _, rfl, ⟨rfl, rfl⟩, rfl⟩
theorem w_debtor (hD : tD a) {w : sW} (hW : tW T w) {id : Int32} : zK G mX3_debtor 4 0 [.ref a.1, .int id] (tH h0 a T) (tAns h0 a w (qOf w.1 id 1)) := by
  show zW G mX3_debtor 4 0 0 [.ref a.1, .int id] [] (tH h0 a T) _
  refine zW.aload_n (pc' := 1) dX3_debtor_0 rfl rfl zg0 rfl ?_
  refine zW.iload_n (pc' := 2) dX3_debtor_1 rfl rfl (zgS (zg0)) ?_
  refine zW.iconst (pc' := 3) (nI 1) dX3_debtor_2 rfl (by decide) ?_
  refine zT.call (pc' := 6) dX3_debtor_3 rfl l_X3_128 rfl rfl (w_ofClaim hD hW (f := 1) (by decide)) (zcc rfl (zcc rfl zc0)) rfl (Nat.le_of_ble_eq_true rfl) (Nat.le_of_ble_eq_true rfl) (Nat.le_of_ble_eq_true rfl) (fun _ _ ⟨e1, e2⟩ => ?_)
  subst e1; rw [e2]
  refine zW.iret dX3_debtor_6 rfl (rfl) ?_
  exact tO.q hW
theorem w_creditor (hD : tD a) {w : sW} (hW : tW T w) {id : Int32} : zK G mX3_creditor 4 0 [.ref a.1, .int id] (tH h0 a T) (tAns h0 a w (qOf w.1 id 2)) := by
  show zW G mX3_creditor 4 0 0 [.ref a.1, .int id] [] (tH h0 a T) _
  refine zW.aload_n (pc' := 1) dX3_creditor_0 rfl rfl zg0 rfl ?_
  refine zW.iload_n (pc' := 2) dX3_creditor_1 rfl rfl (zgS (zg0)) ?_
  refine zW.iconst (pc' := 3) (nI 2) dX3_creditor_2 rfl (by decide) ?_
  refine zT.call (pc' := 6) dX3_creditor_3 rfl l_X3_128 rfl rfl (w_ofClaim hD hW (f := 2) (by decide)) (zcc rfl (zcc rfl zc0)) rfl (Nat.le_of_ble_eq_true rfl) (Nat.le_of_ble_eq_true rfl) (Nat.le_of_ble_eq_true rfl) (fun _ _ ⟨e1, e2⟩ => ?_)
  subst e1; rw [e2]
  refine zW.iret dX3_creditor_6 rfl (rfl) ?_
  exact tO.q hW
theorem w_weight (hD : tD a) {w : sW} (hW : tW T w) {id : Int32} : zK G mX3_weight 4 0 [.ref a.1, .int id] (tH h0 a T) (tAns h0 a w (qOf w.1 id 3)) := by
  show zW G mX3_weight 4 0 0 [.ref a.1, .int id] [] (tH h0 a T) _
  refine zW.aload_n (pc' := 1) dX3_weight_0 rfl rfl zg0 rfl ?_
  refine zW.iload_n (pc' := 2) dX3_weight_1 rfl rfl (zgS (zg0)) ?_
  refine zW.iconst (pc' := 3) (nI 3) dX3_weight_2 rfl (by decide) ?_
  refine zT.call (pc' := 6) dX3_weight_3 rfl l_X3_128 rfl rfl (w_ofClaim hD hW (f := 3) (by decide)) (zcc rfl (zcc rfl zc0)) rfl (Nat.le_of_ble_eq_true rfl) (Nat.le_of_ble_eq_true rfl) (Nat.le_of_ble_eq_true rfl) (fun _ _ ⟨e1, e2⟩ => ?_)
  subst e1; rw [e2]
  refine zW.iret dX3_weight_6 rfl (rfl) ?_
  exact tO.q hW
theorem w_expiry (hD : tD a) {w : sW} (hW : tW T w) {id : Int32} : zK G mX3_expiry 4 0 [.ref a.1, .int id] (tH h0 a T) (tAns h0 a w (qOf w.1 id 4)) := by
  show zW G mX3_expiry 4 0 0 [.ref a.1, .int id] [] (tH h0 a T) _
  refine zW.aload_n (pc' := 1) dX3_expiry_0 rfl rfl zg0 rfl ?_
  refine zW.iload_n (pc' := 2) dX3_expiry_1 rfl rfl (zgS (zg0)) ?_
  refine zW.iconst (pc' := 3) (nI 4) dX3_expiry_2 rfl (by decide) ?_
  refine zT.call (pc' := 6) dX3_expiry_3 rfl l_X3_128 rfl rfl (w_ofClaim hD hW (f := 4) (by decide)) (zcc rfl (zcc rfl zc0)) rfl (Nat.le_of_ble_eq_true rfl) (Nat.le_of_ble_eq_true rfl) (Nat.le_of_ble_eq_true rfl) (fun _ _ ⟨e1, e2⟩ => ?_)
  subst e1; rw [e2]
  refine zW.iret dX3_expiry_6 rfl (rfl) ?_
  exact tO.q hW
theorem w_strikes (hD : tD a) {w : sW} (hW : tW T w) {id : Int32} : zK G mX3_strikes 4 0 [.ref a.1, .int id] (tH h0 a T) (tAns h0 a w (qOf w.1 id 5)) := by
  show zW G mX3_strikes 4 0 0 [.ref a.1, .int id] [] (tH h0 a T) _
  refine zW.aload_n (pc' := 1) dX3_strikes_0 rfl rfl zg0 rfl ?_
  refine zW.iload_n (pc' := 2) dX3_strikes_1 rfl rfl (zgS (zg0)) ?_
  refine zW.iconst (pc' := 3) (nI 5) dX3_strikes_2 rfl (by decide) ?_
  refine zT.call (pc' := 6) dX3_strikes_3 rfl l_X3_128 rfl rfl (w_ofClaim hD hW (f := 5) (by decide)) (zcc rfl (zcc rfl zc0)) rfl (Nat.le_of_ble_eq_true rfl) (Nat.le_of_ble_eq_true rfl) (Nat.le_of_ble_eq_true rfl) (fun _ _ ⟨e1, e2⟩ => ?_)
  subst e1; rw [e2]
  refine zW.iret dX3_strikes_6 rfl (rfl) ?_
  exact tO.q hW
theorem w_isSigned (hD : tD a) {w : sW} (hW : tW T w) {id : Int32} (hB : tB w.1) : zK G mX3_isSigned 4 0 [.ref a.1, .int id] (tH h0 a T) (tAns h0 a w (qIs w.1 id 6)) := by
  show zW G mX3_isSigned 4 0 0 [.ref a.1, .int id] [] (tH h0 a T) _
  have hq : qOf w.1 id 6 = (1, nI 0) ∧ qIs w.1 id 6 = (1, nI 0) ∨ ∃ i, i < w.1.2.1.length ∧ qOf w.1 id 6 = (0, nI (sAt w.1.2.1 i 6)) ∧ qIs w.1 id 6 = (0, nI (if sAt w.1.2.1 i 6 = 0 then 0 else 1)) := by
    unfold qOf qIs
    rcases sFind_c hW.1 (id := id) with q | ⟨k, q, hk, hk2⟩
    · rw [q]; exact Or.inl ⟨rfl, rfl⟩
    · rw [q]; exact Or.inr ⟨k, hk, rfl, rfl⟩
  refine zW.aload_n (pc' := 1) dX3_isSigned_0 rfl rfl zg0 rfl ?_
  refine zW.iload_n (pc' := 2) dX3_isSigned_1 rfl rfl (zgS (zg0)) ?_
  refine zW.bipush (pc' := 4) (nI 6) dX3_isSigned_2 rfl (by decide) ?_
  refine zT.call (pc' := 7) dX3_isSigned_4 rfl l_X3_128 rfl rfl (w_ofClaim hD hW (f := 6) (by decide)) (zcc rfl (zcc rfl zc0)) rfl (Nat.le_of_ble_eq_true rfl) (Nat.le_of_ble_eq_true rfl) (Nat.le_of_ble_eq_true rfl) (fun _ _ ⟨e1, e2⟩ => ?_)
  subst e1; rw [e2]
  rcases hq with ⟨q1, q2⟩ | ⟨i, hi, q1, q2⟩
  · rw [q1, q2]
    dsimp only
    refine zW.if_leN (pc' := 10) 14 dX3_isSigned_7 rfl (by decide) (by omega) (fun b9 => ?_) (fun b9 => absurd b9 (by omega))
    refine zW.iconst (pc' := 15) (nI 0) dX3_isSigned_14 rfl (by decide) ?_
    refine zW.iret dX3_isSigned_15 rfl (rfl) ?_
    exact tO.q hW
  · rw [q1, q2]
    have h6 := hB.at hi (f := 6) (by omega)
    dsimp only
    refine zW.if_leN (pc' := 10) 14 dX3_isSigned_7 rfl (by decide) (by omega) (fun b1 => ?_) (fun b1 => ?_)
    · rw [if_pos b1]
      refine zW.iconst (pc' := 15) (nI 0) dX3_isSigned_14 rfl (by decide) ?_
      refine zW.iret dX3_isSigned_15 rfl (rfl) ?_
      exact tO.q hW
    · rw [if_neg b1]
      refine zW.iconst (pc' := 11) (nI 1) dX3_isSigned_10 rfl (by decide) ?_
      refine zW.goto 15 dX3_isSigned_11 (by decide) ?_
      refine zW.iret dX3_isSigned_15 rfl (rfl) ?_
      exact tO.q hW
theorem w_isCountersigned (hD : tD a) {w : sW} (hW : tW T w) {id : Int32} (hB : tB w.1) : zK G mX3_isCountersigned 4 0 [.ref a.1, .int id] (tH h0 a T) (tAns h0 a w (qIs w.1 id 7)) := by
  show zW G mX3_isCountersigned 4 0 0 [.ref a.1, .int id] [] (tH h0 a T) _
  have hq : qOf w.1 id 7 = (1, nI 0) ∧ qIs w.1 id 7 = (1, nI 0) ∨ ∃ i, i < w.1.2.1.length ∧ qOf w.1 id 7 = (0, nI (sAt w.1.2.1 i 7)) ∧ qIs w.1 id 7 = (0, nI (if sAt w.1.2.1 i 7 = 0 then 0 else 1)) := by
    unfold qOf qIs
    rcases sFind_c hW.1 (id := id) with q | ⟨k, q, hk, hk2⟩
    · rw [q]; exact Or.inl ⟨rfl, rfl⟩
    · rw [q]; exact Or.inr ⟨k, hk, rfl, rfl⟩
  refine zW.aload_n (pc' := 1) dX3_isCountersigned_0 rfl rfl zg0 rfl ?_
  refine zW.iload_n (pc' := 2) dX3_isCountersigned_1 rfl rfl (zgS (zg0)) ?_
  refine zW.bipush (pc' := 4) (nI 7) dX3_isCountersigned_2 rfl (by decide) ?_
  refine zT.call (pc' := 7) dX3_isCountersigned_4 rfl l_X3_128 rfl rfl (w_ofClaim hD hW (f := 7) (by decide)) (zcc rfl (zcc rfl zc0)) rfl (Nat.le_of_ble_eq_true rfl) (Nat.le_of_ble_eq_true rfl) (Nat.le_of_ble_eq_true rfl) (fun _ _ ⟨e1, e2⟩ => ?_)
  subst e1; rw [e2]
  rcases hq with ⟨q1, q2⟩ | ⟨i, hi, q1, q2⟩
  · rw [q1, q2]
    dsimp only
    refine zW.if_leN (pc' := 10) 14 dX3_isCountersigned_7 rfl (by decide) (by omega) (fun b9 => ?_) (fun b9 => absurd b9 (by omega))
    refine zW.iconst (pc' := 15) (nI 0) dX3_isCountersigned_14 rfl (by decide) ?_
    refine zW.iret dX3_isCountersigned_15 rfl (rfl) ?_
    exact tO.q hW
  · rw [q1, q2]
    have h6 := hB.at hi (f := 7) (by omega)
    dsimp only
    refine zW.if_leN (pc' := 10) 14 dX3_isCountersigned_7 rfl (by decide) (by omega) (fun b1 => ?_) (fun b1 => ?_)
    · rw [if_pos b1]
      refine zW.iconst (pc' := 15) (nI 0) dX3_isCountersigned_14 rfl (by decide) ?_
      refine zW.iret dX3_isCountersigned_15 rfl (rfl) ?_
      exact tO.q hW
    · rw [if_neg b1]
      refine zW.iconst (pc' := 11) (nI 1) dX3_isCountersigned_10 rfl (by decide) ?_
      refine zW.goto 15 dX3_isCountersigned_11 (by decide) ?_
      refine zW.iret dX3_isCountersigned_15 rfl (rfl) ?_
      exact tO.q hW
theorem w_whoSigned (hD : tD a) {w : sW} (hW : tW T w) (hB : tB w.1) {id : Int32} {f : Nat} (hf : f < 8) : zK G mX3_whoSigned 4 0 [.ref a.1, .int id, .int (nI f)] (tH h0 a T) (tQ h0 a fun v T' => v = some (.int (qWho w.1 id f).2) ∧ T'.1 0 = (qWho w.1 id f).1 ∧ tW T' w) := by
  have hq : qOf w.1 id f = (1, nI 0) ∧ qWho w.1 id f = (1, nI 0) ∨ ∃ i, i < w.1.2.1.length ∧ qOf w.1 id f = (0, nI (sAt w.1.2.1 i f)) ∧ qWho w.1 id f = if sAt w.1.2.1 i f = 0 then (2, nI 0) else (0, nI (sAt w.1.2.1 i f - 1)) := by
    unfold qOf qWho
    rcases sFind_c hW.1 (id := id) with q | ⟨k, q, hk, hk2⟩
    · rw [q]; exact Or.inl ⟨rfl, rfl⟩
    · rw [q]; exact Or.inr ⟨k, hk, rfl, rfl⟩
  show zW G mX3_whoSigned 4 0 0 [.ref a.1, .int id, .int (nI f), zho] [] (tH h0 a T) _
  refine zW.aload_n (pc' := 1) dX3_whoSigned_0 rfl rfl zg0 rfl ?_
  refine zW.iload_n (pc' := 2) dX3_whoSigned_1 rfl rfl (zgS (zg0)) ?_
  refine zW.iload_n (pc' := 3) dX3_whoSigned_2 rfl rfl (zgS (zgS (zg0))) ?_
  refine zT.call (pc' := 6) dX3_whoSigned_3 rfl l_X3_128 rfl rfl (w_ofClaim hD hW hf) (zcc rfl (zcc rfl zc0)) rfl (Nat.le_of_ble_eq_true rfl) (Nat.le_of_ble_eq_true rfl) (Nat.le_of_ble_eq_true rfl) (fun _ _ ⟨e1, e2⟩ => ?_)
  subst e1; rw [e2]
  rcases hq with ⟨q1, q2⟩ | ⟨i, hi, q1, q2⟩
  · rw [q1, q2]
    dsimp only
    refine zW.istore_n (pc' := 7) dX3_whoSigned_6 rfl rfl (Nat.le_of_ble_eq_true rfl) (zsS (zsS (zsS (zs0)))) ?_
    refine zW.aload_n (pc' := 8) dX3_whoSigned_7 rfl rfl zg0 rfl ?_
    refine zT.get (pc' := 11) dX3_whoSigned_8 rfl f_X3_30_3 rfl ?_
    try dsimp only
    rw [zu_s]
    refine zW.if_neN (pc' := 14) 23 dX3_whoSigned_11 rfl (by decide) (by omega) (fun b9 => ?_) (fun b9 => absurd b9 (by omega))
    refine zW.aload_n (pc' := 24) dX3_whoSigned_23 rfl rfl zg0 rfl ?_
    refine zT.get (pc' := 27) dX3_whoSigned_24 rfl f_X3_30_3 rfl ?_
    try dsimp only
    rw [zu_s]
    refine zW.if_neN (pc' := 30) 36 dX3_whoSigned_27 rfl (by decide) (by omega) (fun b9 => ?_) (fun b9 => absurd b9 (by omega))
    refine zW.iconst (pc' := 37) (nI 0) dX3_whoSigned_36 rfl (by decide) ?_
    refine zW.iret dX3_whoSigned_37 rfl (rfl) ?_
    exact ⟨_, (zu T.1 0 1, T.2), rfl, ⟨rfl, zu_s (f := T.1) (k := 0) (x := 1), hW.th⟩, rfl⟩
  · rw [q1, q2]
    have h6 := hB.at hi hf
    dsimp only
    refine zW.istore_n (pc' := 7) dX3_whoSigned_6 rfl rfl (Nat.le_of_ble_eq_true rfl) (zsS (zsS (zsS (zs0)))) ?_
    refine zW.aload_n (pc' := 8) dX3_whoSigned_7 rfl rfl zg0 rfl ?_
    refine zT.get (pc' := 11) dX3_whoSigned_8 rfl f_X3_30_3 rfl ?_
    try dsimp only
    rw [zu_s]
    refine zW.if_neN (pc' := 14) 23 dX3_whoSigned_11 rfl (by decide) (by omega) (fun b9 => absurd b9 (by omega)) (fun b9 => ?_)
    refine zW.iload_n (pc' := 15) dX3_whoSigned_14 rfl rfl (zgS (zgS (zgS (zg0)))) ?_
    refine zW.if_neN (pc' := 18) 23 dX3_whoSigned_15 rfl (by decide) (by omega) (fun b1 => ?_) (fun b1 => ?_)
    · rw [if_neg b1]
      refine zW.aload_n (pc' := 24) dX3_whoSigned_23 rfl rfl zg0 rfl ?_
      refine zT.get (pc' := 27) dX3_whoSigned_24 rfl f_X3_30_3 rfl ?_
      try dsimp only
      rw [zu_s]
      refine zW.if_neN (pc' := 30) 36 dX3_whoSigned_27 rfl (by decide) (by omega) (fun b9 => absurd b9 (by omega)) (fun b9 => ?_)
      refine zW.iload_n (pc' := 31) dX3_whoSigned_30 rfl rfl (zgS (zgS (zgS (zg0)))) ?_
      refine zW.iconst (pc' := 32) (nI 1) dX3_whoSigned_31 rfl (by decide) ?_
      refine zW.isubN (pc' := 33) dX3_whoSigned_32 rfl (by omega) ?_
      refine zW.goto 37 dX3_whoSigned_33 (by decide) ?_
      refine zW.iret dX3_whoSigned_37 rfl (rfl) ?_
      exact ⟨_, (zu T.1 0 0, T.2), rfl, ⟨rfl, zu_s (f := T.1) (k := 0) (x := 0), hW.th⟩, rfl⟩
    · rw [if_pos b1]
      refine zW.aload_n (pc' := 19) dX3_whoSigned_18 rfl rfl zg0 rfl ?_
      refine zW.iconst (pc' := 20) (nI 2) dX3_whoSigned_19 rfl (by decide) ?_
      refine zT.putN (pc' := 23) dX3_whoSigned_20 rfl f_X3_30_3 (zFw.of ft_3_0 rfl rfl) rfl ?_
      try dsimp only
      refine zW.aload_n (pc' := 24) dX3_whoSigned_23 rfl rfl zg0 rfl ?_
      refine zT.get (pc' := 27) dX3_whoSigned_24 rfl f_X3_30_3 rfl ?_
      try dsimp only
      rw [zu_s]
      refine zW.if_neN (pc' := 30) 36 dX3_whoSigned_27 rfl (by decide) (by omega) (fun b9 => ?_) (fun b9 => absurd b9 (by omega))
      refine zW.iconst (pc' := 37) (nI 0) dX3_whoSigned_36 rfl (by decide) ?_
      refine zW.iret dX3_whoSigned_37 rfl (rfl) ?_
      rw [zu_zu]
      exact ⟨_, (zu T.1 0 2, T.2), rfl, ⟨rfl, zu_s (f := T.1) (k := 0) (x := 2), hW.th⟩, rfl⟩
theorem w_signer (hD : tD a) {w : sW} (hW : tW T w) {id : Int32} (hB : tB w.1) : zK G mX3_signer 5 0 [.ref a.1, .int id] (tH h0 a T) (tAns h0 a w (qWho w.1 id 6)) := by
  show zW G mX3_signer 5 0 0 [.ref a.1, .int id] [] (tH h0 a T) _
  refine zW.aload_n (pc' := 1) dX3_signer_0 rfl rfl zg0 rfl ?_
  refine zW.iload_n (pc' := 2) dX3_signer_1 rfl rfl (zgS (zg0)) ?_
  refine zW.bipush (pc' := 4) (nI 6) dX3_signer_2 rfl (by decide) ?_
  refine zT.call (pc' := 7) dX3_signer_4 rfl l_X3_131 rfl rfl (w_whoSigned hD hW hB (f := 6) (by decide)) (zcc rfl (zcc rfl zc0)) rfl (Nat.le_of_ble_eq_true rfl) (Nat.le_of_ble_eq_true rfl) (Nat.le_of_ble_eq_true rfl) (fun _ T1 ⟨e1, e2, e3⟩ => ?_)
  subst e1
  refine zW.iret dX3_signer_7 rfl (rfl) ?_
  exact ⟨_, T1, rfl, ⟨rfl, e2, e3⟩, rfl⟩
theorem w_countersigner (hD : tD a) {w : sW} (hW : tW T w) {id : Int32} (hB : tB w.1) : zK G mX3_countersigner 5 0 [.ref a.1, .int id] (tH h0 a T) (tAns h0 a w (qWho w.1 id 7)) := by
  show zW G mX3_countersigner 5 0 0 [.ref a.1, .int id] [] (tH h0 a T) _
  refine zW.aload_n (pc' := 1) dX3_countersigner_0 rfl rfl zg0 rfl ?_
  refine zW.iload_n (pc' := 2) dX3_countersigner_1 rfl rfl (zgS (zg0)) ?_
  refine zW.bipush (pc' := 4) (nI 7) dX3_countersigner_2 rfl (by decide) ?_
  refine zT.call (pc' := 7) dX3_countersigner_4 rfl l_X3_131 rfl rfl (w_whoSigned hD hW hB (f := 7) (by decide)) (zcc rfl (zcc rfl zc0)) rfl (Nat.le_of_ble_eq_true rfl) (Nat.le_of_ble_eq_true rfl) (Nat.le_of_ble_eq_true rfl) (fun _ T1 ⟨e1, e2, e3⟩ => ?_)
  subst e1
  refine zW.iret dX3_countersigner_7 rfl (rfl) ?_
  exact ⟨_, T1, rfl, ⟨rfl, e2, e3⟩, rfl⟩
end
