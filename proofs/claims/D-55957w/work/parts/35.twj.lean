/-! THE REFERENCE's changes, as they are called -/
section
set_option maxRecDepth 100000
variable {G : zG} {h0 : zH} {a : tA} {T : tS} {tt nn n : Nat}
/-- a change's world, by its outcome and the numbers of its throws -/
def sEnd (w : sW) (R : sR) (n1 n2 n3 : Nat) : Nat × Int32 × sW := (sTh R.1 n1 n2 n3, if sTh R.1 n1 n2 n3 = 0 then (nI R.2.1, (R.2.2, sPush w.2.1 w.1, w.2.2)) else (0, w))
theorem w_begun (hD : tD a) {w : sW} (hW : tW T w) : zK G mX3_begins 2 0 [.ref a.1] (tH h0 a T) (tQ h0 a fun v T' => v = none ∧ tW T' w ∧ tR T'.2.1 (130 * 10) w.1) :=
  zW.post (w_begins hD) fun o h' ⟨v, T', e1, ⟨e2, e3⟩, e4⟩ => by
    subst e3
    have h1 : tR (tcp T.2.1 0 10 130) (130 * 0) w.1 := hW.1.cpo (k := 0) (by decide)
    have h2 : tR (tcp T.2.1 0 10 130) (130 * 10) w.1 := tR.cp (f := 0) hW.1
    refine ⟨v, (T.1, tcp T.2.1 0 10 130, T.2.2), e1, ⟨e2, ⟨h1, hW.2.cg (fun j h1 h2 => ?_) (fun _ _ _ => rfl) rfl⟩, h2⟩, e4⟩
    show tcp _ _ _ _ _ = _
    unfold tcp
    rw [if_neg (by omega)]
theorem w_ended (hD : tD a) {T1 : tS} {w : sW} {R : sR} (hW : tW T w) (h10 : tR T.2.1 (130 * 10) w.1) (hC : tC T w.1 R (some (.int (nI R.1))) T1) {n1 n2 n3 : Nat} (hb : R.1 < 4) (h1 : n1 < 4) (h2 : n2 < 4) (h3 : n3 < 4) (hn : R.1 ≠ 0 → sTh R.1 n1 n2 n3 ≠ 0) : zK G mX3_ends 2 0 [.ref a.1, .int (nI R.1), .int (nI n1), .int (nI n2), .int (nI n3)] (tH h0 a T1) (tO h0 a (sEnd w R n1 n2 n3).1 (.int (sEnd w R n1 n2 n3).2.1) (sEnd w R n1 n2 n3).2.2) := by
  obtain ⟨-, c2, c3, c4, c5⟩ := hC
  refine zW.post (w_ends hD (s := R.2.2) (hW.2.tF c5) (h10.cg fun j hj => c5.1 _ (by omega)) hb h1 h2 h3 (fun _ => c2)) fun o h' ⟨v, T', e1, ⟨e2, e3, e4⟩, e5⟩ => ⟨v, T', e1, ⟨?_, e3, ?_⟩, e5⟩
  · rw [e2]
    unfold sEnd
    by_cases q : sTh R.1 n1 n2 n3 = 0
    · rw [if_pos q, if_pos q, c3 (Classical.byContradiction fun z => hn z q)]
    · rw [if_neg q, if_neg q, nI_0]
  · unfold sEnd
    by_cases q : sTh R.1 n1 n2 n3 = 0
    · rw [if_pos q] at e4 ⊢; exact e4
    · rw [if_neg q] at e4 ⊢; exact e4
theorem sTh_012 {b : Nat} (hb : b < 4) (h1 : b ≠ 1) : b ≠ 0 → sTh b 0 1 2 ≠ 0 := fun h => by
  unfold sTh
  rw [if_neg h1]
  by_cases q : b = 2
  · rw [if_pos q]; decide
  · rw [if_neg q, if_pos (by omega)]; decide
theorem sTh_123 {b : Nat} (hb : b < 4) : b ≠ 0 → sTh b 1 2 3 ≠ 0 := fun h => by
  unfold sTh
  by_cases q : b = 1
  · rw [if_pos q]; decide
  · rw [if_neg q]
    by_cases q : b = 2
    · rw [if_pos q]; decide
    · rw [if_neg q, if_pos (by omega)]; decide
theorem sAdd_c {s : sS} {d c w l : Int32} : (sAdd s d c w l).1 < 4 ∧ (sAdd s d c w l).1 ≠ 1 := by
  unfold sAdd
  by_cases q : sIn d (nI 0) (nI 7) = true ∧ sIn c (nI 0) (nI 7) = true ∧ d ≠ c ∧ sIn w (nI 1) (nI 999) = true ∧ sIn l (nI 1) (nI 50) = true
  · rw [if_pos q]
    by_cases q : s.2.1.length = 12
    · rw [if_pos q]; show 3 < 4 ∧ 3 ≠ 1; decide
    · rw [if_neg q]; show 0 < 4 ∧ 0 ≠ 1; decide
  · rw [if_neg q]; show 2 < 4 ∧ 2 ≠ 1; decide
theorem sSign_c {s : sS} {id w : Int32} : (sSign s id w).1 < 4 := by
  unfold sSign
  split
  · show 1 < 4; decide
  · split
    · split
      · show 0 < 4; decide
      · show 3 < 4; decide
    · show 2 < 4; decide
theorem sCosign_c {s : sS} {id w : Int32} : (sCosign s id w).1 < 4 := by
  unfold sCosign
  split
  · show 1 < 4; decide
  · split
    · split
      · show 0 < 4; decide
      · show 3 < 4; decide
    · show 2 < 4; decide
theorem sSettle_c {s : sS} {id : Int32} : (sSettle s id).1 = 0 ∨ (sSettle s id).1 = 1 ∨ (sSettle s id).1 = 3 := by
  unfold sSettle
  split
  · exact Or.inr (Or.inl rfl)
  · split
    · exact Or.inr (Or.inr rfl)
    · exact Or.inl rfl
theorem sAdvance_c {s : sS} {t : Int32} : (sAdvance s t).1 = 0 ∨ (sAdvance s t).1 = 2 := by
  unfold sAdvance
  split
  · exact Or.inl rfl
  · exact Or.inr rfl
theorem sAudit_c {s : sS} {t : Int32} : (sAudit s t).1 = 0 ∨ (sAudit s t).1 = 2 := by
  unfold sAudit
  split
  · exact Or.inl rfl
  · exact Or.inr rfl
theorem sSetRate_c {s : sS} {p v : Int32} : (sSetRate s p v).1 = 0 ∨ (sSetRate s p v).1 = 2 := by
  unfold sSetRate
  split
  · exact Or.inl rfl
  · exact Or.inr rfl
theorem tC.v {s : sS} {R : sR} {v : Option Value} {T' : tS} (h : tC T s R v T') : v = some (.int (nI R.1)) := h.1
theorem tC.vv {s : sS} {R : sR} {v : Option Value} {T' : tS} (h : tC T s R v T') : tC T s R (some (.int (nI R.1))) T' := ⟨rfl, h.2⟩
theorem w_add (hD : tD a) {w : sW} (hW : tW T w) {d c x l : Int32} : zK G mX3_add 7 0 [.ref a.1, .int d, .int c, .int x, .int l] (tH h0 a T) (tO h0 a (sEnd w (sAdd w.1 d c x l) 0 1 2).1 (.int (sEnd w (sAdd w.1 d c x l) 0 1 2).2.1) (sEnd w (sAdd w.1 d c x l) 0 1 2).2.2) := by
  show zW G mX3_add 7 0 0 [.ref a.1, .int d, .int c, .int x, .int l] [] (tH h0 a T) _
  refine zW.aload_n (pc' := 1) dX3_add_0 rfl rfl zg0 rfl ?_
  refine zT.call (pc' := 4) dX3_add_1 rfl l_X3_63 rfl rfl (w_begun hD hW) zc0 rfl (Nat.le_of_ble_eq_true rfl) (Nat.le_of_ble_eq_true rfl) (Nat.le_of_ble_eq_true rfl) (fun _ T1 ⟨e1, hW1, h10⟩ => ?_)
  subst e1
  refine zW.aload_n (pc' := 5) dX3_add_4 rfl rfl zg0 rfl ?_
  refine zW.aload_n (pc' := 6) dX3_add_5 rfl rfl zg0 rfl ?_
  refine zW.iload_n (pc' := 7) dX3_add_6 rfl rfl (zgS (zg0)) ?_
  refine zW.iload_n (pc' := 8) dX3_add_7 rfl rfl (zgS (zgS (zg0))) ?_
  refine zW.iload_n (pc' := 9) dX3_add_8 rfl rfl (zgS (zgS (zgS (zg0)))) ?_
  refine zW.iload (pc' := 11) dX3_add_9 rfl (zgS (zgS (zgS (zgS (zg0))))) ?_
  refine zT.call (pc' := 14) dX3_add_11 rfl l_X3_66 rfl rfl (w_adds hD hW1.1) (zcc rfl (zcc rfl (zcc rfl (zcc rfl zc0)))) rfl (Nat.le_of_ble_eq_true rfl) (Nat.le_of_ble_eq_true rfl) (Nat.le_of_ble_eq_true rfl) (fun _ T2 hC => ?_)
  rw [hC.v]
  refine zW.iconst (pc' := 15) (nI 0) dX3_add_14 rfl (by decide) ?_
  refine zW.iconst (pc' := 16) (nI 1) dX3_add_15 rfl (by decide) ?_
  refine zW.iconst (pc' := 17) (nI 2) dX3_add_16 rfl (by decide) ?_
  refine zT.call (pc' := 20) dX3_add_17 rfl l_X3_70 rfl rfl (w_ended hD hW1 h10 hC.vv sAdd_c.1 (by decide) (by decide) (by decide) (sTh_012 sAdd_c.1 sAdd_c.2)) (zcc rfl (zcc rfl (zcc rfl (zcc rfl zc0)))) rfl (Nat.le_of_ble_eq_true rfl) (Nat.le_of_ble_eq_true rfl) (Nat.le_of_ble_eq_true rfl) (fun _ T3 ⟨e1, e2⟩ => ?_)
  subst e1
  refine zW.iret dX3_add_20 rfl (rfl) ?_
  exact ⟨_, _, rfl, ⟨rfl, e2⟩, rfl⟩
theorem w_sign (hD : tD a) {w : sW} (hW : tW T w) (hB : tB w.1) {id x : Int32} : zK G mX3_sign 7 0 [.ref a.1, .int id, .int x] (tH h0 a T) (tO h0 a (sEnd w (sSign w.1 id x) 1 2 3).1 (.int (sEnd w (sSign w.1 id x) 1 2 3).2.1) (sEnd w (sSign w.1 id x) 1 2 3).2.2) := by
  show zW G mX3_sign 7 0 0 [.ref a.1, .int id, .int x] [] (tH h0 a T) _
  refine zW.aload_n (pc' := 1) dX3_sign_0 rfl rfl zg0 rfl ?_
  refine zT.call (pc' := 4) dX3_sign_1 rfl l_X3_63 rfl rfl (w_begun hD hW) zc0 rfl (Nat.le_of_ble_eq_true rfl) (Nat.le_of_ble_eq_true rfl) (Nat.le_of_ble_eq_true rfl) (fun _ T1 ⟨e1, hW1, h10⟩ => ?_)
  subst e1
  refine zW.aload_n (pc' := 5) dX3_sign_4 rfl rfl zg0 rfl ?_
  refine zW.aload_n (pc' := 6) dX3_sign_5 rfl rfl zg0 rfl ?_
  refine zW.iload_n (pc' := 7) dX3_sign_6 rfl rfl (zgS (zg0)) ?_
  refine zW.iload_n (pc' := 8) dX3_sign_7 rfl rfl (zgS (zgS (zg0))) ?_
  refine zT.call (pc' := 11) dX3_sign_8 rfl l_X3_83 rfl rfl (w_signs hD hW1.1 hB) (zcc rfl (zcc rfl zc0)) rfl (Nat.le_of_ble_eq_true rfl) (Nat.le_of_ble_eq_true rfl) (Nat.le_of_ble_eq_true rfl) (fun _ T2 hC => ?_)
  rw [hC.v]
  refine zW.iconst (pc' := 12) (nI 1) dX3_sign_11 rfl (by decide) ?_
  refine zW.iconst (pc' := 13) (nI 2) dX3_sign_12 rfl (by decide) ?_
  refine zW.iconst (pc' := 14) (nI 3) dX3_sign_13 rfl (by decide) ?_
  refine zT.call (pc' := 17) dX3_sign_14 rfl l_X3_70 rfl rfl (w_ended hD hW1 h10 hC.vv sSign_c (by decide) (by decide) (by decide) (sTh_123 sSign_c)) (zcc rfl (zcc rfl (zcc rfl (zcc rfl zc0)))) rfl (Nat.le_of_ble_eq_true rfl) (Nat.le_of_ble_eq_true rfl) (Nat.le_of_ble_eq_true rfl) (fun _ T3 ⟨e1, e2⟩ => ?_)
  subst e1
  refine zW.iret dX3_sign_17 rfl (rfl) ?_
  exact ⟨_, _, rfl, ⟨rfl, e2⟩, rfl⟩
theorem w_countersign (hD : tD a) {w : sW} (hW : tW T w) (hB : tB w.1) {id x : Int32} : zK G mX3_countersign 7 0 [.ref a.1, .int id, .int x] (tH h0 a T) (tO h0 a (sEnd w (sCosign w.1 id x) 1 2 3).1 (.int (sEnd w (sCosign w.1 id x) 1 2 3).2.1) (sEnd w (sCosign w.1 id x) 1 2 3).2.2) := by
  show zW G mX3_countersign 7 0 0 [.ref a.1, .int id, .int x] [] (tH h0 a T) _
  refine zW.aload_n (pc' := 1) dX3_countersign_0 rfl rfl zg0 rfl ?_
  refine zT.call (pc' := 4) dX3_countersign_1 rfl l_X3_63 rfl rfl (w_begun hD hW) zc0 rfl (Nat.le_of_ble_eq_true rfl) (Nat.le_of_ble_eq_true rfl) (Nat.le_of_ble_eq_true rfl) (fun _ T1 ⟨e1, hW1, h10⟩ => ?_)
  subst e1
  refine zW.aload_n (pc' := 5) dX3_countersign_4 rfl rfl zg0 rfl ?_
  refine zW.aload_n (pc' := 6) dX3_countersign_5 rfl rfl zg0 rfl ?_
  refine zW.iload_n (pc' := 7) dX3_countersign_6 rfl rfl (zgS (zg0)) ?_
  refine zW.iload_n (pc' := 8) dX3_countersign_7 rfl rfl (zgS (zgS (zg0))) ?_
  refine zT.call (pc' := 11) dX3_countersign_8 rfl l_X3_89 rfl rfl (w_countersigns hD hW1.1 hB) (zcc rfl (zcc rfl zc0)) rfl (Nat.le_of_ble_eq_true rfl) (Nat.le_of_ble_eq_true rfl) (Nat.le_of_ble_eq_true rfl) (fun _ T2 hC => ?_)
  rw [hC.v]
  refine zW.iconst (pc' := 12) (nI 1) dX3_countersign_11 rfl (by decide) ?_
  refine zW.iconst (pc' := 13) (nI 2) dX3_countersign_12 rfl (by decide) ?_
  refine zW.iconst (pc' := 14) (nI 3) dX3_countersign_13 rfl (by decide) ?_
  refine zT.call (pc' := 17) dX3_countersign_14 rfl l_X3_70 rfl rfl (w_ended hD hW1 h10 hC.vv sCosign_c (by decide) (by decide) (by decide) (sTh_123 sCosign_c)) (zcc rfl (zcc rfl (zcc rfl (zcc rfl zc0)))) rfl (Nat.le_of_ble_eq_true rfl) (Nat.le_of_ble_eq_true rfl) (Nat.le_of_ble_eq_true rfl) (fun _ T3 ⟨e1, e2⟩ => ?_)
  subst e1
  refine zW.iret dX3_countersign_17 rfl (rfl) ?_
  exact ⟨_, _, rfl, ⟨rfl, e2⟩, rfl⟩
theorem w_settle (hD : tD a) {w : sW} (hW : tW T w) (hB : tB w.1) (hQ : ∀ i, i < w.1.2.1.length → sAt w.1.2.1 i 0 ∈ w.1.2.2.1) {id : Int32} : zK G mX3_settle 7 0 [.ref a.1, .int id] (tH h0 a T) (tO h0 a (sEnd w (sSettle w.1 id) 1 0 2).1 (.int (sEnd w (sSettle w.1 id) 1 0 2).2.1) (sEnd w (sSettle w.1 id) 1 0 2).2.2) := by
  have hc := sSettle_c (s := w.1) (id := id)
  show zW G mX3_settle 7 0 0 [.ref a.1, .int id] [] (tH h0 a T) _
  refine zW.aload_n (pc' := 1) dX3_settle_0 rfl rfl zg0 rfl ?_
  refine zT.call (pc' := 4) dX3_settle_1 rfl l_X3_63 rfl rfl (w_begun hD hW) zc0 rfl (Nat.le_of_ble_eq_true rfl) (Nat.le_of_ble_eq_true rfl) (Nat.le_of_ble_eq_true rfl) (fun _ T1 ⟨e1, hW1, h10⟩ => ?_)
  subst e1
  refine zW.aload_n (pc' := 5) dX3_settle_4 rfl rfl zg0 rfl ?_
  refine zW.aload_n (pc' := 6) dX3_settle_5 rfl rfl zg0 rfl ?_
  refine zW.iload_n (pc' := 7) dX3_settle_6 rfl rfl (zgS (zg0)) ?_
  refine zT.call (pc' := 10) dX3_settle_7 rfl l_X3_96 rfl rfl (w_settles hD hW1.1 hB hQ) (zcc rfl zc0) rfl (Nat.le_of_ble_eq_true rfl) (Nat.le_of_ble_eq_true rfl) (Nat.le_of_ble_eq_true rfl) (fun _ T2 hC => ?_)
  rw [hC.v]
  refine zW.iconst (pc' := 11) (nI 1) dX3_settle_10 rfl (by decide) ?_
  refine zW.iconst (pc' := 12) (nI 0) dX3_settle_11 rfl (by decide) ?_
  refine zW.iconst (pc' := 13) (nI 2) dX3_settle_12 rfl (by decide) ?_
  refine zT.call (pc' := 16) dX3_settle_13 rfl l_X3_70 rfl rfl (w_ended hD hW1 h10 hC.vv (by omega) (by decide) (by decide) (by decide) (by rcases hc with q | q | q <;> rw [q] <;> decide)) (zcc rfl (zcc rfl (zcc rfl (zcc rfl zc0)))) rfl (Nat.le_of_ble_eq_true rfl) (Nat.le_of_ble_eq_true rfl) (Nat.le_of_ble_eq_true rfl) (fun _ T3 ⟨e1, e2⟩ => ?_)
  subst e1
  refine zW.iret dX3_settle_16 rfl (rfl) ?_
  exact ⟨_, _, rfl, ⟨rfl, e2⟩, rfl⟩
theorem w_advance (hD : tD a) {w : sW} (hW : tW T w) (hI : sI tt nn 0 w.1) (hE : sE w.1) (hT : tt + 50 < 100000) (hN : nn ≤ 10000) {t : Int32} : zK G mX3_advance 7 0 [.ref a.1, .int t] (tH h0 a T) (tO h0 a (sEnd w (sAdvance w.1 t) 0 1 0).1 (.int (sEnd w (sAdvance w.1 t) 0 1 0).2.1) (sEnd w (sAdvance w.1 t) 0 1 0).2.2) := by
  have hc := sAdvance_c (s := w.1) (t := t)
  show zW G mX3_advance 7 0 0 [.ref a.1, .int t] [] (tH h0 a T) _
  refine zW.aload_n (pc' := 1) dX3_advance_0 rfl rfl zg0 rfl ?_
  refine zT.call (pc' := 4) dX3_advance_1 rfl l_X3_63 rfl rfl (w_begun hD hW) zc0 rfl (Nat.le_of_ble_eq_true rfl) (Nat.le_of_ble_eq_true rfl) (Nat.le_of_ble_eq_true rfl) (fun _ T1 ⟨e1, hW1, h10⟩ => ?_)
  subst e1
  refine zW.aload_n (pc' := 5) dX3_advance_4 rfl rfl zg0 rfl ?_
  refine zW.aload_n (pc' := 6) dX3_advance_5 rfl rfl zg0 rfl ?_
  refine zW.iload_n (pc' := 7) dX3_advance_6 rfl rfl (zgS (zg0)) ?_
  refine zT.call (pc' := 10) dX3_advance_7 rfl l_X3_112 rfl rfl (w_passes hD hW1.1 hI hE hT hN) (zcc rfl zc0) rfl (Nat.le_of_ble_eq_true rfl) (Nat.le_of_ble_eq_true rfl) (Nat.le_of_ble_eq_true rfl) (fun _ T2 hC => ?_)
  rw [hC.v]
  refine zW.iconst (pc' := 11) (nI 0) dX3_advance_10 rfl (by decide) ?_
  refine zW.iconst (pc' := 12) (nI 1) dX3_advance_11 rfl (by decide) ?_
  refine zW.iconst (pc' := 13) (nI 0) dX3_advance_12 rfl (by decide) ?_
  refine zT.call (pc' := 16) dX3_advance_13 rfl l_X3_70 rfl rfl (w_ended hD hW1 h10 hC.vv (by omega) (by decide) (by decide) (by decide) (by rcases hc with q | q <;> rw [q] <;> decide)) (zcc rfl (zcc rfl (zcc rfl (zcc rfl zc0)))) rfl (Nat.le_of_ble_eq_true rfl) (Nat.le_of_ble_eq_true rfl) (Nat.le_of_ble_eq_true rfl) (fun _ T3 ⟨e1, e2⟩ => ?_)
  subst e1
  refine zW.iret dX3_advance_16 rfl (rfl) ?_
  exact ⟨_, _, rfl, ⟨rfl, e2⟩, rfl⟩
theorem w_tick (hD : tD a) {w : sW} (hW : tW T w) (hI : sI tt nn 0 w.1) (hE : sE w.1) (hT : tt + 50 < 100000) (hN : nn ≤ 10000) : zK G mX3_tick 7 0 [.ref a.1] (tH h0 a T) (tO h0 a (sEnd w (sAdvance w.1 (nI 1)) 0 0 0).1 (.int (sEnd w (sAdvance w.1 (nI 1)) 0 0 0).2.1) (sEnd w (sAdvance w.1 (nI 1)) 0 0 0).2.2) := by
  have hc : (sAdvance w.1 (nI 1)).1 = 0 := by
    unfold sAdvance
    rw [if_pos (by decide)]
  show zW G mX3_tick 7 0 0 [.ref a.1] [] (tH h0 a T) _
  refine zW.aload_n (pc' := 1) dX3_tick_0 rfl rfl zg0 rfl ?_
  refine zT.call (pc' := 4) dX3_tick_1 rfl l_X3_63 rfl rfl (w_begun hD hW) zc0 rfl (Nat.le_of_ble_eq_true rfl) (Nat.le_of_ble_eq_true rfl) (Nat.le_of_ble_eq_true rfl) (fun _ T1 ⟨e1, hW1, h10⟩ => ?_)
  subst e1
  refine zW.aload_n (pc' := 5) dX3_tick_4 rfl rfl zg0 rfl ?_
  refine zW.aload_n (pc' := 6) dX3_tick_5 rfl rfl zg0 rfl ?_
  refine zW.iconst (pc' := 7) (nI 1) dX3_tick_6 rfl (by decide) ?_
  refine zT.call (pc' := 10) dX3_tick_7 rfl l_X3_112 rfl rfl (w_passes hD hW1.1 hI hE hT hN) (zcc rfl zc0) rfl (Nat.le_of_ble_eq_true rfl) (Nat.le_of_ble_eq_true rfl) (Nat.le_of_ble_eq_true rfl) (fun _ T2 hC => ?_)
  rw [hC.v]
  refine zW.iconst (pc' := 11) (nI 0) dX3_tick_10 rfl (by decide) ?_
  refine zW.iconst (pc' := 12) (nI 0) dX3_tick_11 rfl (by decide) ?_
  refine zW.iconst (pc' := 13) (nI 0) dX3_tick_12 rfl (by decide) ?_
  refine zT.call (pc' := 16) dX3_tick_13 rfl l_X3_70 rfl rfl (w_ended hD hW1 h10 hC.vv (by omega) (by decide) (by decide) (by decide) (fun q => absurd hc q)) (zcc rfl (zcc rfl (zcc rfl (zcc rfl zc0)))) rfl (Nat.le_of_ble_eq_true rfl) (Nat.le_of_ble_eq_true rfl) (Nat.le_of_ble_eq_true rfl) (fun _ T3 ⟨e1, e2⟩ => ?_)
  subst e1
  refine zW.iret dX3_tick_16 rfl (rfl) ?_
  exact ⟨_, _, rfl, ⟨rfl, e2⟩, rfl⟩
theorem w_audit (hD : tD a) {w : sW} (hW : tW T w) (hI : sI tt nn 0 w.1) (hE : sE w.1) (hT : tt + 50 < 100000) (hN : nn ≤ 10000) {t : Int32} : zK G mX3_audit 7 0 [.ref a.1, .int t] (tH h0 a T) (tO h0 a (sEnd w (sAudit w.1 t) 0 1 0).1 (.int (sEnd w (sAudit w.1 t) 0 1 0).2.1) (sEnd w (sAudit w.1 t) 0 1 0).2.2) := by
  have hc := sAudit_c (s := w.1) (t := t)
  show zW G mX3_audit 7 0 0 [.ref a.1, .int t] [] (tH h0 a T) _
  refine zW.aload_n (pc' := 1) dX3_audit_0 rfl rfl zg0 rfl ?_
  refine zT.call (pc' := 4) dX3_audit_1 rfl l_X3_63 rfl rfl (w_begun hD hW) zc0 rfl (Nat.le_of_ble_eq_true rfl) (Nat.le_of_ble_eq_true rfl) (Nat.le_of_ble_eq_true rfl) (fun _ T1 ⟨e1, hW1, h10⟩ => ?_)
  subst e1
  refine zW.aload_n (pc' := 5) dX3_audit_4 rfl rfl zg0 rfl ?_
  refine zW.aload_n (pc' := 6) dX3_audit_5 rfl rfl zg0 rfl ?_
  refine zW.iload_n (pc' := 7) dX3_audit_6 rfl rfl (zgS (zg0)) ?_
  refine zT.call (pc' := 10) dX3_audit_7 rfl l_X3_118 rfl rfl (w_audits hD hW1.1 hI hE (by omega) hN) (zcc rfl zc0) rfl (Nat.le_of_ble_eq_true rfl) (Nat.le_of_ble_eq_true rfl) (Nat.le_of_ble_eq_true rfl) (fun _ T2 hC => ?_)
  rw [hC.v]
  refine zW.iconst (pc' := 11) (nI 0) dX3_audit_10 rfl (by decide) ?_
  refine zW.iconst (pc' := 12) (nI 1) dX3_audit_11 rfl (by decide) ?_
  refine zW.iconst (pc' := 13) (nI 0) dX3_audit_12 rfl (by decide) ?_
  refine zT.call (pc' := 16) dX3_audit_13 rfl l_X3_70 rfl rfl (w_ended hD hW1 h10 hC.vv (by omega) (by decide) (by decide) (by decide) (by rcases hc with q | q <;> rw [q] <;> decide)) (zcc rfl (zcc rfl (zcc rfl (zcc rfl zc0)))) rfl (Nat.le_of_ble_eq_true rfl) (Nat.le_of_ble_eq_true rfl) (Nat.le_of_ble_eq_true rfl) (fun _ T3 ⟨e1, e2⟩ => ?_)
  subst e1
  refine zW.iret dX3_audit_16 rfl (rfl) ?_
  exact ⟨_, _, rfl, ⟨rfl, e2⟩, rfl⟩
theorem w_setRate (hD : tD a) {w : sW} (hW : tW T w) {p v : Int32} : zK G mX3_setRate 7 0 [.ref a.1, .int p, .int v] (tH h0 a T) (tO h0 a (sEnd w (sSetRate w.1 p v) 0 1 0).1 (.int (sEnd w (sSetRate w.1 p v) 0 1 0).2.1) (sEnd w (sSetRate w.1 p v) 0 1 0).2.2) := by
  have hc := sSetRate_c (s := w.1) (p := p) (v := v)
  show zW G mX3_setRate 7 0 0 [.ref a.1, .int p, .int v] [] (tH h0 a T) _
  refine zW.aload_n (pc' := 1) dX3_setRate_0 rfl rfl zg0 rfl ?_
  refine zT.call (pc' := 4) dX3_setRate_1 rfl l_X3_63 rfl rfl (w_begun hD hW) zc0 rfl (Nat.le_of_ble_eq_true rfl) (Nat.le_of_ble_eq_true rfl) (Nat.le_of_ble_eq_true rfl) (fun _ T1 ⟨e1, hW1, h10⟩ => ?_)
  subst e1
  refine zW.aload_n (pc' := 5) dX3_setRate_4 rfl rfl zg0 rfl ?_
  refine zW.aload_n (pc' := 6) dX3_setRate_5 rfl rfl zg0 rfl ?_
  refine zW.iload_n (pc' := 7) dX3_setRate_6 rfl rfl (zgS (zg0)) ?_
  refine zW.iload_n (pc' := 8) dX3_setRate_7 rfl rfl (zgS (zgS (zg0))) ?_
  refine zT.call (pc' := 11) dX3_setRate_8 rfl l_X3_121 rfl rfl (w_setsRate hD hW1.1) (zcc rfl (zcc rfl zc0)) rfl (Nat.le_of_ble_eq_true rfl) (Nat.le_of_ble_eq_true rfl) (Nat.le_of_ble_eq_true rfl) (fun _ T2 hC => ?_)
  rw [hC.v]
  refine zW.iconst (pc' := 12) (nI 0) dX3_setRate_11 rfl (by decide) ?_
  refine zW.iconst (pc' := 13) (nI 1) dX3_setRate_12 rfl (by decide) ?_
  refine zW.iconst (pc' := 14) (nI 0) dX3_setRate_13 rfl (by decide) ?_
  refine zT.call (pc' := 17) dX3_setRate_14 rfl l_X3_70 rfl rfl (w_ended hD hW1 h10 hC.vv (by omega) (by decide) (by decide) (by decide) (by rcases hc with q | q <;> rw [q] <;> decide)) (zcc rfl (zcc rfl (zcc rfl (zcc rfl zc0)))) rfl (Nat.le_of_ble_eq_true rfl) (Nat.le_of_ble_eq_true rfl) (Nat.le_of_ble_eq_true rfl) (fun _ T3 ⟨e1, e2⟩ => ?_)
  subst e1
  refine zW.iret dX3_setRate_17 rfl (rfl) ?_
  exact ⟨_, _, rfl, ⟨rfl, e2⟩, rfl⟩
end
