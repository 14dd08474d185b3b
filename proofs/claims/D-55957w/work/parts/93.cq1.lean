/-! THE CLASS's questions on one claim, on the clock -/
section
set_option maxRecDepth 100000
variable {G : zG} {h : zH} {O : Nat → Prop} {x st ll aq re rt ea ha er hr tt nn i : Nat} {mc : Int32} {xs : List (Nat × Nat)} {qs rs : List Nat} {s : sS} {fs : List Value} {id : Int32} {p : Nat × Nat}
/-- a question's end: the answer, or the exception of its number -/
def cAns (Es : List String) (h : zH) (q : Nat × Int32) : zR → zH → Prop := fun o h' => h' = h ∧ ((q.1 = 0 ∧ o = .inl (some (.int q.2))) ∨ (q.1 ≠ 0 ∧ ∃ E, Es[q.1 - 1]? = some E ∧ o = .inr E))
theorem cAns.ok {Es : List String} {q : Nat × Int32} {v : Int32} (e : q = (0, v)) : cAns Es h q (.inl (some (.int v))) h := by subst e; exact ⟨rfl, Or.inl ⟨rfl, rfl⟩⟩
theorem cAns.no {Es : List String} {q : Nat × Int32} {k : Nat} {v : Int32} {E : String} (e : q = (k + 1, v)) (hE : Es[k]? = some E) : cAns Es h q (.inr E) h := by subst e; exact ⟨rfl, Or.inr ⟨Nat.succ_ne_zero _, E, hE, rfl⟩⟩
/-- an exception, the heap as it was -/
abbrev zTr (h : zH) (E : String) : zR → zH → Prop := fun o h' => o = .inr E ∧ h' = h
abbrev eArg : String := "java/lang/IllegalArgumentException"
abbrev eSta : String := "java/lang/IllegalStateException"
abbrev eElt : String := "java/util/NoSuchElementException"
abbrev eIdx : String := "java/lang/IndexOutOfBoundsException"
theorem w_chkArgument1 : zK G mX1_checkArgument 1 0 [.int (nI 1)] h (zPu h none) := by
  show zW G mX1_checkArgument 1 0 0 [.int (nI 1)] [] h _
  refine zW.iload_n (pc' := 1) dX1_checkArgument_0 rfl rfl zg0 ?_
  refine zW.if_neN (pc' := 4) 12 dX1_checkArgument_1 rfl (by decide) (by omega) (fun b9 => ?_) (fun b9 => absurd b9 (by omega))
  refine zW.vret dX1_checkArgument_12 rfl ?_
  exact ⟨rfl, rfl⟩
theorem w_chkArgument0 : zK G mX1_checkArgument 12 2 [.int (nI 0)] h (zTr h eArg) := by
  show zW G mX1_checkArgument 12 2 0 [.int (nI 0)] [] h _
  refine zW.iload_n (pc' := 1) dX1_checkArgument_0 rfl rfl zg0 ?_
  refine zW.if_neN (pc' := 4) 12 dX1_checkArgument_1 rfl (by decide) (by omega) (fun b9 => absurd b9 (by omega)) (fun b9 => ?_)
  refine zW.throw0 zT_arg dX1_checkArgument_4 dX1_checkArgument_7 dX1_checkArgument_8 dX1_checkArgument_11 (fun _ q => by cases q) (Nat.le_of_ble_eq_true rfl) (Nat.le_of_ble_eq_true rfl) (Nat.le_of_ble_eq_true rfl) ?_
  exact ⟨rfl, rfl⟩
theorem w_chkState1 : zK G mX1_checkState 1 0 [.int (nI 1)] h (zPu h none) := by
  show zW G mX1_checkState 1 0 0 [.int (nI 1)] [] h _
  refine zW.iload_n (pc' := 1) dX1_checkState_0 rfl rfl zg0 ?_
  refine zW.if_neN (pc' := 4) 12 dX1_checkState_1 rfl (by decide) (by omega) (fun b9 => ?_) (fun b9 => absurd b9 (by omega))
  refine zW.vret dX1_checkState_12 rfl ?_
  exact ⟨rfl, rfl⟩
theorem w_chkState0 : zK G mX1_checkState 12 2 [.int (nI 0)] h (zTr h eSta) := by
  show zW G mX1_checkState 12 2 0 [.int (nI 0)] [] h _
  refine zW.iload_n (pc' := 1) dX1_checkState_0 rfl rfl zg0 ?_
  refine zW.if_neN (pc' := 4) 12 dX1_checkState_1 rfl (by decide) (by omega) (fun b9 => absurd b9 (by omega)) (fun b9 => ?_)
  refine zW.throw0 zT_sta dX1_checkState_4 dX1_checkState_7 dX1_checkState_8 dX1_checkState_11 (fun _ q => by cases q) (Nat.le_of_ble_eq_true rfl) (Nat.le_of_ble_eq_true rfl) (Nat.le_of_ble_eq_true rfl) ?_
  exact ⟨rfl, rfl⟩
theorem w_chkElement1 : zK G mX1_checkElement 1 0 [.int (nI 1)] h (zPu h none) := by
  show zW G mX1_checkElement 1 0 0 [.int (nI 1)] [] h _
  refine zW.iload_n (pc' := 1) dX1_checkElement_0 rfl rfl zg0 ?_
  refine zW.if_neN (pc' := 4) 12 dX1_checkElement_1 rfl (by decide) (by omega) (fun b9 => ?_) (fun b9 => absurd b9 (by omega))
  refine zW.vret dX1_checkElement_12 rfl ?_
  exact ⟨rfl, rfl⟩
theorem w_chkElement0 : zK G mX1_checkElement 12 2 [.int (nI 0)] h (zTr h eElt) := by
  show zW G mX1_checkElement 12 2 0 [.int (nI 0)] [] h _
  refine zW.iload_n (pc' := 1) dX1_checkElement_0 rfl rfl zg0 ?_
  refine zW.if_neN (pc' := 4) 12 dX1_checkElement_1 rfl (by decide) (by omega) (fun b9 => absurd b9 (by omega)) (fun b9 => ?_)
  refine zW.throw0 zT_elt dX1_checkElement_4 dX1_checkElement_7 dX1_checkElement_8 dX1_checkElement_11 (fun _ q => by cases q) (Nat.le_of_ble_eq_true rfl) (Nat.le_of_ble_eq_true rfl) (Nat.le_of_ble_eq_true rfl) ?_
  exact ⟨rfl, rfl⟩
theorem w_chkIndex1 : zK G mX1_checkIndex 1 0 [.int (nI 1)] h (zPu h none) := by
  show zW G mX1_checkIndex 1 0 0 [.int (nI 1)] [] h _
  refine zW.iload_n (pc' := 1) dX1_checkIndex_0 rfl rfl zg0 ?_
  refine zW.if_neN (pc' := 4) 12 dX1_checkIndex_1 rfl (by decide) (by omega) (fun b9 => ?_) (fun b9 => absurd b9 (by omega))
  refine zW.vret dX1_checkIndex_12 rfl ?_
  exact ⟨rfl, rfl⟩
theorem w_chkIndex0 : zK G mX1_checkIndex 12 2 [.int (nI 0)] h (zTr h eIdx) := by
  show zW G mX1_checkIndex 12 2 0 [.int (nI 0)] [] h _
  refine zW.iload_n (pc' := 1) dX1_checkIndex_0 rfl rfl zg0 ?_
  refine zW.if_neN (pc' := 4) 12 dX1_checkIndex_1 rfl (by decide) (by omega) (fun b9 => absurd b9 (by omega)) (fun b9 => ?_)
  refine zW.throw0 zT_idx dX1_checkIndex_4 dX1_checkIndex_7 dX1_checkIndex_8 dX1_checkIndex_11 (fun _ q => by cases q) (Nat.le_of_ble_eq_true rfl) (Nat.le_of_ble_eq_true rfl) (Nat.le_of_ble_eq_true rfl) ?_
  exact ⟨rfl, rfl⟩
theorem w_btw {v lo hi : Int32} : zK G mX1_isBetween 1 0 [.int v, .int lo, .int hi] h (zPu h (some (.int (nI (if sIn v lo hi = true then 1 else 0))))) := by
  unfold sIn
  simp only [decide_eq_true_eq]
  show zW G mX1_isBetween 1 0 0 [.int v, .int lo, .int hi] [] h _
  refine zW.iload_n (pc' := 1) dX1_isBetween_0 rfl rfl zg0 ?_
  refine zW.iload_n (pc' := 2) dX1_isBetween_1 rfl rfl (zgS (zg0)) ?_
  refine zW.icmp_lt (pc' := 5) 14 dX1_isBetween_2 rfl (by decide) (fun b1 => ?_) (fun b1 => ?_)
  · refine zW.iconst (pc' := 15) (nI 0) dX1_isBetween_14 rfl (by decide) ?_
    refine zW.iret dX1_isBetween_15 rfl (rfl) ?_
    rw [if_neg (fun q => Int32.not_le.mpr b1 q.1)]
    exact ⟨rfl, rfl⟩
  · refine zW.iload_n (pc' := 6) dX1_isBetween_5 rfl rfl zg0 ?_
    refine zW.iload_n (pc' := 7) dX1_isBetween_6 rfl rfl (zgS (zgS (zg0))) ?_
    refine zW.icmp_gt (pc' := 10) 14 dX1_isBetween_7 rfl (by decide) (fun b2 => ?_) (fun b2 => ?_)
    · refine zW.iconst (pc' := 15) (nI 0) dX1_isBetween_14 rfl (by decide) ?_
      refine zW.iret dX1_isBetween_15 rfl (rfl) ?_
      rw [if_neg (fun q => Int32.not_le.mpr b2 q.2)]
      exact ⟨rfl, rfl⟩
    · refine zW.iconst (pc' := 11) (nI 1) dX1_isBetween_10 rfl (by decide) ?_
      refine zW.goto 15 dX1_isBetween_11 (by decide) ?_
      refine zW.iret dX1_isBetween_15 rfl (rfl) ?_
      rw [if_pos ⟨Int32.not_lt.mp b1, Int32.not_lt.mp b2⟩]
      exact ⟨rfl, rfl⟩
theorem w_xisPerson {v : Int32} : zK G mX1_isPerson 2 0 [.int v] h (zPu h (some (.int (nI (if sIn v (nI 0) (nI 7) = true then 1 else 0))))) := by
  show zW G mX1_isPerson 2 0 0 [.int v] [] h _
  refine zW.iload_n (pc' := 1) dX1_isPerson_0 rfl rfl zg0 ?_
  refine zW.iconst (pc' := 2) (nI 0) dX1_isPerson_1 rfl (by decide) ?_
  refine zW.bipush (pc' := 4) (nI 7) dX1_isPerson_2 rfl (by decide) ?_
  refine zW.callS (r' := 0) (pc' := 7) dX1_isPerson_4 rfl l_X1_52 rfl (w_btw) (zcc rfl (zcc rfl (zcc rfl zc0))) rfl (Nat.le_of_ble_eq_true rfl) (Nat.le_of_ble_eq_true rfl) (Nat.le_of_ble_eq_true rfl) (fun _ _ q9 => ?_) (fun _ _ q9 => by cases q9.1)
  obtain ⟨q8, e9⟩ := q9
  cases q8
  replace e9 := e9.symm
  subst e9
  refine zW.iret dX1_isPerson_7 rfl (by split <;> rfl) ?_
  exact ⟨rfl, rfl⟩
theorem w_xisPerson1 {v : Int32} (q : sIn v (nI 0) (nI 7) = true) : zK G mX1_isPerson 2 0 [.int v] h (zPu h (some (.int (nI 1)))) := by
  have k := w_xisPerson (G := G) (h := h) (v := v)
  rwa [if_pos q] at k
theorem w_xisPerson0 {v : Int32} (q : ¬ sIn v (nI 0) (nI 7) = true) : zK G mX1_isPerson 2 0 [.int v] h (zPu h (some (.int (nI 0)))) := by
  have k := w_xisPerson (G := G) (h := h) (v := v)
  rwa [if_neg q] at k
theorem w_xisWave {v : Int32} : zK G mX1_isWave 2 0 [.int v] h (zPu h (some (.int (nI (if sIn v (nI 0) (nI 3) = true then 1 else 0))))) := by
  show zW G mX1_isWave 2 0 0 [.int v] [] h _
  refine zW.iload_n (pc' := 1) dX1_isWave_0 rfl rfl zg0 ?_
  refine zW.iconst (pc' := 2) (nI 0) dX1_isWave_1 rfl (by decide) ?_
  refine zW.iconst (pc' := 3) (nI 3) dX1_isWave_2 rfl (by decide) ?_
  refine zW.callS (r' := 0) (pc' := 6) dX1_isWave_3 rfl l_X1_52 rfl (w_btw) (zcc rfl (zcc rfl (zcc rfl zc0))) rfl (Nat.le_of_ble_eq_true rfl) (Nat.le_of_ble_eq_true rfl) (Nat.le_of_ble_eq_true rfl) (fun _ _ q9 => ?_) (fun _ _ q9 => by cases q9.1)
  obtain ⟨q8, e9⟩ := q9
  cases q8
  replace e9 := e9.symm
  subst e9
  refine zW.iret dX1_isWave_6 rfl (by split <;> rfl) ?_
  exact ⟨rfl, rfl⟩
theorem w_xisWave1 {v : Int32} (q : sIn v (nI 0) (nI 3) = true) : zK G mX1_isWave 2 0 [.int v] h (zPu h (some (.int (nI 1)))) := by
  have k := w_xisWave (G := G) (h := h) (v := v)
  rwa [if_pos q] at k
theorem w_xisWave0 {v : Int32} (q : ¬ sIn v (nI 0) (nI 3) = true) : zK G mX1_isWave 2 0 [.int v] h (zPu h (some (.int (nI 0)))) := by
  have k := w_xisWave (G := G) (h := h) (v := v)
  rwa [if_neg q] at k
theorem w_xisRock {v : Int32} : zK G mX1_isRock 2 0 [.int v] h (zPu h (some (.int (nI (if sIn v (nI 0) (nI 3) = true then 1 else 0))))) := by
  show zW G mX1_isRock 2 0 0 [.int v] [] h _
  refine zW.iload_n (pc' := 1) dX1_isRock_0 rfl rfl zg0 ?_
  refine zW.iconst (pc' := 2) (nI 0) dX1_isRock_1 rfl (by decide) ?_
  refine zW.iconst (pc' := 3) (nI 3) dX1_isRock_2 rfl (by decide) ?_
  refine zW.callS (r' := 0) (pc' := 6) dX1_isRock_3 rfl l_X1_52 rfl (w_btw) (zcc rfl (zcc rfl (zcc rfl zc0))) rfl (Nat.le_of_ble_eq_true rfl) (Nat.le_of_ble_eq_true rfl) (Nat.le_of_ble_eq_true rfl) (fun _ _ q9 => ?_) (fun _ _ q9 => by cases q9.1)
  obtain ⟨q8, e9⟩ := q9
  cases q8
  replace e9 := e9.symm
  subst e9
  refine zW.iret dX1_isRock_6 rfl (by split <;> rfl) ?_
  exact ⟨rfl, rfl⟩
theorem w_xisRock1 {v : Int32} (q : sIn v (nI 0) (nI 3) = true) : zK G mX1_isRock 2 0 [.int v] h (zPu h (some (.int (nI 1)))) := by
  have k := w_xisRock (G := G) (h := h) (v := v)
  rwa [if_pos q] at k
theorem w_xisRock0 {v : Int32} (q : ¬ sIn v (nI 0) (nI 3) = true) : zK G mX1_isRock 2 0 [.int v] h (zPu h (some (.int (nI 0)))) := by
  have k := w_xisRock (G := G) (h := h) (v := v)
  rwa [if_neg q] at k
theorem w_xisPhase {v : Int32} : zK G mX1_isPhase 2 0 [.int v] h (zPu h (some (.int (nI (if sIn v (nI 0) (nI 3) = true then 1 else 0))))) := by
  show zW G mX1_isPhase 2 0 0 [.int v] [] h _
  refine zW.iload_n (pc' := 1) dX1_isPhase_0 rfl rfl zg0 ?_
  refine zW.iconst (pc' := 2) (nI 0) dX1_isPhase_1 rfl (by decide) ?_
  refine zW.iconst (pc' := 3) (nI 3) dX1_isPhase_2 rfl (by decide) ?_
  refine zW.callS (r' := 0) (pc' := 6) dX1_isPhase_3 rfl l_X1_52 rfl (w_btw) (zcc rfl (zcc rfl (zcc rfl zc0))) rfl (Nat.le_of_ble_eq_true rfl) (Nat.le_of_ble_eq_true rfl) (Nat.le_of_ble_eq_true rfl) (fun _ _ q9 => ?_) (fun _ _ q9 => by cases q9.1)
  obtain ⟨q8, e9⟩ := q9
  cases q8
  replace e9 := e9.symm
  subst e9
  refine zW.iret dX1_isPhase_6 rfl (by split <;> rfl) ?_
  exact ⟨rfl, rfl⟩
theorem w_xisPhase1 {v : Int32} (q : sIn v (nI 0) (nI 3) = true) : zK G mX1_isPhase 2 0 [.int v] h (zPu h (some (.int (nI 1)))) := by
  have k := w_xisPhase (G := G) (h := h) (v := v)
  rwa [if_pos q] at k
theorem w_xisPhase0 {v : Int32} (q : ¬ sIn v (nI 0) (nI 3) = true) : zK G mX1_isPhase 2 0 [.int v] h (zPu h (some (.int (nI 0)))) := by
  have k := w_xisPhase (G := G) (h := h) (v := v)
  rwa [if_neg q] at k
theorem w_claim1 (hx : h x = some (0, .ref st :: fs)) (hP : cP h O st ll aq re rt ea ha er hr mc xs qs rs s) (hB : cB s) (hf : sFind s.2.1 id = some i) (hp : xs[i]? = some p) : zK G mX1_claim 14 2 [.ref x, .int id] h (zPu h (some (.ref p.2))) := by
  have hst := hP.1
  have e : (sFind s.2.1 id).bind (cAd xs) = some p.2 := by rw [hf]; show cAd xs i = _; unfold cAd; rw [hp]; rfl
  have k := w_sFind (G := G) hP hB.1 (fun j hj => (hB.2.1 j hj).1) (id := id)
  rw [e] at k
  show zW G mX1_claim 14 2 0 [.ref x, .int id, zho] [] h _
  refine zW.aload_n (pc' := 1) dX1_claim_0 rfl rfl zg0 rfl ?_
  refine zW.get (pc' := 4) dX1_claim_1 rfl f_X1_10_0 hx ⟨rfl, (Nat.le_of_ble_eq_true rfl)⟩ rfl ?_
  refine zW.iload_n (pc' := 5) dX1_claim_4 rfl rfl (zgS (zg0)) ?_
  refine zW.callV (r' := 2) (pc' := 8) dX1_claim_5 rfl l_X1_76 rfl hst ⟨rfl, (Nat.le_of_ble_eq_true rfl)⟩ rfl (k) (zcc rfl zc0) rfl (Nat.le_of_ble_eq_true rfl) (Nat.le_of_ble_eq_true rfl) (Nat.le_of_ble_eq_true rfl) (fun _ _ q9 => ?_) (fun _ _ q9 => by cases q9.1)
  obtain ⟨q8, e9⟩ := q9
  cases q8
  replace e9 := e9.symm
  subst e9
  refine zW.astore_n (pc' := 9) dX1_claim_8 rfl rfl (Nat.le_of_ble_eq_true rfl) rfl (zsS (zsS (zs0))) ?_
  refine zW.aload_n (pc' := 10) dX1_claim_9 rfl rfl (zgS (zgS (zg0))) rfl ?_
  refine zW.ifnull (pc' := 13) 17 dX1_claim_10 rfl (by decide) rfl (fun b1 => ?_) (fun b1 => ?_)
  · cases b1
  refine zW.iconst (pc' := 14) (nI 1) dX1_claim_13 rfl (by decide) ?_
  refine zW.goto 18 dX1_claim_14 (by decide) ?_
  refine zW.callS (r' := 0) (pc' := 21) dX1_claim_18 rfl l_X1_80 rfl (w_chkElement1) (zcc rfl zc0) rfl (Nat.le_of_ble_eq_true rfl) (Nat.le_of_ble_eq_true rfl) (Nat.le_of_ble_eq_true rfl) (fun _ _ q9 => ?_) (fun _ _ q9 => by cases q9.1)
  obtain ⟨q8, e9⟩ := q9
  cases q8
  replace e9 := e9.symm
  subst e9
  refine zW.aload_n (pc' := 22) dX1_claim_21 rfl rfl (zgS (zgS (zg0))) rfl ?_
  refine zW.aret dX1_claim_22 rfl (Or.inl ⟨_, rfl⟩) rfl ?_
  exact ⟨rfl, rfl⟩
theorem w_claim0 (hx : h x = some (0, .ref st :: fs)) (hP : cP h O st ll aq re rt ea ha er hr mc xs qs rs s) (hB : cB s) (hf : sFind s.2.1 id = none) : zK G mX1_claim 14 4 [.ref x, .int id] h (zTr h eElt) := by
  have hst := hP.1
  have e : (sFind s.2.1 id).bind (cAd xs) = none := by rw [hf]; rfl
  have k := w_sFind (G := G) hP hB.1 (fun j hj => (hB.2.1 j hj).1) (id := id)
  rw [e] at k
  show zW G mX1_claim 14 4 0 [.ref x, .int id, zho] [] h _
  refine zW.aload_n (pc' := 1) dX1_claim_0 rfl rfl zg0 rfl ?_
  refine zW.get (pc' := 4) dX1_claim_1 rfl f_X1_10_0 hx ⟨rfl, (Nat.le_of_ble_eq_true rfl)⟩ rfl ?_
  refine zW.iload_n (pc' := 5) dX1_claim_4 rfl rfl (zgS (zg0)) ?_
  refine zW.callV (r' := 2) (pc' := 8) dX1_claim_5 rfl l_X1_76 rfl hst ⟨rfl, (Nat.le_of_ble_eq_true rfl)⟩ rfl (k) (zcc rfl zc0) rfl (Nat.le_of_ble_eq_true rfl) (Nat.le_of_ble_eq_true rfl) (Nat.le_of_ble_eq_true rfl) (fun _ _ q9 => ?_) (fun _ _ q9 => by cases q9.1)
  obtain ⟨q8, e9⟩ := q9
  cases q8
  replace e9 := e9.symm
  subst e9
  refine zW.astore_n (pc' := 9) dX1_claim_8 rfl rfl (Nat.le_of_ble_eq_true rfl) rfl (zsS (zsS (zs0))) ?_
  refine zW.aload_n (pc' := 10) dX1_claim_9 rfl rfl (zgS (zgS (zg0))) rfl ?_
  refine zW.ifnull (pc' := 13) 17 dX1_claim_10 rfl (by decide) rfl (fun b1 => ?_) (fun b1 => ?_)
  rotate_left
  · exact absurd rfl b1
  refine zW.iconst (pc' := 18) (nI 0) dX1_claim_17 rfl (by decide) ?_
  refine zW.callS (r' := 2) (pc' := 21) dX1_claim_18 rfl l_X1_80 rfl (w_chkElement0) (zcc rfl zc0) rfl (Nat.le_of_ble_eq_true rfl) (Nat.le_of_ble_eq_true rfl) (Nat.le_of_ble_eq_true rfl) (fun _ _ q9 => by cases q9.1) (fun _ _ q9 => ?_)
  obtain ⟨q8, e9⟩ := q9
  cases q8
  replace e9 := e9.symm
  subst e9
  refine zX.out0 rfl ?_
  exact ⟨rfl, rfl⟩
theorem c_debtor (hx : h x = some (0, .ref st :: fs)) (hP : cP h O st ll aq re rt ea ha er hr mc xs qs rs s) (hJ : sJ tt nn s) (hN : nn ≤ 10000) : zK G mX1_debtor 40 4 [.ref x, .int id] h (cAns [eElt] h (qOf s id 1)) := by
  have hB := hJ.1.cB hN
  show zW G mX1_debtor 40 4 0 [.ref x, .int id] [] h _
  refine zW.aload_n (pc' := 1) dX1_debtor_0 rfl rfl zg0 rfl ?_
  refine zW.iload_n (pc' := 2) dX1_debtor_1 rfl rfl (zgS (zg0)) ?_
  cases hf : sFind s.2.1 id with
  | none =>
    refine zW.callV (r' := 4) (pc' := 5) dX1_debtor_2 rfl l_X1_133 rfl hx ⟨rfl, (Nat.le_of_ble_eq_true rfl)⟩ rfl (w_claim0 hx hP hB hf) (zcc rfl zc0) rfl (Nat.le_of_ble_eq_true rfl) (Nat.le_of_ble_eq_true rfl) (Nat.le_of_ble_eq_true rfl) (fun _ _ q9 => by cases q9.1) (fun _ _ q9 => ?_)
    obtain ⟨q8, e9⟩ := q9
    cases q8
    replace e9 := e9.symm
    subst e9
    refine zX.out0 rfl ?_
    exact cAns.no (by unfold qOf; rw [hf]) rfl
  | some i =>
    have hi := sFind_lt hf
    obtain ⟨p, hp, hc⟩ := hP.2.1.2.at hi
    have hc2 := cCl_l hc
    refine zW.callV (r' := 2) (pc' := 5) dX1_debtor_2 rfl l_X1_133 rfl hx ⟨rfl, (Nat.le_of_ble_eq_true rfl)⟩ rfl (w_claim1 hx hP hB hf hp) (zcc rfl zc0) rfl (Nat.le_of_ble_eq_true rfl) (Nat.le_of_ble_eq_true rfl) (Nat.le_of_ble_eq_true rfl) (fun _ _ q9 => ?_) (fun _ _ q9 => by cases q9.1)
    obtain ⟨q8, e9⟩ := q9
    cases q8
    replace e9 := e9.symm
    subst e9
    refine zW.get (pc' := 8) dX1_debtor_5 rfl f_X1_197_2 hc2 ⟨rfl, (Nat.le_of_ble_eq_true rfl)⟩ rfl ?_
    refine zW.iret dX1_debtor_8 rfl (rfl) ?_
    exact cAns.ok (by unfold qOf; rw [hf])
theorem c_creditor (hx : h x = some (0, .ref st :: fs)) (hP : cP h O st ll aq re rt ea ha er hr mc xs qs rs s) (hJ : sJ tt nn s) (hN : nn ≤ 10000) : zK G mX1_creditor 40 4 [.ref x, .int id] h (cAns [eElt] h (qOf s id 2)) := by
  have hB := hJ.1.cB hN
  show zW G mX1_creditor 40 4 0 [.ref x, .int id] [] h _
  refine zW.aload_n (pc' := 1) dX1_creditor_0 rfl rfl zg0 rfl ?_
  refine zW.iload_n (pc' := 2) dX1_creditor_1 rfl rfl (zgS (zg0)) ?_
  cases hf : sFind s.2.1 id with
  | none =>
    refine zW.callV (r' := 4) (pc' := 5) dX1_creditor_2 rfl l_X1_133 rfl hx ⟨rfl, (Nat.le_of_ble_eq_true rfl)⟩ rfl (w_claim0 hx hP hB hf) (zcc rfl zc0) rfl (Nat.le_of_ble_eq_true rfl) (Nat.le_of_ble_eq_true rfl) (Nat.le_of_ble_eq_true rfl) (fun _ _ q9 => by cases q9.1) (fun _ _ q9 => ?_)
    obtain ⟨q8, e9⟩ := q9
    cases q8
    replace e9 := e9.symm
    subst e9
    refine zX.out0 rfl ?_
    exact cAns.no (by unfold qOf; rw [hf]) rfl
  | some i =>
    have hi := sFind_lt hf
    obtain ⟨p, hp, hc⟩ := hP.2.1.2.at hi
    have hc2 := cCl_l hc
    refine zW.callV (r' := 2) (pc' := 5) dX1_creditor_2 rfl l_X1_133 rfl hx ⟨rfl, (Nat.le_of_ble_eq_true rfl)⟩ rfl (w_claim1 hx hP hB hf hp) (zcc rfl zc0) rfl (Nat.le_of_ble_eq_true rfl) (Nat.le_of_ble_eq_true rfl) (Nat.le_of_ble_eq_true rfl) (fun _ _ q9 => ?_) (fun _ _ q9 => by cases q9.1)
    obtain ⟨q8, e9⟩ := q9
    cases q8
    replace e9 := e9.symm
    subst e9
    refine zW.get (pc' := 8) dX1_creditor_5 rfl f_X1_200_2 hc2 ⟨rfl, (Nat.le_of_ble_eq_true rfl)⟩ rfl ?_
    refine zW.iret dX1_creditor_8 rfl (rfl) ?_
    exact cAns.ok (by unfold qOf; rw [hf])
theorem c_weight (hx : h x = some (0, .ref st :: fs)) (hP : cP h O st ll aq re rt ea ha er hr mc xs qs rs s) (hJ : sJ tt nn s) (hN : nn ≤ 10000) : zK G mX1_weight 40 4 [.ref x, .int id] h (cAns [eElt] h (qOf s id 3)) := by
  have hB := hJ.1.cB hN
  show zW G mX1_weight 40 4 0 [.ref x, .int id] [] h _
  refine zW.aload_n (pc' := 1) dX1_weight_0 rfl rfl zg0 rfl ?_
  refine zW.iload_n (pc' := 2) dX1_weight_1 rfl rfl (zgS (zg0)) ?_
  cases hf : sFind s.2.1 id with
  | none =>
    refine zW.callV (r' := 4) (pc' := 5) dX1_weight_2 rfl l_X1_133 rfl hx ⟨rfl, (Nat.le_of_ble_eq_true rfl)⟩ rfl (w_claim0 hx hP hB hf) (zcc rfl zc0) rfl (Nat.le_of_ble_eq_true rfl) (Nat.le_of_ble_eq_true rfl) (Nat.le_of_ble_eq_true rfl) (fun _ _ q9 => by cases q9.1) (fun _ _ q9 => ?_)
    obtain ⟨q8, e9⟩ := q9
    cases q8
    replace e9 := e9.symm
    subst e9
    refine zX.out0 rfl ?_
    exact cAns.no (by unfold qOf; rw [hf]) rfl
  | some i =>
    have hi := sFind_lt hf
    obtain ⟨p, hp, hc⟩ := hP.2.1.2.at hi
    have hc2 := cCl_l hc
    refine zW.callV (r' := 2) (pc' := 5) dX1_weight_2 rfl l_X1_133 rfl hx ⟨rfl, (Nat.le_of_ble_eq_true rfl)⟩ rfl (w_claim1 hx hP hB hf hp) (zcc rfl zc0) rfl (Nat.le_of_ble_eq_true rfl) (Nat.le_of_ble_eq_true rfl) (Nat.le_of_ble_eq_true rfl) (fun _ _ q9 => ?_) (fun _ _ q9 => by cases q9.1)
    obtain ⟨q8, e9⟩ := q9
    cases q8
    replace e9 := e9.symm
    subst e9
    refine zW.get (pc' := 8) dX1_weight_5 rfl f_X1_162_2 hc2 ⟨rfl, (Nat.le_of_ble_eq_true rfl)⟩ rfl ?_
    refine zW.iret dX1_weight_8 rfl (rfl) ?_
    exact cAns.ok (by unfold qOf; rw [hf])
theorem c_expiry (hx : h x = some (0, .ref st :: fs)) (hP : cP h O st ll aq re rt ea ha er hr mc xs qs rs s) (hJ : sJ tt nn s) (hN : nn ≤ 10000) : zK G mX1_expiry 40 4 [.ref x, .int id] h (cAns [eElt] h (qOf s id 4)) := by
  have hB := hJ.1.cB hN
  show zW G mX1_expiry 40 4 0 [.ref x, .int id] [] h _
  refine zW.aload_n (pc' := 1) dX1_expiry_0 rfl rfl zg0 rfl ?_
  refine zW.iload_n (pc' := 2) dX1_expiry_1 rfl rfl (zgS (zg0)) ?_
  cases hf : sFind s.2.1 id with
  | none =>
    refine zW.callV (r' := 4) (pc' := 5) dX1_expiry_2 rfl l_X1_133 rfl hx ⟨rfl, (Nat.le_of_ble_eq_true rfl)⟩ rfl (w_claim0 hx hP hB hf) (zcc rfl zc0) rfl (Nat.le_of_ble_eq_true rfl) (Nat.le_of_ble_eq_true rfl) (Nat.le_of_ble_eq_true rfl) (fun _ _ q9 => by cases q9.1) (fun _ _ q9 => ?_)
    obtain ⟨q8, e9⟩ := q9
    cases q8
    replace e9 := e9.symm
    subst e9
    refine zX.out0 rfl ?_
    exact cAns.no (by unfold qOf; rw [hf]) rfl
  | some i =>
    have hi := sFind_lt hf
    obtain ⟨p, hp, hc⟩ := hP.2.1.2.at hi
    have hc2 := cCl_l hc
    refine zW.callV (r' := 2) (pc' := 5) dX1_expiry_2 rfl l_X1_133 rfl hx ⟨rfl, (Nat.le_of_ble_eq_true rfl)⟩ rfl (w_claim1 hx hP hB hf hp) (zcc rfl zc0) rfl (Nat.le_of_ble_eq_true rfl) (Nat.le_of_ble_eq_true rfl) (Nat.le_of_ble_eq_true rfl) (fun _ _ q9 => ?_) (fun _ _ q9 => by cases q9.1)
    obtain ⟨q8, e9⟩ := q9
    cases q8
    replace e9 := e9.symm
    subst e9
    refine zW.get (pc' := 8) dX1_expiry_5 rfl f_X1_146_2 hc2 ⟨rfl, (Nat.le_of_ble_eq_true rfl)⟩ rfl ?_
    refine zW.iret dX1_expiry_8 rfl (rfl) ?_
    exact cAns.ok (by unfold qOf; rw [hf])
theorem c_strikes (hx : h x = some (0, .ref st :: fs)) (hP : cP h O st ll aq re rt ea ha er hr mc xs qs rs s) (hJ : sJ tt nn s) (hN : nn ≤ 10000) : zK G mX1_strikes 40 4 [.ref x, .int id] h (cAns [eElt] h (qOf s id 5)) := by
  have hB := hJ.1.cB hN
  show zW G mX1_strikes 40 4 0 [.ref x, .int id] [] h _
  refine zW.aload_n (pc' := 1) dX1_strikes_0 rfl rfl zg0 rfl ?_
  refine zW.iload_n (pc' := 2) dX1_strikes_1 rfl rfl (zgS (zg0)) ?_
  cases hf : sFind s.2.1 id with
  | none =>
    refine zW.callV (r' := 4) (pc' := 5) dX1_strikes_2 rfl l_X1_133 rfl hx ⟨rfl, (Nat.le_of_ble_eq_true rfl)⟩ rfl (w_claim0 hx hP hB hf) (zcc rfl zc0) rfl (Nat.le_of_ble_eq_true rfl) (Nat.le_of_ble_eq_true rfl) (Nat.le_of_ble_eq_true rfl) (fun _ _ q9 => by cases q9.1) (fun _ _ q9 => ?_)
    obtain ⟨q8, e9⟩ := q9
    cases q8
    replace e9 := e9.symm
    subst e9
    refine zX.out0 rfl ?_
    exact cAns.no (by unfold qOf; rw [hf]) rfl
  | some i =>
    have hi := sFind_lt hf
    obtain ⟨p, hp, hc⟩ := hP.2.1.2.at hi
    have hc2 := cCl_l hc
    refine zW.callV (r' := 2) (pc' := 5) dX1_strikes_2 rfl l_X1_133 rfl hx ⟨rfl, (Nat.le_of_ble_eq_true rfl)⟩ rfl (w_claim1 hx hP hB hf hp) (zcc rfl zc0) rfl (Nat.le_of_ble_eq_true rfl) (Nat.le_of_ble_eq_true rfl) (Nat.le_of_ble_eq_true rfl) (fun _ _ q9 => ?_) (fun _ _ q9 => by cases q9.1)
    obtain ⟨q8, e9⟩ := q9
    cases q8
    replace e9 := e9.symm
    subst e9
    refine zW.get (pc' := 8) dX1_strikes_5 rfl f_X1_203_2 hc2 ⟨rfl, (Nat.le_of_ble_eq_true rfl)⟩ rfl ?_
    refine zW.iret dX1_strikes_8 rfl (rfl) ?_
    exact cAns.ok (by unfold qOf; rw [hf])
theorem c_isSigned (hx : h x = some (0, .ref st :: fs)) (hP : cP h O st ll aq re rt ea ha er hr mc xs qs rs s) (hJ : sJ tt nn s) (hN : nn ≤ 10000) : zK G mX1_isSigned 40 4 [.ref x, .int id] h (cAns [eElt] h (qIs s id 6)) := by
  have hB := hJ.1.cB hN
  show zW G mX1_isSigned 40 4 0 [.ref x, .int id] [] h _
  refine zW.aload_n (pc' := 1) dX1_isSigned_0 rfl rfl zg0 rfl ?_
  refine zW.iload_n (pc' := 2) dX1_isSigned_1 rfl rfl (zgS (zg0)) ?_
  cases hf : sFind s.2.1 id with
  | none =>
    refine zW.callV (r' := 4) (pc' := 5) dX1_isSigned_2 rfl l_X1_133 rfl hx ⟨rfl, (Nat.le_of_ble_eq_true rfl)⟩ rfl (w_claim0 hx hP hB hf) (zcc rfl zc0) rfl (Nat.le_of_ble_eq_true rfl) (Nat.le_of_ble_eq_true rfl) (Nat.le_of_ble_eq_true rfl) (fun _ _ q9 => by cases q9.1) (fun _ _ q9 => ?_)
    obtain ⟨q8, e9⟩ := q9
    cases q8
    replace e9 := e9.symm
    subst e9
    refine zX.out0 rfl ?_
    exact cAns.no (by unfold qIs; rw [hf]) rfl
  | some i =>
    have hi := sFind_lt hf
    obtain ⟨p, hp, hc⟩ := hP.2.1.2.at hi
    have hc2 := cCl_l hc
    refine zW.callV (r' := 2) (pc' := 5) dX1_isSigned_2 rfl l_X1_133 rfl hx ⟨rfl, (Nat.le_of_ble_eq_true rfl)⟩ rfl (w_claim1 hx hP hB hf hp) (zcc rfl zc0) rfl (Nat.le_of_ble_eq_true rfl) (Nat.le_of_ble_eq_true rfl) (Nat.le_of_ble_eq_true rfl) (fun _ _ q9 => ?_) (fun _ _ q9 => by cases q9.1)
    obtain ⟨q8, e9⟩ := q9
    cases q8
    replace e9 := e9.symm
    subst e9
    have b6 : sAt s.2.1 i 6 < 2 ^ 30 := Nat.lt_of_le_of_lt (hJ.1.at hi).2.2.2.2.2.2.2.1 (by decide)
    refine zW.callV (r' := 0) (pc' := 8) dX1_isSigned_5 rfl l_X1_117 rfl hc2 ⟨rfl, (Nat.le_of_ble_eq_true rfl)⟩ rfl (w_clSigned hc b6) zc0 rfl (Nat.le_of_ble_eq_true rfl) (Nat.le_of_ble_eq_true rfl) (Nat.le_of_ble_eq_true rfl) (fun _ _ q9 => ?_) (fun _ _ q9 => by cases q9.1)
    obtain ⟨q8, e9⟩ := q9
    cases q8
    replace e9 := e9.symm
    subst e9
    refine zW.iret dX1_isSigned_8 rfl (by split <;> rfl) ?_
    exact cAns.ok (by unfold qIs; rw [hf])
theorem c_isCountersigned (hx : h x = some (0, .ref st :: fs)) (hP : cP h O st ll aq re rt ea ha er hr mc xs qs rs s) (hJ : sJ tt nn s) (hN : nn ≤ 10000) : zK G mX1_isCountersigned 40 4 [.ref x, .int id] h (cAns [eElt] h (qIs s id 7)) := by
  have hB := hJ.1.cB hN
  show zW G mX1_isCountersigned 40 4 0 [.ref x, .int id] [] h _
  refine zW.aload_n (pc' := 1) dX1_isCountersigned_0 rfl rfl zg0 rfl ?_
  refine zW.iload_n (pc' := 2) dX1_isCountersigned_1 rfl rfl (zgS (zg0)) ?_
  cases hf : sFind s.2.1 id with
  | none =>
    refine zW.callV (r' := 4) (pc' := 5) dX1_isCountersigned_2 rfl l_X1_133 rfl hx ⟨rfl, (Nat.le_of_ble_eq_true rfl)⟩ rfl (w_claim0 hx hP hB hf) (zcc rfl zc0) rfl (Nat.le_of_ble_eq_true rfl) (Nat.le_of_ble_eq_true rfl) (Nat.le_of_ble_eq_true rfl) (fun _ _ q9 => by cases q9.1) (fun _ _ q9 => ?_)
    obtain ⟨q8, e9⟩ := q9
    cases q8
    replace e9 := e9.symm
    subst e9
    refine zX.out0 rfl ?_
    exact cAns.no (by unfold qIs; rw [hf]) rfl
  | some i =>
    have hi := sFind_lt hf
    obtain ⟨p, hp, hc⟩ := hP.2.1.2.at hi
    have hc2 := cCl_l hc
    refine zW.callV (r' := 2) (pc' := 5) dX1_isCountersigned_2 rfl l_X1_133 rfl hx ⟨rfl, (Nat.le_of_ble_eq_true rfl)⟩ rfl (w_claim1 hx hP hB hf hp) (zcc rfl zc0) rfl (Nat.le_of_ble_eq_true rfl) (Nat.le_of_ble_eq_true rfl) (Nat.le_of_ble_eq_true rfl) (fun _ _ q9 => ?_) (fun _ _ q9 => by cases q9.1)
    obtain ⟨q8, e9⟩ := q9
    cases q8
    replace e9 := e9.symm
    subst e9
    have b7 : sAt s.2.1 i 7 < 2 ^ 30 := Nat.lt_of_le_of_lt (hJ.1.at hi).2.2.2.2.2.2.2.2 (by decide)
    refine zW.callV (r' := 0) (pc' := 8) dX1_isCountersigned_5 rfl l_X1_127 rfl hc2 ⟨rfl, (Nat.le_of_ble_eq_true rfl)⟩ rfl (w_clCosigned hc b7) zc0 rfl (Nat.le_of_ble_eq_true rfl) (Nat.le_of_ble_eq_true rfl) (Nat.le_of_ble_eq_true rfl) (fun _ _ q9 => ?_) (fun _ _ q9 => by cases q9.1)
    obtain ⟨q8, e9⟩ := q9
    cases q8
    replace e9 := e9.symm
    subst e9
    refine zW.iret dX1_isCountersigned_8 rfl (by split <;> rfl) ?_
    exact cAns.ok (by unfold qIs; rw [hf])
theorem c_signer (hx : h x = some (0, .ref st :: fs)) (hP : cP h O st ll aq re rt ea ha er hr mc xs qs rs s) (hJ : sJ tt nn s) (hN : nn ≤ 10000) : zK G mX1_signer 40 4 [.ref x, .int id] h (cAns [eElt, eSta] h (qWho s id 6)) := by
  have hB := hJ.1.cB hN
  show zW G mX1_signer 40 4 0 [.ref x, .int id, zho] [] h _
  refine zW.aload_n (pc' := 1) dX1_signer_0 rfl rfl zg0 rfl ?_
  refine zW.iload_n (pc' := 2) dX1_signer_1 rfl rfl (zgS (zg0)) ?_
  cases hf : sFind s.2.1 id with
  | none =>
    refine zW.callV (r' := 4) (pc' := 5) dX1_signer_2 rfl l_X1_133 rfl hx ⟨rfl, (Nat.le_of_ble_eq_true rfl)⟩ rfl (w_claim0 hx hP hB hf) (zcc rfl zc0) rfl (Nat.le_of_ble_eq_true rfl) (Nat.le_of_ble_eq_true rfl) (Nat.le_of_ble_eq_true rfl) (fun _ _ q9 => by cases q9.1) (fun _ _ q9 => ?_)
    obtain ⟨q8, e9⟩ := q9
    cases q8
    replace e9 := e9.symm
    subst e9
    refine zX.out0 rfl ?_
    exact cAns.no (by unfold qWho; rw [hf]) rfl
  | some i =>
    have hi := sFind_lt hf
    obtain ⟨p, hp, hc⟩ := hP.2.1.2.at hi
    have hc2 := cCl_l hc
    refine zW.callV (r' := 2) (pc' := 5) dX1_signer_2 rfl l_X1_133 rfl hx ⟨rfl, (Nat.le_of_ble_eq_true rfl)⟩ rfl (w_claim1 hx hP hB hf hp) (zcc rfl zc0) rfl (Nat.le_of_ble_eq_true rfl) (Nat.le_of_ble_eq_true rfl) (Nat.le_of_ble_eq_true rfl) (fun _ _ q9 => ?_) (fun _ _ q9 => by cases q9.1)
    obtain ⟨q8, e9⟩ := q9
    cases q8
    replace e9 := e9.symm
    subst e9
    have b6 : sAt s.2.1 i 6 < 2 ^ 30 := Nat.lt_of_le_of_lt (hJ.1.at hi).2.2.2.2.2.2.2.1 (by decide)
    refine zW.astore_n (pc' := 6) dX1_signer_5 rfl rfl (Nat.le_of_ble_eq_true rfl) rfl (zsS (zsS (zs0))) ?_
    refine zW.aload_n (pc' := 7) dX1_signer_6 rfl rfl (zgS (zgS (zg0))) rfl ?_
    refine zW.callV (r' := 0) (pc' := 10) dX1_signer_7 rfl l_X1_117 rfl hc2 ⟨rfl, (Nat.le_of_ble_eq_true rfl)⟩ rfl (w_clSigned hc b6) zc0 rfl (Nat.le_of_ble_eq_true rfl) (Nat.le_of_ble_eq_true rfl) (Nat.le_of_ble_eq_true rfl) (fun _ _ q9 => ?_) (fun _ _ q9 => by cases q9.1)
    obtain ⟨q8, e9⟩ := q9
    cases q8
    replace e9 := e9.symm
    subst e9
    by_cases q : sAt s.2.1 i 6 = 0
    · rw [if_pos q]
      refine zW.callS (r' := 2) (pc' := 13) dX1_signer_10 rfl l_X1_98 rfl (w_chkState0) (zcc rfl zc0) rfl (Nat.le_of_ble_eq_true rfl) (Nat.le_of_ble_eq_true rfl) (Nat.le_of_ble_eq_true rfl) (fun _ _ q9 => by cases q9.1) (fun _ _ q9 => ?_)
      obtain ⟨q8, e9⟩ := q9
      cases q8
      replace e9 := e9.symm
      subst e9
      refine zX.out0 rfl ?_
      exact cAns.no (by unfold qWho; rw [hf]; exact if_pos q) rfl
    · rw [if_neg q]
      refine zW.callS (r' := 0) (pc' := 13) dX1_signer_10 rfl l_X1_98 rfl (w_chkState1) (zcc rfl zc0) rfl (Nat.le_of_ble_eq_true rfl) (Nat.le_of_ble_eq_true rfl) (Nat.le_of_ble_eq_true rfl) (fun _ _ q9 => ?_) (fun _ _ q9 => by cases q9.1)
      obtain ⟨q8, e9⟩ := q9
      cases q8
      replace e9 := e9.symm
      subst e9
      refine zW.aload_n (pc' := 14) dX1_signer_13 rfl rfl (zgS (zgS (zg0))) rfl ?_
      refine zW.get (pc' := 17) dX1_signer_14 rfl f_X1_143_2 hc2 ⟨rfl, (Nat.le_of_ble_eq_true rfl)⟩ rfl ?_
      refine zW.iret dX1_signer_17 rfl (rfl) ?_
      refine cAns.ok (by unfold qWho; rw [hf]; refine (if_neg q).trans ?_; obtain ⟨m, hm⟩ : ∃ m, sAt s.2.1 i 6 = m + 1 := ⟨sAt s.2.1 i 6 - 1, by omega⟩; rw [hm, ← nI_e1, Nat.add_sub_cancel])
theorem c_countersigner (hx : h x = some (0, .ref st :: fs)) (hP : cP h O st ll aq re rt ea ha er hr mc xs qs rs s) (hJ : sJ tt nn s) (hN : nn ≤ 10000) : zK G mX1_countersigner 40 4 [.ref x, .int id] h (cAns [eElt, eSta] h (qWho s id 7)) := by
  have hB := hJ.1.cB hN
  show zW G mX1_countersigner 40 4 0 [.ref x, .int id, zho] [] h _
  refine zW.aload_n (pc' := 1) dX1_countersigner_0 rfl rfl zg0 rfl ?_
  refine zW.iload_n (pc' := 2) dX1_countersigner_1 rfl rfl (zgS (zg0)) ?_
  cases hf : sFind s.2.1 id with
  | none =>
    refine zW.callV (r' := 4) (pc' := 5) dX1_countersigner_2 rfl l_X1_133 rfl hx ⟨rfl, (Nat.le_of_ble_eq_true rfl)⟩ rfl (w_claim0 hx hP hB hf) (zcc rfl zc0) rfl (Nat.le_of_ble_eq_true rfl) (Nat.le_of_ble_eq_true rfl) (Nat.le_of_ble_eq_true rfl) (fun _ _ q9 => by cases q9.1) (fun _ _ q9 => ?_)
    obtain ⟨q8, e9⟩ := q9
    cases q8
    replace e9 := e9.symm
    subst e9
    refine zX.out0 rfl ?_
    exact cAns.no (by unfold qWho; rw [hf]) rfl
  | some i =>
    have hi := sFind_lt hf
    obtain ⟨p, hp, hc⟩ := hP.2.1.2.at hi
    have hc2 := cCl_l hc
    refine zW.callV (r' := 2) (pc' := 5) dX1_countersigner_2 rfl l_X1_133 rfl hx ⟨rfl, (Nat.le_of_ble_eq_true rfl)⟩ rfl (w_claim1 hx hP hB hf hp) (zcc rfl zc0) rfl (Nat.le_of_ble_eq_true rfl) (Nat.le_of_ble_eq_true rfl) (Nat.le_of_ble_eq_true rfl) (fun _ _ q9 => ?_) (fun _ _ q9 => by cases q9.1)
    obtain ⟨q8, e9⟩ := q9
    cases q8
    replace e9 := e9.symm
    subst e9
    have b7 : sAt s.2.1 i 7 < 2 ^ 30 := Nat.lt_of_le_of_lt (hJ.1.at hi).2.2.2.2.2.2.2.2 (by decide)
    refine zW.astore_n (pc' := 6) dX1_countersigner_5 rfl rfl (Nat.le_of_ble_eq_true rfl) rfl (zsS (zsS (zs0))) ?_
    refine zW.aload_n (pc' := 7) dX1_countersigner_6 rfl rfl (zgS (zgS (zg0))) rfl ?_
    refine zW.callV (r' := 0) (pc' := 10) dX1_countersigner_7 rfl l_X1_127 rfl hc2 ⟨rfl, (Nat.le_of_ble_eq_true rfl)⟩ rfl (w_clCosigned hc b7) zc0 rfl (Nat.le_of_ble_eq_true rfl) (Nat.le_of_ble_eq_true rfl) (Nat.le_of_ble_eq_true rfl) (fun _ _ q9 => ?_) (fun _ _ q9 => by cases q9.1)
    obtain ⟨q8, e9⟩ := q9
    cases q8
    replace e9 := e9.symm
    subst e9
    by_cases q : sAt s.2.1 i 7 = 0
    · rw [if_pos q]
      refine zW.callS (r' := 2) (pc' := 13) dX1_countersigner_10 rfl l_X1_98 rfl (w_chkState0) (zcc rfl zc0) rfl (Nat.le_of_ble_eq_true rfl) (Nat.le_of_ble_eq_true rfl) (Nat.le_of_ble_eq_true rfl) (fun _ _ q9 => by cases q9.1) (fun _ _ q9 => ?_)
      obtain ⟨q8, e9⟩ := q9
      cases q8
      replace e9 := e9.symm
      subst e9
      refine zX.out0 rfl ?_
      exact cAns.no (by unfold qWho; rw [hf]; exact if_pos q) rfl
    · rw [if_neg q]
      refine zW.callS (r' := 0) (pc' := 13) dX1_countersigner_10 rfl l_X1_98 rfl (w_chkState1) (zcc rfl zc0) rfl (Nat.le_of_ble_eq_true rfl) (Nat.le_of_ble_eq_true rfl) (Nat.le_of_ble_eq_true rfl) (fun _ _ q9 => ?_) (fun _ _ q9 => by cases q9.1)
      obtain ⟨q8, e9⟩ := q9
      cases q8
      replace e9 := e9.symm
      subst e9
      refine zW.aload_n (pc' := 14) dX1_countersigner_13 rfl rfl (zgS (zgS (zg0))) rfl ?_
      refine zW.get (pc' := 17) dX1_countersigner_14 rfl f_X1_155_2 hc2 ⟨rfl, (Nat.le_of_ble_eq_true rfl)⟩ rfl ?_
      refine zW.iret dX1_countersigner_17 rfl (rfl) ?_
      refine cAns.ok (by unfold qWho; rw [hf]; refine (if_neg q).trans ?_; obtain ⟨m, hm⟩ : ∃ m, sAt s.2.1 i 7 = m + 1 := ⟨sAt s.2.1 i 7 - 1, by omega⟩; rw [hm, ← nI_e1, Nat.add_sub_cancel])
theorem c_time (hx : h x = some (0, .ref st :: fs)) (hP : cP h O st ll aq re rt ea ha er hr mc xs qs rs s) : zK G mX1_time 40 0 [.ref x] h (cAns [] h (qTime s)) := by
  have hst := hP.1
  show zW G mX1_time 40 0 0 [.ref x] [] h _
  refine zW.aload_n (pc' := 1) dX1_time_0 rfl rfl zg0 rfl ?_
  refine zW.get (pc' := 4) dX1_time_1 rfl f_X1_10_0 hx ⟨rfl, (Nat.le_of_ble_eq_true rfl)⟩ rfl ?_
  refine zW.get (pc' := 7) dX1_time_4 rfl f_X1_181_1 hst ⟨rfl, (Nat.le_of_ble_eq_true rfl)⟩ rfl ?_
  refine zW.iret dX1_time_7 rfl (rfl) ?_
  exact cAns.ok rfl
theorem c_phase (hx : h x = some (0, .ref st :: fs)) (hP : cP h O st ll aq re rt ea ha er hr mc xs qs rs s) (hb : s.1 0 < 2 ^ 30) : zK G mX1_phase 40 0 [.ref x] h (cAns [] h (qPhase s)) := by
  have hst := hP.1
  show zW G mX1_phase 40 0 0 [.ref x] [] h _
  refine zW.aload_n (pc' := 1) dX1_phase_0 rfl rfl zg0 rfl ?_
  refine zW.get (pc' := 4) dX1_phase_1 rfl f_X1_10_0 hx ⟨rfl, (Nat.le_of_ble_eq_true rfl)⟩ rfl ?_
  refine zW.get (pc' := 7) dX1_phase_4 rfl f_X1_181_1 hst ⟨rfl, (Nat.le_of_ble_eq_true rfl)⟩ rfl ?_
  refine zW.callS (r' := 0) (pc' := 10) dX1_phase_7 rfl l_X1_184 rfl (w_phaseC (by omega)) (zcc rfl zc0) rfl (Nat.le_of_ble_eq_true rfl) (Nat.le_of_ble_eq_true rfl) (Nat.le_of_ble_eq_true rfl) (fun _ _ q9 => ?_) (fun _ _ q9 => by cases q9.1)
  obtain ⟨q8, e9⟩ := q9
  cases q8
  replace e9 := e9.symm
  subst e9
  refine zW.iret dX1_phase_10 rfl (rfl) ?_
  exact cAns.ok rfl
theorem c_activeCount (hx : h x = some (0, .ref st :: fs)) (hP : cP h O st ll aq re rt ea ha er hr mc xs qs rs s) : zK G mX1_activeCount 40 0 [.ref x] h (cAns [] h (qActive s)) := by
  have hst := hP.1
  have hl := hP.2.1.1.1
  show zW G mX1_activeCount 40 0 0 [.ref x] [] h _
  refine zW.aload_n (pc' := 1) dX1_activeCount_0 rfl rfl zg0 rfl ?_
  refine zW.get (pc' := 4) dX1_activeCount_1 rfl f_X1_10_0 hx ⟨rfl, (Nat.le_of_ble_eq_true rfl)⟩ rfl ?_
  refine zW.get (pc' := 7) dX1_activeCount_4 rfl f_X1_91_1 hst ⟨rfl, (Nat.le_of_ble_eq_true rfl)⟩ rfl ?_
  refine zW.callV (r' := 0) (pc' := 10) dX1_activeCount_7 rfl l_X1_95 rfl hl ⟨rfl, (Nat.le_of_ble_eq_true rfl)⟩ rfl (w_llSize hl) zc0 rfl (Nat.le_of_ble_eq_true rfl) (Nat.le_of_ble_eq_true rfl) (Nat.le_of_ble_eq_true rfl) (fun _ _ q9 => ?_) (fun _ _ q9 => by cases q9.1)
  obtain ⟨q8, e9⟩ := q9
  cases q8
  replace e9 := e9.symm
  subst e9
  refine zW.iret dX1_activeCount_10 rfl (rfl) ?_
  exact cAns.ok (by unfold qActive; rw [hP.2.1.2.1])
theorem c_isActive (hx : h x = some (0, .ref st :: fs)) (hP : cP h O st ll aq re rt ea ha er hr mc xs qs rs s) (hB : cB s) : zK G mX1_isActive 40 2 [.ref x, .int id] h (cAns [] h (qIsActive s id)) := by
  have hst := hP.1
  have k := w_sFind (G := G) hP hB.1 (fun j hj => (hB.2.1 j hj).1) (id := id)
  show zW G mX1_isActive 40 2 0 [.ref x, .int id] [] h _
  refine zW.aload_n (pc' := 1) dX1_isActive_0 rfl rfl zg0 rfl ?_
  refine zW.get (pc' := 4) dX1_isActive_1 rfl f_X1_10_0 hx ⟨rfl, (Nat.le_of_ble_eq_true rfl)⟩ rfl ?_
  refine zW.iload_n (pc' := 5) dX1_isActive_4 rfl rfl (zgS (zg0)) ?_
  refine zW.callV (r' := 2) (pc' := 8) dX1_isActive_5 rfl l_X1_76 rfl hst ⟨rfl, (Nat.le_of_ble_eq_true rfl)⟩ rfl (k) (zcc rfl zc0) rfl (Nat.le_of_ble_eq_true rfl) (Nat.le_of_ble_eq_true rfl) (Nat.le_of_ble_eq_true rfl) (fun _ _ q9 => ?_) (fun _ _ q9 => by cases q9.1)
  obtain ⟨q8, e9⟩ := q9
  cases q8
  replace e9 := e9.symm
  subst e9
  cases hf : sFind s.2.1 id with
  | none =>
    refine zW.ifnull (pc' := 11) 15 dX1_isActive_8 rfl (by decide) rfl (fun b1 => ?_) (fun b1 => ?_)
    rotate_left
    · exact absurd rfl b1
    refine zW.iconst (pc' := 16) (nI 0) dX1_isActive_15 rfl (by decide) ?_
    refine zW.iret dX1_isActive_16 rfl (rfl) ?_
    exact cAns.ok (by unfold qIsActive; rw [hf])
  | some i =>
    obtain ⟨p, hp, hc⟩ := hP.2.1.2.at (sFind_lt hf)
    have e : cAd xs i = some p.2 := by unfold cAd; rw [hp]; rfl
    rw [Option.bind_some, e]
    refine zW.ifnull (pc' := 11) 15 dX1_isActive_8 rfl (by decide) rfl (fun b1 => ?_) (fun b1 => ?_)
    · cases b1
    refine zW.iconst (pc' := 12) (nI 1) dX1_isActive_11 rfl (by decide) ?_
    refine zW.goto 16 dX1_isActive_12 (by decide) ?_
    refine zW.iret dX1_isActive_16 rfl (rfl) ?_
    exact cAns.ok (by unfold qIsActive; rw [hf])
theorem c_rate (hx : h x = some (0, .ref st :: fs)) (hP : cP h O st ll aq re rt ea ha er hr mc xs qs rs s) {y : Int32} : zK G mX1_rate 40 2 [.ref x, .int y] h (cAns [eArg] h (qRate s y)) := by
  have hst := hP.1
  have hrt := hP.2.2.2.2.2.1
  show zW G mX1_rate 40 2 0 [.ref x, .int y] [] h _
  refine zW.iload_n (pc' := 1) dX1_rate_0 rfl rfl (zgS (zg0)) ?_
  by_cases q : sIn y (nI 0) (nI 3) = true
  · refine zW.callS (r' := 0) (pc' := 4) dX1_rate_1 rfl l_X1_174 rfl (w_xisPhase1 q) (zcc rfl zc0) rfl (Nat.le_of_ble_eq_true rfl) (Nat.le_of_ble_eq_true rfl) (Nat.le_of_ble_eq_true rfl) (fun _ _ q9 => ?_) (fun _ _ q9 => by cases q9.1)
    obtain ⟨q8, e9⟩ := q9
    cases q8
    replace e9 := e9.symm
    subst e9
    refine zW.callS (r' := 0) (pc' := 7) dX1_rate_4 rfl l_X1_88 rfl (w_chkArgument1) (zcc rfl zc0) rfl (Nat.le_of_ble_eq_true rfl) (Nat.le_of_ble_eq_true rfl) (Nat.le_of_ble_eq_true rfl) (fun _ _ q9 => ?_) (fun _ _ q9 => by cases q9.1)
    obtain ⟨q8, e9⟩ := q9
    cases q8
    replace e9 := e9.symm
    subst e9
    obtain ⟨n, hn, -, h3, e⟩ := sIn_nat q (by decide) (by decide)
    rw [hn]
    refine zW.aload_n (pc' := 8) dX1_rate_7 rfl rfl zg0 rfl ?_
    refine zW.get (pc' := 11) dX1_rate_8 rfl f_X1_10_0 hx ⟨rfl, (Nat.le_of_ble_eq_true rfl)⟩ rfl ?_
    refine zW.get (pc' := 14) dX1_rate_11 rfl f_X1_177_1 hst ⟨rfl, (Nat.le_of_ble_eq_true rfl)⟩ rfl ?_
    refine zW.iload_n (pc' := 15) dX1_rate_14 rfl rfl (zgS (zg0)) ?_
    refine zW.ialdN (pc' := 16) dX1_rate_15 rfl hrt rfl (by omega) (Nat.le_of_ble_eq_true rfl) ?_
    refine zW.iret dX1_rate_16 rfl (rfl) ?_
    exact cAns.ok (by unfold qRate; rw [← hn, if_pos q, e])
  · refine zW.callS (r' := 0) (pc' := 4) dX1_rate_1 rfl l_X1_174 rfl (w_xisPhase0 q) (zcc rfl zc0) rfl (Nat.le_of_ble_eq_true rfl) (Nat.le_of_ble_eq_true rfl) (Nat.le_of_ble_eq_true rfl) (fun _ _ q9 => ?_) (fun _ _ q9 => by cases q9.1)
    obtain ⟨q8, e9⟩ := q9
    cases q8
    replace e9 := e9.symm
    subst e9
    refine zW.callS (r' := 2) (pc' := 7) dX1_rate_4 rfl l_X1_88 rfl (w_chkArgument0) (zcc rfl zc0) rfl (Nat.le_of_ble_eq_true rfl) (Nat.le_of_ble_eq_true rfl) (Nat.le_of_ble_eq_true rfl) (fun _ _ q9 => by cases q9.1) (fun _ _ q9 => ?_)
    obtain ⟨q8, e9⟩ := q9
    cases q8
    replace e9 := e9.symm
    subst e9
    refine zX.out0 rfl ?_
    exact cAns.no (by unfold qRate; rw [if_neg q]) rfl
theorem c_idAt (hx : h x = some (0, .ref st :: fs)) (hP : cP h O st ll aq re rt ea ha er hr mc xs qs rs s) (hJ : sJ tt nn s) (hN : nn ≤ 10000) {y : Int32} : zK G mX1_idAt 40 2 [.ref x, .int y] h (cAns [eIdx] h (qIdAt s y)) := by
  have hst := hP.1
  have hl := hP.2.1.1.1
  have h12 := hJ.1.len
  have hxs := hP.2.1.2.1
  show zW G mX1_idAt 40 2 0 [.ref x, .int y] [] h _
  refine zW.iload_n (pc' := 1) dX1_idAt_0 rfl rfl (zgS (zg0)) ?_
  refine zW.iconst (pc' := 2) (nI 0) dX1_idAt_1 rfl (by decide) ?_
  refine zW.aload_n (pc' := 3) dX1_idAt_2 rfl rfl zg0 rfl ?_
  refine zW.get (pc' := 6) dX1_idAt_3 rfl f_X1_10_0 hx ⟨rfl, (Nat.le_of_ble_eq_true rfl)⟩ rfl ?_
  refine zW.get (pc' := 9) dX1_idAt_6 rfl f_X1_91_1 hst ⟨rfl, (Nat.le_of_ble_eq_true rfl)⟩ rfl ?_
  refine zW.callV (r' := 0) (pc' := 12) dX1_idAt_9 rfl l_X1_95 rfl hl ⟨rfl, (Nat.le_of_ble_eq_true rfl)⟩ rfl (w_llSize hl) zc0 rfl (Nat.le_of_ble_eq_true rfl) (Nat.le_of_ble_eq_true rfl) (Nat.le_of_ble_eq_true rfl) (fun _ _ q9 => ?_) (fun _ _ q9 => by cases q9.1)
  obtain ⟨q8, e9⟩ := q9
  cases q8
  replace e9 := e9.symm
  subst e9
  refine zW.iconst (pc' := 13) (nI 1) dX1_idAt_12 rfl (by decide) ?_
  refine zW.isub (pc' := 14) dX1_idAt_13 rfl ?_
  refine zW.callS (r' := 0) (pc' := 17) dX1_idAt_14 rfl l_X1_52 rfl (w_btw) (zcc rfl (zcc rfl (zcc rfl zc0))) rfl (Nat.le_of_ble_eq_true rfl) (Nat.le_of_ble_eq_true rfl) (Nat.le_of_ble_eq_true rfl) (fun _ _ q9 => ?_) (fun _ _ q9 => by cases q9.1)
  obtain ⟨q8, e9⟩ := q9
  cases q8
  replace e9 := e9.symm
  subst e9
  rw [sIn_pos (by omega), hxs]
  by_cases q : sPos y s.2.1.length = true
  · rw [if_pos q]
    refine zW.callS (r' := 0) (pc' := 20) dX1_idAt_17 rfl l_X1_187 rfl (w_chkIndex1) (zcc rfl zc0) rfl (Nat.le_of_ble_eq_true rfl) (Nat.le_of_ble_eq_true rfl) (Nat.le_of_ble_eq_true rfl) (fun _ _ q9 => ?_) (fun _ _ q9 => by cases q9.1)
    obtain ⟨q8, e9⟩ := q9
    cases q8
    replace e9 := e9.symm
    subst e9
    obtain ⟨n, e1, hn, e2⟩ := sPos_nat q
    rw [e1]
    obtain ⟨p, hp, hc⟩ := hP.2.1.2.at hn
    have hc2 := cCl_l hc
    refine zW.aload_n (pc' := 21) dX1_idAt_20 rfl rfl zg0 rfl ?_
    refine zW.get (pc' := 24) dX1_idAt_21 rfl f_X1_10_0 hx ⟨rfl, (Nat.le_of_ble_eq_true rfl)⟩ rfl ?_
    refine zW.get (pc' := 27) dX1_idAt_24 rfl f_X1_91_1 hst ⟨rfl, (Nat.le_of_ble_eq_true rfl)⟩ rfl ?_
    refine zW.iload_n (pc' := 28) dX1_idAt_27 rfl rfl (zgS (zg0)) ?_
    refine zW.callV (r' := 0) (pc' := 31) dX1_idAt_28 rfl l_X1_190 rfl hl ⟨rfl, (Nat.le_of_ble_eq_true rfl)⟩ rfl (w_llGet hP.2.1.1 (by omega) hp) (zcc rfl zc0) rfl (Nat.le_of_ble_eq_true rfl) (Nat.le_of_ble_eq_true rfl) (Nat.le_of_ble_eq_true rfl) (fun _ _ q9 => ?_) (fun _ _ q9 => by cases q9.1)
    obtain ⟨q8, e9⟩ := q9
    cases q8
    replace e9 := e9.symm
    subst e9
    refine zW.castS (pc' := 34) dX1_idAt_31 rfl (lw_all_tbl q1398) hc2 ⟨rfl, (Nat.le_of_ble_eq_true rfl)⟩ rfl ?_
    refine zW.get (pc' := 37) dX1_idAt_34 rfl f_X1_194_2 hc2 ⟨rfl, (Nat.le_of_ble_eq_true rfl)⟩ rfl ?_
    refine zW.iret dX1_idAt_37 rfl (rfl) ?_
    exact cAns.ok (by unfold qIdAt; rw [← e1, if_pos q, e2])
  · rw [if_neg q]
    refine zW.callS (r' := 2) (pc' := 20) dX1_idAt_17 rfl l_X1_187 rfl (w_chkIndex0) (zcc rfl zc0) rfl (Nat.le_of_ble_eq_true rfl) (Nat.le_of_ble_eq_true rfl) (Nat.le_of_ble_eq_true rfl) (fun _ _ q9 => by cases q9.1) (fun _ _ q9 => ?_)
    obtain ⟨q8, e9⟩ := q9
    cases q8
    replace e9 := e9.symm
    subst e9
    refine zX.out0 rfl ?_
    exact cAns.no (by unfold qIdAt; rw [if_neg q]) rfl
end
