/-! THE CLASS's questions on one claim, on the clock -/
section
set_option maxRecDepth 100000
variable {G : zG} {h : zH} {O : Nat → Prop} {x st ll aq re rt ea ha er hr tt nn i : Nat} {mc : Int32} {xs : List (Nat × Nat)} {qs rs : List Nat} {s : sS} {fs : List Value} {id : Int32} {p : Nat × Nat}
/-- a question's end: the answer, or the exception of its number -/
def cAns (Es : List String) (h : zH) (q : Nat × Int32) : zR → zH → Prop := fun o h' => h' = h ∧ ((q.1 = 0 ∧ o = .inl (some (.int q.2))) ∨ (q.1 ≠ 0 ∧ ∃ E, Es[q.1 - 1]? = some E ∧ o = .inr E))
theorem cAns.ok {Es : List String} {q : Nat × Int32} {v : Int32} (e : q = (0, v)) : cAns Es h q (.inl (some (.int v))) h := sorry
theorem cAns.no {Es : List String} {q : Nat × Int32} {k : Nat} {v : Int32} {E : String} (e : q = (k + 1, v)) (hE : Es[k]? = some E) : cAns Es h q (.inr E) h := sorry
/-- an exception, the heap as it was -/
abbrev zTr (h : zH) (E : String) : zR → zH → Prop := fun o h' => o = .inr E ∧ h' = h
abbrev eArg : String := "java/lang/IllegalArgumentException"
abbrev eSta : String := "java/lang/IllegalStateException"
abbrev eElt : String := "java/util/NoSuchElementException"
abbrev eIdx : String := "java/lang/IndexOutOfBoundsException"
theorem w_chkArgument1 : zK G mX1_checkArgument 1 0 [.int (nI 1)] h (zPu h none) := sorry
theorem w_chkArgument0 : zK G mX1_checkArgument 12 2 [.int (nI 0)] h (zTr h eArg) := sorry
theorem w_chkState1 : zK G mX1_checkState 1 0 [.int (nI 1)] h (zPu h none) := sorry
theorem w_chkState0 : zK G mX1_checkState 12 2 [.int (nI 0)] h (zTr h eSta) := sorry
theorem w_chkElement1 : zK G mX1_checkElement 1 0 [.int (nI 1)] h (zPu h none) := sorry
theorem w_chkElement0 : zK G mX1_checkElement 12 2 [.int (nI 0)] h (zTr h eElt) := sorry
theorem w_chkIndex1 : zK G mX1_checkIndex 1 0 [.int (nI 1)] h (zPu h none) := sorry
theorem w_chkIndex0 : zK G mX1_checkIndex 12 2 [.int (nI 0)] h (zTr h eIdx) := sorry
theorem w_btw {v lo hi : Int32} : zK G mX1_isBetween 1 0 [.int v, .int lo, .int hi] h (zPu h (some (.int (nI (if sIn v lo hi = true then 1 else 0))))) := sorry
theorem w_xisPerson {v : Int32} : zK G mX1_isPerson 2 0 [.int v] h (zPu h (some (.int (nI (if sIn v (nI 0) (nI 7) = true then 1 else 0))))) := sorry
theorem w_xisPerson1 {v : Int32} (q : sIn v (nI 0) (nI 7) = true) : zK G mX1_isPerson 2 0 [.int v] h (zPu h (some (.int (nI 1)))) := sorry
theorem w_xisPerson0 {v : Int32} (q : ¬ sIn v (nI 0) (nI 7) = true) : zK G mX1_isPerson 2 0 [.int v] h (zPu h (some (.int (nI 0)))) := sorry
theorem w_xisWave {v : Int32} : zK G mX1_isWave 2 0 [.int v] h (zPu h (some (.int (nI (if sIn v (nI 0) (nI 3) = true then 1 else 0))))) := sorry
theorem w_xisWave1 {v : Int32} (q : sIn v (nI 0) (nI 3) = true) : zK G mX1_isWave 2 0 [.int v] h (zPu h (some (.int (nI 1)))) := sorry
theorem w_xisWave0 {v : Int32} (q : ¬ sIn v (nI 0) (nI 3) = true) : zK G mX1_isWave 2 0 [.int v] h (zPu h (some (.int (nI 0)))) := sorry
theorem w_xisRock {v : Int32} : zK G mX1_isRock 2 0 [.int v] h (zPu h (some (.int (nI (if sIn v (nI 0) (nI 3) = true then 1 else 0))))) := sorry
theorem w_xisRock1 {v : Int32} (q : sIn v (nI 0) (nI 3) = true) : zK G mX1_isRock 2 0 [.int v] h (zPu h (some (.int (nI 1)))) := sorry
theorem w_xisRock0 {v : Int32} (q : ¬ sIn v (nI 0) (nI 3) = true) : zK G mX1_isRock 2 0 [.int v] h (zPu h (some (.int (nI 0)))) := sorry
theorem w_xisPhase {v : Int32} : zK G mX1_isPhase 2 0 [.int v] h (zPu h (some (.int (nI (if sIn v (nI 0) (nI 3) = true then 1 else 0))))) := sorry
theorem w_xisPhase1 {v : Int32} (q : sIn v (nI 0) (nI 3) = true) : zK G mX1_isPhase 2 0 [.int v] h (zPu h (some (.int (nI 1)))) := sorry
theorem w_xisPhase0 {v : Int32} (q : ¬ sIn v (nI 0) (nI 3) = true) : zK G mX1_isPhase 2 0 [.int v] h (zPu h (some (.int (nI 0)))) := sorry
theorem w_claim1 (hx : h x = some (0, .ref st :: fs)) (hP : cP h O st ll aq re rt ea ha er hr mc xs qs rs s) (hB : cB s) (hf : sFind s.2.1 id = some i) (hp : xs[i]? = some p) : zK G mX1_claim 14 2 [.ref x, .int id] h (zPu h (some (.ref p.2))) := sorry
theorem w_claim0 (hx : h x = some (0, .ref st :: fs)) (hP : cP h O st ll aq re rt ea ha er hr mc xs qs rs s) (hB : cB s) (hf : sFind s.2.1 id = none) : zK G mX1_claim 14 4 [.ref x, .int id] h (zTr h eElt) := sorry
theorem c_debtor (hx : h x = some (0, .ref st :: fs)) (hP : cP h O st ll aq re rt ea ha er hr mc xs qs rs s) (hJ : sJ tt nn s) (hN : nn ≤ 10000) : zK G mX1_debtor 40 4 [.ref x, .int id] h (cAns [eElt] h (qOf s id 1)) := sorry
theorem c_creditor (hx : h x = some (0, .ref st :: fs)) (hP : cP h O st ll aq re rt ea ha er hr mc xs qs rs s) (hJ : sJ tt nn s) (hN : nn ≤ 10000) : zK G mX1_creditor 40 4 [.ref x, .int id] h (cAns [eElt] h (qOf s id 2)) := sorry
theorem c_weight (hx : h x = some (0, .ref st :: fs)) (hP : cP h O st ll aq re rt ea ha er hr mc xs qs rs s) (hJ : sJ tt nn s) (hN : nn ≤ 10000) : zK G mX1_weight 40 4 [.ref x, .int id] h (cAns [eElt] h (qOf s id 3)) := sorry
theorem c_expiry (hx : h x = some (0, .ref st :: fs)) (hP : cP h O st ll aq re rt ea ha er hr mc xs qs rs s) (hJ : sJ tt nn s) (hN : nn ≤ 10000) : zK G mX1_expiry 40 4 [.ref x, .int id] h (cAns [eElt] h (qOf s id 4)) := sorry
theorem c_strikes (hx : h x = some (0, .ref st :: fs)) (hP : cP h O st ll aq re rt ea ha er hr mc xs qs rs s) (hJ : sJ tt nn s) (hN : nn ≤ 10000) : zK G mX1_strikes 40 4 [.ref x, .int id] h (cAns [eElt] h (qOf s id 5)) := sorry
theorem c_isSigned (hx : h x = some (0, .ref st :: fs)) (hP : cP h O st ll aq re rt ea ha er hr mc xs qs rs s) (hJ : sJ tt nn s) (hN : nn ≤ 10000) : zK G mX1_isSigned 40 4 [.ref x, .int id] h (cAns [eElt] h (qIs s id 6)) := sorry
theorem c_isCountersigned (hx : h x = some (0, .ref st :: fs)) (hP : cP h O st ll aq re rt ea ha er hr mc xs qs rs s) (hJ : sJ tt nn s) (hN : nn ≤ 10000) : zK G mX1_isCountersigned 40 4 [.ref x, .int id] h (cAns [eElt] h (qIs s id 7)) := sorry
theorem c_signer (hx : h x = some (0, .ref st :: fs)) (hP : cP h O st ll aq re rt ea ha er hr mc xs qs rs s) (hJ : sJ tt nn s) (hN : nn ≤ 10000) : zK G mX1_signer 40 4 [.ref x, .int id] h (cAns [eElt, eSta] h (qWho s id 6)) := sorry
theorem c_countersigner (hx : h x = some (0, .ref st :: fs)) (hP : cP h O st ll aq re rt ea ha er hr mc xs qs rs s) (hJ : sJ tt nn s) (hN : nn ≤ 10000) : zK G mX1_countersigner 40 4 [.ref x, .int id] h (cAns [eElt, eSta] h (qWho s id 7)) := sorry
theorem c_time (hx : h x = some (0, .ref st :: fs)) (hP : cP h O st ll aq re rt ea ha er hr mc xs qs rs s) : zK G mX1_time 40 0 [.ref x] h (cAns [] h (qTime s)) := sorry
theorem c_phase (hx : h x = some (0, .ref st :: fs)) (hP : cP h O st ll aq re rt ea ha er hr mc xs qs rs s) (hb : s.1 0 < 2 ^ 30) : zK G mX1_phase 40 0 [.ref x] h (cAns [] h (qPhase s)) := sorry
theorem c_activeCount (hx : h x = some (0, .ref st :: fs)) (hP : cP h O st ll aq re rt ea ha er hr mc xs qs rs s) : zK G mX1_activeCount 40 0 [.ref x] h (cAns [] h (qActive s)) := sorry
theorem c_isActive (hx : h x = some (0, .ref st :: fs)) (hP : cP h O st ll aq re rt ea ha er hr mc xs qs rs s) (hB : cB s) : zK G mX1_isActive 40 2 [.ref x, .int id] h (cAns [] h (qIsActive s id)) := sorry
theorem c_rate (hx : h x = some (0, .ref st :: fs)) (hP : cP h O st ll aq re rt ea ha er hr mc xs qs rs s) {y : Int32} : zK G mX1_rate 40 2 [.ref x, .int y] h (cAns [eArg] h (qRate s y)) := sorry
theorem c_idAt (hx : h x = some (0, .ref st :: fs)) (hP : cP h O st ll aq re rt ea ha er hr mc xs qs rs s) (hJ : sJ tt nn s) (hN : nn ≤ 10000) {y : Int32} : zK G mX1_idAt 40 2 [.ref x, .int y] h (cAns [eIdx] h (qIdAt s y)) := sorry
end

