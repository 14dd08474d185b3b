/-! THE REFERENCE's changes, as they are called -/
section
set_option maxRecDepth 100000
variable {G : zG} {h0 : zH} {a : tA} {T : tS} {tt nn n : Nat}
/-- a change's world, by its outcome and the numbers of its throws -/
def sEnd (w : sW) (R : sR) (n1 n2 n3 : Nat) : Nat × Int32 × sW := (sTh R.1 n1 n2 n3, if sTh R.1 n1 n2 n3 = 0 then (nI R.2.1, (R.2.2, sPush w.2.1 w.1, w.2.2)) else (0, w))
theorem w_begun (hD : tD a) {w : sW} (hW : tW T w) : zK G mX3_begins 2 0 [.ref a.1] (tH h0 a T) (tQ h0 a fun v T' => v = none ∧ tW T' w ∧ tR T'.2.1 (130 * 10) w.1) := sorry
theorem w_ended (hD : tD a) {T1 : tS} {w : sW} {R : sR} (hW : tW T w) (h10 : tR T.2.1 (130 * 10) w.1) (hC : tC T w.1 R (some (.int (nI R.1))) T1) {n1 n2 n3 : Nat} (hb : R.1 < 4) (h1 : n1 < 4) (h2 : n2 < 4) (h3 : n3 < 4) (hn : R.1 ≠ 0 → sTh R.1 n1 n2 n3 ≠ 0) : zK G mX3_ends 2 0 [.ref a.1, .int (nI R.1), .int (nI n1), .int (nI n2), .int (nI n3)] (tH h0 a T1) (tO h0 a (sEnd w R n1 n2 n3).1 (.int (sEnd w R n1 n2 n3).2.1) (sEnd w R n1 n2 n3).2.2) := sorry
theorem sTh_012 {b : Nat} (hb : b < 4) (h1 : b ≠ 1) : b ≠ 0 → sTh b 0 1 2 ≠ 0 := sorry
theorem sTh_123 {b : Nat} (hb : b < 4) : b ≠ 0 → sTh b 1 2 3 ≠ 0 := sorry
theorem sAdd_c {s : sS} {d c w l : Int32} : (sAdd s d c w l).1 < 4 ∧ (sAdd s d c w l).1 ≠ 1 := sorry
theorem sSign_c {s : sS} {id w : Int32} : (sSign s id w).1 < 4 := sorry
theorem sCosign_c {s : sS} {id w : Int32} : (sCosign s id w).1 < 4 := sorry
theorem sSettle_c {s : sS} {id : Int32} : (sSettle s id).1 = 0 ∨ (sSettle s id).1 = 1 ∨ (sSettle s id).1 = 3 := sorry
theorem sAdvance_c {s : sS} {t : Int32} : (sAdvance s t).1 = 0 ∨ (sAdvance s t).1 = 2 := sorry
theorem sAudit_c {s : sS} {t : Int32} : (sAudit s t).1 = 0 ∨ (sAudit s t).1 = 2 := sorry
theorem sSetRate_c {s : sS} {p v : Int32} : (sSetRate s p v).1 = 0 ∨ (sSetRate s p v).1 = 2 := sorry
theorem tC.v {s : sS} {R : sR} {v : Option Value} {T' : tS} (h : tC T s R v T') : v = some (.int (nI R.1)) := sorry
theorem tC.vv {s : sS} {R : sR} {v : Option Value} {T' : tS} (h : tC T s R v T') : tC T s R (some (.int (nI R.1))) T' := sorry
theorem w_add (hD : tD a) {w : sW} (hW : tW T w) {d c x l : Int32} : zK G mX3_add 7 0 [.ref a.1, .int d, .int c, .int x, .int l] (tH h0 a T) (tO h0 a (sEnd w (sAdd w.1 d c x l) 0 1 2).1 (.int (sEnd w (sAdd w.1 d c x l) 0 1 2).2.1) (sEnd w (sAdd w.1 d c x l) 0 1 2).2.2) := sorry
theorem w_sign (hD : tD a) {w : sW} (hW : tW T w) (hB : tB w.1) {id x : Int32} : zK G mX3_sign 7 0 [.ref a.1, .int id, .int x] (tH h0 a T) (tO h0 a (sEnd w (sSign w.1 id x) 1 2 3).1 (.int (sEnd w (sSign w.1 id x) 1 2 3).2.1) (sEnd w (sSign w.1 id x) 1 2 3).2.2) := sorry
theorem w_countersign (hD : tD a) {w : sW} (hW : tW T w) (hB : tB w.1) {id x : Int32} : zK G mX3_countersign 7 0 [.ref a.1, .int id, .int x] (tH h0 a T) (tO h0 a (sEnd w (sCosign w.1 id x) 1 2 3).1 (.int (sEnd w (sCosign w.1 id x) 1 2 3).2.1) (sEnd w (sCosign w.1 id x) 1 2 3).2.2) := sorry
theorem w_settle (hD : tD a) {w : sW} (hW : tW T w) (hB : tB w.1) (hQ : ∀ i, i < w.1.2.1.length → sAt w.1.2.1 i 0 ∈ w.1.2.2.1) {id : Int32} : zK G mX3_settle 7 0 [.ref a.1, .int id] (tH h0 a T) (tO h0 a (sEnd w (sSettle w.1 id) 1 0 2).1 (.int (sEnd w (sSettle w.1 id) 1 0 2).2.1) (sEnd w (sSettle w.1 id) 1 0 2).2.2) := sorry
theorem w_advance (hD : tD a) {w : sW} (hW : tW T w) (hI : sI tt nn 0 w.1) (hE : sE w.1) (hT : tt + 50 < 100000) (hN : nn ≤ 10000) {t : Int32} : zK G mX3_advance 7 0 [.ref a.1, .int t] (tH h0 a T) (tO h0 a (sEnd w (sAdvance w.1 t) 0 1 0).1 (.int (sEnd w (sAdvance w.1 t) 0 1 0).2.1) (sEnd w (sAdvance w.1 t) 0 1 0).2.2) := sorry
theorem w_tick (hD : tD a) {w : sW} (hW : tW T w) (hI : sI tt nn 0 w.1) (hE : sE w.1) (hT : tt + 50 < 100000) (hN : nn ≤ 10000) : zK G mX3_tick 7 0 [.ref a.1] (tH h0 a T) (tO h0 a (sEnd w (sAdvance w.1 (nI 1)) 0 0 0).1 (.int (sEnd w (sAdvance w.1 (nI 1)) 0 0 0).2.1) (sEnd w (sAdvance w.1 (nI 1)) 0 0 0).2.2) := sorry
theorem w_audit (hD : tD a) {w : sW} (hW : tW T w) (hI : sI tt nn 0 w.1) (hE : sE w.1) (hT : tt + 50 < 100000) (hN : nn ≤ 10000) {t : Int32} : zK G mX3_audit 7 0 [.ref a.1, .int t] (tH h0 a T) (tO h0 a (sEnd w (sAudit w.1 t) 0 1 0).1 (.int (sEnd w (sAudit w.1 t) 0 1 0).2.1) (sEnd w (sAudit w.1 t) 0 1 0).2.2) := sorry
theorem w_setRate (hD : tD a) {w : sW} (hW : tW T w) {p v : Int32} : zK G mX3_setRate 7 0 [.ref a.1, .int p, .int v] (tH h0 a T) (tO h0 a (sEnd w (sSetRate w.1 p v) 0 1 0).1 (.int (sEnd w (sSetRate w.1 p v) 0 1 0).2.1) (sEnd w (sSetRate w.1 p v) 0 1 0).2.2) := sorry
end

