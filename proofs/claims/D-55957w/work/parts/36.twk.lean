/-! THE REFERENCE's questions -/
section
set_option maxRecDepth 100000
variable {G : zG} {h0 : zH} {a : tA} {T : tS} {tt nn n : Nat}
theorem tW.th {T : tS} {w : sW} (h : tW T w) {x : Nat} : tW (zu T.1 0 x, T.2) w := sorry
/-- an answer of a question -/
theorem tO.q {T : tS} {w : sW} (h : tW T w) {x : Nat} {v : Value} : tO h0 a x v w (.inl (some v)) (tH h0 a (zu T.1 0 x, T.2)) := sorry
theorem w_fine1 : zK G mX3_isFine 1 0 [.ref a.1, .int (nI 1)] (tH h0 a T) (tQ h0 a fun v T' => v = some (.int (nI 1)) ∧ T' = (zu T.1 0 0, T.2)) := sorry
theorem w_fine0 : zK G mX3_isFine 1 0 [.ref a.1, .int (nI 0)] (tH h0 a T) (tQ h0 a fun v T' => v = some (.int (nI 0)) ∧ T' = (zu T.1 0 1, T.2)) := sorry
theorem w_in1 {h : zH} {v lo hi : Int32} (q : sIn v lo hi = true) : zK G mX3_in 1 0 [.int v, .int lo, .int hi] h (fun o h' => o = .inl (some (.int (nI 1))) ∧ h' = h) := sorry
theorem w_in0 {h : zH} {v lo hi : Int32} (q : ¬ sIn v lo hi = true) : zK G mX3_in 1 0 [.int v, .int lo, .int hi] h (fun o h' => o = .inl (some (.int (nI 0))) ∧ h' = h) := sorry
theorem w_pers1 {h : zH} {v : Int32} (q : sIn v (nI 0) (nI 7) = true) : zK G mX3_isPerson 2 0 [.int v] h (fun o h' => o = .inl (some (.int (nI 1))) ∧ h' = h) := sorry
theorem w_pers0 {h : zH} {v : Int32} (q : ¬ sIn v (nI 0) (nI 7) = true) : zK G mX3_isPerson 2 0 [.int v] h (fun o h' => o = .inl (some (.int (nI 0))) ∧ h' = h) := sorry
def qTime (s : sS) : Nat × Int32 := (0, nI (s.1 0))
def qPhase (s : sS) : Nat × Int32 := (0, nI (s.1 0 / 4 % 4))
def qRate (s : sS) (p : Int32) : Nat × Int32 := if sIn p (nI 0) (nI 3) = true then (0, nI (s.1 (10 + iN p))) else (1, nI 0)
def qActive (s : sS) : Nat × Int32 := (0, nI s.2.1.length)
def qIsActive (s : sS) (id : Int32) : Nat × Int32 := (0, match sFind s.2.1 id with | none => nI 0 | some _ => nI 1)
def sPos (p : Int32) (n : Nat) : Bool := decide (0 ≤ p ∧ iN p < n)
def qIdAt (s : sS) (p : Int32) : Nat × Int32 := if sPos p s.2.1.length = true then (0, nI (sAt s.2.1 (iN p) 0)) else (1, nI 0)
def qOf (s : sS) (id : Int32) (f : Nat) : Nat × Int32 := match sFind s.2.1 id with | none => (1, nI 0) | some i => (0, nI (sAt s.2.1 i f))
def qIs (s : sS) (id : Int32) (f : Nat) : Nat × Int32 := match sFind s.2.1 id with | none => (1, nI 0) | some i => (0, nI (if sAt s.2.1 i f = 0 then 0 else 1))
def qWho (s : sS) (id : Int32) (f : Nat) : Nat × Int32 := match sFind s.2.1 id with | none => (1, nI 0) | some i => if sAt s.2.1 i f = 0 then (2, nI 0) else (0, nI (sAt s.2.1 i f - 1))
def qSigs (s : sS) (f : Nat) (x : Int32) : Nat × Int32 := if sIn x (nI 0) (nI 3) = true then (0, nI (sCount s.2.1 f (iN x))) else (1, nI 0)
abbrev tAns (h0 : zH) (a : tA) (w : sW) (q : Nat × Int32) : zR → zH → Prop := tO h0 a q.1 (.int q.2) w
theorem tAns.of {w : sW} {q : Nat × Int32} {x : Nat} {v : Int32} {T : tS} (h : tW T w) (e : q = (x, v)) : tAns h0 a w q (.inl (some (.int v))) (tH h0 a (zu T.1 0 x, T.2)) := sorry
theorem w_time (hD : tD a) {w : sW} (hW : tW T w) : zK G mX3_time 3 0 [.ref a.1] (tH h0 a T) (tAns h0 a w (qTime w.1)) := sorry
theorem w_activeCount (hD : tD a) {w : sW} (hW : tW T w) : zK G mX3_activeCount 3 0 [.ref a.1] (tH h0 a T) (tAns h0 a w (qActive w.1)) := sorry
theorem w_phase (hD : tD a) {w : sW} (hW : tW T w) (hb : w.1.1 0 < 2 ^ 30) : zK G mX3_phase 3 0 [.ref a.1] (tH h0 a T) (tAns h0 a w (qPhase w.1)) := sorry
theorem w_rate (hD : tD a) {w : sW} (hW : tW T w) {p : Int32} : zK G mX3_rate 3 0 [.ref a.1, .int p] (tH h0 a T) (tAns h0 a w (qRate w.1 p)) := sorry
theorem w_signaturesOf (hD : tD a) {w : sW} (hW : tW T w) {p : Int32} (hB : tB w.1) : zK G mX3_signaturesOf 3 0 [.ref a.1, .int p] (tH h0 a T) (tAns h0 a w (qSigs w.1 6 p)) := sorry
theorem w_countersignaturesOf (hD : tD a) {w : sW} (hW : tW T w) {p : Int32} (hB : tB w.1) : zK G mX3_countersignaturesOf 3 0 [.ref a.1, .int p] (tH h0 a T) (tAns h0 a w (qSigs w.1 7 p)) := sorry
theorem sFind_c {s : sS} (h : tR T.2.1 0 s) {id : Int32} : (sFind s.2.1 id = none) ∨ ∃ i, sFind s.2.1 id = some i ∧ i < s.2.1.length ∧ i < 12 := sorry
theorem w_find0 (hD : tD a) {s : sS} (hR : tR T.2.1 0 s) {id : Int32} (q : sFind s.2.1 id = none) : zK G mX3_find 2 0 [.ref a.1, .int id] (tH h0 a T) (tQ h0 a fun v T' => v = some (.int (-1)) ∧ T' = T) := sorry
theorem w_find1 (hD : tD a) {s : sS} (hR : tR T.2.1 0 s) {id : Int32} {k : Nat} (q : sFind s.2.1 id = some k) : zK G mX3_find 2 0 [.ref a.1, .int id] (tH h0 a T) (tQ h0 a fun v T' => v = some (.int (nI k)) ∧ T' = T) := sorry
theorem w_isActive (hD : tD a) {w : sW} (hW : tW T w) {id : Int32} : zK G mX3_isActive 3 0 [.ref a.1, .int id] (tH h0 a T) (tAns h0 a w (qIsActive w.1 id)) := sorry
theorem w_ofClaim (hD : tD a) {w : sW} (hW : tW T w) {id : Int32} {f : Nat} (hf : f < 8) : zK G mX3_ofClaim 3 0 [.ref a.1, .int id, .int (nI f)] (tH h0 a T) (tQ h0 a fun v T' => v = some (.int (qOf w.1 id f).2) ∧ T' = (zu T.1 0 (qOf w.1 id f).1, T.2)) := sorry
theorem w_debtor (hD : tD a) {w : sW} (hW : tW T w) {id : Int32} : zK G mX3_debtor 4 0 [.ref a.1, .int id] (tH h0 a T) (tAns h0 a w (qOf w.1 id 1)) := sorry
theorem w_creditor (hD : tD a) {w : sW} (hW : tW T w) {id : Int32} : zK G mX3_creditor 4 0 [.ref a.1, .int id] (tH h0 a T) (tAns h0 a w (qOf w.1 id 2)) := sorry
theorem w_weight (hD : tD a) {w : sW} (hW : tW T w) {id : Int32} : zK G mX3_weight 4 0 [.ref a.1, .int id] (tH h0 a T) (tAns h0 a w (qOf w.1 id 3)) := sorry
theorem w_expiry (hD : tD a) {w : sW} (hW : tW T w) {id : Int32} : zK G mX3_expiry 4 0 [.ref a.1, .int id] (tH h0 a T) (tAns h0 a w (qOf w.1 id 4)) := sorry
theorem w_strikes (hD : tD a) {w : sW} (hW : tW T w) {id : Int32} : zK G mX3_strikes 4 0 [.ref a.1, .int id] (tH h0 a T) (tAns h0 a w (qOf w.1 id 5)) := sorry
theorem w_isSigned (hD : tD a) {w : sW} (hW : tW T w) {id : Int32} (hB : tB w.1) : zK G mX3_isSigned 4 0 [.ref a.1, .int id] (tH h0 a T) (tAns h0 a w (qIs w.1 id 6)) := sorry
theorem w_isCountersigned (hD : tD a) {w : sW} (hW : tW T w) {id : Int32} (hB : tB w.1) : zK G mX3_isCountersigned 4 0 [.ref a.1, .int id] (tH h0 a T) (tAns h0 a w (qIs w.1 id 7)) := sorry
theorem w_whoSigned (hD : tD a) {w : sW} (hW : tW T w) (hB : tB w.1) {id : Int32} {f : Nat} (hf : f < 8) : zK G mX3_whoSigned 4 0 [.ref a.1, .int id, .int (nI f)] (tH h0 a T) (tQ h0 a fun v T' => v = some (.int (qWho w.1 id f).2) ∧ T'.1 0 = (qWho w.1 id f).1 ∧ tW T' w) := sorry
theorem w_signer (hD : tD a) {w : sW} (hW : tW T w) {id : Int32} (hB : tB w.1) : zK G mX3_signer 5 0 [.ref a.1, .int id] (tH h0 a T) (tAns h0 a w (qWho w.1 id 6)) := sorry
theorem w_countersigner (hD : tD a) {w : sW} (hW : tW T w) {id : Int32} (hB : tB w.1) : zK G mX3_countersigner 5 0 [.ref a.1, .int id] (tH h0 a T) (tAns h0 a w (qWho w.1 id 7)) := sorry
end

