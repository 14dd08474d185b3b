/-! THE CLASS's questions, more -/
section
set_option maxRecDepth 100000
variable {G : zG} {h : zH} {O : Nat → Prop} {x st ll aq re rt ea ha er hr tt nn i : Nat} {mc : Int32} {xs : List (Nat × Nat)} {qs rs : List Nat} {s : sS} {fs : List Value} {id y z : Int32} {p : Nat × Nat}
theorem sI.b6 {n : Nat} (h : sI tt nn n s) (hi : i < s.2.1.length) : sAt s.2.1 i 6 < 2 ^ 30 := sorry
theorem sI.b7 {n : Nat} (h : sI tt nn n s) (hi : i < s.2.1.length) : sAt s.2.1 i 7 < 2 ^ 30 := sorry
theorem c_isSignable (hx : h x = some (0, .ref st :: fs)) (hP : cP h O st ll aq re rt ea ha er hr mc xs qs rs s) (hJ : sJ tt nn s) (hN : nn ≤ 10000) (hT : tt ≤ 100000) (hi : i < s.2.1.length) (hp : xs[i]? = some p) {m : Nat} (hm : m < 2 ^ 30) : zK G mX1_isSignable 28 3 [.ref x, .ref p.2, .int (nI m)] h (zPu h (some (.int (nI (if sAt s.2.1 i 6 = 0 ∧ sCount s.2.1 6 m < 3 then 1 else 0))))) := sorry
theorem c_isCountersignable (hx : h x = some (0, .ref st :: fs)) (hP : cP h O st ll aq re rt ea ha er hr mc xs qs rs s) (hJ : sJ tt nn s) (hN : nn ≤ 10000) (hT : tt ≤ 100000) (hi : i < s.2.1.length) (hp : xs[i]? = some p) {m : Nat} (hm : m < 2 ^ 30) : zK G mX1_isCountersignable 28 3 [.ref x, .ref p.2, .int (nI m)] h (zPu h (some (.int (nI (if 0 < sAt s.2.1 i 6 ∧ sAt s.2.1 i 7 = 0 ∧ sCount s.2.1 7 m < 2 then 1 else 0))))) := sorry
theorem c_canSign (hx : h x = some (0, .ref st :: fs)) (hP : cP h O st ll aq re rt ea ha er hr mc xs qs rs s) (hJ : sJ tt nn s) (hN : nn ≤ 10000) (hT : tt ≤ 100000) : zK G mX1_canSign 40 5 [.ref x, .int id, .int y] h (cAns [eElt, eArg] h (qCanS s id y)) := sorry
theorem c_canCountersign (hx : h x = some (0, .ref st :: fs)) (hP : cP h O st ll aq re rt ea ha er hr mc xs qs rs s) (hJ : sJ tt nn s) (hN : nn ≤ 10000) (hT : tt ≤ 100000) : zK G mX1_canCountersign 40 5 [.ref x, .int id, .int y] h (cAns [eElt, eArg] h (qCanC s id y)) := sorry
theorem c_signaturesOf (hx : h x = some (0, .ref st :: fs)) (hP : cP h O st ll aq re rt ea ha er hr mc xs qs rs s) (hJ : sJ tt nn s) (hN : nn ≤ 10000) (hT : tt ≤ 100000) : zK G mX1_signaturesOf 40 3 [.ref x, .int y] h (cAns [eArg] h (qSigs s 6 y)) := sorry
theorem c_countersignaturesOf (hx : h x = some (0, .ref st :: fs)) (hP : cP h O st ll aq re rt ea ha er hr mc xs qs rs s) (hJ : sJ tt nn s) (hN : nn ≤ 10000) (hT : tt ≤ 100000) : zK G mX1_countersignaturesOf 40 3 [.ref x, .int y] h (cAns [eArg] h (qSigs s 7 y)) := sorry
theorem c_heaviest (hx : h x = some (0, .ref st :: fs)) (hP : cP h O st ll aq re rt ea ha er hr mc xs qs rs s) (hJ : sJ tt nn s) (hN : nn ≤ 10000) (hT : tt ≤ 100000) (hk : zkn G h) (hL : zkL G) : zK G mX1_heaviest 40 4 [.ref x] h (cAns [eElt] h (qHeaviest s)) := sorry
theorem c_nextExpiry (hx : h x = some (0, .ref st :: fs)) (hP : cP h O st ll aq re rt ea ha er hr mc xs qs rs s) (hJ : sJ tt nn s) (hN : nn ≤ 10000) (hT : tt ≤ 100000) (hk : zkn G h) (hL : zkL G) : zK G mX1_nextExpiry 40 4 [.ref x] h (cAns [eElt] h (qNext s)) := sorry
theorem c_nextToAudit (hx : h x = some (0, .ref st :: fs)) (hP : cP h O st ll aq re rt ea ha er hr mc xs qs rs s) : zK G mX1_nextToAudit 40 2 [.ref x] h (cAns [eElt] h (qNextAudit s)) := sorry
theorem c_auditPosition (hx : h x = some (0, .ref st :: fs)) (hP : cP h O st ll aq re rt ea ha er hr mc xs qs rs s) (hJ : sJ tt nn s) (hN : nn ≤ 10000) (hT : tt ≤ 100000) : zK G mX1_auditPosition 40 4 [.ref x, .int id] h (cAns [eElt] h (qAuditPos s id)) := sorry
theorem c_recentlyExpired (hx : h x = some (0, .ref st :: fs)) (hP : cP h O st ll aq re rt ea ha er hr mc xs qs rs s) (hB : cB s) : zK G mX1_recentlyExpired 40 4 [.ref x, .int y] h (cAns [eElt] h (qRecent s y)) := sorry
end

