/-! THE CLASS's questions: the future, totals -/
section
set_option maxRecDepth 100000
variable {G : zG} {h : zH} {O : Nat → Prop} {x st ll aq re rt ea ha er hr tt nn i : Nat} {mc : Int32} {xs : List (Nat × Nat)} {qs rs : List Nat} {s : sS} {fs : List Value} {id y z : Int32} {p : Nat × Nat}
theorem sI.b034 {n : Nat} (h : sI tt nn n s) (hN : nn ≤ 10000) (hT : tt ≤ 100000) {c : sC} (hc : c ∈ s.2.1) : c 0 < 2 ^ 30 ∧ c 3 < 2 ^ 30 ∧ c 4 < 2 ^ 30 := sorry
theorem c_expiryRank (hx : h x = some (0, .ref st :: fs)) (hP : cP h O st ll aq re rt ea ha er hr mc xs qs rs s) (hJ : sJ tt nn s) (hN : nn ≤ 10000) (hT : tt ≤ 100000) : zK G mX1_expiryRank 40 5 [.ref x, .int id] h (cAns [eElt] h (qRank s id)) := sorry
theorem c_byComparison (hx : h x = some (0, .ref st :: fs)) (hP : cP h O st ll aq re rt ea ha er hr mc xs qs rs s) (hJ : sJ tt nn s) (hN : nn ≤ 10000) (hT : tt ≤ 100000) {m : Nat} (hm : m ≤ 50) : zK G mX1_expiringByComparison 28 3 [.ref x, .int (nI m)] h (zPu h (some (.int (nI (sUp (fun k => if sAt s.2.1 k 4 ≤ s.1 0 + m then 1 else 0) s.2.1.length))))) := sorry
theorem w_isFc1 (q : sIn y (nI 0) (nI 50) = true) : zK G mX1_isForecast 2 0 [.int y] h (zPu h (some (.int (nI 1)))) := sorry
theorem w_isFc0 (q : ¬ sIn y (nI 0) (nI 50) = true) : zK G mX1_isForecast 2 0 [.int y] h (zPu h (some (.int (nI 0)))) := sorry
theorem cS.cell {h : zH} {O : Nat → Prop} {st : Nat} {s : sS} (hS : cS h O st s) : ∃ f2, h st = some (1, f2) := sorry
theorem zfr.le {A : Nat → Prop} {h0 h1 : zH} (z : zfr A h0 h1) (n : ∀ b, A b → h0 b = none) : zle h0 h1 := sorry
theorem c_byCopy (hx : h x = some (0, .ref st :: fs)) (hP : cP h O st ll aq re rt ea ha er hr mc xs qs rs s) (hJ : sJ tt nn s) (hN : nn ≤ 10000) (hT : tt + 50 < 100000) (hk : zkn G h) (hZ : zkI G) {m : Nat} (hm : m ≤ 50) : zK G mX1_expiringByCopy 28 (28 * m + 78) [.ref x, .int (nI m)] h (zPu h (some (.int (nI (sTicks s m).1)))) := sorry
theorem c_expiringWithin (hx : h x = some (0, .ref st :: fs)) (hP : cP h O st ll aq re rt ea ha er hr mc xs qs rs s) (hJ : sJ tt nn s) (hN : nn ≤ 10000) (hT : tt ≤ 100000) : zK G mX1_expiringWithin 40 3 [.ref x, .int y] h (cAns [eArg] h (qExpW s y)) := sorry
theorem c_expiringBySimulation (hx : h x = some (0, .ref st :: fs)) (hP : cP h O st ll aq re rt ea ha er hr mc xs qs rs s) (hJ : sJ tt nn s) (hN : nn ≤ 10000) (hT : tt + 50 < 100000) (hk : zkn G h) (hZ : zkI G) : zK G mX1_expiringBySimulation 40 1478 [.ref x, .int y] h (cAns [eArg] h (qExpS s y)) := sorry
theorem c_expiredCount (hx : h x = some (0, .ref st :: fs)) (hP : cP h O st ll aq re rt ea ha er hr mc xs qs rs s) : zK G mX1_expiredCount 40 0 [.ref x] h (cAns [] h (qNum s 5)) := sorry
theorem c_settledCount (hx : h x = some (0, .ref st :: fs)) (hP : cP h O st ll aq re rt ea ha er hr mc xs qs rs s) : zK G mX1_settledCount 40 0 [.ref x] h (cAns [] h (qNum s 6)) := sorry
theorem c_voidedCount (hx : h x = some (0, .ref st :: fs)) (hP : cP h O st ll aq re rt ea ha er hr mc xs qs rs s) : zK G mX1_voidedCount 40 0 [.ref x] h (cAns [] h (qNum s 7)) := sorry
theorem c_interestTotal (hx : h x = some (0, .ref st :: fs)) (hP : cP h O st ll aq re rt ea ha er hr mc xs qs rs s) (hb : s.1 3 < 2 ^ 30) : zK G mX1_interestTotal 40 0 [.ref x] h (zPu h (some (.long (nI (s.1 3)).toInt64))) := sorry
theorem c_closedWeight (hx : h x = some (0, .ref st :: fs)) (hP : cP h O st ll aq re rt ea ha er hr mc xs qs rs s) (hb : s.1 8 < 2 ^ 30) : zK G mX1_closedWeight 40 0 [.ref x] h (zPu h (some (.long (nI (s.1 8)).toInt64))) := sorry
theorem c_stActive (hP : cP h O st ll aq re rt ea ha er hr mc xs qs rs s) (hJ : sJ tt nn s) (hN : nn ≤ 10000) (hT : tt ≤ 100000) (hk : zkn G h) (hL : zkL G) : zK G mX2_activeWeight 26 2 [.ref st] h (zPu h (some (.long (nI (sUp (fun k => sAt s.2.1 k 3) s.2.1.length)).toInt64))) := sorry
theorem c_activeWeight (hx : h x = some (0, .ref st :: fs)) (hP : cP h O st ll aq re rt ea ha er hr mc xs qs rs s) (hJ : sJ tt nn s) (hN : nn ≤ 10000) (hT : tt ≤ 100000) (hk : zkn G h) (hL : zkL G) : zK G mX1_activeWeight 40 2 [.ref x] h (zPu h (some (.long (nI (sUp (fun k => sAt s.2.1 k 3) s.2.1.length)).toInt64))) := sorry
theorem zu3 {c : sC} {a b : Nat} : zu (zu c 3 a) 3 b = zu c 3 b := sorry
theorem zu3s {c : sC} : zu c 3 (c 3) = c := sorry
theorem c_weightAfter (hx : h x = some (0, .ref st :: fs)) (hP : cP h O st ll aq re rt ea ha er hr mc xs qs rs s) (hJ : sJ tt nn s) (hN : nn ≤ 10000) (hT : tt + 50 < 100000) : zK G mX1_weightAfter 40 6 [.ref x, .int id, .int y] h (cAns [eElt, eArg] h (qAfter s id y)) := sorry
end

