/-! THE CLASS's questions on chains; is it consistent -/
section
set_option maxRecDepth 100000
variable {G : zG} {h : zH} {O : Nat → Prop} {x st ll aq re rt ea ha er hr tt nn n i : Nat} {mc : Int32} {xs : List (Nat × Nat)} {qs rs : List Nat} {s : sS} {fs : List Value} {id y z : Int32} {Q9 : zR → zH → Prop}
theorem nI_nm1 {l : Nat} (hl : l < 2 ^ 30) : ¬ nI l = -1 := sorry
theorem cLenV_0 {a b : Nat} (q : bLen s a b = 0) : cLenV s a b = -1 := sorry
theorem cLenV_1 {a b : Nat} (q : ¬ bLen s a b = 0) : cLenV s a b = nI (bLen s a b) := sorry
theorem c_chainLength (hk : zkn G h) (hZ : zkI G) (hx : h x = some (0, .ref st :: fs)) (hP : cP h O st ll aq re rt ea ha er hr mc xs qs rs s) (hJ : sJ tt nn s) (hN : nn ≤ 10000) (hT : tt ≤ 100000) : zK G mX1_chainLength 40 137 [.ref x, .int y, .int z] h (cAns [eArg, eElt] h (qChain s y z)) := sorry
theorem c_chainLengthByRounds (hk : zkn G h) (hZ : zkI G) (hx : h x = some (0, .ref st :: fs)) (hP : cP h O st ll aq re rt ea ha er hr mc xs qs rs s) (hJ : sJ tt nn s) (hN : nn ≤ 10000) (hT : tt ≤ 100000) : zK G mX1_chainLengthByRounds 40 18 [.ref x, .int y, .int z] h (cAns [eArg, eElt] h (qChain s y z)) := sorry
theorem c_reachableFrom (hk : zkn G h) (hZ : zkI G) (hx : h x = some (0, .ref st :: fs)) (hP : cP h O st ll aq re rt ea ha er hr mc xs qs rs s) (hJ : sJ tt nn s) (hN : nn ≤ 10000) (hT : tt ≤ 100000) : zK G mX1_reachableFrom 40 1080 [.ref x, .int y] h (cAns [eArg] h (qReach s y)) := sorry
theorem c_hasCycle (hk : zkn G h) (hZ : zkI G) (hx : h x = some (0, .ref st :: fs)) (hP : cP h O st ll aq re rt ea ha er hr mc xs qs rs s) (hJ : sJ tt nn s) (hN : nn ≤ 10000) (hT : tt ≤ 100000) : zK G mX1_hasCycle 40 1080 [.ref x] h (cAns [] h (qCycle s)) := sorry
theorem c_areChainsEqual (hk : zkn G h) (hZ : zkI G) (hx : h x = some (0, .ref st :: fs)) (hP : cP h O st ll aq re rt ea ha er hr mc xs qs rs s) (hI : sI tt nn n s) : zK G mX1_areChainsEqual 30 9664 [.ref x] h (zPu h (some (.int (nI 1)))) := sorry
theorem c_sumOfBalances (hx : h x = some (0, .ref st :: fs)) (hP : cP h O st ll aq re rt ea ha er hr mc xs qs rs s) (hJ : sJ tt nn s) (hN : nn ≤ 10000) (hT : tt ≤ 100000) : zK G mX1_sumOfBalances 30 24 [.ref x] h (zPu h (some (.int 0))) := sorry
theorem c_areForecastsEqual (hk : zkn G h) (hZ : zkI G) (hx : h x = some (0, .ref st :: fs)) (hP : cP h O st ll aq re rt ea ha er hr mc xs qs rs s) (hJ : sJ tt nn s) (hN : nn ≤ 10000) (hT : tt + 50 < 100000) {m : Nat} (hm : m ≤ 50) : zK G mX1_areForecastsEqual 30 (28 * m + 81) [.ref x, .int (nI m)] h (zPu h (some (.int (nI 1)))) := sorry
theorem c_isConsistent (hk : zkn G h) (hZ : zkI G) (hL : zkL G) (hx : h x = some (0, .ref st :: fs)) (hP : cP h O st ll aq re rt ea ha er hr mc xs qs rs s) (hJ : sJ tt nn s) (hN : nn ≤ 10000) (hT : tt + 50 < 100000) : zK G mX1_isConsistent 40 11613 [.ref x] h (cAns [] h (0, nI 1)) := sorry
end

