/-! StringBuilder: append of a number -/
section
set_option maxRecDepth 100000
variable {G : zG} {h h' h1 : zH} {a v k f : Nat} {l : List Nat}
theorem nN10 : (-10 : Int32) = - nI (10 ^ 1) := sorry
theorem nN100 : (-100 : Int32) = - nI 100 := sorry
theorem nN9 : (-9 : Int32) = - nI 9 := sorry
theorem w_strSz (hf : f ≤ 5) (hk : k < 10 ^ (f + 1)) : zK G mJ21_stringSize 1 0 [.int (nI k)] h (zPu h (some (.int (nI (sDec f k).length)))) := sorry
theorem w_getCh (hk : zkn G h) (hD : zkD G) (hf : f ≤ 5) (hkf : k < 10 ^ (f + 1)) {P M S : List Nat} (hv : h v = some (103, btab (P ++ M ++ S))) (hM : M.length = (sDec f k).length) (hb : (P ++ M ++ S).length < 2 ^ 20) : zK G mJ21_getChars 1 0 [.int (nI k), .int (nI (P ++ M).length), .ref v] h (zO fun o h' => o = some (.int (nI P.length)) ∧ h' = zup h v (103, btab (P ++ sDec f k ++ S)) ∧ h' v = some (103, btab (P ++ sDec f k ++ S))) := sorry
theorem w_sbPutN (hk : zkn G h) (hD : zkD G) (kS : cSB h a v l) (hf : f ≤ 5) (hkf : k < 10 ^ (f + 1)) (hl : l.length ≤ 94) (hc : h = h) : zK G mJ5_append_2 6 51 [.ref a, .int (nI k)] h (cSBp h a v (l ++ sDec f k) (some (.ref a))) := sorry
theorem w_sbAppN (hk : zkn G h) (hD : zkD G) (kS : cSB h a v l) (hf : f ≤ 5) (hkf : k < 10 ^ (f + 1)) (hl : l.length ≤ 94) : zK G mJ6_append_2 7 51 [.ref a, .int (nI k)] h (cSBp h a v (l ++ sDec f k) (some (.ref a))) := sorry
end

