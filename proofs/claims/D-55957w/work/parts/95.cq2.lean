/-! THE CLASS's questions by counts and sums -/
section
set_option maxRecDepth 100000
variable {G : zG} {h : zH} {O : Nat → Prop} {x st ll aq re rt ea ha er hr tt nn i : Nat} {mc : Int32} {xs : List (Nat × Nat)} {qs rs : List Nat} {s : sS} {fs : List Value} {id y z : Int32} {p : Nat × Nat}
theorem lam_fit1 {t : FieldType} {v : Value} (h : fits t v = true) : ∀ (j : Nat) t' v', [t][j]? = some t' → [v][j]? = some v' → fits t' v' = true := sorry
theorem lam_fit2 {t u : FieldType} {v w : Value} (h : fits t v = true) (k : fits u w = true) : ∀ (j : Nat) t' v', [t, u][j]? = some t' → [v, w][j]? = some v' → fits t' v' = true := sorry
/-- the objects of the sites that capture nothing stand at the start -/
def zkL (G : zG) : Prop := ∀ i, (i = 0 ∨ i = 7 ∨ i = 8) → zg_k G (zg_a G (50 + i)) = some (1050 + i, [])
theorem c_signatures (hx : h x = some (0, .ref st :: fs)) (hP : cP h O st ll aq re rt ea ha er hr mc xs qs rs s) (hJ : sJ tt nn s) (hN : nn ≤ 10000) (hT : tt ≤ 100000) {m : Nat} (hm : m < 2 ^ 30) : zK G mX1_signatures 26 3 [.ref x, .int (nI m)] h (zPu h (some (.int (nI (sCount s.2.1 6 m))))) := sorry
theorem c_countersignatures (hx : h x = some (0, .ref st :: fs)) (hP : cP h O st ll aq re rt ea ha er hr mc xs qs rs s) (hJ : sJ tt nn s) (hN : nn ≤ 10000) (hT : tt ≤ 100000) {m : Nat} (hm : m < 2 ^ 30) : zK G mX1_countersignatures 26 3 [.ref x, .int (nI m)] h (zPu h (some (.int (nI (sCount s.2.1 7 m))))) := sorry
theorem c_owedBy (hx : h x = some (0, .ref st :: fs)) (hP : cP h O st ll aq re rt ea ha er hr mc xs qs rs s) (hJ : sJ tt nn s) (hN : nn ≤ 10000) (hT : tt ≤ 100000) : zK G mX1_owedBy 40 3 [.ref x, .int y] h (cAns [eArg] h (qOwed s 1 y)) := sorry
theorem c_owedTo (hx : h x = some (0, .ref st :: fs)) (hP : cP h O st ll aq re rt ea ha er hr mc xs qs rs s) (hJ : sJ tt nn s) (hN : nn ≤ 10000) (hT : tt ≤ 100000) : zK G mX1_owedTo 40 3 [.ref x, .int y] h (cAns [eArg] h (qOwed s 2 y)) := sorry
theorem c_balanceOf (hx : h x = some (0, .ref st :: fs)) (hP : cP h O st ll aq re rt ea ha er hr mc xs qs rs s) (hJ : sJ tt nn s) (hN : nn ≤ 10000) (hT : tt ≤ 100000) {m : Nat} (hm : m < 2 ^ 30) : zK G mX1_balanceOf 26 3 [.ref x, .int (nI m)] h (zPu h (some (.int (sBal s m)))) := sorry
theorem c_balance (hx : h x = some (0, .ref st :: fs)) (hP : cP h O st ll aq re rt ea ha er hr mc xs qs rs s) (hJ : sJ tt nn s) (hN : nn ≤ 10000) (hT : tt ≤ 100000) : zK G mX1_balance 40 3 [.ref x, .int y] h (cAns [eArg] h (qBalance s y)) := sorry
theorem c_mostIndebted (hx : h x = some (0, .ref st :: fs)) (hP : cP h O st ll aq re rt ea ha er hr mc xs qs rs s) (hJ : sJ tt nn s) (hN : nn ≤ 10000) (hT : tt ≤ 100000) : zK G mX1_mostIndebted 40 44 [.ref x] h (cAns [eElt] h (qMost s)) := sorry
theorem c_checkPersons1 (q : sIn y (nI 0) (nI 7) = true ∧ sIn z (nI 0) (nI 7) = true) : zK G mX1_checkPersons 14 0 [.int y, .int z] h (zPu h none) := sorry
theorem c_checkPersons0 (q : ¬ (sIn y (nI 0) (nI 7) = true ∧ sIn z (nI 0) (nI 7) = true)) : zK G mX1_checkPersons 14 2 [.int y, .int z] h (zTr h eArg) := sorry
theorem c_isOwed (hx : h x = some (0, .ref st :: fs)) (hP : cP h O st ll aq re rt ea ha er hr mc xs qs rs s) (hJ : sJ tt nn s) (hN : nn ≤ 10000) (hT : tt ≤ 100000) {a b' : Nat} (ha' : a < 2 ^ 30) (hb' : b' < 2 ^ 30) : zK G mX1_isOwed 26 3 [.ref x, .int (nI a), .int (nI b')] h (zPu h (some (.int (nI (if sOwes s a b' s.2.1.length 0 = true then 1 else 0))))) := sorry
theorem c_owes (hx : h x = some (0, .ref st :: fs)) (hP : cP h O st ll aq re rt ea ha er hr mc xs qs rs s) (hJ : sJ tt nn s) (hN : nn ≤ 10000) (hT : tt ≤ 100000) : zK G mX1_owes 40 3 [.ref x, .int y, .int z] h (cAns [eArg] h (qOwes s y z)) := sorry
theorem c_pairBalance (hx : h x = some (0, .ref st :: fs)) (hP : cP h O st ll aq re rt ea ha er hr mc xs qs rs s) (hJ : sJ tt nn s) (hN : nn ≤ 10000) (hT : tt ≤ 100000) : zK G mX1_pairBalance 40 6 [.ref x, .int y, .int z] h (cAns [eArg] h (qPair s y z)) := sorry
end

