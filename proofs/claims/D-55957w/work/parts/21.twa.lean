/-! THE REFERENCE: small methods -/
section
set_option maxRecDepth 100000
variable {G : zG} {h0 : zH} {a : tA} {T : tS}
/-- thrown() -/
theorem w_thrown : zK G mX3_thrown 1 0 [.ref a.1] (tH h0 a T) (tQ h0 a fun v T' => v = some (.int (nI (T.1 0))) ∧ T' = T) := sorry
/-- c(at, what) -/
theorem w_c (hD : tD a) {k f : Nat} (hj : 22 + 8 * k + f < 1560) : zK G mX3_c 1 0 [.ref a.1, .int (nI k), .int (nI f)] (tH h0 a T) (tQ h0 a fun v T' => v = some (.int (nI (T.2.1 (22 + 8 * k + f)))) ∧ T' = T) := sorry
/-- set(at, what, v) -/
theorem w_set (hD : tD a) {k f x : Nat} (hj : 22 + 8 * k + f < 1560) : zK G mX3_set 1 0 [.ref a.1, .int (nI k), .int (nI f), .int (nI x)] (tH h0 a T) (tQ h0 a fun v T' => v = none ∧ T' = (T.1, zu T.2.1 (22 + 8 * k + f) x, T.2.2)) := sorry
/-- isFine(is) -/
theorem w_isFine {b : Nat} (hb : b = 0 ∨ b = 1) : zK G mX3_isFine 1 0 [.ref a.1, .int (nI b)] (tH h0 a T) (tQ h0 a fun v T' => v = some (.int (nI b)) ∧ T' = (zu T.1 0 (1 - b), T.2)) := sorry
end

