/-! State.close: a claim's id leaves the queue -/
section
set_option maxRecDepth 100000
variable {G : zG} {h h' h0 : zH} {O O' : Nat → Prop} {st ll aq re rt ea ha er hr c it : Nat} {mc : Int32} {xs : List (Nat × Nat)} {qs rs qu : List Nat} {m : Nat → Nat} {x : sC}
theorem nL_w {w : Nat} (hw : w < 2 ^ 31) : (nI w).toInt64 = nL w := sorry
theorem nL_add {a b : Nat} : nL a + nL b = nL (a + b) := sorry
/-- what close leaves -/
abbrev cClo (h : zH) (O : Nat → Prop) (st ll aq re rt ea : Nat) (m : Nat → Nat) (qu : List Nat) (x : sC) : zR → zH → Prop := zO fun v h' => v = none ∧ ∃ ha' qs', h' st = some (1, cSf ll aq re rt (zu m 8 (m 8 + x 3))) ∧ cDQ h' aq ea ha' qs' ∧ cIs h' O qs' (qu.erase (x 0)) ∧ zfr (fun b => b = st ∨ cDf aq ea b) h h'
/-- no match from k on -/
theorem w_close2 (nit : h it = none) (hx0 : x 0 < 2 ^ 30) (hqe : ∀ y ∈ qu, y < 2 ^ 30) : ∀ (n k ha1 : Nat) (H : zH) (qs1 : List Nat) (lr : Int32), k + n = qs1.length → H st = some (1, cSf ll aq re rt (zu m 8 (m 8 + x 3))) → H c = some (2, cCl x) → cDQ H aq ea ha1 qs1 → cIs H O qs1 (qu.erase (x 0)) → (∀ i, k ≤ i → (qu.erase (x 0))[i]? ≠ some (x 0)) → H it = some (cDi aq ha1 qs1.length k lr) → zfr (fun b => b = st ∨ cDf aq ea b) h H → zW G mX2_close 5 0 22 [.ref st, .ref c, .ref it] [] H (cClo h O st ll aq re rt ea m qu x) := sorry
/-- no match ahead of k -/
theorem w_close1 (nit : h it = none) (hx0 : x 0 < 2 ^ 30) (hqe : ∀ y ∈ qu, y < 2 ^ 30) (hnd : qu.Nodup) : ∀ (n k : Nat) (H : zH) (lr : Int32), k + n = qs.length → H st = some (1, cSf ll aq re rt (zu m 8 (m 8 + x 3))) → H c = some (2, cCl x) → cDQ H aq ea ha qs → cIs H O qs qu → (∀ i, i < k → qu[i]? ≠ some (x 0)) → H it = some (cDi aq ha qs.length k lr) → zfr (fun b => b = st ∨ cDf aq ea b) h H → zW G mX2_close 5 0 22 [.ref st, .ref c, .ref it] [] H (cClo h O st ll aq re rt ea m qu x) := sorry
theorem w_stClose (hst : h st = some (1, cSf ll aq re rt m)) (hc : h c = some (2, cCl x)) (hQ : cDQ h aq ea ha qs) (hI : cIs h O qs qu) (hx0 : x 0 < 2 ^ 30) (hx3 : x 3 < 2 ^ 30) (hqe : ∀ y ∈ qu, y < 2 ^ 30) (hnd : qu.Nodup) : zK G mX2_close 5 1 [.ref st, .ref c] h (cClo h O st ll aq re rt ea m qu x) := sorry
end

