/-! digits: negative numbers, tables, lengths -/
section
set_option maxRecDepth 100000
variable {G : zG} {k c q f i : Nat} {A S : List Nat} {x y : Nat}
theorem nN_toInt (hk : k < 2 ^ 30) : (- nI k).toInt = -(k : Int) := sorry
theorem nN_le (hk : k < 2 ^ 30) (hc : c < 2 ^ 30) : - nI k ≤ - nI c ↔ c ≤ k := sorry
theorem nN_lt (hk : k < 2 ^ 30) (hc : c < 2 ^ 30) : - nI k < - nI c ↔ c < k := sorry
theorem nN_neg : - (- nI k) = nI k := sorry
theorem nN_mul10 : nI 10 * - nI k = - nI (10 * k) := sorry
theorem nN_rem : - nI (k / 100) * nI 100 - - nI k = nI (k % 100) := sorry
theorem nN_div (hk : k < 2 ^ 30) : - nI k / nI 100 = - nI (k / 100) := sorry
def zOne : List Nat := (List.range 100).map fun i => 48 + i % 10
def zTen : List Nat := (List.range 100).map fun i => 48 + i / 10
theorem zOne_get (hr : i < 100) : zOne[i]? = some (48 + i % 10) := sorry
theorem zTen_get (hr : i < 100) : zTen[i]? = some (48 + i / 10) := sorry
theorem zOne_len : zOne.length = 100 := sorry
theorem zTen_len : zTen.length = 100 := sorry
/-- the tables of digits stand at the start -/
def zkD (G : zG) : Prop := zg_k G (zg_a G 1) = some (1103, btab zOne) ∧ zg_k G (zg_a G 2) = some (1103, btab zTen)
theorem app_set : (A ++ x :: S).set A.length y = A ++ y :: S := sorry
theorem app_set' {n : Nat} (e : n = A.length) : (A ++ x :: S).set n y = A ++ y :: S := sorry
theorem sDec_lenE : ∀ {f k i : Nat}, 1 ≤ i → i ≤ f + 1 → k < 10 ^ i → (i = 1 ∨ 10 ^ (i - 1) ≤ k) → (sDec f k).length = i := sorry
theorem sDec_lo (hk : k ≤ 9) : sDec f k = [48 + k] := sorry
theorem sDec_two (h1 : 9 < k) (h2 : k < 100) : sDec (f + 1) k = [48 + k / 10, 48 + k % 10] := sorry
theorem sDec_hun (h1 : 100 ≤ k) : sDec (f + 2) k = sDec f (k / 100) ++ [48 + k % 100 / 10, 48 + k % 10] := sorry
theorem split1 {M : List Nat} (h : M.length = 1) : ∃ x, M = [x] := sorry
theorem split2 {M : List Nat} {n : Nat} (h : M.length = n + 2) : ∃ M' x y, M = M' ++ [x, y] ∧ M'.length = n := sorry
end

