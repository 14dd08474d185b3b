/-! digits: negative numbers, tables, lengths -/
section
set_option maxRecDepth 100000
variable {G : zG} {k c q f i : Nat} {A S : List Nat} {x y : Nat}
theorem nN_toInt (hk : k < 2 ^ 30) : (- nI k).toInt = -(k : Int) := by
  rw [Int32.toInt_neg, nI_toInt (by omega)]
  exact Int.bmod_eq_of_le (by omega) (by omega)
theorem nN_le (hk : k < 2 ^ 30) (hc : c < 2 ^ 30) : - nI k ≤ - nI c ↔ c ≤ k := by
  rw [Int32.le_iff_toInt_le, nN_toInt hk, nN_toInt hc]
  omega
theorem nN_lt (hk : k < 2 ^ 30) (hc : c < 2 ^ 30) : - nI k < - nI c ↔ c < k := by
  rw [Int32.lt_iff_toInt_lt, nN_toInt hk, nN_toInt hc]
  omega
theorem nN_neg : - (- nI k) = nI k := Int32.neg_neg
theorem nN_mul10 : nI 10 * - nI k = - nI (10 * k) := by
  rw [Int32.mul_neg, nI_mul]
theorem nN_rem : - nI (k / 100) * nI 100 - - nI k = nI (k % 100) := by
  rw [Int32.neg_mul, nI_mul, Int32.sub_neg, Int32.add_comm, ← Int32.sub_eq_add_neg, nI_sub (by omega)]
  congr 1
  omega
theorem nN_div (hk : k < 2 ^ 30) : - nI k / nI 100 = - nI (k / 100) := by
  apply Int32.toInt_inj.mp
  rw [Int32.toInt_div, nN_toInt hk, nN_toInt (by omega), nI_toInt (by decide)]
  have e : (-(k : Int)).tdiv ((100 : Nat) : Int) = -((k / 100 : Nat) : Int) := by
    rw [Int.neg_tdiv]
    rfl
  rw [e]
  exact Int.bmod_eq_of_le (by omega) (by omega)
def zOne : List Nat := (List.range 100).map fun i => 48 + i % 10
def zTen : List Nat := (List.range 100).map fun i => 48 + i / 10
theorem zOne_get (hr : i < 100) : zOne[i]? = some (48 + i % 10) := by simp [zOne, hr]
theorem zTen_get (hr : i < 100) : zTen[i]? = some (48 + i / 10) := by simp [zTen, hr]
theorem zOne_len : zOne.length = 100 := by simp [zOne]
theorem zTen_len : zTen.length = 100 := by simp [zTen]
/-- the tables of digits stand at the start -/
def zkD (G : zG) : Prop := zg_k G (zg_a G 1) = some (1103, btab zOne) ∧ zg_k G (zg_a G 2) = some (1103, btab zTen)
theorem app_set : (A ++ x :: S).set A.length y = A ++ y :: S := by simp
theorem app_set' {n : Nat} (e : n = A.length) : (A ++ x :: S).set n y = A ++ y :: S := by subst e; exact app_set
theorem sDec_lenE : ∀ {f k i : Nat}, 1 ≤ i → i ≤ f + 1 → k < 10 ^ i → (i = 1 ∨ 10 ^ (i - 1) ≤ k) → (sDec f k).length = i := by
  intro f
  induction f with
  | zero =>
    intro k i h1 h2 _ _
    show 1 = i
    omega
  | succ f ih =>
    intro k i h1 h2 h3 h4
    rw [sDec]
    match i, h1 with
    | 1, _ =>
      rw [if_pos (by rw [Nat.pow_one] at h3; omega)]
      rfl
    | i + 2, _ =>
      have h5 : 10 ^ (i + 1) ≤ k := h4.resolve_left (by omega)
      rw [Nat.pow_succ] at h3 h5
      have h6 : 0 < 10 ^ i := Nat.pow_pos (by decide)
      rw [if_neg (by omega), List.length_append, ih (i := i + 1) (by omega) (by omega) (Nat.div_lt_of_lt_mul (by rw [Nat.mul_comm]; exact h3)) ?_]
      · rfl
      · by_cases q : i = 0
        · exact Or.inl (by omega)
        · refine Or.inr ?_
          show 10 ^ i ≤ k / 10
          omega
theorem sDec_lo (hk : k ≤ 9) : sDec f k = [48 + k] := by
  cases f with
  | zero => rfl
  | succ f => rw [sDec, if_pos hk]
theorem sDec_two (h1 : 9 < k) (h2 : k < 100) : sDec (f + 1) k = [48 + k / 10, 48 + k % 10] := by
  rw [sDec, if_neg (by omega), sDec_lo (by omega)]
  rfl
theorem sDec_hun (h1 : 100 ≤ k) : sDec (f + 2) k = sDec f (k / 100) ++ [48 + k % 100 / 10, 48 + k % 10] := by
  have e : k / 10 / 10 = k / 100 := Nat.div_div_eq_div_mul _ _ _
  have e2 : k / 10 % 10 = k % 100 / 10 := by omega
  rw [sDec, if_neg (by omega), sDec, if_neg (by omega), List.append_assoc, e, e2]
  rfl
theorem split1 {M : List Nat} (h : M.length = 1) : ∃ x, M = [x] := List.length_eq_one_iff.mp h
theorem split2 {M : List Nat} {n : Nat} (h : M.length = n + 2) : ∃ M' x y, M = M' ++ [x, y] ∧ M'.length = n := by
  refine ⟨M.take n, M[n]'(by omega), M[n + 1]'(by omega), ?_, by rw [List.length_take]; omega⟩
  have e : M.drop n = [M[n]'(by omega), M[n + 1]'(by omega)] := by
    rw [List.drop_eq_getElem_cons (by omega), List.drop_eq_getElem_cons (by omega), List.drop_eq_nil_of_le (by omega)]
  rw [← e, List.take_append_drop]
end
