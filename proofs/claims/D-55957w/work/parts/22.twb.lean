/-! THE REFERENCE: copies, find, counts -/
section
set_option maxRecDepth 100000
variable {G : zG} {h0 : zH} {a : tA} {T : tS}
/-- the first k places of row f copied to row t -/
def tcp (A : Nat → Nat) (f t k : Nat) : Nat → Nat := fun j => if 130 * t ≤ j ∧ j < 130 * t + k then A (j - 130 * t + 130 * f) else A j
theorem tcp_0 {A : Nat → Nat} {f t : Nat} : tcp A f t 0 = A := sorry
theorem tcp_S {A : Nat → Nat} {f t k : Nat} (hft : f ≠ t) (hk : k < 130) : zu (tcp A f t k) (130 * t + k) (tcp A f t k (130 * f + k)) = tcp A f t (k + 1) := sorry
theorem w_copies (hD : tD a) {f t : Nat} (hf : f < 12) (ht : t < 12) (hft : f ≠ t) : zK G mX3_copies 1 0 [.ref a.1, .int (nI f), .int (nI t)] (tH h0 a T) (tQ h0 a fun v T' => v = none ∧ T' = (T.1, tcp T.2.1 f t 130, T.2.2)) := sorry
theorem w_begins (hD : tD a) : zK G mX3_begins 2 0 [.ref a.1] (tH h0 a T) (tQ h0 a fun v T' => v = none ∧ T' = (T.1, tcp T.2.1 0 10 130, T.2.2)) := sorry
theorem w_phaseAt {w : Nat} (hw : w < 2 ^ 31) : zK G mX3_phaseAt 1 0 [.ref a.1, .int (nI w)] (tH h0 a T) (tQ h0 a fun v T' => v = some (.int (nI (w / 4 % 4))) ∧ T' = T) := sorry
/-- find: the first place of an id -/
def tfd (A : Nat → Nat) (n : Nat) (id : Int32) (v : Int32) : Prop := (∃ k, k < n ∧ nI (A (22 + 8 * k)) = id ∧ (∀ j, j < k → nI (A (22 + 8 * j)) ≠ id) ∧ v = nI k) ∨ ((∀ j, j < n → nI (A (22 + 8 * j)) ≠ id) ∧ v = -1)
theorem w_find (hD : tD a) (hn : T.2.1 2 ≤ 12) {id : Int32} : zK G mX3_find 2 0 [.ref a.1, .int id] (tH h0 a T) (tQ h0 a fun v T' => (∃ x, v = some (.int x) ∧ tfd T.2.1 (T.2.1 2) id x) ∧ T' = T) := sorry
/-- how many of the first n places hold f -/
def tct (p : Nat → Bool) (n : Nat) : Nat := (List.range n).countP p
theorem tct_0 {p : Nat → Bool} : tct p 0 = 0 := sorry
theorem tct_S {p : Nat → Bool} {n : Nat} : tct p (n + 1) = tct p n + if p n = true then 1 else 0 := sorry
theorem tct_le {p : Nat → Bool} {n : Nat} : tct p n ≤ n := sorry
theorem w_signedBy (hD : tD a) (hn : T.2.1 2 ≤ 12) {f w : Nat} (hf : f < 8) (hw : w < 100) (hb : ∀ j, j < T.2.1 2 → T.2.1 (22 + 8 * j + f) < 2 ^ 31) : zK G mX3_signedBy 2 0 [.ref a.1, .int (nI f), .int (nI w)] (tH h0 a T) (tQ h0 a fun v T' => v = some (.int (nI (tct (fun k => T.2.1 (22 + 8 * k + f) = w + 1) (T.2.1 2)))) ∧ T' = T) := sorry
/-- the place of an id in the queue -/
def tpq (A : Nat → Nat) (n : Nat) (id : Nat) (v : Int32) : Prop := (∃ k, k < n ∧ A (118 + k) = id ∧ (∀ j, j < k → A (118 + j) ≠ id) ∧ v = nI k) ∨ ((∀ j, j < n → A (118 + j) ≠ id) ∧ v = -1)
theorem w_placeInQueue (hD : tD a) (hn : T.2.1 2 ≤ 12) {id : Nat} (hid : id < 2 ^ 31) (hb : ∀ j, j < T.2.1 2 → T.2.1 (118 + j) < 2 ^ 31) : zK G mX3_placeInQueue 2 0 [.ref a.1, .int (nI id)] (tH h0 a T) (tQ h0 a fun v T' => (∃ x, v = some (.int x) ∧ tpq T.2.1 (T.2.1 2) id x) ∧ T' = T) := sorry
end

