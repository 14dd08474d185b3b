/-! THE REFERENCE: closing a claim -/
section
set_option maxRecDepth 100000
variable {G : zG} {h0 : zH} {a : tA} {T : tS}
/-- from lo on, up to hi, what stands d further -/
def tsh (A : Nat → Nat) (lo hi d : Nat) : Nat → Nat := fun j => if lo ≤ j ∧ j < hi then A (j + d) else A j
theorem tsh_0 {A : Nat → Nat} {lo d : Nat} : tsh A lo lo d = A := sorry
theorem tsh_S {A : Nat → Nat} {lo k d : Nat} (hk : lo ≤ k) : zu (tsh A lo k d) k (tsh A lo k d (k + d)) = tsh A lo (k + 1) d := sorry
def tzf (A : Nat → Nat) (lo hi : Nat) : Nat → Nat := fun j => if lo ≤ j ∧ j < hi then 0 else A j
theorem tzf_0 {A : Nat → Nat} {lo : Nat} : tzf A lo lo = A := sorry
theorem tzf_S {A : Nat → Nat} {lo k : Nat} (hk : lo ≤ k) : zu (tzf A lo k) k 0 = tzf A lo (k + 1) := sorry
theorem erase_first {id : Nat} : ∀ (l : List Nat) (p : Nat), l[p]? = some id → (∀ j, j < p → l[j]? ≠ some id) → l.erase id = l.eraseIdx p := sorry
/-- the row behind a close -/
def tcl (A : Nat → Nat) (k p last w : Nat) : Nat → Nat := zu (tzf (tsh (zu (tsh (zu A 8 (A 8 + w)) (118 + p) (118 + last) 1) (118 + last) 0) (22 + 8 * k) (22 + 8 * last) 8) (22 + 8 * last) (22 + 8 * last + 8)) 2 last
theorem tR.close {A : Nat → Nat} {s : sS} (h : tR A 0 s) {k p : Nat} (hk : k < s.2.1.length) (hp : s.2.2.1[p]? = some (sAt s.2.1 k 0)) (hf : ∀ j, j < p → s.2.2.1[j]? ≠ some (sAt s.2.1 k 0)) : tR (tcl A k p (s.2.1.length - 1) (sAt s.2.1 k 3)) 0 (sClose s k) := sorry
theorem tcl_hi {A : Nat → Nat} {k p last w j : Nat} (hl : last < 12) (hj : 130 ≤ j) : tcl A k p last w j = A j := sorry
/-- what a change leaves: the row 0 holds s, the other rows stay, of the fields but 'result' (4) -/
def tF (T T' : tS) : Prop := (∀ j, 130 ≤ j → T'.2.1 j = T.2.1 j) ∧ (∀ f, f ≠ 4 → T'.1 f = T.1 f) ∧ T'.2.2 = T.2.2
theorem tF.rf : tF T T := sorry
theorem tF.tr {T1 T2 T3 : tS} (h : tF T1 T2) (g : tF T2 T3) : tF T1 T3 := sorry
/-- the numbers of a row are small -/
def tB (s : sS) : Prop := (∀ c ∈ s.2.1, ∀ f, f < 8 → c f < 2 ^ 30) ∧ (∀ q ∈ s.2.2.1, q < 2 ^ 30) ∧ ∀ i, i < 14 → s.1 i < 2 ^ 30
theorem tB.at {s : sS} (h : tB s) {i f : Nat} (hi : i < s.2.1.length) (hf : f < 8) : sAt s.2.1 i f < 2 ^ 30 := sorry
theorem w_closes (hD : tD a) {s : sS} (hR : tR T.2.1 0 s) (hB : tB s) {k : Nat} (hk : k < s.2.1.length) (hq : sAt s.2.1 k 0 ∈ s.2.2.1) : zK G mX3_closes 3 0 [.ref a.1, .int (nI k)] (tH h0 a T) (tQ h0 a fun v T' => v = none ∧ tR T'.2.1 0 (sClose s k) ∧ T'.1 = T.1 ∧ tF T T') := sorry
end

