/-! THE REFERENCE's rows against the mathematical state -/
section
set_option maxRecDepth 100000
/-- the row at b holds s -/
def tR (A : Nat → Nat) (b : Nat) (s : sS) : Prop := (∀ i, i < 14 → i ≠ 2 → i ≠ 9 → A (b + i) = s.1 i) ∧ A (b + 2) = s.2.1.length ∧ A (b + 9) = s.2.2.2.length ∧
  (∀ i c, s.2.1[i]? = some c → ∀ f, f < 8 → A (b + 22 + 8 * i + f) = c f) ∧ (∀ i x, s.2.2.1[i]? = some x → A (b + 118 + i) = x) ∧ (∀ i x, s.2.2.2[i]? = some x → A (b + 14 + i) = x) ∧
  s.2.1.length ≤ 12 ∧ s.2.2.1.length = s.2.1.length ∧ s.2.2.2.length ≤ 8
theorem tR.cg {A A' : Nat → Nat} {b : Nat} {s : sS} (h : tR A b s) (he : ∀ j, j < 130 → A' (b + j) = A (b + j)) : tR A' b s := sorry
theorem tR.cp {A : Nat → Nat} {f t : Nat} {s : sS} (h : tR A (130 * f) s) : tR (tcp A f t 130) (130 * t) s := sorry
theorem tR.cpo {A : Nat → Nat} {f t k : Nat} {s : sS} (h : tR A (130 * k) s) (hk : k ≠ t) : tR (tcp A f t 130) (130 * k) s := sorry
/-- the present row -/
theorem tR.sc {A : Nat → Nat} {s : sS} (h : tR A 0 s) {i : Nat} (hi : i < 14) (h2 : i ≠ 2) (h9 : i ≠ 9) : A i = s.1 i := sorry
theorem tR.act {A : Nat → Nat} {s : sS} (h : tR A 0 s) : A 2 = s.2.1.length := sorry
theorem tR.kept {A : Nat → Nat} {s : sS} (h : tR A 0 s) : A 9 = s.2.2.2.length := sorry
theorem tR.cl {A : Nat → Nat} {s : sS} (h : tR A 0 s) {i f : Nat} (hi : i < s.2.1.length) (hf : f < 8) : A (22 + 8 * i + f) = sAt s.2.1 i f := sorry
theorem tR.qu {A : Nat → Nat} {s : sS} (h : tR A 0 s) {i : Nat} (hi : i < s.2.2.1.length) : A (118 + i) = s.2.2.1[i] := sorry
theorem tR.re {A : Nat → Nat} {s : sS} (h : tR A 0 s) {i : Nat} (hi : i < s.2.2.2.length) : A (14 + i) = s.2.2.2[i] := sorry
theorem sAt_of {cs : List sC} {i : Nat} {c : sC} (h : cs[i]? = some c) : sAt cs i = c := sorry
theorem sAt_get {cs : List sC} {i : Nat} (h : i < cs.length) : cs[i]? = some (sAt cs i) := sorry
theorem tR.setc {A : Nat → Nat} {s : sS} (h : tR A 0 s) {k f x : Nat} (hk : k < s.2.1.length) (hf : f < 8) : tR (zu A (22 + 8 * k + f) x) 0 (s.1, s.2.1.set k (zu (sAt s.2.1 k) f x), s.2.2) := sorry
theorem tR.setsc {A : Nat → Nat} {s : sS} (h : tR A 0 s) {i x : Nat} (hi : i < 14) (h2 : i ≠ 2) (h9 : i ≠ 9) : tR (zu A i x) 0 (zu s.1 i x, s.2) := sorry
/-- find, by the state -/
theorem tfd_find {A : Nat → Nat} {s : sS} (h : tR A 0 s) {id v : Int32} (hf : tfd A (A 2) id v) : (∃ i, sFind s.2.1 id = some i ∧ i < s.2.1.length ∧ v = nI i) ∨ (sFind s.2.1 id = none ∧ v = -1) := sorry
theorem tct_count {A : Nat → Nat} {s : sS} (h : tR A 0 s) {f w : Nat} (hf : f < 8) : tct (fun k => A (22 + 8 * k + f) = w + 1) (A 2) = sCount s.2.1 f w := sorry
end

