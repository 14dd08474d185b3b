/-! THE INVARIANT is kept by every change -/
section
set_option maxRecDepth 100000
variable {T N n : Nat} {s : sS}
theorem sI.mk {m : Nat → Nat} {cs : List sC} {qu re : List Nat} (h : (m 0 ≤ T ∧ m 1 ≤ N ∧ m 2 = 0 ∧ m 9 = 0 ∧ (∀ i, i < 4 → m (10 + i) ≤ 20)) ∧ (n + m 5 + m 6 + m 7 + cs.length ≤ m 1 ∧ m 4 + m 3 = sWt cs + m 8 ∧ m 8 + 9999 * cs.length ≤ 9999 * m 1) ∧
  (cs.length ≤ 12 ∧ (∀ c ∈ cs, sCI (m 0) (m 1) c) ∧ cs.Pairwise (fun c c' => c 0 < c' 0)) ∧ (qu.Nodup ∧ (∀ q, q ∈ qu ↔ q ∈ cs.map fun c => c 0)) ∧ (re.length ≤ 8 ∧ ∀ q ∈ re, q < m 1)) : sI T N n (m, cs, qu, re) := sorry
theorem sI.at (h : sI T N n s) {i : Nat} (hi : i < s.2.1.length) : sCI (s.1 0) (s.1 1) (sAt s.2.1 i) := sorry
theorem sI.len (h : sI T N n s) : s.2.1.length ≤ 12 := sorry
theorem sI.up {T' N' n' : Nat} (h : sI T N n s) (h1 : T ≤ T') (h2 : N ≤ N') (h3 : n' ≤ n) : sI T' N' n' s := sorry
theorem sI.tB (h : sI T N n s) (hT : T ≤ 100000) (hN : N ≤ 10000) : tB s := sorry
theorem sI.qu (h : sI T N n s) {i : Nat} (hi : i < s.2.1.length) : sAt s.2.1 i 0 ∈ s.2.2.1 := sorry
theorem sAt_map {cs : List sC} {i : Nat} (hi : i < cs.length) : (cs.map fun c => c 0)[i]? = some (sAt cs i 0) := sorry
/-- ids are in order -/
theorem sI.nd (h : sI T N n s) : (s.2.1.map fun c => c 0).Nodup := sorry
theorem sFind_at (h : sI T N n s) (hN : N ≤ 10000) {i : Nat} (hi : i < s.2.1.length) : sFind s.2.1 (nI (sAt s.2.1 i 0)) = some i := sorry
theorem sFind_q (h : sI T N n s) (hN : N ≤ 10000) {q : Nat} (hq : q ∈ s.2.2.1) : ∃ i, sFind s.2.1 (nI q) = some i ∧ i < s.2.1.length ∧ sAt s.2.1 i 0 = q := sorry
theorem sWt_set {cs : List sC} {i : Nat} (hi : i < cs.length) {c : sC} : sWt (cs.set i c) + sAt cs i 3 = sWt cs + c 3 := sorry
theorem sWt_erase {cs : List sC} {i : Nat} (hi : i < cs.length) : sWt (cs.eraseIdx i) + sAt cs i 3 = sWt cs := sorry
theorem map_set_id {cs : List sC} {i : Nat} {c : sC} (hi : i < cs.length) (hc : c 0 = sAt cs i 0) : (cs.set i c).map (fun c => c 0) = cs.map fun c => c 0 := sorry
/-- one claim changes, its id stays -/
theorem sI.set (h : sI T N n s) {i : Nat} (hi : i < s.2.1.length) {c : sC} {m : Nat → Nat} (h0 : c 0 = sAt s.2.1 i 0) (hc : sCI (s.1 0) (s.1 1) c) (hm : ∀ j, j ≠ 3 → m j = s.1 j) (h3 : m 3 + sAt s.2.1 i 3 = s.1 3 + c 3) : sI T N n (m, s.2.1.set i c, s.2.2) := sorry
theorem map_erase {cs : List sC} {i : Nat} : (cs.eraseIdx i).map (fun c => c 0) = (cs.map fun c => c 0).eraseIdx i := sorry
theorem sI.close (h : sI T N n s) {i : Nat} (hi : i < s.2.1.length) : sI T N (n + 1) (sClose s i) := sorry
end

