/-! THE REFERENCE: adds, signs, countersigns, settles, setsRate -/
section
set_option maxRecDepth 100000
variable {G : zG} {h0 : zH} {a : tA} {T : tS}
/-- in(v, least, most) -/
theorem w_in {h : zH} {v lo hi : Int32} : zK G mX3_in 1 0 [.int v, .int lo, .int hi] h (fun o h' => o = .inl (some (.int (nI (if sIn v lo hi = true then 1 else 0)))) ∧ h' = h) := sorry
theorem w_isPerson {h : zH} {v : Int32} : zK G mX3_isPerson 2 0 [.int v] h (fun o h' => o = .inl (some (.int (nI (if sIn v (nI 0) (nI 7) = true then 1 else 0)))) ∧ h' = h) := sorry
theorem sIn_nat {v : Int32} {lo hi : Nat} (h : sIn v (nI lo) (nI hi) = true) (hh : hi < 2 ^ 31) (hl : lo < 2 ^ 31) : ∃ n, v = nI n ∧ lo ≤ n ∧ n ≤ hi ∧ iN v = n := sorry
theorem iN_nI {n : Nat} (h : n < 2 ^ 31) : iN (nI n) = n := sorry
theorem z01 {p : Prop} [Decidable p] : (if p then 1 else 0) < 2 ^ 31 := sorry
/-- the row behind an add -/
def tad (A : Nat → Nat) (to id d c w e : Nat) : Nat → Nat := zu (zu (zu (zu (zu (zu (tzf (zu (zu (zu A 1 (id + 1)) 2 (to + 1)) 4 (A 4 + w)) (22 + 8 * to) (22 + 8 * to + 8)) (22 + 8 * to + 0) id) (22 + 8 * to + 1) d) (22 + 8 * to + 2) c) (22 + 8 * to + 3) w) (22 + 8 * to + 4) e) (118 + to) id
theorem tR.add {A : Nat → Nat} {s : sS} (h : tR A 0 s) (hl : s.2.1.length < 12) {d c w e : Nat} : tR (tad A s.2.1.length (s.1 1) d c w e) 0 (zu (zu s.1 1 (s.1 1 + 1)) 4 (s.1 4 + w), s.2.1 ++ [sNew (s.1 1) d c w e], s.2.2.1 ++ [s.1 1], s.2.2.2) := sorry
theorem tad_hi {A : Nat → Nat} {to id d c w e j : Nat} (ht : to < 12) (hj : 130 ≤ j) : tad A to id d c w e j = A j := sorry
/-- what a change method of the reference leaves -/
abbrev tC (T : tS) (s : sS) (R : sR) : Option Value → tS → Prop := fun v T' => v = some (.int (nI R.1)) ∧ tR T'.2.1 0 R.2.2 ∧ (R.1 = 0 → T'.1 4 = R.2.1) ∧ (R.1 ≠ 0 → R.2.2 = s) ∧ tF T T'
theorem tC.bad {s : sS} (hR : tR T.2.1 0 s) {k : Nat} {R : sR} (e : R = (k, 0, s)) (hk : k ≠ 0) : tC T s R (some (.int (nI k))) T := sorry
theorem w_adds (hD : tD a) {s : sS} (hR : tR T.2.1 0 s) {d c w l : Int32} : zK G mX3_adds 4 0 [.ref a.1, .int d, .int c, .int w, .int l] (tH h0 a T) (tQ h0 a (tC T s (sAdd s d c w l))) := sorry
end

