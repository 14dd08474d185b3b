/-! THE REFERENCE: a tick -/
section
set_option maxRecDepth 100000
variable {G : zG} {h0 : zH} {a : tA} {T : tS}
theorem nI_dec {k : Nat} : nI (k + 1) + Int32.ofInt (-1) = nI k := sorry
theorem w_grown {h : zH} {w p : Nat} (hw : w ≤ 9999) (hp : p ≤ 20) : zK G mX3_grown 1 0 [.int (nI w), .int (nI p)] h (fun o h' => o = .inl (some (.int (nI (sGrow w p)))) ∧ h' = h) := sorry
/-- the recent ones, moved on from k -/
def tsr (A : Nat → Nat) (k : Nat) : Nat → Nat := fun j => if 14 + k < j ∧ j ≤ 21 then A (j - 1) else A j
theorem tsr_7 {A : Nat → Nat} : tsr A 7 = A := sorry
theorem tsr_S {A : Nat → Nat} {k : Nat} (hk : k < 7) : zu (tsr A (k + 1)) (14 + (k + 1)) (tsr A (k + 1) (14 + (k + 1) - 1)) = tsr A k := sorry
def trm (A : Nat → Nat) (id : Nat) : Nat → Nat := zu (zu (tsr A 0) 14 id) 9 (if A 9 < 8 then A 9 + 1 else 8)
theorem tR.rem {A : Nat → Nat} {s : sS} (h : tR A 0 s) {id : Nat} : tR (trm A id) 0 (s.1, s.2.1, s.2.2.1, (id :: s.2.2.2).take 8) := sorry
theorem trm_hi {A : Nat → Nat} {id j : Nat} (hj : 22 ≤ j) : trm A id j = A j := sorry
theorem w_remembers (hD : tD a) {id : Nat} (h9 : T.2.1 9 ≤ 8) : zK G mX3_remembers 1 0 [.ref a.1, .int (nI id)] (tH h0 a T) (tQ h0 a fun v T' => v = none ∧ T' = (T.1, trm T.2.1 id, T.2.2)) := sorry
end

