/-! THE REFERENCE's parser: a word -/
section
set_option maxRecDepth 100000
variable {G : zG} {h0 : zH} {a : tA} {T : tS} {tt nn n : Nat}
def pThree (l : List Nat) (x y z : Nat) (p : Nat × Nat) : Nat × Nat := pNeeds l z (pNeeds l y (pNeeds l x p))
/-- the rest of a word, behind its first letter: its kind, the place, the error -/
def pWord (l : List Nat) (first : Nat) (p : Nat × Nat) : Nat × Nat × Nat :=
  if first = 99 then (99, pNeeds l 110 (pThree l 115 105 103 (pThree l 116 101 114 (pThree l 111 117 110 p))))
  else if first = 116 then (116, pThree l 105 99 107 p)
  else if first = 114 then (114, pThree l 97 116 101 p)
  else if first = 97 then (if l[p.1]? = some 117 then (117, pNeeds l 116 (pThree l 117 100 105 p)) else (97, pNeeds l 100 (pNeeds l 100 p)))
  else (if l[p.1]? = some 101 then (101, pNeeds l 101 (pNeeds l 108 (pThree l 101 116 116 p))) else (115, pThree l 105 103 110 p))
theorem w_threeS (hD : tD a) {l : List Nat} {p : Nat × Nat} (hP : tP T l p.1 p.2) {c1 c2 c3 : Nat} (hc1 : c1 < 128) (hc2 : c2 < 128) (hc3 : c3 < 128) : zK G mX3_three 3 0 [.ref a.1, .int (nI c1), .int (nI c2), .int (nI c3)] (tH h0 a T) (tQ h0 a fun v T' => v = none ∧ tP T' l (pThree l c1 c2 c3 p).1 (pThree l c1 c2 c3 p).2 ∧ tPF T T') := sorry
theorem w_needsS (hD : tD a) {l : List Nat} {p : Nat × Nat} (hP : tP T l p.1 p.2) {c : Nat} (hc : c < 128) : zK G mX3_needs 2 0 [.ref a.1, .int (nI c)] (tH h0 a T) (tQ h0 a fun v T' => v = none ∧ tP T' l (pNeeds l c p).1 (pNeeds l c p).2 ∧ tPF T T') := sorry
set_option maxHeartbeats 8000000 in
theorem w_word (hD : tD a) {l : List Nat} {p : Nat × Nat} (hP : tP T l p.1 p.2) {first : Nat} (hf : first = 97 ∨ first = 115 ∨ first = 99 ∨ first = 116 ∨ first = 114) : zK G mX3_word 4 0 [.ref a.1, .int (nI first)] (tH h0 a T) (tQ h0 a fun v T' => v = some (.int (nI (pWord l first p).1)) ∧ tP T' l (pWord l first p).2.1 (pWord l first p).2.2 ∧ tPF T T') := sorry
end

