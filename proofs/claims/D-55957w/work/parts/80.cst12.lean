/-! State.audit, add -/
section
set_option maxRecDepth 100000
variable {G : zG} {h h' h0 h1 H : zH} {O O' A B : Nat → Prop} {st ll aq re rt ea er ha hr c it : Nat} {mc : Int32} {xs : List (Nat × Nat)} {qs rs : List Nat} {s : sS} {tt nn jj : Nat} {Q : zR → zH → Prop}
theorem cB.set5 (hB : cB s) {i x : Nat} : cB (s.1, s.2.1.set i (zu (sAt s.2.1 i) 5 x), s.2.2) := sorry
theorem cIs.turn {q0 y : Nat} {its ys : List Nat} (hI : cIs h O (q0 :: its) (y :: ys)) : cIs h O (its ++ [q0]) (ys ++ [y]) := sorry
theorem w_visC (hP : cP H O st ll aq re rt ea ha er hr mc xs qs rs s) (hI : sI tt nn jj s) (hN : nn ≤ 10000) (hl : 0 < s.2.1.length) {n r : Nat} {v1 v2 v4 v5 : Value} (fin : ∀ (H' : zH) (v5 : Value), cS H' O st (sVisit s).2 → zfr O H H' → zW G mX2_audit 9 r 79 [.ref st, v1, v2, .int (nI (n + (sVisit s).1)), v4, v5] [] H' Q) : zW G mX2_audit 9 (r + 5) 23 [.ref st, v1, v2, .int (nI n), v4, v5] [] H Q := sorry
end

