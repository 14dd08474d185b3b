/-! THE REFERENCE: a tick, passes -/
section
set_option maxRecDepth 100000
variable {G : zG} {h0 : zH} {a : tA} {T : tS} {tt nn : Nat}
theorem sIntK_k6 {p k j : Nat} {s : sS} : sAt (sIntK p s k).2.1 j 6 = sAt s.2.1 j 6 := sorry
theorem sExp_in {time m : Nat} {c : sC} {todo kept : List sC} {sc : Nat → Nat} {qu re : List Nat} (h : time < c 4) : sExp time (c :: todo) kept sc qu re m = sExp time todo (kept ++ [c]) sc qu re m := sorry
theorem sExp_out {time m : Nat} {c : sC} {todo kept : List sC} {sc : Nat → Nat} {qu re : List Nat} (h : ¬ time < c 4) : sExp time (c :: todo) kept sc qu re m = sExp time todo kept (zu sc 8 (sc 8 + c 3)) (qu.erase (c 0)) ((c 0 :: re).take 8) (m + 1) := sorry
/-- the claims' number stands -/
theorem tR.ac {A : Nat → Nat} {s : sS} (h : tR A 0 s) : A 2 = s.2.1.length := sorry
theorem w_ticksOnce (hD : tD a) {s : sS} (hR : tR T.2.1 0 s) (hI : sI tt nn 0 s) (hE : sE s) (hT : tt < 100000) (hN : nn ≤ 10000) : zK G mX3_ticksOnce 4 0 [.ref a.1] (tH h0 a T) (tQ h0 a fun v T' => v = some (.int (nI (sTick s).1)) ∧ tR T'.2.1 0 (sTick s).2 ∧ T'.1 = T.1 ∧ tF T T') := sorry
end

