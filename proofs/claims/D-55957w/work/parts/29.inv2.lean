/-! THE INVARIANT is kept by every change: time, interest, expiry, audits, adds, signs -/
section
set_option maxRecDepth 100000
variable {T N n : Nat} {s : sS}
theorem sI.time (h : sI T N n s) (hE : sE s) : sI (T + 1) N n (sTime s) := sorry
theorem sGrow_le {w p : Nat} (h : w ≤ 9999) : w ≤ sGrow w p ∧ sGrow w p ≤ 9999 := sorry
theorem sI.int1 (h : sI T N n s) {p k : Nat} (hk : k < s.2.1.length) : sI T N n (sInt1 p k s) := sorry
theorem sIntK_len {p k : Nat} : (sIntK p s k).2.1.length = s.2.1.length := sorry
theorem sIntK_num {p k j : Nat} (hj : j ≠ 3) : (sIntK p s k).1 j = s.1 j := sorry
theorem sI.intK (h : sI T N n s) {p k : Nat} (hk : k ≤ s.2.1.length) : sI T N n (sIntK p s k) := sorry
theorem take8 {l : List Nat} {x m : Nat} (hx : x < m) (hl : ∀ q ∈ l, q < m) : ((x :: l).take 8).length ≤ 8 ∧ ∀ q ∈ (x :: l).take 8, q < m := sorry
theorem sI.rem (h : sI T N n s) {x : Nat} (hx : x < s.1 1) : sI T N n (s.1, s.2.1, s.2.2.1, (x :: s.2.2.2).take 8) := sorry
theorem app_at {kept todo : List sC} {c : sC} : sAt (kept ++ c :: todo) kept.length = c := sorry
theorem app_er {kept todo : List sC} {c : sC} : (kept ++ c :: todo).eraseIdx kept.length = kept ++ todo := sorry
/-- one expiry is a remembering and a closing -/
theorem sClose_app {sc : Nat → Nat} {kept todo : List sC} {c : sC} {qu re : List Nat} : sClose (sc, kept ++ c :: todo, qu, re) kept.length = (zu sc 8 (sc 8 + c 3), kept ++ todo, qu.erase (c 0), re) := sorry
theorem sI.exp {time : Nat} : ∀ (todo kept : List sC) (sc : Nat → Nat) (qu re : List Nat) (m n : Nat), sI T N n (sc, kept ++ todo, qu, re) → (∀ c ∈ kept, time < c 4) →
    m ≤ (sExp time todo kept sc qu re m).1 ∧ sI T N (n + ((sExp time todo kept sc qu re m).1 - m)) (sExp time todo kept sc qu re m).2 ∧ (∀ c ∈ (sExp time todo kept sc qu re m).2.2.1, time < c 4) ∧ ∀ j, j ≠ 8 → (sExp time todo kept sc qu re m).2.1 j = sc j := sorry
/-- a count goes up -/
theorem sI.cnt {k : Nat} (h : sI T N (n + k) s) {f : Nat} (hf : f = 5 ∨ f = 6 ∨ f = 7) : sI T N n (zu s.1 f (s.1 f + k), s.2) := sorry
theorem sE.num {f x : Nat} (hE : sE s) (hf : f ≠ 0) : sE (zu s.1 f x, s.2) := sorry
theorem sI.tick (h : sI T N n s) (hE : sE s) : sI (T + 1) N n (sTick s).2 ∧ sE (sTick s).2 := sorry
theorem sI.ticks (h : sI T N n s) (hE : sE s) {k : Nat} : sI (T + k) N n (sTicks s k).2 ∧ sE (sTicks s k).2 := sorry
theorem sI.strikes (h : sI T N n s) {i x : Nat} (hi : i < s.2.1.length) (hx : x ≤ 2) : sI T N n (s.1, s.2.1.set i (zu (sAt s.2.1 i) 5 x), s.2.2) := sorry
theorem sE.set (hE : sE s) {i : Nat} {c : sC} {m : Nat → Nat} {x : List Nat × List Nat} (hc : s.1 0 < c 4) (hm : m 0 = s.1 0) : sE (m, s.2.1.set i c, x) := sorry
theorem sE.at (hE : sE s) {i : Nat} (hi : i < s.2.1.length) : s.1 0 < sAt s.2.1 i 4 := sorry
theorem sE.close (hE : sE s) {i : Nat} : sE (sClose s i) := sorry
theorem sClose_set {s : sS} {i : Nat} {c : sC} (hi : i < s.2.1.length) (h0 : c 0 = sAt s.2.1 i 0) (h3 : c 3 = sAt s.2.1 i 3) : sClose (s.1, s.2.1.set i c, s.2.2) i = sClose s i := sorry
theorem sStrikes_le {c : sC} {t m : Nat} (h : sCI t m c) : sStrikes c ≤ 3 := sorry
theorem sI.visit (h : sI T N n s) (hE : sE s) (hN : N ≤ 10000) : sI T N (n + (sVisit s).1) (sVisit s).2 ∧ sE (sVisit s).2 ∧ (sVisit s).1 ≤ 1 := sorry
theorem sI.visits (h : sI T N n s) (hE : sE s) (hN : N ≤ 10000) {k : Nat} : sI T N (n + (sVisits s k).1) (sVisits s k).2 ∧ sE (sVisits s k).2 ∧ (sVisits s k).1 ≤ k := sorry
end

