/-! plain laws: a forecast is what the ticks expire; balances add up to nothing; totals -/
section
set_option maxRecDepth 100000
variable {s : sS} {tt nn n : Nat}
/-- how many have expired by t -/
def sCnt (cs : List sC) (t : Nat) : Nat := (cs.map fun c => c 4).countP fun e => decide (e ≤ t)
theorem sCnt_app {a b : List sC} {t : Nat} : sCnt (a ++ b) t = sCnt a t + sCnt b t := sorry
theorem sCnt_one {c : sC} {t : Nat} : sCnt [c] t = if c 4 ≤ t then 1 else 0 := sorry
theorem sCnt_nil {t : Nat} : sCnt [] t = 0 := sorry
theorem sCnt_cons {c : sC} {cs : List sC} {t : Nat} : sCnt (c :: cs) t = (if c 4 ≤ t then 1 else 0) + sCnt cs t := sorry
theorem sExp_cnt {time t : Nat} (ht : time ≤ t) : ∀ (todo kept : List sC) (sc : Nat → Nat) (qu re : List Nat) (n : Nat), (sExp time todo kept sc qu re n).1 + sCnt (sExp time todo kept sc qu re n).2.2.1 t = n + sCnt kept t + sCnt todo t := sorry
theorem sExp_sc {time f : Nat} (hf : f ≠ 8) : ∀ (todo kept : List sC) (sc : Nat → Nat) (qu re : List Nat) (n : Nat), (sExp time todo kept sc qu re n).2.1 f = sc f := sorry
theorem set_map4 {cs : List sC} {k w : Nat} : (cs.set k (zu (sAt cs k) 3 w)).map (fun c => c 4) = cs.map fun c => c 4 := sorry
theorem sIntK_4 {p : Nat} : ∀ {k : Nat}, (sIntK p s k).2.1.map (fun c => c 4) = s.2.1.map (fun c => c 4) ∧ (sIntK p s k).1 0 = s.1 0 := sorry
theorem sTick_cnt {t : Nat} (ht : s.1 0 + 1 ≤ t) : (sTick s).1 + sCnt (sTick s).2.2.1 t = sCnt s.2.1 t ∧ (sTick s).2.1 0 = s.1 0 + 1 := sorry
theorem sTicks_cnt : ∀ {k t : Nat}, s.1 0 + k ≤ t → (sTicks s k).1 + sCnt (sTicks s k).2.2.1 t = sCnt s.2.1 t ∧ (sTicks s k).2.1 0 = s.1 0 + k := sorry
theorem sCnt_sUp {cs : List sC} {t : Nat} : sCnt cs t = sUp (fun k => if sAt cs k 4 ≤ t then 1 else 0) cs.length := sorry
/-- a forecast -/
theorem sTicks_fc (hJ : sJ tt nn s) {k : Nat} : (sTicks s k).1 = sUp (fun i => if sAt s.2.1 i 4 ≤ s.1 0 + k then 1 else 0) s.2.1.length := sorry
theorem sUp_add {f g : Nat → Nat} : ∀ {n : Nat}, sUp (fun k => f k + g k) n = sUp f n + sUp g n := sorry
theorem sUp_single {c w : Nat} : ∀ {n : Nat}, sUp (fun p => if c = p then w else 0) n = if c < n then w else 0 := sorry
theorem sUp_swap {c w : Nat → Nat} : ∀ {n : Nat}, (∀ k, k < n → c k < 8) → sUp (fun p => sUp (fun k => if c k = p then w k else 0) n) 8 = sUp w n := sorry
theorem sBal_sum (h : sI tt nn n s) : sUpI (fun p => sBal s p) 8 = 0 := sorry
theorem sUp_take {cs : List sC} : ∀ {k : Nat}, k ≤ cs.length → sUp (fun k => sAt cs k 3) k = sWt (cs.take k) := sorry
theorem sUp_wt {cs : List sC} : sUp (fun k => sAt cs k 3) cs.length = sWt cs := sorry
end

