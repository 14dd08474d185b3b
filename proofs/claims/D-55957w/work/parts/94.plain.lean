/-! plain laws: the class's counts and sums are the reference's -/
section
set_option maxRecDepth 100000
variable {s : sS} {tt nn n : Nat}
theorem nI_p1 {a n : Nat} (ha : a < 2 ^ 30) (hn : n < 2 ^ 30) : nI a - 1 = nI n ↔ a = n + 1 := sorry
theorem nI_s1 {a : Nat} (ha : 0 < a) : nI a - 1 = nI (a - 1) := sorry
theorem sUpI_nat {f : Nat → Nat} {g : Nat → Int32} : ∀ {n : Nat}, (∀ k, k < n → g k = nI (f k)) → sUpI g n = nI (sUp f n) := sorry
theorem sUpI_bal {f1 f2 : Nat → Nat} {g : Nat → Int32} : ∀ {n : Nat}, (∀ k, k < n → g k = nI (f2 k) - nI (f1 k)) → sUpI g n = nI (sUp f2 n) - nI (sUp f1 n) := sorry
theorem sUp_cg {f g : Nat → Nat} : ∀ {n : Nat}, (∀ k, k < n → f k = g k) → sUp f n = sUp g n := sorry
theorem sCk_take {T : sC → Bool} {cs : List sC} : ∀ {k : Nat}, k ≤ cs.length → sCk T cs k = (cs.take k).countP T := sorry
theorem sCk_all {T : sC → Bool} {cs : List sC} : sCk T cs cs.length = cs.countP T := sorry
theorem sCk_cg {T : sC → Bool} {cs : List sC} {g : Nat → Nat} (h : ∀ k, k < cs.length → (if T (sAt cs k) = true then 1 else 0) = g k) : sCk T cs cs.length = sUp g cs.length := sorry
theorem sI.lt (h : sI tt nn n s) (hN : nn ≤ 10000) (hT : tt ≤ 100000) {c : sC} (hc : c ∈ s.2.1) {f : Nat} (hf : f < 8) : c f < 2 ^ 30 := sorry
/-- signatures, countersignatures -/
theorem sCk_sig (h : sI tt nn n s) (hN : nn ≤ 10000) (hT : tt ≤ 100000) {f m : Nat} (hf : f < 8) (hm : m < 2 ^ 30) : sCk (fun c => decide (nI (c f) - 1 = nI m)) s.2.1 s.2.1.length = sCount s.2.1 f m := sorry
theorem sLow_hvy (hb : ∀ c ∈ s.2.1, c 3 < 2 ^ 30) : ∀ {k : Nat}, k < s.2.1.length → sLowK (fun c => -nI (c 3)) s.2.1 k = sHvy s k := sorry
theorem sLow_soon (hb : ∀ c ∈ s.2.1, c 4 < 2 ^ 30) : ∀ {k : Nat}, k < s.2.1.length → sAt s.2.1 (sLowK (fun c => nI (c 4)) s.2.1 k) 4 = sSoon s k := sorry
/-- owed by, owed to -/
theorem sUpI_sum (h : sI tt nn n s) (hN : nn ≤ 10000) (hT : tt ≤ 100000) {f m : Nat} (hf : f < 8) (hm : m < 2 ^ 30) : sUpI (fun k => if nI (sAt s.2.1 k f) = nI m then nI (sAt s.2.1 k 3) else 0) s.2.1.length = nI (sSum s f m) := sorry
/-- a balance -/
theorem sUpI_sgn (h : sI tt nn n s) (hN : nn ≤ 10000) (hT : tt ≤ 100000) {m : Nat} (hm : m < 2 ^ 30) : sUpI (fun k => cSgn (sAt s.2.1 k) (nI m) * nI (sAt s.2.1 k 3)) s.2.1.length = sBal s m := sorry
/-- owed from one to the other -/
theorem sUpI_pair (h : sI tt nn n s) (hN : nn ≤ 10000) (hT : tt ≤ 100000) {a b : Nat} (ha : a < 2 ^ 30) (hb : b < 2 ^ 30) : sUpI (fun k => if nI (sAt s.2.1 k 1) = nI a ∧ nI (sAt s.2.1 k 2) = nI b then nI (sAt s.2.1 k 3) else 0) s.2.1.length = nI (sAmong s a b) := sorry
theorem sOwes_ex {f t : Nat} : ∀ {m k : Nat}, sOwes s f t m k = true ↔ ∃ j, k ≤ j ∧ j < k + m ∧ sAt s.2.1 j 1 = f ∧ sAt s.2.1 j 2 = t := sorry
theorem sUp_pos {g : Nat → Nat} : ∀ {n : Nat}, 0 < sUp g n ↔ ∃ k, k < n ∧ 0 < g k := sorry
theorem sCk_owes (h : sI tt nn n s) (hN : nn ≤ 10000) (hT : tt ≤ 100000) {a b : Nat} (ha : a < 2 ^ 30) (hb : b < 2 ^ 30) : 0 < sCk (fun c => decide (nI (c 1) = nI a ∧ nI (c 2) = nI b)) s.2.1 s.2.1.length ↔ sOwes s a b s.2.1.length 0 = true := sorry
theorem sAt_ord (h : sI tt nn n s) {j i : Nat} (hj : j < s.2.1.length) (hi : i < s.2.1.length) : sAt s.2.1 j 0 < sAt s.2.1 i 0 ↔ j < i := sorry
theorem sCk_rank (h : sI tt nn n s) {i : Nat} (hi : i < s.2.1.length) : sCk (fun c => decide (cLt c (sAt s.2.1 i))) s.2.1 s.2.1.length = sRank s i := sorry
theorem sCk_lim (h : sI tt nn n s) (hN : nn ≤ 10000) (hT : tt ≤ 100000) {m : Nat} (hm : m < 2 ^ 30) : sCk (fun c => decide (nI (c 4) ≤ nI m)) s.2.1 s.2.1.length = sUp (fun k => if sAt s.2.1 k 4 ≤ m then 1 else 0) s.2.1.length := sorry
theorem sUp_none {g : Nat → Nat} : ∀ {n : Nat}, (∀ k, k < n → g k = 0) → sUp g n = 0 := sorry
theorem nL_nI {a : Nat} (ha : a < 2 ^ 31) : nL a = (nI a).toInt64 := sorry
end

