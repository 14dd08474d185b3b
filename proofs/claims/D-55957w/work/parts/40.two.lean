/-! THE REFERENCE's questions: ranks, forecasts, totals -/
section
set_option maxRecDepth 100000
variable {G : zG} {h0 : zH} {a : tA} {T : tS} {tt nn n : Nat}
theorem nI_subneg {x y : Nat} (hx : x < 2 ^ 31) (hy : y < 2 ^ 31) (h : x < y) : nI x - nI y < 0 := sorry
theorem nI_subpos {x y : Nat} (hx : x < 2 ^ 31) (hy : y < 2 ^ 31) : 0 < nI x - nI y ↔ y < x := sorry
theorem nI_subz {x y : Nat} (hx : x < 2 ^ 31) (hy : y < 2 ^ 31) : nI x - nI y = 0 ↔ x = y := sorry
/-- j stands ahead of i in the order by expiry -/
def sBefore (s : sS) (j i : Nat) : Bool := decide (sAt s.2.1 j 4 < sAt s.2.1 i 4 ∨ sAt s.2.1 j 4 = sAt s.2.1 i 4 ∧ (sAt s.2.1 i 3 < sAt s.2.1 j 3 ∨ sAt s.2.1 i 3 = sAt s.2.1 j 3 ∧ j < i))
def sRank (s : sS) (i : Nat) : Nat := sUp (fun j => if sBefore s j i = true then 1 else 0) s.2.1.length
theorem sUp_le {g : Nat → Nat} (h : ∀ k, g k ≤ 1) {k : Nat} : sUp g k ≤ k := sorry
theorem sRank_le {s : sS} {i : Nat} : sRank s i ≤ s.2.1.length := sorry
theorem w_rankAt (hD : tD a) {s : sS} (hR : tR T.2.1 0 s) (hB : tB s) {i : Nat} (hi : i < s.2.1.length) : zK G mX3_rankAt 2 0 [.ref a.1, .int (nI i)] (tH h0 a T) (tQ h0 a fun v T' => v = some (.int (nI (sRank s i))) ∧ T' = T) := sorry
def qRank (s : sS) (id : Int32) : Nat × Int32 := match sFind s.2.1 id with | none => (1, nI 0) | some i => (0, nI (sRank s i))
theorem w_expiryRank (hD : tD a) {w : sW} (hW : tW T w) (hB : tB w.1) {id : Int32} : zK G mX3_expiryRank 4 0 [.ref a.1, .int id] (tH h0 a T) (tAns h0 a w (qRank w.1 id)) := sorry
def sByExp (s : sS) (p : Int32) : Nat → Nat → Nat × Int32
  | 0, _ => (1, nI 0)
  | m + 1, k => if nI (sRank s k) = p then (0, nI (sAt s.2.1 k 0)) else sByExp s p m (k + 1)
def qByExp (s : sS) (p : Int32) : Nat × Int32 := sByExp s p s.2.1.length 0
theorem w_idByExpiry (hD : tD a) {w : sW} (hW : tW T w) (hB : tB w.1) {p : Int32} : zK G mX3_idByExpiry 4 0 [.ref a.1, .int p] (tH h0 a T) (tAns h0 a w (qByExp w.1 p)) := sorry
end

