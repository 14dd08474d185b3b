/-! THE REFERENCE's questions: sums, the lowest, the queue -/
section
set_option maxRecDepth 100000
variable {G : zG} {h0 : zH} {a : tA} {T : tS} {tt nn n : Nat}
/-- a sum over the first ones -/
def sUp (g : Nat → Nat) : Nat → Nat
  | 0 => 0
  | k + 1 => sUp g k + g k
def sSum (s : sS) (f p : Nat) : Nat := sUp (fun k => if sAt s.2.1 k f = p then sAt s.2.1 k 3 else 0) s.2.1.length
theorem w_sumOf (hD : tD a) {s : sS} (hR : tR T.2.1 0 s) (hB : tB s) {f p : Nat} (hf : f < 8) (hp : p < 100) : zK G mX3_sumOf 2 0 [.ref a.1, .int (nI f), .int (nI p)] (tH h0 a T) (tQ h0 a fun v T' => v = some (.int (nI (sSum s f p))) ∧ T' = T) := sorry
def qOwed (s : sS) (f : Nat) (p : Int32) : Nat × Int32 := if sIn p (nI 0) (nI 7) = true then (0, nI (sSum s f (iN p))) else (1, nI 0)
def sBal (s : sS) (p : Nat) : Int32 := nI (sSum s 2 p) - nI (sSum s 1 p)
def qBalance (s : sS) (p : Int32) : Nat × Int32 := if sIn p (nI 0) (nI 7) = true then (0, sBal s (iN p)) else (1, nI 0)
theorem w_owedBy (hD : tD a) {w : sW} (hW : tW T w) (hB : tB w.1) {p : Int32} : zK G mX3_owedBy 3 0 [.ref a.1, .int p] (tH h0 a T) (tAns h0 a w (qOwed w.1 1 p)) := sorry
theorem w_owedTo (hD : tD a) {w : sW} (hW : tW T w) (hB : tB w.1) {p : Int32} : zK G mX3_owedTo 3 0 [.ref a.1, .int p] (tH h0 a T) (tAns h0 a w (qOwed w.1 2 p)) := sorry
theorem w_balanceOf (hD : tD a) {s : sS} (hR : tR T.2.1 0 s) (hB : tB s) {p : Nat} (hp : p < 100) : zK G mX3_balanceOf 3 0 [.ref a.1, .int (nI p)] (tH h0 a T) (tQ h0 a fun v T' => v = some (.int (sBal s p)) ∧ T' = T) := sorry
theorem w_balance (hD : tD a) {w : sW} (hW : tW T w) (hB : tB w.1) {p : Int32} : zK G mX3_balance 4 0 [.ref a.1, .int p] (tH h0 a T) (tAns h0 a w (qBalance w.1 p)) := sorry
def sMost (s : sS) : Nat → Nat
  | 0 => 0
  | k + 1 => if sBal s (k + 1) < sBal s (sMost s k) then k + 1 else sMost s k
theorem sMost_le {s : sS} {k : Nat} : sMost s k ≤ k := sorry
def qMost (s : sS) : Nat × Int32 := if s.2.1.length = 0 then (1, nI 0) else (0, nI (sMost s 7))
theorem w_mostIndebted (hD : tD a) {w : sW} (hW : tW T w) (hB : tB w.1) : zK G mX3_mostIndebted 4 0 [.ref a.1] (tH h0 a T) (tAns h0 a w (qMost w.1)) := sorry
def sHvy (s : sS) : Nat → Nat
  | 0 => 0
  | k + 1 => if sAt s.2.1 (sHvy s k) 3 < sAt s.2.1 (k + 1) 3 then k + 1 else sHvy s k
theorem sHvy_le {s : sS} {k : Nat} : sHvy s k ≤ k := sorry
def qHeaviest (s : sS) : Nat × Int32 := if s.2.1.length = 0 then (1, nI 0) else (0, nI (sAt s.2.1 (sHvy s (s.2.1.length - 1)) 0))
theorem w_heaviest (hD : tD a) {w : sW} (hW : tW T w) (hB : tB w.1) : zK G mX3_heaviest 4 0 [.ref a.1] (tH h0 a T) (tAns h0 a w (qHeaviest w.1)) := sorry
end

