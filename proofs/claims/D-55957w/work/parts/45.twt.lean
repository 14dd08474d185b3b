/-! THE REFERENCE: weights to come, append -/
section
set_option maxRecDepth 100000
variable {G : zG} {h0 : zH} {a : tA} {T : tS} {tt nn n : Nat}
theorem sAft_le {s : sS} (hI : sI tt nn n s) {i : Nat} (hi : i < s.2.1.length) {k : Nat} : sAft s i k ≤ 9999 := sorry
theorem sAft_no {s : sS} {i k : Nat} (h : ¬ sAt s.2.1 i 6 = 0) : sAft s i k = sAft s i 0 := sorry
theorem w_weightAfter (hD : tD a) {w : sW} (hW : tW T w) (hI : sI tt nn n w.1) (hT : tt < 100000) (hN : nn ≤ 10000) {id t : Int32} : zK G mX3_weightAfter 4 0 [.ref a.1, .int id, .int t] (tH h0 a T) (tAns h0 a w (qAfter w.1 id t)) := sorry
/-- a char is typed -/
def sAppend (w : sW) (c : Int32) : Nat × Int32 × sW := if sIn c (nI 32) (nI 126) = true then (if w.2.2.2.2.1.length = 60 then (2, nI 0, w) else (0, nI (w.2.2.2.2.1.length + 1), (w.1, w.2.1, w.2.2.1, w.2.2.2.1, w.2.2.2.2.1 ++ [iN c], w.2.2.2.2.2))) else (1, nI 0, w)
theorem w_append (hD : tD a) {w : sW} (hW : tW T w) {c : Int32} : zK G mX3_append 4 0 [.ref a.1, .int c] (tH h0 a T) (tO h0 a (sAppend w c).1 (.int (sAppend w c).2.1) (sAppend w c).2.2) := sorry
end

