/-! THE REFERENCE: errors, the line's chars, append, pairs, may one sign, weights to come -/
section
set_option maxRecDepth 100000
variable {G : zG} {h0 : zH} {a : tA} {T : tS} {tt nn n : Nat}
/-- a place that stands one more, 0: none -/
def qPlace (e : Nat) : Nat × Int32 := if e = 0 then (1, nI 0) else (0, nI (e - 1))
theorem nI_m1 {e : Nat} (he : e < 2 ^ 30) : nI e - 1 = -1 ↔ e = 0 := sorry
theorem w_errorPosition (hD : tD a) {w : sW} (hW : tW T w) (he : w.2.2.2.2.2.1 < 2 ^ 30) : zK G mX3_errorPosition 3 0 [.ref a.1] (tH h0 a T) (tAns h0 a w (qPlace w.2.2.2.2.2.1)) := sorry
theorem w_failedCommand (hD : tD a) {w : sW} (hW : tW T w) (he : w.2.2.2.2.2.2 < 2 ^ 30) : zK G mX3_failedCommand 3 0 [.ref a.1] (tH h0 a T) (tAns h0 a w (qPlace w.2.2.2.2.2.2)) := sorry
def qLine (l : List Nat) (p : Int32) : Nat × Int32 := if sPos p l.length = true then (0, nI (l.getD (iN p) 0)) else (1, nI 0)
theorem w_lineChar (hD : tD a) {w : sW} (hW : tW T w) (hc : ∀ x ∈ w.2.2.2.1, x < 65536) {p : Int32} : zK G mX3_lineChar 3 0 [.ref a.1, .int p] (tH h0 a T) (tAns h0 a w (qLine w.2.2.2.1 p)) := sorry
end

