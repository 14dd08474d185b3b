/-! THE REFERENCE: undo, the saved copy, errors, the line's chars, append -/
section
set_option maxRecDepth 100000
variable {G : zG} {h0 : zH} {a : tA} {T : tS} {tt nn n : Nat}
def sUndo (w : sW) : Nat × Int32 × sW := match w.2.1.reverse with | [] => (1, nI 0, w) | s :: H => (0, nI H.length, (s, H.reverse, w.2.2))
theorem tX.hist {T : tS} {w : sW} (h : tX T w) : T.1 2 = w.2.1.length := sorry
theorem w_undo (hD : tD a) {w : sW} (hW : tW T w) : zK G mX3_undo 3 0 [.ref a.1] (tH h0 a T) (tO h0 a (sUndo w).1 (.int (sUndo w).2.1) (sUndo w).2.2) := sorry
def sUndoable (w : sW) : Nat × Int32 := (0, nI w.2.1.length)
theorem w_undoableCount (hD : tD a) {w : sW} (hW : tW T w) : zK G mX3_undoableCount 3 0 [.ref a.1] (tH h0 a T) (tAns h0 a w (sUndoable w)) := sorry
def sSave (w : sW) : sW := (w.1, w.2.1, some w.1, w.2.2.2)
theorem w_save (hD : tD a) {w : sW} (hW : tW T w) : zK G mX3_save 3 0 [.ref a.1] (tH h0 a T) (tO h0 a 0 (.int (nI w.1.2.1.length)) (sSave w)) := sorry
def sRestore (w : sW) : Nat × Int32 × sW := match w.2.2.1 with | none => (1, nI 0, w) | some s => (0, nI s.2.1.length, (s, [], w.2.2))
theorem w_restore (hD : tD a) {w : sW} (hW : tW T w) : zK G mX3_restore 3 0 [.ref a.1] (tH h0 a T) (tO h0 a (sRestore w).1 (.int (sRestore w).2.1) (sRestore w).2.2) := sorry
end

