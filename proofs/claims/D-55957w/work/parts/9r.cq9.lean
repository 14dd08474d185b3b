/-! THE CLASS's lineChar, append, places, undoableCount -/
section
set_option maxRecDepth 100000
variable {G : zG} {h h' h1 : zH} {O U V : Nat → Prop} {x st tt nn e : Nat} {X : List zA} {w : sW} {y : Int32}
theorem c_lineChar (hG : cReg x 0 [] w h U) (hl : w.2.2.2.1.length < 2 ^ 20) : zK G mX1_lineChar 40 2 [.ref x, .int y] h (cOut x U h [eIdx] ((qLine w.2.2.2.1 y).1, (qLine w.2.2.2.1 y).2, w)) := sorry
theorem c_append (hG : cReg x 0 [] w h U) (hl : w.2.2.2.2.1.length ≤ 60) : zK G mX1_append 40 60 [.ref x, .int y] h (cOut x U h [eArg, eSta] (sAppend w y)) := sorry
theorem c_errorPosition (hG : cReg x 0 [] w h U) (hl : w.2.2.2.2.2.1 < 2 ^ 30) : zK G mX1_errorPosition 40 2 [.ref x] h (cOut x U h [eElt] ((qPlace w.2.2.2.2.2.1).1, (qPlace w.2.2.2.2.2.1).2, w)) := sorry
theorem c_failedCommand (hG : cReg x 0 [] w h U) (hl : w.2.2.2.2.2.2 < 2 ^ 30) : zK G mX1_failedCommand 40 2 [.ref x] h (cOut x U h [eElt] ((qPlace w.2.2.2.2.2.2).1, (qPlace w.2.2.2.2.2.2).2, w)) := sorry
theorem c_undoableCount (hG : cReg x 0 [] w h U) : zK G mX1_undoableCount 40 2 [.ref x] h (cOut x U h [] ((sUndoable w).1, (sUndoable w).2, w)) := sorry
end

