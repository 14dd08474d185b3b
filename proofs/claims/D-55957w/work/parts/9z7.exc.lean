/-! an exception made, kept, thrown; a handler for any -/
section
set_option maxRecDepth 100000
variable {G : zG} {M : zM} {d r pc : Nat} {L st : List Value} {h : zH} {Q : zR → zH → Prop}
theorem zW.make0 {ik ic : Nat} {names : List String} (hT : zT (zm_y M).cls ik ic "java/lang/IllegalStateException" names) (d0 : decode (zm_c M) pc = .ok (.new ik, 3)) (d3 : decode (zm_c M) (pc + 3) = .ok (.dup, 1)) (d4 : decode (zm_c M) (pc + 4) = .ok (.invokespecial ic, 3))
    (hst : (st.map fun v => v.category).sum ≤ 8) (hdd : 10 ≤ d) (kq : ∀ q h' sl, h q = none → h' = zup h q (70, sl) → h' q = some (70, sl) → zW G M d r (pc + 7) L (.ref q :: st) h' Q) : zW G M d (r + 2) pc L st h Q := sorry
/-- a kept exception is thrown, out of the method -/
theorem zW.athrow {q : Nat} {sl : List Value} (hd : decode (zm_c M) pc = .ok (.athrow, 1)) (hq : h q = some (70, sl)) (ho : ∀ x ∈ tableOf (zm_h M), covers x pc = false) (hQ : Q (.inr "java/lang/IllegalStateException") h) : zW G M d r pc L (.ref q :: st) h Q := sorry
/-- a kept exception is thrown, to a handler for any -/
theorem zW.athrowAny {q : Nat} {sl : List Value} (hd : decode (zm_c M) pc = .ok (.athrow, 1)) (hq : h q = some (70, sl)) (pre : List ExceptionTableEntry) (x : ExceptionTableEntry) (suf : List ExceptionTableEntry) (hsplit : tableOf (zm_h M) = pre ++ x :: suf) (tg : Nat) (htg : x.handlerPc = tg) (hpass : ∀ z ∈ pre, covers z pc = false) (hx : covers x pc = true) (h0 : x.catchType = 0) (kq : zW G M d r tg L [.ref q] h Q) : zW G M d r pc L (.ref q :: st) h Q := sorry
end

