/-! THE INVARIANT behind each change -/
section
set_option maxRecDepth 100000
variable {T N : Nat} {s : sS}
abbrev sJ (T N : Nat) (s : sS) : Prop := sI T N 0 s ∧ sE s
theorem sJ.up {T' N' : Nat} (h : sJ T N s) (h1 : T ≤ T') (h2 : N ≤ N') : sJ T' N' s := sorry
theorem iN_in {v : Int32} {lo hi : Nat} (h : sIn v (nI lo) (nI hi) = true) (hh : hi < 2 ^ 31) (hl : lo < 2 ^ 31) : lo ≤ iN v ∧ iN v ≤ hi := sorry
theorem sWt_app {cs : List sC} {c : sC} : sWt (cs ++ [c]) = sWt cs + c 3 := sorry
theorem sJ.add (h : sJ T N s) {d c w l : Int32} : sJ (T + 50) (N + 1) (sAdd s d c w l).2.2 := sorry
theorem sJ.two (h : sJ T N s) {i f x y : Nat} (hi : i < s.2.1.length) (hf : f = 6 ∨ f = 7) (hx : 1 ≤ x ∧ x ≤ 4) (h0 : sAt s.2.1 i f = 0) (hy : sAt s.2.1 i 4 ≤ y ∧ y ≤ sAt s.2.1 i 4 + (if f = 6 then 5 else 10) * x) : sJ (T + 50) (N + 1) (s.1, s.2.1.set i (zu (zu (sAt s.2.1 i) f x) 4 y), s.2.2) := sorry
theorem sFind_lt {cs : List sC} {id : Int32} {i : Nat} (h : sFind cs id = some i) : i < cs.length := sorry
theorem sJ.sign (h : sJ T N s) {id w : Int32} : sJ (T + 50) (N + 1) (sSign s id w).2.2 := sorry
theorem sJ.cosign (h : sJ T N s) {id w : Int32} : sJ (T + 50) (N + 1) (sCosign s id w).2.2 := sorry
theorem sJ.settle (h : sJ T N s) {id : Int32} : sJ (T + 50) (N + 1) (sSettle s id).2.2 := sorry
theorem sJ.advance (h : sJ T N s) {t : Int32} : sJ (T + 50) (N + 1) (sAdvance s t).2.2 := sorry
theorem sJ.audit (h : sJ T N s) (hN : N ≤ 10000) {k : Int32} : sJ (T + 50) (N + 1) (sAudit s k).2.2 := sorry
theorem sJ.setRate (h : sJ T N s) {p v : Int32} : sJ (T + 50) (N + 1) (sSetRate s p v).2.2 := sorry
end

