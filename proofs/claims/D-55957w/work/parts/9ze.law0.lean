/-! THE LAW's wrappers: what a call of the class leaves behind -/
section
set_option maxRecDepth 100000
variable {G : zG} {h h' h1 : zH} {U : Nat → Prop} {x o n : Nat} {w : sW} {q : Nat × Int32 × sW} {Es : List String} {E : String} {v : Option Value} {lv : Int64}
def cWp (x o : Nat) (U : Nat → Prop) (h : zH) (q : Nat × Int32 × sW) : zR → zH → Prop := fun ov h' => ov = .inl (some (.int (nI q.1))) ∧ q.1 ≤ 3 ∧ cReg x 0 [] q.2.2 h' (zext U h) ∧ zfr (fun b => U b ∨ b = o) h h' ∧ ∃ v : Int64, h' o = some (101, [.long v]) ∧ (q.1 = 0 → v = q.2.1.toInt64)
theorem cOut.l (k : cOut x U h Es q (.inl v) h') : (cReg x 0 [] q.2.2 h' (zext U h) ∧ zfr U h h') ∧ q.1 = 0 ∧ v = some (.int q.2.1) := sorry
theorem cOut.r (k : cOut x U h Es q (.inr E) h') : (cReg x 0 [] q.2.2 h' (zext U h) ∧ zfr U h h') ∧ ∃ n, q.1 = n + 1 ∧ Es[n]? = some E := sorry
theorem cWp.ok (k : cReg x 0 [] q.2.2 h1 (zext U h) ∧ zfr U h h1) (e : q.1 = 0) (ho : h1 o = some (101, [.long lv])) (nO : ¬ U o ∧ h o ≠ none) {i : Int64} (ei : i = q.2.1.toInt64) : cWp x o U h q (.inl (some (.int (nI 0)))) (zup h1 o (101, [.long i])) := sorry
theorem cWp.no (k : cReg x 0 [] q.2.2 h1 (zext U h) ∧ zfr U h h1) (e : q.1 = n + 1) (hn : n + 1 ≤ 3) (ho : h1 o = some (101, [.long lv])) : cWp x o U h q (.inl (some (.int (nI (n + 1))))) h1 := sorry
theorem ncOf {s : State} (z : String × String) (hz : z ∈ zNc) (hT : zTb G s) : va_Nc z.1 z.2 s := sorry
theorem zl01 : (nI 0).toNatClampNeg < 1 := sorry
end

