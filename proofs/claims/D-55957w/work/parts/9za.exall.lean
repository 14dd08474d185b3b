/-! THE CLASS's executeAll */ -/
section
set_option maxRecDepth 100000
variable {G : zG} {h h' h0 h1 H : zH} {O U V : Nat → Prop} {x st e al ea tt nn : Nat} {X : List zA} {w : sW} {wr : cWr} {s s0 : sS} {es : List Nat} {cs : List pC} {Q : zR → zH → Prop} {d r : Nat} {L : List Value}
theorem exAll_catch {E : String} (hE : E = eArg ∨ E = eSta ∨ E = eElt) (kq : ∀ q, zW G mX1_executeAll d r 68 L [.ref q] h Q) : zX G mX1_executeAll d r 51 L E h Q := sorry
theorem cEx_3 {n : Nat} : cEx n = eArg ∨ cEx n = eSta ∨ cEx n = eElt := sorry
/-- a run's end, as executeAll leaves it -/
abbrev cEA (x : Nat) (U : Nat → Prop) (h0 : zH) (q : Nat × Int32 × sW) : zR → zH → Prop := fun o h' => (cReg x 0 [] q.2.2 h' (zext U h0) ∧ zfr U h0 h') ∧ ((q.1 = 0 ∧ o = .inl none) ∨ (q.1 = 2 ∧ o = .inr eSta))
/-- behind a command that failed -/
theorem exAll_bad {i : Nat} {Ui : Nat → Prop} (hin : w.2.2.2.2.1 = []) (hG : cReg x 1 [iS st w.1] (s, w.2) H Ui) (hU : ∀ b, Ui b → U b ∨ h0 b = none) (zH0 : zfr U h0 H) (hi : (sDos cs w.1).1 = i) (hlt : i < cs.length) {v1 v4 v5 v6 : Value} {q : Nat} (hi30 : i < 2 ^ 30) : zW G mX1_executeAll 33 2 68 [.ref x, v1, .ref st, .int (nI i), v4, v5, v6] [.ref q] H (cEA x U h0 (sRunA w cs)) := sorry
/-- behind all commands -/
theorem exAll_fin {Ui : Nat → Prop} (hk : zkn G h0) (hZ : zkI G) (hin : w.2.2.2.2.1 = []) (hG : cReg x 1 [iS st w.1] (s, w.2) H Ui) (hU : ∀ b, Ui b → U b ∨ h0 b = none) (zH0 : zfr U h0 H) (hJ : sJ tt nn w.1) (hN : nn ≤ 10000) (h1 : (sDos cs w.1).1 = cs.length) (h2 : (sDos cs w.1).2 = s) {v1 v3 v4 v5 v6 : Value} : zW G mX1_executeAll 33 82 60 [.ref x, v1, .ref st, v3, v4, v5, v6] [] H (cEA x U h0 (sRunA w cs)) := sorry
end

