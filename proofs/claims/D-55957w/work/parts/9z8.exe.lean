/-! THE CLASS's execute (printed by mk9z8.py) -/
section
set_option maxRecDepth 100000
variable {G : zG} {h h' h0 h1 H H' : zH} {U : Nat → Prop} {x cm tt nn : Nat} {X : List zA} {w : sW} {c : pC}
/-- a command's end: its keyword's hash may have been kept -/
def cExe (h h0 : zH) (x : Nat) (X : List zA) (U : Nat → Prop) (w : sW) (R : sR) : zR → zH → Prop := fun o h' => ∃ (kc kv : Nat) (q : List Nat) (H1 : zH), (cNew h kc kv q ∧ h0 kc = none) ∧ zfr (fun b => b = kc) h H1 ∧ cNew H1 kc kv q ∧ ((R.1 = 0 ∧ o = .inl none ∧ cReg x 1 X (R.2.2, w.2) h' (zext U H1) ∧ zfr U H1 h') ∨ (R.1 ≠ 0 ∧ o = .inr (cEx R.1) ∧ h' = H1))
theorem w_execute (hk : zkn G h) (hZ : zkI G) (hS : zkS G) (hL : zkL G) (hG : cReg x 1 X w h U) (nU : ∀ b, h0 b = none → ¬ U b) (hJ : sJ tt nn w.1) (hN : nn ≤ 10000) (hT : tt + 50 < 100000) (hc : cCmd h h0 cm c) : zK G mX1_execute 31 1500 [.ref x, .ref cm] h (cExe h h0 x X U w (sDo w.1 c)) := sorry
end

