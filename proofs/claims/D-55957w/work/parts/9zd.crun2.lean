/-! THE CLASS's run, the whole -/
section
set_option maxRecDepth 100000
variable {G : zG} {h h' h0 h1 H : zH} {O U V : Nat → Prop} {x tt nn al ea n : Nat} {w : sW} {es : List Nat} {cs : List pC}
theorem w_alSize2 {mc : Int32} (ha : h al = some (11, [.int mc, .ref ea, .int (nI n)])) : zK G mJ39_size 1 0 [.ref al] h (zPu h (some (.int (nI n)))) := sorry
theorem cCmds.bs (k : cCmds H h0 es cs) (n : ∀ b, h0 b = none → h b = none) : cCmds H h es cs := sorry
theorem sRunA_2 : ((sRunA w cs).1 = 0 → (sRunA w cs).2.1 = nI cs.length) := sorry
theorem c_run (hk : zkn G h) (hZ : zkI G) (hS : zkS G) (hL : zkL G) (hE : zkE G) (hG : cReg x 0 [] w h U) (hJ : sJ tt nn w.1) (hN : nn + 15 ≤ 10000) (hT : tt + 50 * 16 < 100000) (hl : w.2.2.2.2.1.length ≤ 60) : zK G mX1_run 34 46060 [.ref x] h (cOut x U h [eArg, eSta] (sRun w)) := sorry
end

