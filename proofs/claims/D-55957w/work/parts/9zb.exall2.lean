/-! THE CLASS's executeAll: the loop, the whole */ -/
section
set_option maxRecDepth 100000
variable {G : zG} {h h' h0 h1 H : zH} {O U V : Nat → Prop} {x st e al ea it tt nn t kk y p : Nat} {X : List zA} {w : sW} {s s0 : sS} {es : List Nat} {cs : List pC} {mc : Int32} {c : pC}
theorem cCmd.fp {k : Nat} {l : List Value} (t : cCmd h h0 y c) (z : zfr (fun b => b = p) h h') (hp : h p = some (k, l)) (hk : k ≠ 5 ∧ k ≠ 14 ∧ k ≠ 103 ∧ k ≠ 100) : cCmd h' h0 y c := sorry
theorem cCmd.cell (k : cCmd h h0 y c) : ∃ l, h y = some (5, l) := sorry
theorem cReg.shut (k : cReg x e X w h U) : cReg x e X w h (fun b => U b ∧ h b ≠ none) := sorry
theorem drop_cons {A : Type} : ∀ {l : List A} {i : Nat} {a : A} {r : List A}, l.drop i = a :: r → l[i]? = some a ∧ l.drop (i + 1) = r ∧ i < l.length := sorry
theorem sDos_ok {rest : List pC} (h : (sDo s c).1 = 0) : sDos (c :: rest) s = ((sDos rest (sDo s c).2.2).1 + 1, (sDos rest (sDo s c).2.2).2) := sorry
theorem sDos_no {rest : List pC} (h : (sDo s c).1 ≠ 0) : sDos (c :: rest) s = (0, s) := sorry
/-- what a run of commands may change: the registry, hashes of the commands' keywords -/
def cBx (U : Nat → Prop) (h0 h : zH) : Nat → Prop := fun b => U b ∨ (h0 b = none ∧ ∃ l, h b = some (14, l))
theorem cBx.of {kc kv : Nat} {q : List Nat} (z : zfr (cBx U h0 h) h H) (k : cNew H kc kv q) (n : h0 kc = none) : cBx U h0 h kc ∨ h kc = none := sorry
theorem exAll_loop (hk : zkn G h) (hZ : zkI G) (hS : zkS G) (hL : zkL G) (hin : w.2.2.2.2.1 = []) (hJ0 : sJ tt nn w.1) (hN : nn + cs.length ≤ 10000) (hT : tt + 50 * (cs.length + 1) < 100000) (hel : es.length = cs.length) (hkk : 104 ≤ kk % 1000) (hb : es.length + t ≤ 100) (hit0 : h it = none) : ∀ (rest : List pC) (i : Nat) (s : sS) (H : zH) (Ui : Nat → Prop) (v5 v6 : Value), cs.drop i = rest → i + rest.length = cs.length → cReg x 1 [iS st w.1] (s, w.2) H Ui → (∀ b, Ui b → U b ∨ h b = none) → zfr (cBx U h0 h) h H → H al = some (11, [.int mc, .ref ea, .int (nI es.length)]) → H ea = some (kk, eTab es t) → cAIt H it al mc i → (¬ Ui al ∧ ¬ Ui ea ∧ ¬ Ui it) → (∀ (j y : Nat) (c : pC), es[j]? = some y → cs[j]? = some c → cCmd H (hzU (fun b => h0 b ≠ none ∨ Ui b)) y c) → sJ (tt + 50 * i) (nn + i) s → ((sDos cs w.1).1 = i + (sDos rest s).1 ∧ (sDos cs w.1).2 = (sDos rest s).2) → zW G mX1_executeAll 33 (1500 * rest.length + 82) 26 [.ref x, .ref al, .ref st, .int (nI i), .ref it, v5, v6] [] H (cEA x (cBx U h0 h) h (sRunA w cs)) := sorry
theorem w_executeAll (hk : zkn G h0) (hZ : zkI G) (hS : zkS G) (hL : zkL G) (z0 : zfr U h0 h) (hG : cReg x 0 [] w h U) (hU0 : ∀ b, U b → h0 b ≠ none) (hin : w.2.2.2.2.1 = []) (kA : cAL G h al ea es) (nA : h0 al = none ∧ (0 < es.length → h0 ea = none)) (hc : cCmds h h0 es cs) (hJ : sJ tt nn w.1) (hne : 0 < cs.length) (hN : nn + cs.length ≤ 10000) (hT : tt + 50 * (cs.length + 1) < 100000) : zK G mX1_executeAll 33 (1500 * cs.length + 162) [.ref x, .ref al] h (cEA x (cBx U h0 h) h (sRunA w cs)) := sorry
end

