/-! THE PARSER: made; a command; the program */ -/
section
set_option maxRecDepth 100000
variable {G : zG} {h h' h0 h1 H H' : zH} {p kw ka c w al ea cm s : Nat} {l q : List Nat} {e : Nat × Nat} {es : List Nat} {cs : List pC}
theorem w_cmdInit {kc : Nat} (hcm : h cm = some (5, [.null, .null])) : zK G mX6_init 1 1 [.ref cm, .ref kc] h (zO fun o h' => o = none ∧ ∃ ar, h ar = none ∧ h' cm = some (5, [.ref kc, .ref ar]) ∧ h' ar = some (100, ztab 4 fun _ => 0) ∧ zfr (fun b => b = cm) h h') := sorry
/-- a command object -/
def cCmd (h : zH) (h0 : zH) (x : Nat) (c : pC) : Prop := ∃ kc kv ar g, h x = some (5, [.ref kc, .ref ar]) ∧ cNew h kc kv (kWd c.1) ∧ h ar = some (100, ztab 4 g) ∧ cGot c g ∧ (c.1 = 97 ∨ c.1 = 115 ∨ c.1 = 99 ∨ c.1 = 101 ∨ c.1 = 117 ∨ c.1 = 116 ∨ c.1 = 114) ∧ (h0 x = none ∧ h0 kc = none ∧ h0 kv = none ∧ h0 ar = none)
def cCmds (h h0 : zH) (es : List Nat) (cs : List pC) : Prop := es.length = cs.length ∧ ∀ (i x : Nat) (c : pC), es[i]? = some x → cs[i]? = some c → cCmd h h0 x c
theorem cAL.fr {A : Nat → Prop} (k : cAL G h al ea es) (z : zfr A h h') (n1 : ¬ A al) (n2 : ¬ A ea) (n3 : ∀ x ∈ es, ¬ A x) : cAL G h' al ea es := sorry
theorem cAL.hd (k : cAL G h al ea es) : ∃ l, h al = some (11, l) := sorry
theorem cAL.he (k : cAL G h al ea es) : ∃ kk l, h ea = some (kk, l) ∧ 104 ≤ kk % 1000 := sorry
theorem cAL.hx {x : Nat} (k : cAL G h al ea es) (hx : x ∈ es) : ∃ l, h x = some (5, l) := sorry
/-- a list is left alone by what lies at a cell of another class -/
theorem cAL.fp {k : Nat} {l : List Value} (t : cAL G h al ea es) (z : zfr (fun b => b = p) h h') (hp : h p = some (k, l)) (hk : k ≠ 11 ∧ k % 1000 < 104 ∧ k ≠ 5) : cAL G h' al ea es := sorry
theorem cCmd.mv {x : Nat} {c : pC} (k : cCmd h h0 x c) (z5 : ∀ b l, h b = some (5, l) → h' b = some (5, l)) (z14 : ∀ c w l, cNew h c w l → cNew h' c w l) (z100 : ∀ b l, h b = some (100, l) → h' b = some (100, l)) : cCmd h' h0 x c := sorry
theorem cCmds.fp {k : Nat} {l : List Value} (t : cCmds h h0 es cs) (z : zfr (fun b => b = p) h h') (hp : h p = some (k, l)) (hk : k ≠ 5 ∧ k ≠ 14 ∧ k ≠ 103 ∧ k ≠ 100) : cCmds h' h0 es cs := sorry
theorem w_parInit (hk : zkn G h) (hS : zkS G) (hE : zkE G) (hp : h p = some (4, [.null, .null, .null, .int 0, .int 0])) : zK G mX5_init 7 10 [.ref p, .ref c] h (zO fun o h' => o = none ∧ ∃ kw ka al, cPo h' p kw c al (0, 0) ∧ cKw G h' kw ka ∧ cAL G h' al (zg_a G 3) [] ∧ (h kw = none ∧ h ka = none ∧ h al = none) ∧ zfr (fun b => b = p) h h') := sorry
/-- the parser, its commands -/
def cPar (G : zG) (h0 h : zH) (p kw ka c w al ea : Nat) (l : List Nat) (e : Nat × Nat) (es : List Nat) (cs : List pC) : Prop := cPo h p kw c al e ∧ cKw G h kw ka ∧ cNew h c w l ∧ cAL G h al ea es ∧ (e.2 = 0 → cCmds h h0 es cs) ∧ (h0 p = none ∧ h0 kw = none ∧ h0 ka = none ∧ h0 c = none ∧ h0 w = none ∧ h0 al = none ∧ (0 < es.length → h0 ea = none)) ∧ (ka ≠ ea ∧ es.length = cs.length) ∧ zfr (fun _ => False) h0 h
theorem pArgs_ok {w : Nat × Nat × Nat} (k : pOk w.2) : pOk (pArgs l w).2 := sorry
theorem pArgs_ub {w : Nat × Nat × Nat} (k : w.2.1 ≤ l.length) : (pArgs l w).2.1 ≤ l.length := sorry
theorem pHead_ok (hl : ∀ x ∈ l, x < 128) (hs : s ≤ l.length) : pOk (pHead l s).2 ∧ (pHead l s).2.1 ≤ l.length ∧ s ≤ (pHead l s).2.1 := sorry
theorem pCmd_ok (hl : ∀ x ∈ l, x < 128) (hs : s ≤ l.length) : pOk (pCmd l s).2 ∧ (pCmd l s).2.1 ≤ l.length := sorry
theorem pArgs_kind {w : Nat × Nat × Nat} : (pArgs l w).1.1 = w.1 := sorry
theorem pHead_k (h : (pHead l s).2.2 = 0) : (pHead l s).1 = 97 ∨ (pHead l s).1 = 115 ∨ (pHead l s).1 = 99 ∨ (pHead l s).1 = 101 ∨ (pHead l s).1 = 117 ∨ (pHead l s).1 = 116 ∨ (pHead l s).1 = 114 := sorry
theorem w_parseCmd (hk : zkn G h) (hS : zkS G) (hP : cPar G h0 h p kw ka c w al ea l (s, 0) es cs) (hs : s ≤ l.length) (hl : l.length ≤ 60) (hes : es.length ≤ 61) : zK G mX5_parseCommand 12 380 [.ref p] h (zO fun o h' => o = none ∧ ∃ ea' cm, cPar G h0 h' p kw ka c w al ea' l (pCmd l s).2 (es ++ [cm]) (cs ++ [(pCmd l s).1])) := sorry
end

