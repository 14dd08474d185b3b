/-! THE PARSER: the program */ -/
section
set_option maxRecDepth 100000
variable {G : zG} {h h' h0 h1 H H' : zH} {p kw ka c w al ea cm s : Nat} {l q : List Nat} {e e' : Nat × Nat} {es : List Nat} {cs : List pC}
theorem cPar.mvp (k : cPar G h0 h p kw ka c w al ea l e es cs) (z : zfr (fun b => b = p) h h') (P : cPo h' p kw c al e') (q : e'.2 = 0 → e.2 = 0) : cPar G h0 h' p kw ka c w al ea l e' es cs := sorry
theorem cPo.bad {a n : Nat} (hp : h p = some (4, [.ref kw, .ref c, .ref al, .int (nI a), .int (nI 1)])) (hn : n ≠ 0) : cPo h p kw c al (a, n) := sorry
/-- a parse's end -/
abbrev cPs (G : zG) (h0 : zH) (p kw ka c w al : Nat) (l : List Nat) (r : List pC × Nat × Nat) : zR → zH → Prop := zO fun o h' => o = some (.int (nI (if (pFin l r).2 = 0 then 1 else 0))) ∧ ∃ ea' es', cPar G h0 h' p kw ka c w al ea' l (r.2.1, (pFin l r).2) es' r.1 ∧ pOk (r.2.1, (pFin l r).2)
theorem w_parse2 (hk : zkn G h0) (hS : zkS G) (hP : cPar G h0 h p kw ka c w al ea l (0, 0) [] []) (hl : l.length ≤ 60) : zK G mX5_parse 13 23300 [.ref p] h (cPs G h0 p kw ka c w al l (pLoop l 60 (pCmd l 0).2 [(pCmd l 0).1])) := sorry
end

