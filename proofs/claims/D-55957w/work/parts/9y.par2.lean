/-! THE PARSER: signs and numbers -/
section
set_option maxRecDepth 100000
variable {G : zG} {h h' H : zH} {a n kw ka it c w p al x d : Nat} {l : List Nat} {e : Nat × Nat}
theorem pNeeds_ub (hl : e.1 ≤ l.length) : (pNeeds l x e).1 ≤ l.length := sorry
theorem pDig_lt {h : Nat} (q : pDig l h = true) : h < l.length := sorry
theorem pRun_ub : ∀ {m h v : Nat}, h ≤ l.length → (pRun l m h v).2 ≤ l.length := sorry
theorem pNum_ub (hl : e.1 ≤ l.length) : (pNum l d e).2.1 ≤ l.length := sorry
theorem pBehind_ub (hl : e.1 ≤ l.length) : (pBehind l d e).2.1 ≤ l.length := sorry
/-- an error stands at its place -/
def pOk (e : Nat × Nat) : Prop := e.2 = 0 ∨ e.2 = e.1 + 1
theorem pNeeds_ok (k : pOk e) : pOk (pNeeds l x e) := sorry
theorem pNum_ok (k : pOk e) : pOk (pNum l d e).2 := sorry
theorem pBehind_ok (k : pOk e) : pOk (pBehind l d e).2 := sorry
abbrev cPp (h : zH) (p kw c al : Nat) (ov : Option Value) (e : Nat × Nat) : zR → zH → Prop := zO fun o h' => o = ov ∧ cPo h' p kw c al e ∧ zfr (fun b => b = p) h h'
theorem w_expect (hP : cPo h p kw c al e) (ks : cStr h c w l) (hl : e.1 ≤ l.length) (hx : x < 128) : zK G mX5_expect 9 0 [.ref p, .int (nI x)] h (cPp h p kw c al none (pNeeds l x e)) := sorry
theorem w_digits (hP : cPo h p kw c al e) (ks : cStr h c w l) (hl : e.1 ≤ l.length) (hd0 : 0 < d) (hd : d ≤ 3) : zK G mX5_parseDigits 9 0 [.ref p, .int (nI d)] h (cPp h p kw c al (some (.int (nI (pNum l d e).1))) (pNum l d e).2) := sorry
theorem w_numAB (hP : cPo h p kw c al e) (ks : cNew h c w l) (hl : e.1 ≤ l.length) : zK G mX5_parseNumberAfterBlank 10 0 [.ref p] h (cPp h p kw c al (some (.int (nI (pBehind l 3 e).1))) (pBehind l 3 e).2) := sorry
theorem w_digAB (hP : cPo h p kw c al e) (ks : cNew h c w l) (hl : e.1 ≤ l.length) : zK G mX5_parseDigitAfterBlank 10 0 [.ref p] h (cPp h p kw c al (some (.int (nI (pBehind l 1 e).1))) (pBehind l 1 e).2) := sorry
end

