/-! THE PARSER: its state; prefixes of keywords; letters and digits */ -/
section
set_option maxRecDepth 100000
variable {G : zG} {h h' H : zH} {a n kw ka it c w c2 w2 i p al x d : Nat} {l q : List Nat} {e : Nat × Nat}
theorem zle.of (z : zfr (fun _ => False) h H) : zle h H := sorry
/-- the parser's object; e: place, error's place + 1 -/
def cPo (h : zH) (p kw c al : Nat) (e : Nat × Nat) : Prop := h p = some (4, [.ref kw, .ref c, .ref al, .int (nI e.1), .int (nI (if e.2 = 0 then 0 else 1))])
theorem w_isKwPre (hk : zkn G h) (hS : zkS G) (hP : cPo h p kw c al e) (k : cKw G h kw ka) (ks : cStr h c2 w2 q) : zK G mX5_isKeywordPrefix 8 1 [.ref p, .ref c2] h (zPu h (some (.int (nI (if kPre q = true then 1 else 0))))) := sorry
theorem w_atEnd (hP : cPo h p kw c al e) (ks : cStr h c w l) (hl : e.1 ≤ l.length) : zK G mX5_isAtEnd 6 0 [.ref p] h (zPu h (some (.int (nI (if e.1 = l.length then 1 else 0))))) := sorry
theorem w_isNext (hP : cPo h p kw c al e) (ks : cStr h c w l) (hl : e.1 ≤ l.length) (hx : x < 128) : zK G mX5_isNext 8 0 [.ref p, .int (nI x)] h (zPu h (some (.int (nI (if l[e.1]? = some x then 1 else 0))))) := sorry
theorem w_isDigit (hP : cPo h p kw c al e) (ks : cStr h c w l) (hl : e.1 ≤ l.length) : zK G mX5_isNextDigit 8 0 [.ref p] h (zPu h (some (.int (nI (if pDig l e.1 = true then 1 else 0))))) := sorry
end

