/-! THE PARSER: a command's numbers (printed by mk9z4.py) -/
section
set_option maxRecDepth 100000
variable {G : zG} {h h' h1 H H' : zH} {p kw ka c w al kc kv ar cm s : Nat} {l q : List Nat} {e e' : Nat × Nat} {g : Nat → Nat}
theorem cNew.hash {c2 w2 : Nat} {l2 : List Nat} (k : cNew h kc kv q) (k1 : cNew h1 kc kv q) (z : zfr (fun b => b = kc) h h1) (k2 : cNew h c2 w2 l2) : cNew h1 c2 w2 l2 := sorry
/-- the numbers that were read -/
def cGot (c : pC) (g : Nat → Nat) : Prop := g 0 = c.2.1 ∧ (c.1 = 116 ∨ (g 1 = c.2.2.1 ∧ g 2 = c.2.2.2.1 ∧ g 3 = c.2.2.2.2))
def cPst (h : zH) (p kw c w al kc kv ar : Nat) (l q : List Nat) (H : zH) (e : Nat × Nat) (g : Nat → Nat) : Prop := cPo H p kw c al e ∧ cNew H c w l ∧ H ar = some (100, ztab 4 g) ∧ cNew H kc kv q ∧ zfr (fun b => b = p ∨ b = kc ∨ b = ar) h H
theorem cPst.call (t : cPst h p kw c w al kc kv ar l q H e g) (z : zfr (fun b => b = p) H H') (hP : cPo H' p kw c al e') : cPst h p kw c w al kc kv ar l q H' e' g := sorry
theorem cPst.put {k v : Nat} (t : cPst h p kw c w al kc kv ar l q H e g) (e9 : H' = zup H ar (100, ztab 4 (zu g k v))) : cPst h p kw c w al kc kv ar l q H' e (zu g k v) := sorry
abbrev cPa (h : zH) (p kw c w al kc kv ar : Nat) (l q : List Nat) (r : pC × Nat × Nat) : zR → zH → Prop := zO fun o h' => o = none ∧ ∃ g, cPst h p kw c w al kc kv ar l q h' r.2 g ∧ cGot r.1 g
theorem cPa.mk {r : pC × Nat × Nat} (t : cPst h p kw c w al kc kv ar l q H e g) (e1 : r.2 = e) (e2 : cGot r.1 g) : cPa h p kw c w al kc kv ar l q r (.inl none) H := sorry
theorem w_pArgs (hk : zkn G h) (hS : zkS G) (hP : cPo h p kw c al (s, 0)) (ks : cNew h c w l) (hs : s ≤ l.length) (hcm : h cm = some (5, [.ref kc, .ref ar])) (har : h ar = some (100, ztab 4 fun _ => 0)) {k : Nat} (kk : cNew h kc kv (kWd k)) (hkk : k = 97 ∨ k = 115 ∨ k = 99 ∨ k = 101 ∨ k = 117 ∨ k = 116 ∨ k = 114) : zK G mX5_parseArguments 11 0 [.ref p, .ref cm] h (cPa h p kw c w al kc kv ar l (kWd k) (pArgs l (k, s, 0))) := sorry
end

