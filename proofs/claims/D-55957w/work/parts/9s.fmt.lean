/-! THE CLASS's format (printed by mk9s.py) -/
section
set_option maxRecDepth 100000
variable {G : zG} {h h' h1 H H' : zH} {O U V Ob A : Nat → Prop} {x st tt nn e a v c w2 k f : Nat} {X : List zA} {w : sW} {y : Int32} {l s : List Nat}
/-- a builder that is being filled: what it holds, what has changed since h -/
def cBu (h : zH) (Ob : Nat → Prop) (H : zH) (a : Nat) (l : List Nat) : Prop := ∃ v, cSB H a v l ∧ Ob a ∧ zext Ob h v ∧ zfr Ob h H
theorem cBu.hd (b : cBu h Ob H a l) : ∃ fs, H a = some (13, fs) := sorry
theorem cBu.z (b : cBu h Ob H a l) : zfr Ob h H := sorry
theorem cBu.step {v : Nat} {ov ow : Option Value} (oa : Ob a) (ovv : zext Ob h v) (z : zfr Ob h H) {l' : List Nat} {o : zR} {H' : zH} (k : cSBp H a v l' ov o H') : ∃ r, o = .inl r ∧ r = ov ∧ cBu h Ob H' a l' := sorry
abbrev cBp (h : zH) (Ob : Nat → Prop) (a : Nat) (l : List Nat) (ov : Option Value) : zR → zH → Prop := zO fun r H' => r = ov ∧ cBu h Ob H' a l
theorem b_clear (b : cBu h Ob H a l) : zK G mJ6_setLength 6 51 [.ref a, .int (nI 0)] H (cBp h Ob a [] none) := sorry
theorem b_ch {n : Nat} (b : cBu h Ob H a l) (hl : l.length < 100) (hn : n < 128) : zK G mJ6_append_3 6 51 [.ref a, .int (nI n)] H (cBp h Ob a (l ++ [n]) (some (.ref a))) := sorry
theorem b_nu (hk : zkn G h) (hD : zkD G) (b : cBu h Ob H a l) (hf : f ≤ 5) (hkf : k < 10 ^ (f + 1)) (hl : l.length ≤ 94) : zK G mJ6_append_2 7 51 [.ref a, .int (nI k)] H (cBp h Ob a (l ++ sDec f k) (some (.ref a))) := sorry
theorem b_st (hk : zkn G h) (hS : zkS G) (b : cBu h Ob H a l) {j : Nat} {s : List Nat} (hj : zlt[j]? = some s) (hl : l.length + s.length ≤ 100) : zK G mJ6_append 7 51 [.ref a, .ref (zg_a G (100 + j))] H (cBp h Ob a (l ++ s) (some (.ref a))) := sorry
theorem c_format (hk : zkn G h) (hS : zkS G) (hD : zkD G) (hG : cReg x 0 [] w h U) (hJ : sJ tt nn w.1) (hN : nn ≤ 10000) (hT : tt + 50 < 100000) : zK G mX1_format 40 900 [.ref x, .int y] h (cOut x U h [eElt] (sForm w y)) := sorry
end

