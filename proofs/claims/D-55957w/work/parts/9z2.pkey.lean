/-! THE PARSER: a keyword */ -/
section
set_option maxRecDepth 100000
variable {G : zG} {h h' H : zH} {a n kw ka it c w p al x d s : Nat} {l : List Nat} {e : Nat × Nat}
theorem kPre_len {q : List Nat} (h : kPre q = true) : q.length ≤ 11 := sorry
theorem kGo_ge : ∀ {m n : Nat}, n ≤ kGo l s m n := sorry
/-- a keyword's end -/
abbrev cKy (h : zH) (p kw c w al : Nat) (l : List Nat) (s : Nat) : zR → zH → Prop := zO fun o h' => ∃ c' w', o = some (.ref c') ∧ cPo h' p kw c al (pHead l s).2 ∧ zfr (fun b => b = p) h h' ∧ (∃ q, cStr h' c' w' q) ∧ ((pHead l s).2.2 = 0 → cNew h' c' w' (kWd (pHead l s).1) ∧ ((c' = c ∧ w' = w) ∨ (h c' = none ∧ h w' = none)))
theorem w_parseKey (hk : zkn G h) (hS : zkS G) (hP : cPo h p kw c al (s, 0)) (k : cKw G h kw ka) (ks : cNew h c w l) (hs : s ≤ l.length) (hl : l.length ≤ 60) : zK G mX5_parseKeyword 9 350 [.ref p] h (cKy h p kw c w al l s) := sorry
end

