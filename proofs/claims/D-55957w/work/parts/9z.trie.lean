/-! keywords by letters: the class's longest prefix against the reference's words */ -/
section
set_option maxRecDepth 100000
variable {l t u cs : List Nat} {s m n x : Nat}
/-- how many letters from s on are a prefix of a keyword -/
def kGo (l : List Nat) (s : Nat) : Nat → Nat → Nat
  | 0, n => n
  | m + 1, n => if s + n < l.length ∧ kPre ((l.drop s).take (n + 1)) = true then kGo l s m (n + 1) else n
/-- the chain of letters cs behind u is the only way, and ends at a keyword -/
def kChk : List Nat → List Nat → Bool
  | u, [] => (List.range 128).all (fun x => !kPre (u ++ [x])) && decide (u ∈ kW)
  | u, c :: b => (List.range 128).all (fun x => kPre (u ++ [x]) == decide (x = c)) && !decide (u ∈ kW) && kChk (u ++ [c]) b
/-- letters that must come, one by one -/
def pChain (l : List Nat) (cs : List Nat) (p : Nat × Nat) : Nat × Nat := cs.foldl (fun p c => pNeeds l c p) p
theorem pChain_e {cs : List Nat} : ∀ {p : Nat × Nat}, p.2 ≠ 0 → pChain l cs p = p := sorry
theorem drop_take_sn (h : l[s + n]? = some x) : (l.drop s).take (n + 1) = (l.drop s).take n ++ [x] := sorry
theorem drop_take_no (h : ¬ s + n < l.length) : l[s + n]? = none := sorry
/-- what both sides make of letters -/
def kRes (l : List Nat) (s n : Nat) (p : Nat × Nat) : Prop := p.1 = s + n ∧ (p.2 = 0 ∧ (l.drop s).take n ∈ kW ∨ p.2 = s + n + 1 ∧ ¬ (l.drop s).take n ∈ kW) ∧ s + n ≤ l.length
theorem kChain (hl : ∀ x ∈ l, x < 128) : ∀ (cs u : List Nat) (m : Nat), kChk u cs = true → (l.drop s).take u.length = u → s + u.length ≤ l.length → cs.length < m → kRes l s (kGo l s m u.length) (pChain l cs (s + u.length, 0)) ∧ ((pChain l cs (s + u.length, 0)).2 = 0 → kGo l s m u.length = u.length + cs.length ∧ (l.drop s).take (kGo l s m u.length) = u ++ cs) := sorry
end

