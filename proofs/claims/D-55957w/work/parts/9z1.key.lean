/-! a command's keyword: both sides -/
section
set_option maxRecDepth 100000
variable {l u cs : List Nat} {s m n x : Nat}
theorem kStep (h : l[s + n]? = some x) (hu : (l.drop s).take n = u) (hk : kPre (u ++ [x]) = true) : kGo l s (m + 1) n = kGo l s m (n + 1) ∧ (l.drop s).take (n + 1) = u ++ [x] := sorry
theorem kStop (hl : ∀ x ∈ l, x < 128) (hu : (l.drop s).take n = u) (hk : ∀ x, x < 128 → l[s + n]? = some x → kPre (u ++ [x]) = false) : kGo l s m n = n := sorry
/-- the word of a kind -/
def kWd (k : Nat) : List Nat := if k = 97 then [97, 100, 100] else if k = 115 then [115, 105, 103, 110] else if k = 99 then [99, 111, 117, 110, 116, 101, 114, 115, 105, 103, 110] else if k = 101 then [115, 101, 116, 116, 108, 101] else if k = 116 then [116, 105, 99, 107] else if k = 117 then [97, 117, 100, 105, 116] else [114, 97, 116, 101]
/-- a command's head as the reference reads it: kind, place, error -/
def pHead (l : List Nat) (s : Nat) : Nat × Nat × Nat := match l[s]? with
  | some x => if x = 97 ∨ x = 115 ∨ x = 99 ∨ x = 116 ∨ x = 114 then pWord l x (s + 1, 0) else (0, s, s + 1)
  | none => (0, s, s + 1)
def kLaw (l : List Nat) (s : Nat) (w : Nat × Nat × Nat) : Prop := kRes l s (kGo l s 12 0) w.2 ∧ (w.2.2 = 0 → (l.drop s).take (kGo l s 12 0) = kWd w.1)
theorem kLaw_chain (hl : ∀ x ∈ l, x < 128) {k m n : Nat} {u cs : List Nat} {p : Nat × Nat} (e1 : kGo l s 12 0 = kGo l s m n) (hn : u.length = n) (hu : (l.drop s).take n = u) (hs : s + n ≤ l.length) (hc : kChk u cs = true) (hm : cs.length < m) (ep : pChain l cs (s + n, 0) = p) (hk : u ++ cs = kWd k) : kLaw l s (k, p) := sorry
theorem kLaw_stop (hl : ∀ x ∈ l, x < 128) {k m n : Nat} {u : List Nat} (e1 : kGo l s 12 0 = kGo l s m n) (hu : (l.drop s).take n = u) (hs : s + n ≤ l.length) (hk : ∀ x, x < 128 → l[s + n]? = some x → kPre (u ++ [x]) = false) (hn : ¬ u ∈ kW) : kLaw l s (k, s + n, s + n + 1) := sorry
theorem kPre_0 : ∀ x : Fin 128, ¬ (x.1 = 97 ∨ x.1 = 115 ∨ x.1 = 99 ∨ x.1 = 116 ∨ x.1 = 114) → kPre [x.1] = false := sorry
theorem kPre_a : ∀ x : Fin 128, x.1 ≠ 117 → x.1 ≠ 100 → kPre [97, x.1] = false := sorry
theorem kPre_s : ∀ x : Fin 128, x.1 ≠ 101 → x.1 ≠ 105 → kPre [115, x.1] = false := sorry
theorem pNeeds_no {c : Nat} {p : Nat × Nat} (h : ¬ l[p.1]? = some c) (h0 : p.2 = 0) : pNeeds l c p = (p.1, p.1 + 1) := sorry
theorem pNeeds_yes {c : Nat} {p : Nat × Nat} (h : l[p.1]? = some c) (h0 : p.2 = 0) : pNeeds l c p = (p.1 + 1, 0) := sorry
theorem pNeeds_er {c : Nat} {p : Nat × Nat} (h : p.2 ≠ 0) : pNeeds l c p = p := sorry
theorem kHead (hl : ∀ x ∈ l, x < 128) (hs : s ≤ l.length) : kLaw l s (pHead l s) := sorry
theorem pArgs_e {w : Nat × Nat × Nat} (h : w.2.2 ≠ 0) : (pArgs l w).2 = w.2 := sorry
/-- a command, by its head -/
theorem pCmd_eq : (pCmd l s).2 = (if (pHead l s).2.2 = 0 then (pArgs l (pHead l s)).2 else (pHead l s).2) ∧ ((pHead l s).2.2 = 0 → pCmd l s = pArgs l (pHead l s)) := sorry
end

