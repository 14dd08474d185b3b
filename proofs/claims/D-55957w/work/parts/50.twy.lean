/-! THE REFERENCE's parser: all commands -/
section
set_option maxRecDepth 100000
variable {G : zG} {h0 : zH} {a : tA} {T : tS} {tt nn n : Nat}
theorem pNeeds_le {l : List Nat} {c : Nat} {p : Nat × Nat} : p.1 ≤ (pNeeds l c p).1 := sorry
theorem pThree_le {l : List Nat} {x y z : Nat} {p : Nat × Nat} : p.1 ≤ (pThree l x y z p).1 := sorry
theorem pNeeds_up {l : List Nat} {c n : Nat} {p : Nat × Nat} (h : n ≤ p.1) : n ≤ (pNeeds l c p).1 := sorry
theorem pThree_up {l : List Nat} {x y z n : Nat} {p : Nat × Nat} (h : n ≤ p.1) : n ≤ (pThree l x y z p).1 := sorry
theorem pWord_le {l : List Nat} {x : Nat} {p : Nat × Nat} : p.1 ≤ (pWord l x p).2.1 := sorry
theorem pRun_le {l : List Nat} : ∀ {m h v : Nat}, h ≤ (pRun l m h v).2 := sorry
theorem pNum_le {l : List Nat} {d : Nat} {p : Nat × Nat} : p.1 ≤ (pNum l d p).2.1 := sorry
theorem pBehind_le {l : List Nat} {d : Nat} {p : Nat × Nat} : p.1 ≤ (pBehind l d p).2.1 := sorry
theorem pArgs_le {l : List Nat} {w : Nat × Nat × Nat} : w.2.1 ≤ (pArgs l w).2.1 := sorry
theorem pCmd_le {l : List Nat} {h : Nat} : h ≤ (pCmd l h).2.1 := sorry
/-- more commands, behind signs -/
def pLoop (l : List Nat) : Nat → Nat × Nat → List pC → List pC × Nat × Nat
  | 0, p, cs => (cs, p)
  | m + 1, p, cs => if p.2 = 0 ∧ l[p.1]? = some 59 then pLoop l m (pCmd l (p.1 + 1)).2 (cs ++ [(pCmd l (p.1 + 1)).1]) else (cs, p)
def pFin (l : List Nat) (r : List pC × Nat × Nat) : List pC × Nat := (r.1, if r.2.2 = 0 ∧ r.2.1 < l.length then r.2.1 + 1 else r.2.2)
/-- a program: its commands, an error's place + 1 -/
def pParse (l : List Nat) : List pC × Nat := pFin l (pLoop l 60 (pCmd l 0).2 [(pCmd l 0).1])
def tKs (Cm : Nat → Nat) (cs : List pC) : Prop := ∀ i c, cs[i]? = some c → tK Cm i c
theorem tKs.push {Cm Cm' : Nat → Nat} {cs : List pC} {c : pC} (h : tKs Cm cs) (hc : tK Cm' cs.length c) (hs : ∀ j, j < 5 * cs.length → Cm' j = Cm j) : tKs Cm' (cs ++ [c]) := sorry
/-- what a parse leaves -/
abbrev tPs (T : tS) (r : List pC × Nat) : Option Value → tS → Prop := fun v T' => v = none ∧ T'.1 10 = r.2 ∧ T'.1 14 = r.1.length ∧ tKs T'.2.2.2.2 r.1 ∧ tCF 0 T T' ∧ r.1.length ≤ 61 ∧ r.2 ≤ 61
theorem tCF.step {T1 T2 T3 : tS} {n : Nat} (h : tCF 0 T T1) (g : tCF n T2 T3) (e : ∀ f, f ≠ 9 → T2.1 f = T1.1 f) (e2 : T2.2 = T1.2) : tCF 0 T T3 := sorry
set_option maxHeartbeats 8000000 in
theorem w_parse (hD : tD a) {l : List Nat} (h8 : T.1 8 = l.length) (hl : l.length ≤ 60) (hi : ∀ i x, l[i]? = some x → T.2.2.2.1 i = x) (hc : ∀ x ∈ l, x < 128) : zK G mX3_parse 6 0 [.ref a.1] (tH h0 a T) (tQ h0 a (tPs T (pParse l))) := sorry
end

