/-! THE REFERENCE's parser: next, needs, three, number, behind -/
section
set_option maxRecDepth 100000
variable {G : zG} {h0 : zH} {a : tA} {T : tS} {tt nn n : Nat}
/-- the parser over a text, at h, with an error's place + 1 -/
def tP (T : tS) (l : List Nat) (h e : Nat) : Prop := T.1 8 = l.length ∧ l.length ≤ 60 ∧ (∀ i x, l[i]? = some x → T.2.2.2.1 i = x) ∧ T.1 9 = h ∧ T.1 10 = e ∧ h ≤ l.length ∧ e ≤ l.length + 1 ∧ ∀ x ∈ l, x < 128
/-- all but the parser's place and error stands -/
def tPF (T T' : tS) : Prop := (∀ f, f ≠ 9 → f ≠ 10 → T'.1 f = T.1 f) ∧ T'.2 = T.2
theorem tPF.rf : tPF T T := sorry
theorem tPF.tr {T1 T2 T3 : tS} (h : tPF T1 T2) (g : tPF T2 T3) : tPF T1 T3 := sorry
def pAt (l : List Nat) (h : Nat) : Int32 := match l[h]? with | some x => nI x | none => -1
theorem nI_e1 {n : Nat} : nI n = nI (n + 1) - 1 := sorry
theorem nI_elt {e : Nat} (he : e < 2 ^ 30) : nI e - 1 < 0 ↔ e = 0 := sorry
theorem w_next (hD : tD a) {l : List Nat} {h e : Nat} (hP : tP T l h e) : zK G mX3_next 1 0 [.ref a.1] (tH h0 a T) (tQ h0 a fun v T' => v = some (.int (pAt l h)) ∧ T' = T) := sorry
def pNeeds (l : List Nat) (c : Nat) (p : Nat × Nat) : Nat × Nat := if p.2 = 0 then (if l[p.1]? = some c then (p.1 + 1, 0) else (p.1, p.1 + 1)) else p
theorem pAt_eq {l : List Nat} {h c : Nat} (hl : ∀ x ∈ l, x < 128) (hc : c < 128) : pAt l h = nI c ↔ l[h]? = some c := sorry
theorem w_needs (hD : tD a) {l : List Nat} {h e : Nat} (hP : tP T l h e) {c : Nat} (hc : c < 128) : zK G mX3_needs 2 0 [.ref a.1, .int (nI c)] (tH h0 a T) (tQ h0 a fun v T' => v = none ∧ tP T' l (pNeeds l c (h, e)).1 (pNeeds l c (h, e)).2 ∧ tPF T T') := sorry
theorem w_three (hD : tD a) {l : List Nat} {h e : Nat} (hP : tP T l h e) {c1 c2 c3 : Nat} (hc1 : c1 < 128) (hc2 : c2 < 128) (hc3 : c3 < 128) : zK G mX3_three 3 0 [.ref a.1, .int (nI c1), .int (nI c2), .int (nI c3)] (tH h0 a T) (tQ h0 a fun v T' => v = none ∧ tP T' l (pNeeds l c3 (pNeeds l c2 (pNeeds l c1 (h, e)))).1 (pNeeds l c3 (pNeeds l c2 (pNeeds l c1 (h, e)))).2 ∧ tPF T T') := sorry
def pDig (l : List Nat) (h : Nat) : Bool := match l[h]? with | some x => decide (48 ≤ x ∧ x ≤ 57) | none => false
def pRun (l : List Nat) : Nat → Nat → Nat → Nat × Nat
  | 0, h, v => (v, h)
  | m + 1, h, v => if pDig l h = true then pRun l m (h + 1) (10 * v + (l.getD h 0 - 48)) else (v, h)
/-- a number of at most d digits: its value, the place, the error -/
def pNum (l : List Nat) (d : Nat) (p : Nat × Nat) : Nat × Nat × Nat := if p.2 = 0 then (if pDig l p.1 = true then ((pRun l d p.1 0).1, (pRun l d p.1 0).2, 0) else (0, p.1, p.1 + 1)) else (0, p)
theorem pDig_in {l : List Nat} {h : Nat} (hl : ∀ x ∈ l, x < 128) : sIn (pAt l h) (nI 48) (nI 57) = pDig l h := sorry
theorem pDig_at {l : List Nat} {h : Nat} (hq : pDig l h = true) : ∃ x, l[h]? = some x ∧ 48 ≤ x ∧ x ≤ 57 ∧ h < l.length ∧ pAt l h = nI x ∧ l.getD h 0 = x := sorry
theorem w_number (hD : tD a) {l : List Nat} {h e : Nat} (hP : tP T l h e) {d : Nat} (hd : d ≤ 3) : zK G mX3_number 3 0 [.ref a.1, .int (nI d)] (tH h0 a T) (tQ h0 a fun v T' => v = some (.int (nI (pNum l d (h, e)).1)) ∧ tP T' l (pNum l d (h, e)).2.1 (pNum l d (h, e)).2.2 ∧ tPF T T') := sorry
def pBehind (l : List Nat) (d : Nat) (p : Nat × Nat) : Nat × Nat × Nat := pNum l d (pNeeds l 32 p)
theorem w_behind (hD : tD a) {l : List Nat} {h e : Nat} (hP : tP T l h e) {d : Nat} (hd : d ≤ 3) : zK G mX3_behind 4 0 [.ref a.1, .int (nI d)] (tH h0 a T) (tQ h0 a fun v T' => v = some (.int (nI (pBehind l d (h, e)).1)) ∧ tP T' l (pBehind l d (h, e)).2.1 (pBehind l d (h, e)).2.2 ∧ tPF T T') := sorry
end

