/-! THE REFERENCE's parser: a command -/
section
set_option maxRecDepth 100000
variable {G : zG} {h0 : zH} {a : tA} {T : tS} {tt nn n : Nat}
/-- a command: its kind and four numbers -/
abbrev pC : Type := Nat × Nat × Nat × Nat × Nat
/-- the numbers behind a word -/
def pArgs (l : List Nat) (w : Nat × Nat × Nat) : pC × Nat × Nat :=
  if w.1 = 97 then ((97, (pBehind l 1 w.2).1, (pNum l 1 (pBehind l 1 w.2).2).1, (pBehind l 3 (pNum l 1 (pBehind l 1 w.2).2).2).1, (pBehind l 3 (pBehind l 3 (pNum l 1 (pBehind l 1 w.2).2).2).2).1), (pBehind l 3 (pBehind l 3 (pNum l 1 (pBehind l 1 w.2).2).2).2).2)
  else if w.1 = 115 ∨ w.1 = 99 then ((w.1, (pBehind l 3 w.2).1, (pBehind l 1 (pBehind l 3 w.2).2).1, 0, 0), (pBehind l 1 (pBehind l 3 w.2).2).2)
  else if w.1 = 101 ∨ w.1 = 117 then ((w.1, (pBehind l 3 w.2).1, 0, 0, 0), (pBehind l 3 w.2).2)
  else if w.1 = 116 then (if w.2.2 = 0 ∧ l[w.2.1]? = some 32 then ((116, (pBehind l 3 w.2).1, 0, 0, 0), (pBehind l 3 w.2).2) else ((116, 1, 0, 0, 0), w.2))
  else ((w.1, (pBehind l 1 w.2).1, (pBehind l 3 (pBehind l 1 w.2).2).1, 0, 0), (pBehind l 3 (pBehind l 1 w.2).2).2)
def pFirst (x : Nat) : Prop := x = 97 ∨ x = 115 ∨ x = 99 ∨ x = 116 ∨ x = 114
def pCmd (l : List Nat) (h : Nat) : pC × Nat × Nat := match l[h]? with
  | some x => if x = 97 ∨ x = 115 ∨ x = 99 ∨ x = 116 ∨ x = 114 then pArgs l (pWord l x (h + 1, 0)) else ((0, 0, 0, 0, 0), h, h + 1)
  | none => ((0, 0, 0, 0, 0), h, h + 1)
/-- the nth command stands -/
def tK (Cm : Nat → Nat) (n : Nat) (c : pC) : Prop := Cm (5 * n) = c.1 ∧ Cm (5 * n + 1) = c.2.1 ∧ Cm (5 * n + 2) = c.2.2.1 ∧ Cm (5 * n + 3) = c.2.2.2.1 ∧ Cm (5 * n + 4) = c.2.2.2.2
/-- all but the parser's place, error, commands stands -/
def tCF (n : Nat) (T T' : tS) : Prop := (∀ f, f ≠ 9 → f ≠ 10 → f ≠ 14 → T'.1 f = T.1 f) ∧ T'.2.1 = T.2.1 ∧ T'.2.2.1 = T.2.2.1 ∧ T'.2.2.2.1 = T.2.2.2.1 ∧ ∀ j, j < 5 * n → T'.2.2.2.2 j = T.2.2.2.2 j
theorem tP.put {l : List Nat} {h e : Nat} {F A Ln In Cm Cm' : Nat → Nat} (hP : tP (F, A, Ln, In, Cm) l h e) : tP (F, A, Ln, In, Cm') l h e := sorry
theorem pWord_k {l : List Nat} {x : Nat} {p : Nat × Nat} : (pWord l x p).1 = 97 ∨ (pWord l x p).1 = 115 ∨ (pWord l x p).1 = 99 ∨ (pWord l x p).1 = 101 ∨ (pWord l x p).1 = 117 ∨ (pWord l x p).1 = 116 ∨ (pWord l x p).1 = 114 := sorry
theorem w_behindS (hD : tD a) {l : List Nat} {p : Nat × Nat} (hP : tP T l p.1 p.2) {d : Nat} (hd : d ≤ 3) : zK G mX3_behind 4 0 [.ref a.1, .int (nI d)] (tH h0 a T) (tQ h0 a fun v T' => v = some (.int (nI (pBehind l d p).1)) ∧ tP T' l (pBehind l d p).2.1 (pBehind l d p).2.2 ∧ tPF T T') := sorry
theorem w_numberS (hD : tD a) {l : List Nat} {p : Nat × Nat} (hP : tP T l p.1 p.2) {d : Nat} (hd : d ≤ 3) : zK G mX3_number 3 0 [.ref a.1, .int (nI d)] (tH h0 a T) (tQ h0 a fun v T' => v = some (.int (nI (pNum l d p).1)) ∧ tP T' l (pNum l d p).2.1 (pNum l d p).2.2 ∧ tPF T T') := sorry
/-- what a command leaves -/
abbrev tCm (T : tS) (l : List Nat) (n : Nat) (r : pC × Nat × Nat) : Option Value → tS → Prop := fun v T' => v = none ∧ tP T' l r.2.1 r.2.2 ∧ T'.1 14 = n + 1 ∧ tK T'.2.2.2.2 n r.1 ∧ tCF n T T'
/-- one more number of the command is stored; nothing else -/
theorem tCF.st {T1 : tS} {n j x : Nat} (h : tCF n T T1) (hj : 5 * n ≤ j) : tCF n T (T1.1, T1.2.1, T1.2.2.1, T1.2.2.2.1, zu T1.2.2.2.2 j x) := sorry
theorem tCF.pf {T1 T2 : tS} {n : Nat} (h : tCF n T T1) (g : tPF T1 T2) : tCF n T T2 := sorry
theorem tK.s0 {Cm : Nat → Nat} {n c0 c1 c2 c3 c4 x : Nat} (h : tK Cm n (c0, c1, c2, c3, c4)) : tK (zu Cm (5 * n) x) n (x, c1, c2, c3, c4) := sorry
theorem tK.s1 {Cm : Nat → Nat} {n c0 c1 c2 c3 c4 x : Nat} (h : tK Cm n (c0, c1, c2, c3, c4)) : tK (zu Cm (5 * n + 1) x) n (c0, x, c2, c3, c4) := sorry
theorem tK.s2 {Cm : Nat → Nat} {n c0 c1 c2 c3 c4 x : Nat} (h : tK Cm n (c0, c1, c2, c3, c4)) : tK (zu Cm (5 * n + 2) x) n (c0, c1, x, c3, c4) := sorry
theorem tK.s3 {Cm : Nat → Nat} {n c0 c1 c2 c3 c4 x : Nat} (h : tK Cm n (c0, c1, c2, c3, c4)) : tK (zu Cm (5 * n + 3) x) n (c0, c1, c2, x, c4) := sorry
theorem tK.s4 {Cm : Nat → Nat} {n c0 c1 c2 c3 c4 x : Nat} (h : tK Cm n (c0, c1, c2, c3, c4)) : tK (zu Cm (5 * n + 4) x) n (c0, c1, c2, c3, x) := sorry
/-- a command under way: the parser at p, its numbers so far c -/
def tCx (T T1 : tS) (l : List Nat) (n : Nat) (p : Nat × Nat) (c : pC) : Prop := tP T1 l p.1 p.2 ∧ T1.1 14 = n + 1 ∧ tK T1.2.2.2.2 n c ∧ tCF n T T1
theorem tCx.pf {T1 T2 : tS} {l : List Nat} {n : Nat} {p q : Nat × Nat} {c : pC} (h : tCx T T1 l n p c) (hP : tP T2 l q.1 q.2) (g : tPF T1 T2) : tCx T T2 l n q c := sorry
theorem tCx.put {T1 : tS} {l : List Nat} {n j x : Nat} {p : Nat × Nat} {c c' : pC} (h : tCx T T1 l n p c) (hj : 5 * n ≤ j) (hk : tK (zu T1.2.2.2.2 j x) n c') : tCx T (T1.1, T1.2.1, T1.2.2.1, T1.2.2.2.1, zu T1.2.2.2.2 j x) l n p c' := sorry
theorem tCx.out {T1 : tS} {l : List Nat} {n : Nat} {r : pC × Nat × Nat} (h : tCx T T1 l n r.2 r.1) : tQ h0 a (tCm T l n r) (.inl none) (tH h0 a T1) := sorry
set_option maxHeartbeats 8000000 in
theorem w_cmdTail (hD : tD a) {T1 : tS} {l : List Nat} {n k : Nat} {p : Nat × Nat} (hn : n ≤ 60) (hC : tCx T T1 l n p (k, 0, 0, 0, 0)) (hk : k = 97 ∨ k = 115 ∨ k = 99 ∨ k = 101 ∨ k = 117 ∨ k = 116 ∨ k = 114) {v2 : Value} : zW G mX3_command 5 0 106 [.ref a.1, .int (nI (5 * n)), v2, .int (nI k)] [] (tH h0 a T1) (tQ h0 a (tCm T l n (pArgs l (k, p)))) := sorry
end

