/-! State.remove, settle, remember -/
section
set_option maxRecDepth 100000
variable {G : zG} {h h' h0 : zH} {O O' A : Nat → Prop} {st ll aq re rt ea ha er hr c it : Nat} {mc : Int32} {xs ys : List (Nat × Nat)} {qs rs : List Nat} {s : sS} {Q : zR → zH → Prop} {v1 : Value} {r : Nat}
/-- the numbers and the queue have changed -/
theorem cP.numq (hP : cP h O st ll aq re rt ea ha er hr mc xs qs rs s) (z : zfr (fun b => b = st ∨ cDf aq ea b) h h') {m' : Nat → Nat} {ha' : Nat} {qs' qu' : List Nat} (e : h' st = some (1, cSf ll aq re rt m')) (hm : ∀ i, i < 4 → m' (10 + i) = s.1 (10 + i)) (hQ' : cDQ h' aq ea ha' qs') (hI' : cIs h' O qs' qu') : cP h' O st ll aq re rt ea ha' er hr mc xs qs' rs (m', s.2.1, qu', s.2.2.2) := sorry
/-- the rest of the list holds none such -/
theorem w_rem2 (nit : h it = none) (hl : ys.length < 2 ^ 30) (fin : ∀ H : zH, cLL H ll mc ys → zfr A h H → zW G mX2_remove 6 r 36 [.ref st, .ref c, .ref it] [] H Q) : ∀ (n k : Nat) (H : zH) (lr : Value), k + n = ys.length → cLL H ll mc ys → H it = some (cIt ll mc ys k lr) → (∀ j q, k ≤ j → ys[j]? = some q → q.2 ≠ c) → zfr A h H → zW G mX2_remove 6 r 8 [.ref st, .ref c, .ref it] [] H Q := sorry
theorem w_rem1 (nit : h it = none) (hl : xs.length < 2 ^ 30) {i : Nat} {p : Nat × Nat} (hp : xs[i]? = some p) (hno : ∀ (j : Nat) (q : Nat × Nat), j ≠ i → xs[j]? = some q → q.2 ≠ p.2) (fin : ∀ H : zH, cLL H ll (mc + nI 1) (xs.eraseIdx i) → zfr (cLf ll xs) h H → zW G mX2_remove 6 r 36 [.ref st, .ref p.2, .ref it] [] H Q) : ∀ (n k : Nat) (H : zH) (lr : Value), k + n = i → cLL H ll mc xs → H it = some (cIt ll mc xs k lr) → zfr (cLf ll xs) h H → zW G mX2_remove 6 r 8 [.ref st, .ref p.2, .ref it] [] H Q := sorry
theorem cCs.erase {cs : List sC} (hC : cCs h xs cs) (i : Nat) : cCs h (xs.eraseIdx i) (cs.eraseIdx i) := sorry
theorem cLf_er {i b : Nat} (hb : cLf ll (xs.eraseIdx i) b) : cLf ll xs b := sorry
/-- what the invariant says of a State's numbers -/
def cB (s : sS) : Prop := s.2.1.length ≤ 12 ∧ (∀ i, i < s.2.1.length → sAt s.2.1 i 0 < 2 ^ 30 ∧ sAt s.2.1 i 3 < 2 ^ 30) ∧ (∀ y ∈ s.2.2.1, y < 2 ^ 30) ∧ s.2.2.1.Nodup ∧ (s.2.2.2.length ≤ 8 ∧ ∀ y ∈ s.2.2.2, y < 2 ^ 30)
theorem w_stRemove (hP : cP h O st ll aq re rt ea ha er hr mc xs qs rs s) (hB : cB s) {i : Nat} {p : Nat × Nat} (hp : xs[i]? = some p) : zK G mX2_remove 6 3 [.ref st, .ref p.2] h (zO fun v h' => v = none ∧ cS h' O st (sClose s i) ∧ h' p.2 = some (2, cCl (sAt s.2.1 i)) ∧ zfr O h h') := sorry
theorem w_stSettle (hP : cP h O st ll aq re rt ea ha er hr mc xs qs rs s) (hB : cB s) {i : Nat} {p : Nat × Nat} (hp : xs[i]? = some p) : zK G mX2_settle 7 3 [.ref st, .ref p.2] h (zO fun v h' => v = none ∧ cS h' O st (zu (sClose s i).1 6 ((sClose s i).1 6 + 1), (sClose s i).2) ∧ h' p.2 = some (2, cCl (sAt s.2.1 i)) ∧ zfr O h h') := sorry
end

