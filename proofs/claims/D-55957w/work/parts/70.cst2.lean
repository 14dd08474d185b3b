/-! a State's picture behind changes of its parts -/
section
set_option maxRecDepth 100000
variable {G : zG} {h h' h0 : zH} {O O' A : Nat → Prop} {st ll aq re rt ea ha er hr : Nat} {mc : Int32} {xs : List (Nat × Nat)} {qs rs : List Nat} {s : sS}
theorem cLL.out (hL : cLL h ll mc xs) (z : zfr (cLf ll xs) h h') {b k : Nat} {l : List Value} (e : h b = some (k, l)) (hk : k ≠ 6 ∧ k ≠ 7) : h' b = some (k, l) := sorry
theorem cDQ.out (hQ : cDQ h aq ea ha qs) (z : zfr (cDf aq ea) h h') {b k : Nat} {l : List Value} (e : h b = some (k, l)) (hk : k ≠ 9 ∧ k ≠ 104) : h' b = some (k, l) := sorry
theorem cDQ.mk (hQ : cDQ h aq ea ha qs) (z : ∀ b k l, (k = 9 ∨ k = 104) → h b = some (k, l) → h' b = some (k, l)) : cDQ h' aq ea ha qs := sorry
theorem cP.live (hP : cP h O st ll aq re rt ea ha er hr mc xs qs rs s) : cP h (fun b => O b ∧ h b ≠ none) st ll aq re rt ea ha er hr mc xs qs rs s := sorry
/-- the list of claims has changed -/
theorem cP.list (hP : cP h O st ll aq re rt ea ha er hr mc xs qs rs s) (z : zfr (cLf ll xs) h h') {mc' : Int32} {xs' : List (Nat × Nat)} {cs' : List sC} (hL' : cLL h' ll mc' xs') (hC' : cCs h' xs' cs') (o2 : ∀ b, cLf ll xs' b → O' b) (o3 : ∀ p ∈ xs', O' p.2) (u : ∀ b, O b → O' b) : cP h' O' st ll aq re rt ea ha er hr mc' xs' qs rs (s.1, cs', s.2.2) := sorry
/-- the audit queue has changed -/
theorem cP.queue (hP : cP h O st ll aq re rt ea ha er hr mc xs qs rs s) (z : zfr (cDf aq ea) h h') {ha' : Nat} {qs' qu' : List Nat} (hQ' : cDQ h' aq ea ha' qs') (hI' : cIs h' O' qs' qu') (u : ∀ b, O b → O' b) : cP h' O' st ll aq re rt ea ha' er hr mc xs qs' rs (s.1, s.2.1, qu', s.2.2.2) := sorry
/-- the recently expired have changed -/
theorem cP.rec (hP : cP h O st ll aq re rt ea ha er hr mc xs qs rs s) (z : zfr (cDf re er) h h') {hr' : Nat} {rs' re' : List Nat} (hQ' : cDQ h' re er hr' rs') (hI' : cIs h' O' rs' re') (u : ∀ b, O b → O' b) : cP h' O' st ll aq re rt ea ha er hr' mc xs qs rs' (s.1, s.2.1, s.2.2.1, re') := sorry
/-- a number has changed -/
theorem cP.num (hP : cP h O st ll aq re rt ea ha er hr mc xs qs rs s) {m' : Nat → Nat} (e : h' = zup h st (1, cSf ll aq re rt m')) (hm : ∀ i, i < 4 → m' (10 + i) = s.1 (10 + i)) : cP h' O st ll aq re rt ea ha er hr mc xs qs rs (m', s.2) := sorry
/-- a claim has changed -/
theorem cP.claim (hP : cP h O st ll aq re rt ea ha er hr mc xs qs rs s) {i : Nat} {p : Nat × Nat} {c : sC} (hp : xs[i]? = some p) (e : h' = zup h p.2 (2, cCl c)) : cP h' O st ll aq re rt ea ha er hr mc xs qs rs (s.1, s.2.1.set i c, s.2.2) := sorry
/-- the rates have changed -/
theorem cP.rate (hP : cP h O st ll aq re rt ea ha er hr mc xs qs rs s) {i x : Nat} (hi : i < 4) (e : h' = zup h rt (100, ztab 4 (zu (fun i => s.1 (10 + i)) i x))) : cP h' O st ll aq re rt ea ha er hr mc xs qs rs (zu s.1 (10 + i) x, s.2) := sorry
/-- a new Integer, or one of the cache, behind the queue -/
theorem cIs.push {its ys : List Nat} (hI : cIs h O its ys) {q k x : Nat} (hq : cInt h q k x) (ho : k = 15 → O q) : cIs h O (its ++ [q]) (ys ++ [x]) := sorry
theorem cIs.cons {its ys : List Nat} (hI : cIs h O its ys) {q k x : Nat} (hq : cInt h q k x) (ho : k = 15 → O q) : cIs h O (q :: its) (x :: ys) := sorry
theorem cIs.erase {its ys : List Nat} (hI : cIs h O its ys) (j : Nat) : cIs h O (its.eraseIdx j) (ys.eraseIdx j) := sorry
theorem cIs.ob {its ys : List Nat} (hI : cIs h O its ys) : ∀ x ∈ its, ∃ k v, cInt h x k v := sorry
end

