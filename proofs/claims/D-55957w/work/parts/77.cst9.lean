/-! State.remember, addInterest -/
section
set_option maxRecDepth 100000
variable {G : zG} {h h' h0 : zH} {O O' A : Nat → Prop} {st ll aq re rt ea ha er hr c it : Nat} {mc : Int32} {xs ys : List (Nat × Nat)} {qs rs : List Nat} {s : sS} {m : Nat → Nat} {x : sC} {ys' : List Nat}
theorem cIs.init {a b : List Nat} {z w : Nat} (hI : cIs h O (a ++ [z]) (b ++ [w])) : cIs h O a b := sorry
theorem w_stRem (hk : zkn G h) (hI : zkI G) (hst : h st = some (1, cSf ll aq re rt m)) (hc : h c = some (2, cCl x)) (hQ : cDQ h re er hr rs) (hIs : cIs h O rs ys') (hl : ys'.length ≤ 8) (hx : x 0 < 2 ^ 31) : zK G mX2_remember 4 1 [.ref st, .ref c] h (zO fun v h' => v = none ∧ ∃ hr' rs', cDQ h' re er hr' rs' ∧ cIs h' (zext O h) rs' ((x 0 :: ys').take 8) ∧ zfr (cDf re er) h h') := sorry
/-- interest on the claims from k on -/
theorem w_int1 (nit : h it = none) (h12 : s.2.1.length ≤ 12) {p : Nat} (hp20 : p ≤ 20) {tt nn jj : Nat} (hIK : ∀ k, k ≤ s.2.1.length → sI tt nn jj (sIntK p s k)) (hOi : ¬ O it) : ∀ (n k : Nat) (H : zH) (lr v3 : Value), k + n = s.2.1.length → cP H O st ll aq re rt ea ha er hr mc xs qs rs (sIntK p s k) → H it = some (cIt ll mc xs k lr) → zfr O h H → zW G mX2_addInterest 6 0 21 [.ref st, .int (nI p), .ref it, v3] [] H (zO fun v h' => v = none ∧ cP h' O st ll aq re rt ea ha er hr mc xs qs rs (sIntK p s s.2.1.length) ∧ zfr O h h') := sorry
theorem w_stInt (hP : cP h O st ll aq re rt ea ha er hr mc xs qs rs s) (h12 : s.2.1.length ≤ 12) {tt nn jj : Nat} (hIK : ∀ k, k ≤ s.2.1.length → sI tt nn jj (sIntK (s.1 (10 + s.1 0 / 4 % 4)) s k)) (hr20 : s.1 (10 + s.1 0 / 4 % 4) ≤ 20) (ht : s.1 0 < 2 ^ 30) : zK G mX2_addInterest 6 2 [.ref st] h (zO fun v h' => v = none ∧ cP h' O st ll aq re rt ea ha er hr mc xs qs rs (sInt s) ∧ zfr O h h') := sorry
end

