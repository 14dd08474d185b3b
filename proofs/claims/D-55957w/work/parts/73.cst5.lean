/-! a State's copy: the deques -/
section
set_option maxRecDepth 100000
variable {G : zG} {h h' h0 : zH} {O O' A : Nat → Prop} {st ll aq re rt ea ha er hr : Nat} {mc : Int32} {xs : List (Nat × Nat)} {qs rs : List Nat} {s : sS}
theorem w_valueOf2 (hk : zkn G h) (hI : zkI G) {x : Nat} (hx : x < 2 ^ 31) : zK G mJ21_valueOf 3 1 [.int (nI x)] h (zO fun v h' => ∃ q k, v = some (.ref q) ∧ cInt h' q k x ∧ (k = 15 → h q = none) ∧ zfr (fun _ => False) h h') := sorry
theorem cDQ.outI (hQ : cDQ h aq ea ha qs) (z : zfr (cDf aq ea) h h') : ∀ b k l, (k = 15 ∨ k = 1015) → h b = some (k, l) → h' b = some (k, l) := sorry
theorem w_copy3 (hk : zkn G h) (hI : zkI G) (hP : cP h O st ll aq re rt ea ha er hr mc xs qs rs s) (hb : ∀ x ∈ s.2.2.2, x < 2 ^ 31) (hl : s.2.2.2.length ≤ 12) {it : Nat} (nit : h it = none) : ∀ (m k : Nat) (H : zH) (st' ll' aq' re' rt' ea' ha' er' hr' : Nat) (mc' : Int32) (ys : List (Nat × Nat)) (qs' rs' : List Nat) (lr : Int32) (v3 : Value), k + m = rs.length → zfr (fun _ => False) h H → cP H (cNw h it) st' ll' aq' re' rt' ea' ha' er' hr' mc' ys qs' rs' (sZero, s.2.1, s.2.2.1, s.2.2.2.take k) → H it = some (cDi re hr rs.length k lr) → zW G mX2_copy 8 (m + 0) 101 [.ref st, .ref st', .ref it, v3] [] H (cCopy h s) := sorry
theorem w_copy2 (hk : zkn G h) (hI : zkI G) (hP : cP h O st ll aq re rt ea ha er hr mc xs qs rs s) (hb : ∀ x ∈ s.2.2.1, x < 2 ^ 31) (hl : s.2.2.1.length ≤ 12) {it : Nat} (nit : h it = none) (hb3 : ∀ x ∈ s.2.2.2, x < 2 ^ 31) (hl3 : s.2.2.2.length ≤ 8) : ∀ (m k : Nat) (H : zH) (st' ll' aq' re' rt' ea' ha' er' hr' : Nat) (mc' : Int32) (ys : List (Nat × Nat)) (qs' rs' : List Nat) (lr : Int32) (v3 : Value), k + m = qs.length → zfr (fun _ => False) h H → cP H (cNw h it) st' ll' aq' re' rt' ea' ha' er' hr' mc' ys qs' rs' (sZero, s.2.1, s.2.2.1.take k, []) → H it = some (cDi aq ha qs.length k lr) → zW G mX2_copy 8 (m + 10) 57 [.ref st, .ref st', .ref it, v3] [] H (cCopy h s) := sorry
end

