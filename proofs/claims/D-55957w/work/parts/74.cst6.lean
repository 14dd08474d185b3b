/-! a State's copy: the claims; the whole -/
section
set_option maxRecDepth 100000
variable {G : zG} {h h' h0 : zH} {O O' A : Nat → Prop} {st ll aq re rt ea ha er hr : Nat} {mc : Int32} {xs : List (Nat × Nat)} {qs rs : List Nat} {s : sS}
theorem cLL.outC (hL : cLL h ll mc xs) (z : zfr (cLf ll xs) h h') : ∀ b l, h b = some (2, l) → h' b = some (2, l) := sorry
theorem w_copy1 (hk : zkn G h) (hI : zkI G) (hP : cP h O st ll aq re rt ea ha er hr mc xs qs rs s) (h12 : s.2.1.length ≤ 12) (hb : ∀ x ∈ s.2.2.1, x < 2 ^ 31) (hl : s.2.2.1.length ≤ 12) (hb3 : ∀ x ∈ s.2.2.2, x < 2 ^ 31) (hl3 : s.2.2.2.length ≤ 8) {it : Nat} (nit : h it = none) : ∀ (m k : Nat) (H : zH) (st' ll' aq' re' rt' ea' ha' er' hr' : Nat) (mc' : Int32) (ys : List (Nat × Nat)) (lr v3 : Value), k + m = s.2.1.length → zfr (fun _ => False) h H → cP H (cNw h it) st' ll' aq' re' rt' ea' ha' er' hr' mc' ys [] [] (sZero, s.2.1.take k, [], []) → H it = some (cIt ll mc xs k lr) → zW G mX2_copy 8 (3 * m + 23) 16 [.ref st, .ref st', .ref it, v3] [] H (cCopy h s) := sorry
/-- a State's copy -/
theorem w_stCopy (hk : zkn G h) (hI : zkI G) (hS : cS h O st s) (h12 : s.2.1.length ≤ 12) (hb : ∀ x ∈ s.2.2.1, x < 2 ^ 31) (hl : s.2.2.1.length ≤ 12) (hb3 : ∀ x ∈ s.2.2.2, x < 2 ^ 31) (hl3 : s.2.2.2.length ≤ 8) : zK G mX2_copy 8 78 [.ref st] h (cCopy h s) := sorry
end

