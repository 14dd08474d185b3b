/-! a State's copy -/
section
set_option maxRecDepth 100000
variable {G : zG} {h h' h0 : zH} {O O' A : Nat → Prop} {st ll aq re rt ea ha er hr : Nat} {mc : Int32} {xs : List (Nat × Nat)} {qs rs : List Nat} {s : sS}
theorem cCs.app {cs : List sC} (hC : cCs h xs cs) {h3 : zH} {nd n : Nat} {c : sC} (z : ∀ b l, h b = some (2, l) → h3 b = some (2, l)) (hn : h n = none) (hc : h3 n = some (2, cCl c)) : cCs h3 (xs ++ [(nd, n)]) (cs ++ [c]) := sorry
theorem take_snoc {α : Type} {l : List α} {k : Nat} {x : α} (e : l[k]? = some x) : l.take (k + 1) = l.take k ++ [x] := sorry
theorem cP.both (hP : cP h O st ll aq re rt ea ha er hr mc xs qs rs s) (z : zfr (fun b => b = st ∨ b = rt) h h') {m : Nat → Nat} (e1 : h' st = some (1, cSf ll aq re rt m)) (e2 : h' rt = some (100, ztab 4 fun i => m (10 + i))) : cP h' O st ll aq re rt ea ha er hr mc xs qs rs (m, s.2) := sorry
/-- what is new since h, but it -/
abbrev cNw (h : zH) (it : Nat) : Nat → Prop := fun b => h b = none ∧ b ≠ it
abbrev cCopy (h : zH) (s : sS) : zR → zH → Prop := zO fun v h' => ∃ st', v = some (.ref st') ∧ cS h' (fun b => h b = none) st' s ∧ zfr (fun _ => False) h h'
/-- the last part of a copy: rates and numbers -/
theorem w_copy4 (hP : cP h O st ll aq re rt ea ha er hr mc xs qs rs s) {H : zH} {st' ll' aq' re' rt' ea' ha' er' hr' : Nat} {mc' : Int32} {ys : List (Nat × Nat)} {qs' rs' : List Nat} (zf : zfr (fun _ => False) h H) (hN : cP H (fun b => h b = none) st' ll' aq' re' rt' ea' ha' er' hr' mc' ys qs' rs' (sZero, s.2)) {v2 v3 : Value} : zW G mX2_copy 8 0 137 [.ref st, .ref st', v2, v3] [] H (cCopy h s) := sorry
end

