/-! State.expire, tick, advance -/
section
set_option maxRecDepth 100000
variable {G : zG} {h h' h0 : zH} {O O' A B : Nat → Prop} {st ll aq re rt ea er c it : Nat} {s : sS} {tt nn jj : Nat}
theorem zfr.split {k : Nat} {l : List Value} {c' : zC} (z : zfr (fun b => b = it ∨ B b) h h') (hit : h it = some (k, l)) (hk : k < 1000) (hit' : h' it = some c') : zfr (fun b => b = it) h (zup h it c') ∧ zfr B (zup h it c') h' := sorry
theorem sI.cB (h : sI tt nn jj s) (hN : nn ≤ 10000) : cB s := sorry
/-- live ones of O, and what is new since h but it -/
abbrev cNv (O : Nat → Prop) (h : zH) (it : Nat) : Nat → Prop := fun b => (O b ∧ h b ≠ none) ∨ (h b = none ∧ b ≠ it)
theorem w_exp1 (hk : zkn G h) (hZ : zkI G) (hN : nn ≤ 10000) (hT : tt ≤ 100000) (nit : h it = none) : ∀ (todo kept : List sC) (n j : Nat) (H : zH) (ha hr : Nat) (mc : Int32) (xs : List (Nat × Nat)) (qs rs : List Nat) (sc : Nat → Nat) (qu l : List Nat) (lr v3 : Value), sI tt nn j (sc, kept ++ todo, qu, l) → sc 0 < 2 ^ 30 → cP H (cNv O h it) st ll aq re rt ea ha er hr mc xs qs rs (sc, kept ++ todo, qu, l) → H it = some (cIt ll mc xs kept.length lr) → zfr O h H → zW G mX2_expire 6 (2 * todo.length) 10 [.ref st, .int (nI n), .ref it, v3] [] H (zO fun v h' => v = some (.int (nI (sExp (sc 0) todo kept sc qu l n).1)) ∧ cS h' (cNv O h it) st (sExp (sc 0) todo kept sc qu l n).2 ∧ zfr O h h') := sorry
end

