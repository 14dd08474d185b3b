/-! State.audit, add -/
section
set_option maxRecDepth 100000
variable {G : zG} {h h' h0 h1 H : zH} {O O' A B : Nat → Prop} {st ll aq re rt ea er ha hr c it : Nat} {mc : Int32} {xs : List (Nat × Nat)} {qs rs : List Nat} {s : sS} {tt nn jj : Nat} {Q : zR → zH → Prop}
theorem cS.hst (hS : cS h O st s) : ∃ l, h st = some (1, l) := sorry
theorem nodup_len : ∀ (l m : List Nat), l.Nodup → (∀ x ∈ l, x ∈ m) → l.length ≤ m.length := sorry
theorem sI.ql (hI : sI tt nn jj s) : s.2.2.1.length ≤ s.2.1.length := sorry
theorem w_stAudit (hI : sI tt nn 0 s) (hE : sE s) (hN : nn ≤ 10000) (hS : cS h O st s) {n : Nat} (hn : n < 2 ^ 30) : zK G mX2_audit 9 60 [.ref st, .int (nI n)] h (zO fun v h' => v = some (.int (nI (sVisits s (min n s.2.1.length)).1)) ∧ cS h' O st (zu (sVisits s (min n s.2.1.length)).2.1 7 ((sVisits s (min n s.2.1.length)).2.1 7 + (sVisits s (min n s.2.1.length)).1), (sVisits s (min n s.2.1.length)).2.2) ∧ zfr O h h') := sorry
theorem w_stAdd (hk : zkn G h) (hZ : zkI G) (hI : sI tt nn jj s) (hN : nn ≤ 10000) (hT : tt ≤ 100000) (hS : cS h O st s) (h11 : s.2.1.length < 12) {d c w l : Nat} (hw : w ≤ 999) (hl : l ≤ 50) : zK G mX2_add 4 4 [.ref st, .int (nI d), .int (nI c), .int (nI w), .int (nI l)] h (zO fun v h' => v = some (.int (nI (s.1 1))) ∧ cS h' (zext O h) st (zu (zu s.1 1 (s.1 1 + 1)) 4 (s.1 4 + w), s.2.1 ++ [sNew (s.1 1) d c w (s.1 0 + l)], s.2.2.1 ++ [s.1 1], s.2.2.2) ∧ zfr O h h') := sorry
end

