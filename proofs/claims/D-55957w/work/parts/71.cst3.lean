/-! a new State -/
section
set_option maxRecDepth 100000
variable {G : zG} {M : zM} {d r pc pc' : Nat} {L st0 : List Value} {h h' h0 : zH} {Q : zR → zH → Prop} {O O' : Nat → Prop} {st ll aq re rt ea ha er hr a : Nat} {mc : Int32} {xs : List (Nat × Nat)} {qs rs : List Nat} {s : sS}
theorem ztab_0 {n : Nat} : List.replicate n (Value.int 0) = ztab n fun _ => 0 := sorry
theorem zW.newaIK {N u : Nat} {n : Int32} (hd : decode (zm_c M) pc = .ok (.newarray .int, 2)) (hn : pc + 2 = pc') (hn0 : ¬ n < 0) (hN : n.toNatClampNeg = N) (hb : N * 4 ≤ 536870912) (hu : 1 ≤ u ∧ N ≤ 4 * u) (kq : ∀ a h', h a = none → h' = zup h a (100, ztab N fun _ => 0) → h' a = some (100, ztab N fun _ => 0) → zW G M d r pc' L (.ref a :: st0) h' Q) : zW G M d (r + u) pc L (.int n :: st0) h Q := sorry
theorem zW.iastNK {a n j x : Nat} {f : Nat → Nat} (hd : decode (zm_c M) pc = .ok (.iastore, 1)) (hn : pc + 1 = pc') (hh : h a = some (100, ztab n f)) (hj : j < n) (hn0 : n < 2 ^ 31) (kq : ∀ h', h' = zup h a (100, ztab n (zu f j x)) → h' a = some (100, ztab n (zu f j x)) → zW G M d r pc' L st0 h' Q) : zW G M d r pc L (.int (nI x) :: .int (nI j) :: .ref a :: st0) h Q := sorry
def sZero : Nat → Nat := fun i => if 10 ≤ i ∧ i < 14 then 5 else 0
theorem w_stInit (hst : h st = some (1, [.null, .null, .null, .null, .int 0, .int 0, .int 0, .int 0, .int 0, .long 0, .long 0, .long 0])) : zK G mX2_init 6 14 [.ref st] h (zO fun v h' => v = none ∧ ∃ ll aq re rt ea er, cP h' (fun b => b = st ∨ h b = none) st ll aq re rt ea 0 er 0 (nI 0) [] [] [] (sZero, [], [], []) ∧ zfr (fun b => b = st) h h') := sorry
end

