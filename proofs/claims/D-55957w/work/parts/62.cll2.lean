/-! LinkedList: nodes by number, iterators, taking out -/
section
set_option maxRecDepth 100000
variable {G : zG} {h h' h0 : zH} {a it : Nat} {mc : Int32} {xs : List (Nat × Nat)}
theorem nI_half_all : ∀ n : Fin 65, nI n.1 >>> (nI 1 &&& 31) = nI (n.1 / 2) := sorry
theorem nI_half {n : Nat} (h : n ≤ 64) : nI n >>> (nI 1 &&& 31) = nI (n / 2) := sorry
theorem w_llNode (hL : cLL h a mc xs) (hx : xs.length ≤ 64) {i : Nat} {p : Nat × Nat} (hi : xs[i]? = some p) : zK G mJ3_node 1 0 [.ref a, .int (nI i)] h (zPu h (some (.ref p.1))) := sorry
theorem w_llGet (hL : cLL h a mc xs) (hx : xs.length ≤ 64) {i : Nat} {p : Nat × Nat} (hi : xs[i]? = some p) : zK G mJ3_get 3 0 [.ref a, .int (nI i)] h (zPu h (some (.ref p.2))) := sorry
theorem w_itInit (hL : cLL h a mc xs) (hx : xs.length ≤ 64) (hi : h it = some (8, [.null, .null, .int 0, .int 0, .null])) : zK G mJ25_init 2 0 [.ref it, .ref a, .int (nI 0)] h (zPk h none it (8, [.null, zrf (cNd xs 0), .int (nI 0), .int mc, .ref a])) := sorry
/-- a new iterator, at the start -/
abbrev cItr (h : zH) (a : Nat) (mc : Int32) (xs : List (Nat × Nat)) : zR → zH → Prop := zO fun v h' => ∃ it, v = some (.ref it) ∧ h it = none ∧ h' = zup h it (8, [.null, zrf (cNd xs 0), .int (nI 0), .int mc, .ref a]) ∧ h' it = some (8, [.null, zrf (cNd xs 0), .int (nI 0), .int mc, .ref a])
theorem w_llIter (hL : cLL h a mc xs) (hx : xs.length ≤ 64) : zK G mJ2_iterator 5 2 [.ref a] h (cItr h a mc xs) := sorry
end

