/-! LinkedList: a list of nodes with their items -/
section
set_option maxRecDepth 100000
variable {G : zG} {h h' h0 : zH} {a it : Nat} {mc : Int32} {xs : List (Nat × Nat)}
def cNd (xs : List (Nat × Nat)) (i : Nat) : Option Nat := (xs[i]?).map Prod.fst
def cPd (xs : List (Nat × Nat)) : Nat → Option Nat
  | 0 => none
  | k + 1 => cNd xs k
/-- list a holds the nodes and items xs -/
def cLL (h : zH) (a : Nat) (mc : Int32) (xs : List (Nat × Nat)) : Prop := h a = some (6, [.int mc, .int (nI xs.length), zrf (cNd xs 0), zrf (cPd xs xs.length)]) ∧ (∀ i p, xs[i]? = some p → h p.1 = some (7, [.ref p.2, zrf (cNd xs (i + 1)), zrf (cPd xs i)])) ∧ (xs.map Prod.fst).Nodup
def cLf (a : Nat) (xs : List (Nat × Nat)) : Nat → Prop := fun b => b = a ∨ b ∈ xs.map Prod.fst
theorem cNd_at {i : Nat} {p : Nat × Nat} (e : xs[i]? = some p) : cNd xs i = some p.1 := sorry
theorem cNd_no {i : Nat} (e : xs.length ≤ i) : cNd xs i = none := sorry
theorem cLL.ne (hL : cLL h a mc xs) {i j : Nat} {p q : Nat × Nat} (e : xs[i]? = some p) (f : xs[j]? = some q) (hn : i ≠ j) : p.1 ≠ q.1 := sorry
theorem cLL.mv (hL : cLL h a mc xs) (z : ∀ b k l, (k = 6 ∨ k = 7) → h b = some (k, l) → h' b = some (k, l)) : cLL h' a mc xs := sorry
theorem cLL.fr (hL : cLL h a mc xs) {A : Nat → Prop} (z : zfr A h h') (n : ∀ b, cLf a xs b → ¬ A b) : cLL h' a mc xs := sorry
theorem cLL.live (hL : cLL h a mc xs) {b : Nat} (hb : cLf a xs b) : ∃ k l, h b = some (k, l) ∧ (k = 6 ∨ k = 7) := sorry
theorem cLL.nk (hL : cLL h a mc xs) {k : Nat} {l : List Value} (hi : h it = some (k, l)) (h6 : k ≠ 6 ∧ k ≠ 7) : ∀ b, cLf a xs b → ¬ b = it := sorry
theorem cLL.nn (hL : cLL h a mc xs) (hi : h it = none) : ∀ b, cLf a xs b → ¬ b = it := sorry
/-- a node is made -/
theorem w_nodeInit {n : Nat} {x y z : Value} (hn : h n = some (7, [x, y, z])) {l e nx : Option Nat} : zK G mJ29_init 1 0 [.ref n, zrf l, zrf e, zrf nx] h (zPk h none n (7, [zrf e, zrf nx, zrf l])) := sorry
theorem w_llInit (ha : h a = some (6, [.int 0, .int 0, .null, .null])) : zK G mJ3_init 5 0 [.ref a] h (zPk h none a (6, [.int (nI 0), .int (nI 0), .null, .null])) := sorry
theorem cLL_nil (ha : h a = some (6, [.int mc, .int (nI 0), .null, .null])) : cLL h a mc [] := sorry
theorem cLL.app (hL : cLL h a mc xs) {mc' : Int32} {n c : Nat} (hn : h n = none) (ha : h' a = some (6, [.int mc', .int (nI (xs.length + 1)), zrf (cNd (xs ++ [(n, c)]) 0), .ref n])) (hnn : h' n = some (7, [.ref c, .null, zrf (cPd xs xs.length)]))
    (hp : ∀ j q, xs[j]? = some q → j + 1 = xs.length → h' q.1 = some (7, [.ref q.2, .ref n, zrf (cPd xs j)])) (ho : ∀ j q, xs[j]? = some q → j + 1 ≠ xs.length → h' q.1 = h q.1) : cLL h' a mc' (xs ++ [(n, c)]) := sorry
/-- one more item, at the end -/
theorem w_linkLast (hL : cLL h a mc xs) {c : Nat} : zK G mJ3_linkLast 2 1 [.ref a, .ref c] h (zO fun v h' => v = none ∧ ∃ n, h n = none ∧ cLL h' a (mc + nI 1) (xs ++ [(n, c)]) ∧ zfr (cLf a xs) h h') := sorry
theorem w_addLast (hL : cLL h a mc xs) {c : Nat} : zK G mJ3_addLast 3 1 [.ref a, .ref c] h (zO fun v h' => v = none ∧ ∃ n, h n = none ∧ cLL h' a (mc + nI 1) (xs ++ [(n, c)]) ∧ zfr (cLf a xs) h h') := sorry
theorem w_llSize {x y : Value} (hl : h a = some (6, [.int mc, .int (nI xs.length), x, y])) : zK G mJ3_size 1 0 [.ref a] h (zPu h (some (.int (nI xs.length)))) := sorry
theorem w_llEmpty {x y : Value} (hl : h a = some (6, [.int mc, .int (nI xs.length), x, y])) (hx : xs.length < 2 ^ 30) : zK G mJ0_isEmpty 2 0 [.ref a] h (zPu h (some (.int (nI (if xs = [] then 1 else 0))))) := sorry
/-- the iterator at k -/
theorem w_itHas {lr nx : Value} {k n : Nat} {m : Int32} {x y : Value} (hi : h it = some (8, [lr, nx, .int (nI k), .int m, .ref a])) (hl : h a = some (6, [.int mc, .int (nI n), x, y])) (hn : n < 2 ^ 30) (hk : k < 2 ^ 30) : zK G mJ25_hasNext 1 0 [.ref it] h (zPu h (some (.int (nI (if k < n then 1 else 0))))) := sorry
theorem w_itMod {lr nx : Value} {k n : Nat} {x y : Value} (hi : h it = some (8, [lr, nx, .int (nI k), .int mc, .ref a])) (hl : h a = some (6, [.int mc, .int (nI n), x, y])) : zK G mJ25_checkForComodification 1 0 [.ref it] h (zPu h none) := sorry
theorem w_itNext (hL : cLL h a mc xs) {lr : Value} {k : Nat} {p : Nat × Nat} (hi : h it = some (8, [lr, zrf (cNd xs k), .int (nI k), .int mc, .ref a])) (hk : xs[k]? = some p) (hx : xs.length < 2 ^ 30) : zK G mJ25_next 2 0 [.ref it] h (zPk h (some (.ref p.2)) it (8, [.ref p.1, zrf (cNd xs (k + 1)), .int (nI (k + 1)), .int mc, .ref a])) := sorry
end

