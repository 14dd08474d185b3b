/-! LinkedList: an item is taken out -/
section
set_option maxRecDepth 100000
variable {G : zG} {h h' h0 : zH} {a it : Nat} {mc : Int32} {xs : List (Nat × Nat)}
theorem map_er {α β : Type} {f : α → β} : ∀ (l : List α) (i : Nat), (l.eraseIdx i).map f = (l.map f).eraseIdx i := sorry
theorem cNd_er_lt {i j : Nat} (hj : j < i) : cNd (xs.eraseIdx i) j = cNd xs j := sorry
theorem cNd_er_ge {i j : Nat} (hj : i ≤ j) : cNd (xs.eraseIdx i) j = cNd xs (j + 1) := sorry
theorem cPd_er_le {i j : Nat} (hj : j ≤ i) : cPd (xs.eraseIdx i) j = cPd xs j := sorry
theorem cPd_er_gt {i j : Nat} (hj : i < j) : cPd (xs.eraseIdx i) j = cPd xs (j + 1) := sorry
theorem cLL.erase (hL : cLL h a mc xs) {mc' : Int32} {i : Nat} {p : Nat × Nat} (hi : xs[i]? = some p) (ha : h' a = some (6, [.int mc', .int (nI (xs.length - 1)), zrf (if i = 0 then cNd xs 1 else cNd xs 0), zrf (if i + 1 = xs.length then cPd xs i else cPd xs xs.length)]))
    (hq : ∀ j q, i = j + 1 → xs[j]? = some q → h' q.1 = some (7, [.ref q.2, zrf (cNd xs (i + 1)), zrf (cPd xs j)])) (hr : ∀ r, xs[i + 1]? = some r → h' r.1 = some (7, [.ref r.2, zrf (cNd xs (i + 2)), zrf (cPd xs i)]))
    (ho : ∀ j q, xs[j]? = some q → j ≠ i → j + 1 ≠ i → j ≠ i + 1 → h' q.1 = h q.1) : cLL h' a mc' (xs.eraseIdx i) := sorry
theorem w_unlink (hL : cLL h a mc xs) {i : Nat} {p : Nat × Nat} (hi : xs[i]? = some p) : zK G mJ3_unlink 1 0 [.ref a, .ref p.1] h (zO fun v h' => v = some (.ref p.2) ∧ cLL h' a (mc + nI 1) (xs.eraseIdx i) ∧ zfr (cLf a xs) h h') := sorry
/-- the iterator takes out what it gave last -/
theorem w_itRemove (hL : cLL h a mc xs) {k : Nat} {p : Nat × Nat} (hk : xs[k]? = some p) (hi : h it = some (8, [.ref p.1, zrf (cNd xs (k + 1)), .int (nI (k + 1)), .int mc, .ref a])) : zK G mJ25_remove 2 0 [.ref it] h (zO fun v h' => v = none ∧ cLL h' a (mc + nI 1) (xs.eraseIdx k) ∧ h' it = some (8, [.null, zrf (cNd (xs.eraseIdx k) k), .int (nI k), .int (mc + nI 1), .ref a]) ∧ zfr (fun b => b = it ∨ cLf a xs b) h h') := sorry
theorem w_llFirst (hL : cLL h a mc xs) {p : Nat × Nat} (hp0 : xs[0]? = some p) : zK G mJ3_getFirst 1 0 [.ref a] h (zPu h (some (.ref p.2))) := sorry
theorem w_unlinkFirst (hL : cLL h a mc xs) {p : Nat × Nat} (hi : xs[0]? = some p) : zK G mJ3_unlinkFirst 1 0 [.ref a, .ref p.1] h (zO fun v h' => v = some (.ref p.2) ∧ cLL h' a (mc + nI 1) (xs.eraseIdx 0) ∧ zfr (cLf a xs) h h') := sorry
theorem w_llRemFirst (hL : cLL h a mc xs) {p : Nat × Nat} (hi : xs[0]? = some p) : zK G mJ3_removeFirst 2 0 [.ref a] h (zO fun v h' => v = some (.ref p.2) ∧ cLL h' a (mc + nI 1) (xs.eraseIdx 0) ∧ zfr (cLf a xs) h h') := sorry
end

