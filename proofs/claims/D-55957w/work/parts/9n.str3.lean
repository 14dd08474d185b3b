/-! Strings: equals, hashCode -/
section
set_option maxRecDepth 100000
variable {G : zG} {h h' h1 : zH} {a v ml m n q i j x c w c2 w2 : Nat} {l t l1 s : List Nat}
theorem btab_inj : ∀ {l s : List Nat}, (∀ x ∈ l, x < 128) → (∀ x ∈ s, x < 128) → btab l = btab s → l = s := sorry
theorem w_latEq {k k2 : Nat} (hw : h w = some (k, btab l)) (hk : k % 1000 = 103) (hw2 : h w2 = some (k2, btab s)) (hk2 : k2 % 1000 = 103) (hl : l.length < 2 ^ 16) (hs : s.length < 2 ^ 16) (h1 : ∀ x ∈ l, x < 128) (h2 : ∀ x ∈ s, x < 128) : zK G mJ19_equals 1 0 [.ref w, .ref w2] h (zPu h (some (.int (nI (if l = s then 1 else 0))))) := sorry
theorem w_strEq (k : cStr h c w l) (k2 : cStr h c2 w2 s) : zK G mJ7_equals 2 0 [.ref c, .ref c2] h (zPu h (some (.int (nI (if l = s then 1 else 0))))) := sorry
theorem lat_sw : ∀ n : Fin 128, 2 ≤ n.1 → Op.lookupswitch.offset [(0, 26), (1, 30)] 40 (nI n.1).toInt = 40 := sorry
theorem w_latHash (hw : h w = some (103, btab l)) (h2 : 2 ≤ l.length) (hl : l.length < 128) (h128 : ∀ x ∈ l, x < 128) : zK G mJ19_hashCode 4 0 [.ref w] h (zPu h (some (.int (sHash l)))) := sorry
theorem w_strHash (k : cNew h c w l) (h2 : 2 ≤ l.length) (hl : l.length < 128) (h0 : sHash l ≠ 0) : zK G mJ7_hashCode 5 0 [.ref c] h (zO fun o h' => o = some (.int (sHash l)) ∧ cNew h' c w l ∧ zfr (fun b => b = c) h h') := sorry
end

