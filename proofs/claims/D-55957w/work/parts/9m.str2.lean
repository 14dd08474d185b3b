/-! Strings: constants, substring, equals, hashCode -/
section
set_option maxRecDepth 100000
variable {G : zG} {h h' h1 : zH} {a v ml m n q i j x c w c2 w2 : Nat} {l t l1 s : List Nat}
/-- the texts of the constants -/
def zlt : List (List Nat) := [[32, 64], [32, 115], [32, 99], [32, 33], [97, 100, 100], [115, 105, 103, 110], [99, 111, 117, 110, 116, 101, 114, 115, 105, 103, 110], [115, 101, 116, 116, 108, 101], [116, 105, 99, 107], [97, 117, 100, 105, 116], [97, 100, 100], [115, 105, 103, 110], [99, 111, 117, 110, 116, 101, 114, 115, 105, 103, 110], [115, 101, 116, 116, 108, 101], [116, 105, 99, 107], [97, 117, 100, 105, 116], [114, 97, 116, 101], []]
/-- the constants stand at the start -/
def zkS (G : zG) : Prop := ∀ j l, zlt[j]? = some l → ∃ (hs : Int32) (hz : Nat), zg_k G (zg_a G (100 + j)) = some (1014, [.ref (zg_a G (200 + j)), .int (nI 0), .int hs, .int (nI hz)]) ∧ zg_k G (zg_a G (200 + j)) = some (1103, btab l)
theorem zlt_ch : ∀ (j : Nat) (l : List Nat), zlt[j]? = some l → l.length < 2 ^ 16 ∧ ∀ x ∈ l, x < 128 := sorry
theorem zkS.str (hS : zkS G) (hk : zkn G h) {j : Nat} {l : List Nat} (hj : zlt[j]? = some l) : cStr h (zg_a G (100 + j)) (zg_a G (200 + j)) l := sorry
/-- a piece of the text at c -/
abbrev cSub (h : zH) (c w : Nat) (i j : Nat) (l : List Nat) : zR → zH → Prop := zO fun o h' => ∃ c' w', o = some (.ref c') ∧ zfr (fun _ => False) h h' ∧ cStr h' c' w' ((l.drop i).take (j - i)) ∧ (i < j → cNew h' c' w' ((l.drop i).take (j - i)) ∧ ((c' = c ∧ w' = w) ∨ (h c' = none ∧ h w' = none)))
theorem w_strNew {kk : Nat} (hS : zkS G) (hk : zkn G h) (hw : h w = some (kk, btab l)) (hkk : kk % 1000 = 103) (hi : i ≤ j) (hj : j ≤ l.length) (hij : ¬ (i = 0 ∧ j = l.length)) (hl : l.length ≤ 100) (h128 : ∀ x ∈ l, x < 128) : zK G mJ19_newString 4 26 [.ref w, .int (nI i), .int (nI (j - i))] h (cSub h c w i j l) := sorry
theorem w_strSub (hS : zkS G) (hk : zkn G h) (k : cNew h c w l) (hi : i ≤ j) (hj : j ≤ l.length) (hl : l.length ≤ 100) : zK G mJ7_substring 5 26 [.ref c, .int (nI i), .int (nI j)] h (cSub h c w i j l) := sorry
end

