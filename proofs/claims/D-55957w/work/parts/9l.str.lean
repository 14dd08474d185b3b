/-! Strings: toString, charAt, substring, equals, hashCode -/
section
set_option maxRecDepth 100000
variable {G : zG} {h h' h1 : zH} {a v ml m n q i j x c w c2 w2 : Nat} {l t l1 s : List Nat}
/-- Java's hash of a text -/
def sHash (l : List Nat) : Int32 := l.foldl (fun r x => nI 31 * r + nI x) (nI 0)
/-- a String made by the run: its hash may be kept -/
def cNew (h : zH) (c w : Nat) (l : List Nat) : Prop := ∃ hs : Int32, h c = some (14, [.ref w, .int (nI 0), .int hs, .int (nI 0)]) ∧ (hs = 0 ∨ hs = sHash l) ∧ h w = some (103, btab l) ∧ l.length < 2 ^ 16 ∧ ∀ x ∈ l, x < 128
theorem cNew.str (k : cNew h c w l) : cStr h c w l := sorry
theorem cNew.fr {X : Nat → Prop} (k : cNew h c w l) (z : zfr X h h') (n1 : ¬ X c) (n2 : ¬ X w) : cNew h' c w l := sorry
/-- a new text -/
abbrev cTx (h : zH) (l : List Nat) : zR → zH → Prop := zO fun o h' => ∃ c w, o = some (.ref c) ∧ (h c = none ∧ h w = none ∧ c ≠ w) ∧ cNew h' c w l ∧ zfr (fun _ => False) h h'
theorem w_getValue {b : List Nat} (k : cSBt h a v ml n b) : zK G mJ5_getValue 1 0 [.ref a] h (zPu h (some (.ref v))) := sorry
theorem w_strI2 (k : cSBt h a v ml l.length (l ++ t)) (hl : l.length ≤ 100) (hc : h c = some (14, [.null, .int 0, .int 0, .int 0])) : zK G mJ7_init_2 5 25 [.ref c, .ref a, .null] h (zO fun o h' => o = none ∧ ∃ w, h w = none ∧ cNew h' c w l ∧ zfr (fun b => b = c) h h') := sorry
theorem w_strI1 (k : cSBt h a v ml l.length (l ++ t)) (hl : l.length ≤ 100) (hc : h c = some (14, [.null, .int 0, .int 0, .int 0])) : zK G mJ7_init 6 25 [.ref c, .ref a] h (zO fun o h' => o = none ∧ ∃ w, h w = none ∧ cNew h' c w l ∧ zfr (fun b => b = c) h h') := sorry
theorem w_sbStr (k : cSB h a v l) (hl : l.length ≤ 100) : zK G mJ6_toString 7 26 [.ref a] h (cTx h l) := sorry
theorem w_strLat (k : cStr h c w l) : zK G mJ7_isLatin1 1 0 [.ref c] h (zPu h (some (.int (nI 1)))) := sorry
theorem w_strAt (k : cStr h c w l) (hx : l[i]? = some x) : zK G mJ7_charAt 5 0 [.ref c, .int (nI i)] h (zPu h (some (.int (nI x)))) := sorry
theorem w_strBnd (hi : i ≤ j) (hj : j ≤ n) (hn : n < 2 ^ 31) : zK G mJ7_checkBoundsBeginEnd 3 0 [.int (nI i), .int (nI j), .int (nI n)] h (zPu h none) := sorry
end

