/-! StringBuilder: made, emptied, append of a text -/
section
set_option maxRecDepth 100000
variable {G : zG} {h h' h1 : zH} {a v ml m n q i x c w : Nat} {l t l1 : List Nat}
theorem w_sbInit (ha : h a = some (13, [.null, .int 0, .int 0, .int 0])) : zK G mJ6_init 3 4 [.ref a] h (zO fun o h' => o = none ∧ ∃ v, h v = none ∧ cSB h' a v [] ∧ zfr (fun b => b = a) h h') := sorry
theorem w_sbClear (k : cSB h a v l) : zK G mJ6_setLength 6 51 [.ref a, .int (nI 0)] h (cSBp h a v [] none) := sorry
/-- a String -/
def cStr (h : zH) (c w : Nat) (l : List Nat) : Prop := ∃ (k k2 hz : Nat) (hs : Int32), h c = some (k, [.ref w, .int (nI 0), .int hs, .int (nI hz)]) ∧ k % 1000 = 14 ∧ h w = some (k2, btab l) ∧ k2 % 1000 = 103 ∧ l.length < 2 ^ 16 ∧ ∀ x ∈ l, x < 128
theorem w_strCoder (k : cStr h c w l) : zK G mJ7_coder 1 0 [.ref c] h (zPu h (some (.int (nI 0)))) := sorry
theorem cStr.ob (k : cStr h c w l) : ∃ k fs, h c = some (k, fs) ∧ k % 1000 = 14 := sorry
theorem w_strLen (k : cStr h c w l) : zK G mJ7_length 2 0 [.ref c] h (zPu h (some (.int (nI l.length)))) := sorry
end

