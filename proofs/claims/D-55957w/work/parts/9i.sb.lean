/-! StringBuilder: capacity, append of a letter, of a text, length, charAt, setLength -/
section
set_option maxRecDepth 100000
variable {G : zG} {h h' h1 : zH} {a v ml m n q i x : Nat} {l t l1 : List Nat}
/-- the builder's two cells -/
def cSBt (h : zH) (a v ml n : Nat) (b : List Nat) : Prop := h a = some (13, [.ref v, .int (nI 0), .int (nI ml), .int (nI n)]) ∧ h v = some (103, btab b) ∧ (ml ≤ 1 ∧ n ≤ b.length ∧ b.length < 2 ^ 16) ∧ ∀ x ∈ b, x < 128
theorem cSBt.of (k : cSB h a v l) : ∃ ml t, cSBt h a v ml l.length (l ++ t) := sorry
theorem cSBt.to (k : cSBt h a v ml l.length (l ++ t)) : cSB h a v l := sorry
theorem w_newLen {o mg pg : Nat} (ho : o < 2 ^ 20) (hm : mg < 2 ^ 20) (hp : pg < 2 ^ 20) (h0 : 0 < o + max mg pg) : zK G mJ15_newLength 2 0 [.int (nI o), .int (nI mg), .int (nI pg)] h (zPu h (some (.int (nI (o + max mg pg))))) := sorry
theorem w_sbNewCap {b : List Nat} (k : cSBt h a v ml n b) (hq : b.length < q) (hq2 : q < 2 ^ 16) : zK G mJ5_newCapacity 3 0 [.ref a, .int (nI q)] h (zPu h (some (.int (nI (b.length + max (q - b.length) (b.length + 2)))))) := sorry
theorem w_copyOfB {v kk N u : Nat} {b : List Nat} (hv : h v = some (kk, btab b)) (hk : kk % 1000 = 103) (hN : b.length < N) (h16 : N < 2 ^ 20) (hb : ∀ x ∈ b, x < 128) (hu : N ≤ 4 * u) : zK G mJ17_copyOf 2 u [.ref v, .int (nI N)] h (zO fun o h' => ∃ v', o = some (.ref v') ∧ h v' = none ∧ h' = zup h v' (103, btab (b ++ List.replicate (N - b.length) 0)) ∧ h' v' = some (103, btab (b ++ List.replicate (N - b.length) 0))) := sorry
/-- behind it q letters have room -/
theorem w_sbEnsure {b : List Nat} (k : cSBt h a v ml n b) (hq : q ≤ 100) : zK G mJ5_ensureCapacityInternal 4 51 [.ref a, .int (nI q)] h (zO fun o h' => o = none ∧ ∃ v' z, cSBt h' a v' ml n (b ++ z) ∧ q ≤ (b ++ z).length ∧ (v' = v ∨ h v' = none) ∧ zfr (fun c => c = a) h h') := sorry
theorem w_sbLatin {b : List Nat} (k : cSBt h a v ml n b) : zK G mJ5_isLatin1 1 0 [.ref a] h (zPu h (some (.int (nI 1)))) := sorry
theorem w_canEnc (hx : x < 128) : zK G mJ19_canEncode 1 0 [.int (nI x)] h (zPu h (some (.int (nI 1)))) := sorry
theorem set_app {z : List Nat} (hz : 0 < z.length) : (l ++ z).set l.length x = (l ++ [x]) ++ z.tail := sorry
/-- the footprint's growth of a builder -/
abbrev cSBw (a : Nat) (v : Nat) (h : zH) : Nat → Prop := fun c => c = a ∨ c = v ∨ h c = none
abbrev cSBp (h : zH) (a v : Nat) (l : List Nat) (ov : Option Value) : zR → zH → Prop := zO fun o h' => o = ov ∧ ∃ v', cSB h' a v' l ∧ (v' = v ∨ h v' = none) ∧ zfr (fun c => c = a ∨ c = v) h h'
theorem w_sbPut (k : cSB h a v l) (hl : l.length < 100) (hx : x < 128) : zK G mJ5_append_3 5 51 [.ref a, .int (nI x)] h (cSBp h a v (l ++ [x]) (some (.ref a))) := sorry
theorem w_sbAppC (k : cSB h a v l) (hl : l.length < 100) (hx : x < 128) : zK G mJ6_append_3 6 51 [.ref a, .int (nI x)] h (cSBp h a v (l ++ [x]) (some (.ref a))) := sorry
theorem w_sbLen (k : cSB h a v l) : zK G mJ6_length 2 0 [.ref a] h (zPu h (some (.int (nI l.length)))) := sorry
theorem w_sbChk {f : Value} (hi : i < n) (hn : n < 2 ^ 31) : zK G mJ7_checkIndex 3 0 [.int (nI i), .int (nI n)] h (zPu h none) := sorry
theorem w_sbAt (k : cSB h a v l) (hx : l[i]? = some x) : zK G mJ6_charAt 6 0 [.ref a, .int (nI i)] h (zPu h (some (.int (nI x)))) := sorry
end

