/-! THE REFERENCE: the line -/
section
set_option maxRecDepth 100000
variable {G : zG} {h0 : zH} {a : tA} {T : tS} {tt nn n : Nat}
/-- a number's digits, with as many tens to spare -/
def sDec : Nat → Nat → List Nat
  | 0, v => [48 + v]
  | f + 1, v => if v ≤ 9 then [48 + v] else sDec f (v / 10) ++ [48 + v % 10]
theorem sDec_len {f : Nat} : ∀ {v : Nat}, (sDec f v).length ≤ f + 1 := sorry
theorem sDec_ch {f : Nat} : ∀ {v : Nat}, v < 10 ^ (f + 1) → ∀ x ∈ sDec f v, x < 128 := sorry
def tL (T : tS) (l : List Nat) : Prop := T.1 6 = l.length ∧ l.length ≤ 40 ∧ ∀ i x, l[i]? = some x → T.2.2.1 i = x
/-- all else stands -/
def tG (T T' : tS) : Prop := (∀ f, f ≠ 6 → T'.1 f = T.1 f) ∧ T'.2.1 = T.2.1 ∧ T'.2.2.2 = T.2.2.2
theorem tG.tr {T1 T2 T3 : tS} (h : tG T1 T2) (g : tG T2 T3) : tG T1 T3 := sorry
theorem tG.R {T1 T2 : tS} {b : Nat} {s : sS} (h : tG T1 T2) (g : tR T1.2.1 b s) : tR T2.2.1 b s := sorry
theorem nI_char2_all : ∀ c : Fin 128, ((nI c.1).toUInt32 % 65536).toInt32 = nI c.1 := sorry
theorem nI_char2 {c : Nat} (hc : c < 128) : ((nI c).toUInt32 % 65536).toInt32 = nI c := sorry
theorem w_writes (hD : tD a) {l : List Nat} (hL : tL T l) (hl : l.length < 40) {c : Nat} (hc : c < 128) : zK G mX3_writes 1 0 [.ref a.1, .int (nI c)] (tH h0 a T) (tQ h0 a fun v T' => v = none ∧ tL T' (l ++ [c]) ∧ tG T T') := sorry
theorem w_writesNumber (hD : tD a) : ∀ (f : Nat) (T : tS) (l : List Nat) (v : Nat), tL T l → l.length + f + 1 ≤ 40 → v < 10 ^ (f + 1) → v < 2 ^ 30 → zK G mX3_writesNumber (f + 2) 0 [.ref a.1, .int (nI v)] (tH h0 a T) (tQ h0 a fun o T' => o = none ∧ tL T' (l ++ sDec f v) ∧ tG T T') := sorry
theorem w_writesBehind (hD : tD a) {l : List Nat} (hL : tL T l) {f c v : Nat} (hf : f ≤ 5) (hl : l.length + f + 3 ≤ 40) (hc : c < 128) (hv : v < 10 ^ (f + 1)) (hv2 : v < 2 ^ 30) : zK G mX3_writesBehind (f + 3) 0 [.ref a.1, .int (nI c), .int (nI v)] (tH h0 a T) (tQ h0 a fun o T' => o = none ∧ tL T' (l ++ [32, c] ++ sDec f v) ∧ tG T T') := sorry
end

