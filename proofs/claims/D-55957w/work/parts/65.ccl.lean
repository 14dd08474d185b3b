/-! claims, Integers -/
section
set_option maxRecDepth 100000
variable {G : zG} {h h' h0 : zH} {a : Nat} {c : sC}
/-- a claim's fields -/
def cCl (c : sC) : List Value := [.int (nI (c 0)), .int (nI (c 1)), .int (nI (c 2)), .int (nI (c 3)), .int (nI (c 4)), .int (nI (c 6) - 1), .int (nI (c 7) - 1), .int (nI (c 5))]
theorem zup_self {k : zC} (e : h a = some k) : h = zup h a k := sorry
theorem w_phaseC {t : Nat} (ht : t < 2 ^ 31) : zK G mX1_phaseAt 1 0 [.int (nI t)] h (zPu h (some (.int (nI (t / 4 % 4))))) := sorry
theorem w_clInit {i d e w x : Nat} (ha : h a = some (2, [.int 0, .int 0, .int 0, .int 0, .int 0, .int 0, .int 0, .int 0])) : zK G mX4_init 1 0 [.ref a, .int (nI i), .int (nI d), .int (nI e), .int (nI w), .int (nI x)] h (zPk h none a (2, cCl (sNew i d e w x))) := sorry
theorem cCl_l (hc : h a = some (2, cCl c)) : h a = some (2, [.int (nI (c 0)), .int (nI (c 1)), .int (nI (c 2)), .int (nI (c 3)), .int (nI (c 4)), .int (nI (c 6) - 1), .int (nI (c 7) - 1), .int (nI (c 5))]) := sorry
theorem w_clSigned (hc : h a = some (2, cCl c)) (h6 : c 6 < 2 ^ 30) : zK G mX4_isSigned 1 0 [.ref a] h (zPu h (some (.int (nI (if c 6 = 0 then 0 else 1))))) := sorry
theorem w_clCosigned (hc : h a = some (2, cCl c)) (h7 : c 7 < 2 ^ 30) : zK G mX4_isCountersigned 1 0 [.ref a] h (zPu h (some (.int (nI (if c 7 = 0 then 0 else 1))))) := sorry
theorem w_clCopy (hc : h a = some (2, cCl c)) : zK G mX4_copy 2 2 [.ref a] h (zO fun v h' => ∃ n, v = some (.ref n) ∧ h n = none ∧ h' = zup h n (2, cCl c) ∧ h' n = some (2, cCl c)) := sorry
theorem w_clInterest (hc : h a = some (2, cCl c)) {p : Nat} (h6 : c 6 < 2 ^ 30) (h3 : c 3 ≤ 9999) (hp : p ≤ 20) : zK G mX4_addInterest 2 0 [.ref a, .int (nI p)] h (zPk h (some (.int (nI (if c 6 = 0 then sGrow (c 3) p - c 3 else 0)))) a (2, cCl (if c 6 = 0 then zu c 3 (sGrow (c 3) p) else c))) := sorry
theorem w_clVoid (hc : h a = some (2, cCl c)) (h5 : c 5 ≤ 2) (h6 : c 6 < 2 ^ 30) (h7 : c 7 < 2 ^ 30) : zK G mX4_isVoidedByAudit 2 0 [.ref a] h (zPk h (some (.int (nI (if sStrikes c = 3 then 1 else 0)))) a (2, cCl (zu c 5 (sStrikes c)))) := sorry
/-- the cache of small Integers, among what is known of the start -/
def zkI (G : zG) : Prop := zg_k G (zg_a G 0) = some (1105, (List.range 256).map fun i => .ref (zg_a G (1000 + i))) ∧ ∀ i, i < 256 → zg_k G (zg_a G (1000 + i)) = some (1015, [.int (Int32.ofInt ((i : Int) - 128))])
/-- an Integer's cell -/
def cInt (h : zH) (q : Nat) (k x : Nat) : Prop := h q = some (k, [.int (nI x)]) ∧ (k = 15 ∨ k = 1015)
theorem cInt.ob {q k x : Nat} (hq : cInt h q k x) : zObj (k, [.int (nI x)]) := sorry
theorem w_intValue {q k x : Nat} (hq : cInt h q k x) : zK G mJ21_intValue 1 0 [.ref q] h (zPu h (some (.int (nI x)))) := sorry
theorem w_valueOf (hk : zkn G h) (hI : zkI G) {x : Nat} (hx : x < 2 ^ 31) : zK G mJ21_valueOf 3 1 [.int (nI x)] h (zO fun v h' => ∃ q, v = some (.ref q) ∧ ((h' = h ∧ cInt h q 1015 x) ∨ (h q = none ∧ h' = zup h q (15, [.int (nI x)]) ∧ h' q = some (15, [.int (nI x)])))) := sorry
end

