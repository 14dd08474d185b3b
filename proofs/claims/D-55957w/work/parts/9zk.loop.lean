/-! THE LAW: its loop (printed by mk9zk.py) -/
section
set_option maxRecDepth 100000
variable {G : zG} {h : zH} {Q : zR → zH → Prop} {x o b i r T N n : Nat} {a : tA} {xs : List Value}
theorem and63 (y : Int32) : ∃ k : Nat, k < 64 ∧ y &&& nI 63 = nI k := sorry
/-- one operation, by its number -/
theorem g_all {k : Nat} (hk64 : k < 64) (hZ : zkI G) (hS : zkS G) (hL : zkL G) (hE : zkE G) (hF : zkD G) (hb : zg_k G b = some (1100, xs)) {y1 y2 y3 y4 : Int32} (hy1 : xs[i + 1]? = some (.int y1)) (hy2 : xs[i + 2]? = some (.int y2)) (hy3 : xs[i + 3]? = some (.int y3)) (hy4 : xs[i + 4]? = some (.int y4)) (hi : i < 200) (I : lwI G x o a T N h) (hT9 : T + 3200 < 100000) (hN9 : N + 100 ≤ 10000) (kont : ∀ (h' : zH) (v5 v6 : Value), lwI G x o a (T + 3100) (N + 62) h' → zW G mL_law 42 r 3347 [.ref b, .ref x, .ref a.1, .ref o, .int (nI i), v5, v6] [] h' Q) {v5 v6 : Value} : zW G mL_law 42 (r + 46060) 39 [.ref b, .ref x, .ref a.1, .ref o, .int (nI i), v5, v6] [.int (nI k)] h Q := sorry
theorem nI_m5 {n : Nat} (hn : n < 2 ^ 20) : (nI n - nI 5).toInt = (n : Int) - 5 := sorry
/-- the loop, with m operations left -/
theorem lw_loop (hZ : zkI G) (hS : zkS G) (hL : zkL G) (hE : zkE G) (hF : zkD G) (hb : zg_k G b = some (1100, xs)) (hx : ∀ j, j < xs.length → ∃ y : Int32, xs[j]? = some (.int y)) (h120 : xs.length ≤ 120) (hQ : ∀ h', Q (.inl (some (.int (nI 1)))) h') : ∀ (m n : Nat) (h : zH) (v5 v6 : Value), n + m = 24 → lwI G x o a (3100 * n) (62 * n) h → zW G mL_law 42 (46060 * m) 23 [.ref b, .ref x, .ref a.1, .ref o, .int (nI (5 * n)), v5, v6] [] h Q := sorry
end

