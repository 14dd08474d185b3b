/-! THE REFERENCE's world: the state, those behind (oldest first), the saved one, line, input, error's and failure's place + 1 -/
section
set_option maxRecDepth 100000
variable {G : zG} {h0 : zH} {a : tA} {T : tS} {tt nn n : Nat}
abbrev sW : Type := sS × List sS × Option sS × List Nat × List Nat × Nat × Nat
def tX (T : tS) (w : sW) : Prop := (T.1 2 = w.2.1.length ∧ w.2.1.length ≤ 8 ∧ ∀ i S, w.2.1[i]? = some S → tR T.2.1 (130 * (i + 1)) S) ∧ ((T.1 3 = if w.2.2.1.isSome then 1 else 0) ∧ ∀ S, w.2.2.1 = some S → tR T.2.1 (130 * 9) S) ∧
  (T.1 6 = w.2.2.2.1.length ∧ w.2.2.2.1.length ≤ 40 ∧ ∀ i x, w.2.2.2.1[i]? = some x → T.2.2.1 i = x) ∧ (T.1 8 = w.2.2.2.2.1.length ∧ w.2.2.2.2.1.length ≤ 60 ∧ ∀ i x, w.2.2.2.2.1[i]? = some x → T.2.2.2.1 i = x) ∧ T.1 11 = w.2.2.2.2.2.1 ∧ T.1 12 = w.2.2.2.2.2.2
def tW (T : tS) (w : sW) : Prop := tR T.2.1 0 w.1 ∧ tX T w
theorem tX.cg {T T' : tS} {w : sW} (h : tX T w) (hA : ∀ j, 130 ≤ j → j < 1300 → T'.2.1 j = T.2.1 j) (hF : ∀ f, f ≠ 0 → f ≠ 4 → T'.1 f = T.1 f) (hX : T'.2.2 = T.2.2) : tX T' w := sorry
theorem tX.tF {T T' : tS} {w : sW} (h : tX T w) (hF : tF T T') : tX T' w := sorry
theorem tX.of {T : tS} {w w' : sW} (h : tX T w) (e : w'.2 = w.2) : tX T w' := sorry
def sPush (H : List sS) (s : sS) : List sS := if H.length = 8 then H.tail ++ [s] else H ++ [s]
/-- what a call leaves: its number of a throw, its answer, the world -/
abbrev tO (h0 : zH) (a : tA) (th : Nat) (v : Value) (w : sW) : zR → zH → Prop := tQ h0 a fun ov T' => ov = some v ∧ T'.1 0 = th ∧ tW T' w
/-- the number of a throw -/
def sTh (by' n1 n2 n3 : Nat) : Nat := if by' = 1 then n1 else if by' = 2 then n2 else if by' = 3 then n3 else 0
theorem w_ends (hD : tD a) {w : sW} {s : sS} (hX : tX T w) (h10 : tR T.2.1 (130 * 10) w.1) {by' n1 n2 n3 : Nat} (hb : by' < 4) (h1 : n1 < 4) (h2 : n2 < 4) (h3 : n3 < 4) (hR : sTh by' n1 n2 n3 = 0 → tR T.2.1 0 s) : zK G mX3_ends 2 0 [.ref a.1, .int (nI by'), .int (nI n1), .int (nI n2), .int (nI n3)] (tH h0 a T) (tQ h0 a fun v T' => v = some (.int (nI (if sTh by' n1 n2 n3 = 0 then T.1 4 else 0))) ∧ T'.1 0 = sTh by' n1 n2 n3 ∧ tW T' (if sTh by' n1 n2 n3 = 0 then (s, sPush w.2.1 w.1, w.2.2) else w)) := sorry
end

