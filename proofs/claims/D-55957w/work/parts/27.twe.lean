/-! THE REFERENCE: signs, countersigns, settles, setsRate -/
section
set_option maxRecDepth 100000
variable {G : zG} {h0 : zH} {a : tA} {T : tS}
theorem z10 {p : Prop} [Decidable p] (h : ¬ (if p then 1 else 0) = 0) : p := sorry
theorem z00 {p : Prop} [Decidable p] (h : (if p then 1 else 0) = 0) : ¬ p := sorry
theorem tR.n12 {A : Nat → Nat} {s : sS} (h : tR A 0 s) : A 2 ≤ 12 := sorry
theorem w_cS (hD : tD a) {s : sS} (hR : tR T.2.1 0 s) {k f : Nat} (hk : k < s.2.1.length) (hf : f < 8) : zK G mX3_c 1 0 [.ref a.1, .int (nI k), .int (nI f)] (tH h0 a T) (tQ h0 a fun v T' => v = some (.int (nI (sAt s.2.1 k f))) ∧ T' = T) := sorry
theorem w_findS (hD : tD a) {s : sS} (hR : tR T.2.1 0 s) {id : Int32} : zK G mX3_find 2 0 [.ref a.1, .int id] (tH h0 a T) (tQ h0 a fun v T' => ((∃ i, sFind s.2.1 id = some i ∧ i < s.2.1.length ∧ v = some (.int (nI i))) ∨ (sFind s.2.1 id = none ∧ v = some (.int (-1)))) ∧ T' = T) := sorry
theorem w_signedByS (hD : tD a) {s : sS} (hR : tR T.2.1 0 s) (hB : tB s) {f w : Nat} (hf : f < 8) (hw : w < 100) : zK G mX3_signedBy 2 0 [.ref a.1, .int (nI f), .int (nI w)] (tH h0 a T) (tQ h0 a fun v T' => v = some (.int (nI (sCount s.2.1 f w))) ∧ T' = T) := sorry
theorem sCount_le {cs : List sC} {f w : Nat} : sCount cs f w ≤ cs.length := sorry
theorem w_maySign (hD : tD a) {s : sS} (hR : tR T.2.1 0 s) (hB : tB s) {k w : Nat} (hk : k < s.2.1.length) (hw : w < 100) : zK G mX3_maySign 3 0 [.ref a.1, .int (nI k), .int (nI w)] (tH h0 a T) (tQ h0 a fun v T' => v = some (.int (nI (if sAt s.2.1 k 6 = 0 ∧ sCount s.2.1 6 w < 3 then 1 else 0))) ∧ T' = T) := sorry
theorem w_mayCountersign (hD : tD a) {s : sS} (hR : tR T.2.1 0 s) (hB : tB s) {k w : Nat} (hk : k < s.2.1.length) (hw : w < 100) : zK G mX3_mayCountersign 3 0 [.ref a.1, .int (nI k), .int (nI w)] (tH h0 a T) (tQ h0 a fun v T' => v = some (.int (nI (if 0 < sAt s.2.1 k 6 ∧ sAt s.2.1 k 7 = 0 ∧ sCount s.2.1 7 w < 2 then 1 else 0))) ∧ T' = T) := sorry
/-- two numbers of one claim -/
theorem tR.set2 {A : Nat → Nat} {s : sS} (h : tR A 0 s) {k f g x y : Nat} (hk : k < s.2.1.length) (hf : f < 8) (hg : g < 8) (hfg : g ≠ f) : tR (zu (zu A (22 + 8 * k + f) x) (22 + 8 * k + g) y) 0 (s.1, s.2.1.set k (zu (zu (sAt s.2.1 k) f x) g y), s.2.2) := sorry
theorem tC.ok {s s' : sS} {R : sR} {F A : Nat → Nat} {X : (Nat → Nat) × (Nat → Nat) × (Nat → Nat)} {r : Nat} (e : R = (0, r, s')) (h1 : tR A 0 s') (h2 : F 4 = r) (h3 : tF T (F, A, X)) : tC T s R (some (.int (nI 0))) (F, A, X) := sorry
theorem w_signs (hD : tD a) {s : sS} (hR : tR T.2.1 0 s) (hB : tB s) {id w : Int32} : zK G mX3_signs 4 0 [.ref a.1, .int id, .int w] (tH h0 a T) (tQ h0 a (tC T s (sSign s id w))) := sorry
theorem w_countersigns (hD : tD a) {s : sS} (hR : tR T.2.1 0 s) (hB : tB s) {id w : Int32} : zK G mX3_countersigns 4 0 [.ref a.1, .int id, .int w] (tH h0 a T) (tQ h0 a (tC T s (sCosign s id w))) := sorry
theorem w_settles (hD : tD a) {s : sS} (hR : tR T.2.1 0 s) (hB : tB s) (hQ : ∀ i, i < s.2.1.length → sAt s.2.1 i 0 ∈ s.2.2.1) {id : Int32} : zK G mX3_settles 4 0 [.ref a.1, .int id] (tH h0 a T) (tQ h0 a (tC T s (sSettle s id))) := sorry
theorem w_setsRate (hD : tD a) {s : sS} (hR : tR T.2.1 0 s) {p v : Int32} : zK G mX3_setsRate 2 0 [.ref a.1, .int p, .int v] (tH h0 a T) (tQ h0 a (tC T s (sSetRate s p v))) := sorry
end

