/-! the registry's world around a run of commands -/
section
set_option maxRecDepth 100000
variable {G : zG} {h h' h0 h1 H : zH} {O U V : Nat → Prop} {x st e : Nat} {X : List zA} {w : sW} {wr : cWr} {s s0 : sS} {P : zA}
theorem cRest.addX (k : cRest x st e [] wr h (fun b => U b ∧ ¬ O b)) (p : P h O) (s : zStb P) (l : ∀ b, O b → U b ∧ h b ≠ none) : cRest x st e [P] wr h U := sorry
theorem cRest.takeX (k : cRest x st e [P] wr h V) : ∃ O : Nat → Prop, P h O ∧ zStb P ∧ (∀ b, O b → V b ∧ h b ≠ none) ∧ cRest x st e [] wr h (fun b => V b ∧ ¬ O b) := sorry
/-- the registry's own cell is written -/
theorem cRest.putx (k : cRest x st e X wr h V) : ∃ (sv : Option Nat) (hq ib lb : Nat) (Oy : Nat → Prop), cXf h x st sv hq ib lb e wr ∧ Oy x ∧ (∀ b, Oy b → V b ∧ h b ≠ none) ∧ ∀ (h' : zH) (st' e' er' f' : Nat), zfr Oy h h' → h' x = some (0, [.ref st', zrf sv, .ref hq, .ref ib, .ref lb, .int (nI e'), .int (nI er' - nI 1), .int (nI f' - nI 1)]) → cRest x st' e' X (wr.1, wr.2.1, wr.2.2.1, wr.2.2.2.1, er', f') h' (zext V h) := sorry
/-- a predicate as a heap: what lies outside is free -/
noncomputable def hzU (U : Nat → Prop) : zH := fun b => @ite _ (U b) (Classical.propDecidable _) (some (0, [])) none
theorem hzU_n {b : Nat} : hzU U b = none ↔ ¬ U b := sorry
theorem cCmd.re {y : Nat} {c : pC} (k : cCmd h h0 y c) (n : ∀ b, h0 b = none → h b ≠ none → ¬ U b) : cCmd h (hzU U) y c := sorry
theorem cCmd.fr {y : Nat} {c : pC} {A : Nat → Prop} (k : cCmd h (hzU U) y c) (z : zfr A h h') (n : ∀ b, A b → U b) : cCmd h' (hzU U) y c := sorry
/-- a keyword's hash is kept: the commands stand -/
theorem cCmd.hs {y kc kv : Nat} {c : pC} {q : List Nat} (k : cCmd h h0 y c) (n : cNew h kc kv q) (n1 : cNew h1 kc kv q) (z : zfr (fun b => b = kc) h h1) : cCmd h1 h0 y c := sorry
end

