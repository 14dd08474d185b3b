/-! the registry's world: its parts taken out and put back; ends of public calls */ -/
section
set_option maxRecDepth 100000
variable {G : zG} {h h' h1 : zH} {O U V : Nat → Prop} {x st tt nn e : Nat} {X : List zA} {w : sW} {P : zA} {A B : List zA}
theorem zSep.acc (k : zSep (A ++ P :: B) h V) : ∃ O : Nat → Prop, (P h O ∧ zStb P) ∧ (∀ b, O b → V b ∧ h b ≠ none) ∧ zSep (A ++ B) h (fun b => V b ∧ ¬ O b) ∧ ∀ (h' : zH) (P' : zA), zfr O h h' → P' h' (fun b => zext O h b ∧ h' b ≠ none) → zStb P' → zSep (A ++ P' :: B) h' (zext V h) := sorry
abbrev cWr : Type := List sS × Option sS × List Nat × List Nat × Nat × Nat
abbrev iOb (x st : Nat) (sv : Option Nat) (hq ib lb e : Nat) (w : cWr) : zA := iO x [.ref st, zrf sv, .ref hq, .ref ib, .ref lb, .int (nI e), .int (nI w.2.2.2.2.1 - nI 1), .int (nI w.2.2.2.2.2 - nI 1)]
abbrev cXf (h : zH) (x st : Nat) (sv : Option Nat) (hq ib lb e : Nat) (w : cWr) : Prop := h x = some (0, [.ref st, zrf sv, .ref hq, .ref ib, .ref lb, .int (nI e), .int (nI w.2.2.2.2.1 - nI 1), .int (nI w.2.2.2.2.2 - nI 1)])
/-- the line's builder -/
theorem cRest.line {w : cWr} (k : cRest x st e X w h V) : ∃ sv hq ib lb v, ∃ Ob : Nat → Prop, cXf h x st sv hq ib lb e w ∧ ¬ Ob x ∧ cSB h lb v w.2.2.1 ∧ (Ob lb ∧ Ob v) ∧ (∀ b, Ob b → V b ∧ h b ≠ none) ∧ ∀ (h' : zH) (v' : Nat) (l' : List Nat), zfr Ob h h' → cSB h' lb v' l' → zext Ob h v' → cRest x st e X (w.1, w.2.1, l', w.2.2.2) h' (zext V h) := sorry
/-- the input's builder -/
theorem cRest.inp {w : cWr} (k : cRest x st e X w h V) : ∃ sv hq ib lb v, ∃ Ob : Nat → Prop, cXf h x st sv hq ib lb e w ∧ ¬ Ob x ∧ cSB h ib v w.2.2.2.1 ∧ (Ob ib ∧ Ob v) ∧ (∀ b, Ob b → V b ∧ h b ≠ none) ∧ ∀ (h' : zH) (v' : Nat) (l' : List Nat), zfr Ob h h' → cSB h' ib v' l' → zext Ob h v' → cRest x st e X (w.1, w.2.1, w.2.2.1, l', w.2.2.2.2) h' (zext V h) := sorry
/-- a public call's end: number of a throw, answer, world -/
def cOut (x : Nat) (U : Nat → Prop) (h : zH) (Es : List String) (q : Nat × Int32 × sW) : zR → zH → Prop := fun o h' => (cReg x 0 [] q.2.2 h' (zext U h) ∧ zfr U h h') ∧ ((q.1 = 0 ∧ o = .inl (some (.int q.2.1))) ∨ (q.1 ≠ 0 ∧ ∃ E, Es[q.1 - 1]? = some E ∧ o = .inr E))
theorem cReg.up (k : cReg x e X w h U) (u : ∀ b, U b → h b ≠ none → V b) : cReg x e X w h V := sorry
theorem cReg.fr {Y : Nat → Prop} (k : cReg x e X w h U) (z : zfr Y h h') (n : ∀ b, U b → h b ≠ none → ¬ Y b) : cReg x e X w h' U := sorry
theorem cOut.no {Es : List String} {q : Nat × Int32 × sW} {k : Nat} {v : Int32} {E : String} (hG : cReg x 0 [] w h U) (e1 : q = (k + 1, v, w)) (hE : Es[k]? = some E) : cOut x U h Es q (.inr E) h := sorry
theorem cOut.ok {Es : List String} {q : Nat × Int32 × sW} {v : Int32} {w' : sW} (e1 : q = (0, v, w')) (k : cReg x 0 [] w' h' (zext U h) ∧ zfr U h h') : cOut x U h Es q (.inl (some (.int v))) h' := sorry
/-- a question leaves the world -/
theorem cOut.ans {Es : List String} {q : Nat × Int32} {o : zR} (hG : cReg x 0 [] w h U) (k : cAns Es h q o h') : cOut x U h Es (q.1, q.2, w) o h' := sorry
/-- the world but the current state, put together with it -/
theorem cReg.mk' {w' : sW} {st : Nat} {Ob : Nat → Prop} (l : ∀ b, O b → U b ∧ h b ≠ none) (lB : ∀ b, Ob b → (U b ∧ ¬ O b) ∧ h b ≠ none) (hS : cS h O st w'.1) (z : zfr Ob h h') (k : cRest x st e X w'.2 h' (zext (fun b => U b ∧ ¬ O b) h)) : cReg x e X w' h' (zext U h) ∧ zfr U h h' := sorry
end

