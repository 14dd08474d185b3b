/-! THE LAW: its world -/
section
set_option maxRecDepth 100000
abbrev mL_law : zM := (⟨"ClaimRegistryLaw", "law", "([I)Z"⟩, cL_law, 7, ret, [])
variable {G : zG} {M : zM} {d r pc pc' : Nat} {L st : List Value} {Q : zR → zH → Prop} {h h' h1 : zH} {U : Nat → Prop} {x o b j : Nat} {a : tA} {w w' w2 : sW} {q : Nat × Int32 × sW} {S S' : tS} {P : Int64 → Prop} {v : Int64} {xs : List Value}
/-- what holds of the registry's world after T steps of time, N numbers -/
def wOk (T N : Nat) (w : sW) : Prop := sJ T N w.1 ∧ (∀ s ∈ w.2.1, sJ T N s) ∧ (∀ s, w.2.2.1 = some s → sJ T N s) ∧ w.2.2.2.2.2.1 < 2 ^ 30 ∧ w.2.2.2.2.2.2 < 2 ^ 30
theorem wOk.up {T N T' N' : Nat} (k : wOk T N w) (h1 : T ≤ T') (h2 : N ≤ N') : wOk T' N' w := sorry
/-- the registry at w, the reference at w', the answer's cell -/
def lwM (G : zG) (x o : Nat) (a : tA) (w w' : sW) (P : Int64 → Prop) (S : tS) (h : zH) : Prop := ∃ (U : Nat → Prop) (v : Int64), (cReg x 0 [] w h U ∧ ∀ c, U c → h c ≠ none) ∧ (¬ U o ∧ ¬ U a.1 ∧ ¬ U a.2.1 ∧ ¬ U a.2.2.1 ∧ ¬ U a.2.2.2.1 ∧ ¬ U a.2.2.2.2) ∧ (tD a ∧ tW S w' ∧ tIn h a S) ∧ (h o = some (101, [.long v]) ∧ P v) ∧ zkn G h
theorem lwM.step (hd : ¬ U o ∧ ¬ U a.1 ∧ ¬ U a.2.1 ∧ ¬ U a.2.2.1 ∧ ¬ U a.2.2.2.1 ∧ ¬ U a.2.2.2.2) (hT : tD a ∧ tW S w' ∧ tIn h a S) {v0 : Int64} (ho : h o = some (101, [.long v0])) (hk : zkn G h) (hG : cReg x 0 [] w h1 (zext U h)) (z : zfr (fun b => U b ∨ b = o) h h1) (ho1 : h1 o = some (101, [.long v]) ∧ P v) : lwM G x o a w w' P S h1 := sorry
theorem tH_fr (i : tIn h a S) : zfr (fun b => b = a.1 ∨ b = a.2.1 ∨ b = a.2.2.1 ∨ b = a.2.2.2.1 ∨ b = a.2.2.2.2) h (tH h a S') := sorry
/-- the reference goes on -/
theorem lwM.mdl (k : lwM G x o a w w' P S h) (hW : tW S' w2) : lwM G x o a w w2 P S' (tH h a S') := sorry
theorem lwM.wk {P' : Int64 → Prop} (k : lwM G x o a w w' P S h) (n : ∀ v, P v → P' v) : lwM G x o a w w' P' S h := sorry
theorem lwM.eq (k : lwM G x o a w w' P S h) : h = tH h a S := sorry
theorem lwM.out (k : lwM G x o a w w' P S h) : ∃ v : Int64, h o = some (101, [.long v]) ∧ P v := sorry
theorem lwM.scr (k : lwM G x o a w w' P S h) (hb : zg_k G b = some (1100, xs)) : h b = some (1100, xs) := sorry
theorem cReg.cell {e : Nat} {X : List zA} (k : cReg x e X w h U) : ∃ fs, h x = some (0, fs) := sorry
/-- the script is read -/
theorem zW.scr {y : Value} (hd : decode (zm_c M) pc = .ok (.iaload, 1)) (hn : pc + 1 = pc') (hb : h b = some (1100, xs)) (hj : xs[j]? = some y) (h30 : j < 2 ^ 30) (kq : zW G M d r pc' L (y :: st) h Q) : zW G M d r pc L (.int (nI j) :: .ref b :: st) h Q := sorry
theorem zlc : lg_cmp v v = 0 := sorry
end

