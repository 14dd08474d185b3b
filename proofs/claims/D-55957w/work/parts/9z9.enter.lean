/-! the registry's world around a run of commands -/
section
set_option maxRecDepth 100000
variable {G : zG} {h h' h0 h1 H : zH} {O U V : Nat → Prop} {x st e : Nat} {X : List zA} {w : sW} {wr : cWr} {s s0 : sS} {P : zA}
theorem cRest.addX (k : cRest x st e [] wr h (fun b => U b ∧ ¬ O b)) (p : P h O) (s : zStb P) (l : ∀ b, O b → U b ∧ h b ≠ none) : cRest x st e [P] wr h U := by
  obtain ⟨sv, hq, ib, lb, SH, h1, h2⟩ := k
  refine ⟨sv, hq, ib, lb, SH, h1, ?_⟩
  have h3 : zSep (P :: ((iOb x st sv hq ib lb e wr :: iD hq SH :: (iH SH wr.1 ++ (iB ib wr.2.2.2.1 :: iB lb wr.2.2.1 :: (iV sv wr.2.1 ++ [])))) ++ [])) h U := by
    rw [List.append_nil]
    exact ⟨O, ⟨p, s⟩, l, h2⟩
  have h4 := zSep.mid h3
  have h5 : zSep (iOb x st sv hq ib lb e wr :: iD hq SH :: ((iH SH wr.1 ++ (iB ib wr.2.2.2.1 :: iB lb wr.2.2.1 :: (iV sv wr.2.1 ++ []))) ++ [P])) h U := h4
  rw [List.append_assoc, List.append_nil] at h5
  exact h5
theorem cRest.takeX (k : cRest x st e [P] wr h V) : ∃ O : Nat → Prop, P h O ∧ zStb P ∧ (∀ b, O b → V b ∧ h b ≠ none) ∧ cRest x st e [] wr h (fun b => V b ∧ ¬ O b) := by
  obtain ⟨sv, hq, ib, lb, SH, h1, h2⟩ := k
  have h3 : zSep ((iOb x st sv hq ib lb e wr :: iD hq SH :: (iH SH wr.1 ++ (iB ib wr.2.2.2.1 :: iB lb wr.2.2.1 :: iV sv wr.2.1))) ++ P :: []) h V := by
    show zSep (iOb x st sv hq ib lb e wr :: iD hq SH :: ((iH SH wr.1 ++ (iB ib wr.2.2.2.1 :: iB lb wr.2.2.1 :: iV sv wr.2.1)) ++ P :: [])) h V
    rw [List.append_assoc]
    exact h2
  obtain ⟨O, ⟨p, s⟩, l, r, -⟩ := zSep.acc h3
  refine ⟨O, p, s, l, sv, hq, ib, lb, SH, h1, ?_⟩
  have h5 : zSep (iOb x st sv hq ib lb e wr :: iD hq SH :: ((iH SH wr.1 ++ (iB ib wr.2.2.2.1 :: iB lb wr.2.2.1 :: iV sv wr.2.1)) ++ [])) h _ := r
  rw [List.append_assoc] at h5
  exact h5
/-- the registry's own cell is written -/
theorem cRest.putx (k : cRest x st e X wr h V) : ∃ (sv : Option Nat) (hq ib lb : Nat) (Oy : Nat → Prop), cXf h x st sv hq ib lb e wr ∧ Oy x ∧ (∀ b, Oy b → V b ∧ h b ≠ none) ∧ ∀ (h' : zH) (st' e' er' f' : Nat), zfr Oy h h' → h' x = some (0, [.ref st', zrf sv, .ref hq, .ref ib, .ref lb, .int (nI e'), .int (nI er' - nI 1), .int (nI f' - nI 1)]) → cRest x st' e' X (wr.1, wr.2.1, wr.2.2.1, wr.2.2.2.1, er', f') h' (zext V h) := by
  obtain ⟨sv, hq, ib, lb, SH, h1, h2⟩ := k
  obtain ⟨Oy, ⟨⟨hx, oy⟩, -⟩, ly, -, put⟩ := zSep.acc (A := []) h2
  refine ⟨sv, hq, ib, lb, Oy, hx, oy, ly, fun h' st' e' er' f' z hx' => ⟨sv, hq, ib, lb, SH, h1, ?_⟩⟩
  exact put h' (iOb x st' sv hq ib lb e' (wr.1, wr.2.1, wr.2.2.1, wr.2.2.2.1, er', f')) z ⟨hx', Or.inl oy, by rw [hx']; exact fun q => by cases q⟩ iO.stb
/-- a predicate as a heap: what lies outside is free -/
noncomputable def hzU (U : Nat → Prop) : zH := fun b => @ite _ (U b) (Classical.propDecidable _) (some (0, [])) none
theorem hzU_n {b : Nat} : hzU U b = none ↔ ¬ U b := by
  unfold hzU
  by_cases q : U b
  · rw [if_pos q]
    exact ⟨fun z => (by cases z), fun z => absurd q z⟩
  · rw [if_neg q]
    exact ⟨fun _ => q, fun _ => rfl⟩
theorem cCmd.re {y : Nat} {c : pC} (k : cCmd h h0 y c) (n : ∀ b, h0 b = none → h b ≠ none → ¬ U b) : cCmd h (hzU U) y c := by
  obtain ⟨kc, kv, ar, g, h1, h2, h3, h4, h5, f1, f2, f3, f4⟩ := k
  obtain ⟨hs, g1, g2, g3, g4⟩ := id h2
  have live : ∀ {a : Nat} {c : zC}, h a = some c → h a ≠ none := fun e q => by rw [q] at e; cases e
  exact ⟨kc, kv, ar, g, h1, h2, h3, h4, h5, hzU_n.mpr (n _ f1 (live h1)), hzU_n.mpr (n _ f2 (live g1)), hzU_n.mpr (n _ f3 (live g3)), hzU_n.mpr (n _ f4 (live h3))⟩
theorem cCmd.fr {y : Nat} {c : pC} {A : Nat → Prop} (k : cCmd h (hzU U) y c) (z : zfr A h h') (n : ∀ b, A b → U b) : cCmd h' (hzU U) y c := by
  obtain ⟨kc, kv, ar, g, h1, h2, h3, h4, h5, f1, f2, f3, f4⟩ := k
  exact ⟨kc, kv, ar, g, z.at h1 fun q => hzU_n.mp f1 (n _ q), h2.fr z (fun q => hzU_n.mp f2 (n _ q)) (fun q => hzU_n.mp f3 (n _ q)), z.at h3 fun q => hzU_n.mp f4 (n _ q), h4, h5, f1, f2, f3, f4⟩
/-- a keyword's hash is kept: the commands stand -/
theorem cCmd.hs {y kc kv : Nat} {c : pC} {q : List Nat} (k : cCmd h h0 y c) (n : cNew h kc kv q) (n1 : cNew h1 kc kv q) (z : zfr (fun b => b = kc) h h1) : cCmd h1 h0 y c := by
  obtain ⟨hs, g1, g2, g3, g4⟩ := id n
  exact k.mv (fun b l e => z.at e (zne e g1 (by decide))) (fun c w l e => n.hash n1 z e) (fun b l e => z.at e (zne e g1 (by decide)))
end
