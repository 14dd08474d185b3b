/-! THE LAW: its world -/
section
set_option maxRecDepth 100000
abbrev mL_law : zM := (⟨"ClaimRegistryLaw", "law", "([I)Z"⟩, cL_law, 7, ret, [])
variable {G : zG} {M : zM} {d r pc pc' : Nat} {L st : List Value} {Q : zR → zH → Prop} {h h' h1 : zH} {U : Nat → Prop} {x o b j : Nat} {a : tA} {w w' w2 : sW} {q : Nat × Int32 × sW} {S S' : tS} {P : Int64 → Prop} {v : Int64} {xs : List Value}
/-- what holds of the registry's world after T steps of time, N numbers -/
def wOk (T N : Nat) (w : sW) : Prop := sJ T N w.1 ∧ (∀ s ∈ w.2.1, sJ T N s) ∧ (∀ s, w.2.2.1 = some s → sJ T N s) ∧ w.2.2.2.2.2.1 < 2 ^ 30 ∧ w.2.2.2.2.2.2 < 2 ^ 30
theorem wOk.up {T N T' N' : Nat} (k : wOk T N w) (h1 : T ≤ T') (h2 : N ≤ N') : wOk T' N' w := ⟨k.1.up h1 h2, fun s q => (k.2.1 s q).up h1 h2, fun s q => (k.2.2.1 s q).up h1 h2, k.2.2.2⟩
/-- the registry at w, the reference at w', the answer's cell -/
def lwM (G : zG) (x o : Nat) (a : tA) (w w' : sW) (P : Int64 → Prop) (S : tS) (h : zH) : Prop := ∃ (U : Nat → Prop) (v : Int64), (cReg x 0 [] w h U ∧ ∀ c, U c → h c ≠ none) ∧ (¬ U o ∧ ¬ U a.1 ∧ ¬ U a.2.1 ∧ ¬ U a.2.2.1 ∧ ¬ U a.2.2.2.1 ∧ ¬ U a.2.2.2.2) ∧ (tD a ∧ tW S w' ∧ tIn h a S) ∧ (h o = some (101, [.long v]) ∧ P v) ∧ zkn G h
theorem lwM.step (hd : ¬ U o ∧ ¬ U a.1 ∧ ¬ U a.2.1 ∧ ¬ U a.2.2.1 ∧ ¬ U a.2.2.2.1 ∧ ¬ U a.2.2.2.2) (hT : tD a ∧ tW S w' ∧ tIn h a S) {v0 : Int64} (ho : h o = some (101, [.long v0])) (hk : zkn G h) (hG : cReg x 0 [] w h1 (zext U h)) (z : zfr (fun b => U b ∨ b = o) h h1) (ho1 : h1 o = some (101, [.long v]) ∧ P v) : lwM G x o a w w' P S h1 := by
  obtain ⟨d0, d1, d2, d3, d4, d5⟩ := hd
  obtain ⟨hD, hW, i1, i2, i3, i4, i5⟩ := hT
  have live : ∀ {b : Nat} {c : zC}, h b = some c → ¬ U b → ¬ (zext U h b ∧ h1 b ≠ none) := fun e n q => q.1.elim n fun z => by rw [z] at e; cases e
  have keep : ∀ {b k : Nat} {l : List Value}, h b = some (k, l) → ¬ U b → k ≠ 101 → h1 b = some (k, l) := fun e n k9 => z.at e fun q => q.elim n (zne e ho k9)
  exact ⟨fun b => zext U h b ∧ h1 b ≠ none, v, ⟨hG.shut, fun c q => q.2⟩, ⟨live ho d0, live i1 d1, live i2 d2, live i3 d3, live i4 d4, live i5 d5⟩, ⟨hD, hW, keep i1 d1 (by decide), keep i2 d2 (by decide), keep i3 d3 (by decide), keep i4 d4 (by decide), keep i5 d5 (by decide)⟩, ho1, z.kn hk⟩
theorem tH_fr (i : tIn h a S) : zfr (fun b => b = a.1 ∨ b = a.2.1 ∨ b = a.2.2.1 ∨ b = a.2.2.2.1 ∨ b = a.2.2.2.2) h (tH h a S') := by
  obtain ⟨i1, i2, i3, i4, i5⟩ := i
  have out : ∀ b, ¬ (b = a.1 ∨ b = a.2.1 ∨ b = a.2.2.1 ∨ b = a.2.2.2.1 ∨ b = a.2.2.2.2) → tH h a S' b = h b := fun b n => by
    unfold tH
    rw [if_neg (fun q => n (Or.inl q)), if_neg (fun q => n (Or.inr (Or.inl q))), if_neg (fun q => n (Or.inr (Or.inr (Or.inl q)))), if_neg (fun q => n (Or.inr (Or.inr (Or.inr (Or.inl q))))), if_neg (fun q => n (Or.inr (Or.inr (Or.inr (Or.inr q)))))]
  refine ⟨fun b n _ => out b n, fun b n => ?_, fun b c e k => ?_⟩
  · unfold tH
    split
    · exact fun q => by cases q
    · split
      · exact fun q => by cases q
      · split
        · exact fun q => by cases q
        · split
          · exact fun q => by cases q
          · split
            · exact fun q => by cases q
            · exact n
  · rw [out b fun q => ?_]
    · exact e
    · rcases q with q | q | q | q | q
      · rw [q, i1] at e; cases e; exact absurd k (Nat.not_le.mpr (Nat.le_of_ble_eq_true rfl))
      · rw [q, i2] at e; cases e; exact absurd k (Nat.not_le.mpr (Nat.le_of_ble_eq_true rfl))
      · rw [q, i3] at e; cases e; exact absurd k (Nat.not_le.mpr (Nat.le_of_ble_eq_true rfl))
      · rw [q, i4] at e; cases e; exact absurd k (Nat.not_le.mpr (Nat.le_of_ble_eq_true rfl))
      · rw [q, i5] at e; cases e; exact absurd k (Nat.not_le.mpr (Nat.le_of_ble_eq_true rfl))
/-- the reference goes on -/
theorem lwM.mdl (k : lwM G x o a w w' P S h) (hW : tW S' w2) : lwM G x o a w w2 P S' (tH h a S') := by
  obtain ⟨U, v, ⟨hG, hl⟩, hd, ⟨hD, -, i⟩, ⟨ho, hP⟩, hk⟩ := k
  have z := tH_fr (S' := S') i
  obtain ⟨d0, d1, d2, d3, d4, d5⟩ := id hd
  obtain ⟨i1, i2, i3, i4, i5⟩ := id i
  refine ⟨U, v, ⟨hG.fr z fun b hb _ q => ?_, fun c q => z.2.1 c (hl c q)⟩, hd, ⟨hD, hW, tIn.of hD⟩, ⟨z.at ho fun q => ?_, hP⟩, z.kn hk⟩
  · rcases q with q | q | q | q | q <;> (rw [q] at hb; contradiction)
  · rcases q with q | q | q | q | q
    · exact zne ho i1 (by decide) q
    · exact zne ho i2 (by decide) q
    · exact zne ho i3 (by decide) q
    · exact zne ho i4 (by decide) q
    · exact zne ho i5 (by decide) q
theorem lwM.wk {P' : Int64 → Prop} (k : lwM G x o a w w' P S h) (n : ∀ v, P v → P' v) : lwM G x o a w w' P' S h := by
  obtain ⟨U, v, h1, h2, h3, ⟨h4, h5⟩, h6⟩ := k
  exact ⟨U, v, h1, h2, h3, ⟨h4, n v h5⟩, h6⟩
theorem lwM.eq (k : lwM G x o a w w' P S h) : h = tH h a S := k.choose_spec.choose_spec.2.2.1.2.2.eq.symm
theorem lwM.out (k : lwM G x o a w w' P S h) : ∃ v : Int64, h o = some (101, [.long v]) ∧ P v := by
  obtain ⟨U, v, h1, h2, h3, h4, h6⟩ := k
  exact ⟨v, h4⟩
theorem lwM.scr (k : lwM G x o a w w' P S h) (hb : zg_k G b = some (1100, xs)) : h b = some (1100, xs) := by
  obtain ⟨U, v, h1, h2, h3, h4, h6⟩ := k
  exact (h6 _ _ hb).1
theorem cReg.cell {e : Nat} {X : List zA} (k : cReg x e X w h U) : ∃ fs, h x = some (0, fs) := by
  obtain ⟨st, O, h1, h2, h3⟩ := k
  obtain ⟨fs, hx, -⟩ := h3.hx
  exact ⟨_, hx⟩
/-- the script is read -/
theorem zW.scr {y : Value} (hd : decode (zm_c M) pc = .ok (.iaload, 1)) (hn : pc + 1 = pc') (hb : h b = some (1100, xs)) (hj : xs[j]? = some y) (h30 : j < 2 ^ 30) (kq : zW G M d r pc' L (y :: st) h Q) : zW G M d r pc L (.int (nI j) :: .ref b :: st) h Q :=
  zW.iald hd hn hb rfl (nI_pos (by omega)) (by rw [nI_clamp (by omega)]; exact hj) kq
theorem zlc : lg_cmp v v = 0 := by
  unfold lg_cmp
  simp
end
