/-! THE LAW's wrappers: what a call of the class leaves behind -/
section
set_option maxRecDepth 100000
variable {G : zG} {h h' h1 : zH} {U : Nat → Prop} {x o n : Nat} {w : sW} {q : Nat × Int32 × sW} {Es : List String} {E : String} {v : Option Value} {lv : Int64}
def cWp (x o : Nat) (U : Nat → Prop) (h : zH) (q : Nat × Int32 × sW) : zR → zH → Prop := fun ov h' => ov = .inl (some (.int (nI q.1))) ∧ q.1 ≤ 3 ∧ cReg x 0 [] q.2.2 h' (zext U h) ∧ zfr (fun b => U b ∨ b = o) h h' ∧ ∃ v : Int64, h' o = some (101, [.long v]) ∧ (q.1 = 0 → v = q.2.1.toInt64)
theorem cOut.l (k : cOut x U h Es q (.inl v) h') : (cReg x 0 [] q.2.2 h' (zext U h) ∧ zfr U h h') ∧ q.1 = 0 ∧ v = some (.int q.2.1) := by
  refine ⟨k.1, ?_⟩
  rcases k.2 with ⟨e1, e2⟩ | ⟨-, E, -, e2⟩
  · cases e2; exact ⟨e1, rfl⟩
  · cases e2
theorem cOut.r (k : cOut x U h Es q (.inr E) h') : (cReg x 0 [] q.2.2 h' (zext U h) ∧ zfr U h h') ∧ ∃ n, q.1 = n + 1 ∧ Es[n]? = some E := by
  refine ⟨k.1, ?_⟩
  rcases k.2 with ⟨-, e2⟩ | ⟨e0, E', e1, e2⟩
  · cases e2
  · cases e2
    exact ⟨q.1 - 1, by omega, e1⟩
theorem cWp.ok (k : cReg x 0 [] q.2.2 h1 (zext U h) ∧ zfr U h h1) (e : q.1 = 0) (ho : h1 o = some (101, [.long lv])) (nO : ¬ U o ∧ h o ≠ none) {i : Int64} (ei : i = q.2.1.toInt64) : cWp x o U h q (.inl (some (.int (nI 0)))) (zup h1 o (101, [.long i])) := by
  subst ei
  have z : zfr (fun b => b = o) h1 (zup h1 o (101, [.long q.2.1.toInt64])) := zfr.rf.put rfl ho (by decide) (Or.inl rfl)
  refine ⟨by rw [e], by rw [e]; decide, k.1.fr z fun b hb _ e => ?_, (k.2.mono fun b hb => Or.inl (Or.inl hb)).tr z fun b hb => Or.inl (Or.inr hb), _, zup_s, fun _ => rfl⟩
  rw [e] at hb
  exact hb.elim nO.1 nO.2
theorem cWp.no (k : cReg x 0 [] q.2.2 h1 (zext U h) ∧ zfr U h h1) (e : q.1 = n + 1) (hn : n + 1 ≤ 3) (ho : h1 o = some (101, [.long lv])) : cWp x o U h q (.inl (some (.int (nI (n + 1))))) h1 :=
  ⟨by rw [e], by rw [e]; exact hn, k.1, k.2.mono fun b hb => Or.inl (Or.inl hb), lv, ho, fun z => by rw [e] at z; cases z⟩
theorem ncOf {s : State} (z : String × String) (hz : z ∈ zNc) (hT : zTb G s) : va_Nc z.1 z.2 s := hT.2.2.2.2.2.2.2.1.2.2.2.1 z hz
theorem zl01 : (nI 0).toNatClampNeg < 1 := by decide
end
