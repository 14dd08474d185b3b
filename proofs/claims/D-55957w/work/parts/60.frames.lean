/-! FRAMES: what a call leaves as it was; opaque heaps behind puts and new cells -/
section
set_option maxRecDepth 100000
variable {G : zG} {M : zM} {d r pc pc' : Nat} {L L' st : List Value} {h : zH} {Q : zR → zH → Prop}
/-- an answer, the heap as it was -/
abbrev zPu (h : zH) (v : Option Value) : zR → zH → Prop := fun o h' => o = .inl v ∧ h' = h
/-- an answer and a heap with P -/
abbrev zO (P : Option Value → zH → Prop) : zR → zH → Prop := fun o h' => ∃ v, o = .inl v ∧ P v h'
/-- an answer; one cell is written -/
abbrev zPk (h : zH) (ov : Option Value) (a : Nat) (c : zC) : zR → zH → Prop := zO fun v h' => v = ov ∧ h' = zup h a c ∧ h' a = some c
theorem zO.no {P : Option Value → zH → Prop} {E : String} {h' : zH} : ¬ zO P (.inr E) h' := fun ⟨_, q, _⟩ => by cases q
theorem zpres {h h' : zH} {a b : Nat} {c : zC} {x : Option zC} (e : h' = zup h a c) (hn : b ≠ a) (f : h b = x) : h' b = x := by rw [e, zup_n hn]; exact f
theorem zne {h : zH} {a b k k' : Nat} {l l' : List Value} (f : h b = some (k, l)) (g : h a = some (k', l')) (hk : k ≠ k') : b ≠ a := fun e => by
  rw [e, g] at f
  cases f
  exact hk rfl
theorem zfresh {h : zH} {a b : Nat} {c : zC} (n : h a = none) (f : h b = some c) : b ≠ a := fun e => by
  rw [e, n] at f
  cases f
/-- cells outside A, cells of the start: as they were; what lived lives -/
def zfr (A : Nat → Prop) (h0 h : zH) : Prop := (∀ b, ¬ A b → h0 b ≠ none → h b = h0 b) ∧ (∀ b, h0 b ≠ none → h b ≠ none) ∧ (∀ b c, h0 b = some c → 1000 ≤ c.1 → h b = some c)
variable {A B : Nat → Prop} {h0 h1 h2 : zH}
theorem zfr.rf : zfr A h h := ⟨fun _ _ _ => rfl, fun _ q => q, fun _ _ q _ => q⟩
theorem zfr.nn0 (z : zfr A h0 h) {a : Nat} (n : h a = none) : h0 a = none := Classical.byContradiction fun q => z.2.1 a q n
theorem zfr.put (z : zfr A h0 h) {a k : Nat} {l : List Value} {c : zC} (e : h1 = zup h a c) (g : h a = some (k, l)) (hk : k < 1000) (m : A a ∨ h0 a = none) : zfr A h0 h1 := by
  refine ⟨fun b hb hl => ?_, fun b hl => ?_, fun b x hx h3 => ?_⟩
  · have hn : b ≠ a := fun q => by
      subst q
      rcases m with m | m
      · exact hb m
      · exact hl m
    rw [e, zup_n hn]
    exact z.1 b hb hl
  · by_cases q : b = a
    · subst q; rw [e, zup_s]; exact fun q => by cases q
    · rw [e, zup_n q]; exact z.2.1 b hl
  · have hn : b ≠ a := fun q => by
      subst q
      have := z.2.2 b x hx h3
      rw [this] at g
      cases g
      exact absurd h3 (Nat.not_le.mpr hk)
    rw [e, zup_n hn]
    exact z.2.2 b x hx h3
theorem zfr.new (z : zfr A h0 h) {a : Nat} {c : zC} (e : h1 = zup h a c) (n : h a = none) : zfr A h0 h1 := by
  have n0 := z.nn0 n
  refine ⟨fun b hb hl => ?_, fun b hl => ?_, fun b x hx h3 => ?_⟩
  · have hn : b ≠ a := fun q => hl (by rw [q]; exact n0)
    rw [e, zup_n hn]
    exact z.1 b hb hl
  · have hn : b ≠ a := fun q => hl (by rw [q]; exact n0)
    rw [e, zup_n hn]
    exact z.2.1 b hl
  · have hn : b ≠ a := fun q => by rw [q, n0] at hx; cases hx
    rw [e, zup_n hn]
    exact z.2.2 b x hx h3
theorem zfr.tr (z : zfr A h0 h1) (y : zfr B h1 h2) (m : ∀ b, B b → A b ∨ h0 b = none) : zfr A h0 h2 := by
  refine ⟨fun b hb hl => ?_, fun b hl => y.2.1 b (z.2.1 b hl), fun b x hx h3 => y.2.2 b x (z.2.2 b x hx h3) h3⟩
  have hB : ¬ B b := fun q => (m b q).elim hb hl
  rw [y.1 b hB (z.2.1 b hl)]
  exact z.1 b hb hl
theorem zfr.mono (z : zfr A h0 h) (m : ∀ b, A b → B b ∨ h0 b = none) : zfr B h0 h := zfr.tr (A := B) zfr.rf z m
theorem zfr.at (z : zfr A h0 h) {b : Nat} {c : zC} (f : h0 b = some c) (n : ¬ A b) : h b = some c := by
  rw [z.1 b n (by rw [f]; exact fun q => by cases q)]; exact f
theorem zfr.nA (z : zfr A h0 h) {b : Nat} {c : zC} (f : h0 b = some c) (n : ¬ A b) : h b = some c := z.at f n
/-- A, and what is new since h -/
def zext (A : Nat → Prop) (h : zH) : Nat → Prop := fun b => A b ∨ h b = none
theorem zext.of {b : Nat} (q : A b) : zext A h b := Or.inl q
/-- what is known of the start stands in h -/
def zkn (G : zG) (h : zH) : Prop := ∀ a c, zg_k G a = some c → h a = some c ∧ 1000 ≤ c.1
theorem zfr.kn (z : zfr A h0 h) (k : zkn G h0) : zkn G h := fun a c q => ⟨z.2.2 a c (k a c q).1 (k a c q).2, (k a c q).2⟩
theorem zW.putK {idx ci k kk a : Nat} {fs fs' : List Value} {v : Value} (hd : decode (zm_c M) pc = .ok (.putfield idx, 3)) (hn : pc + 3 = pc') (hf : zF (zm_y M).cls idx ci k) (hh : h a = some (kk, fs)) (hk : (kk % 1000 = ci ∧ ci < 50) ∧ kk < 1000) (hw : zFw M ci k v) (hs' : fs.set k v = fs') (kq : ∀ h', h' = zup h a (kk, fs') → h' a = some (kk, fs') → zW G M d r pc' L st h' Q) : zW G M d r pc L (v :: .ref a :: st) h Q :=
  zW.put hd hn hf hh hk hw hs' (kq _ rfl zup_s)
theorem zW.newK {idx ci u : Nat} {fs : List Value} (hd : decode (zm_c M) pc = .ok (.new idx, 3)) (hn : pc + 3 = pc') (hN : zN (zm_y M).cls idx ci u) (hf : zdv ci = fs) (kq : ∀ a h', h a = none → h' = zup h a (ci, fs) → h' a = some (ci, fs) → zW G M d r pc' L (.ref a :: st) h' Q) : zW G M d (r + u) pc L st h Q :=
  zW.new hd hn hN hf fun a n => kq a _ n rfl zup_s
theorem zW.mmin {idx a b : Nat} (hd : decode (zm_c M) pc = .ok (.invokestatic idx, 3)) (hn : pc + 3 = pc') (hl : Cond.methodLink (zm_y M).cls idx Lib.Math.min.name ∈ lw_tbl) (hdd : 1 ≤ d) (hW : (st.map fun v => v.category).sum ≤ 8) (ha : a < 2 ^ 31) (hb : b < 2 ^ 31) (k : zW G M d r pc' L (.int (nI (min a b)) :: st) h Q) : zW G M d r pc L (.int (nI b) :: .int (nI a) :: st) h Q := by
  subst hn
  intro p e R s m args below meth c A H locs cells slots ls hH hl' hc hs hL
  have h1 := A.2.2.2.2.2.2.2.2.2.1
  have e : (if nI b < nI a then nI b else nI a) = nI (min a b) := by
    by_cases q : b < a
    · rw [if_pos ((nI_ltI hb ha).mpr q), Nat.min_eq_right (Nat.le_of_lt q)]
    · rw [if_neg (fun z => q ((nI_ltI hb ha).mp z)), Nat.min_eq_left (Nat.not_lt.mp q)]
  refine va_mmin A.1 A.2.1 (A.2.2.2.1.trans hL.1.symm) A.own (A.tb.w hl rfl) (A.tb.w (lw_all_tbl q454) rfl) (A.tb.w (lw_all_tbl q114) rfl) (A.tb.w (lw_all_tbl q455) rfl) (by omega) (by show (st.map fun v => v.category).sum + 13 ≤ _; omega) (by omega) (by omega) hd ?_
  rw [e]
  exact k p _ R s m args below meth c A H locs cells slots ls hH hl' hc hs hL
theorem zup_up {a : Nat} {c c' : zC} : zup (zup h a c) a c' = zup h a c' := by
  funext b
  unfold zup
  by_cases q : b = a
  · rw [if_pos q, if_pos q]
  · rw [if_neg q, if_neg q, if_neg q]
theorem zle.up {a : Nat} {c : zC} (n : h a = none) : zle h (zup h a c) := fun b x hb => by
  have hn : b ≠ a := fun q => by rw [q, n] at hb; cases hb
  rw [zup_n hn]; exact hb
theorem ztrk {h h1 h2 : zH} {a : Nat} {c c' : zC} (e : h1 = zup h a c) (f : h2 = zup h1 a c') : h2 = zup h a c' := by rw [f, e, zup_up]
/-- a reference's value -/
def zrf (o : Option Nat) : Value := match o with | none => .null | some a => .ref a
theorem zrf_ir {o : Option Nat} : zir (zrf o) = true := by cases o <;> rfl
theorem zrf_c {o : Option Nat} : (zrf o).category = 1 := by cases o <;> rfl
theorem zrf_nar {s : String} {o : Option Nat} : narrow (.object s) (zrf o) = zrf o := by cases o <;> rfl
theorem zrf_fit {s : String} {o : Option Nat} : fits (.object s) (zrf o) = true := by cases o <;> rfl
theorem zrf_null {o : Option Nat} : zrf o = .null ↔ o = none := by
  cases o with
  | none => exact ⟨fun _ => rfl, fun _ => rfl⟩
  | some a => exact ⟨fun q => (by cases q), fun q => by cases q⟩
end
