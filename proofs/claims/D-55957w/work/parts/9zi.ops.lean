/-! THE LAW's operations: the class's contracts in one form; what they leave is in order -/
section
set_option maxRecDepth 100000
variable {G : zG} {m : zM} {args : List Value} {h h' : zH} {U : Nat → Prop} {x o R T N n1 n2 n3 : Nat} {a : tA} {w w' : sW} {q : Nat × Int32} {S : tS} {P : Int64 → Prop} {Es : List String} {RR : sR} {l : List Nat} {s : sS} {cs : List pC} {c y z : Int32} {f : Nat}
theorem kUp {d : Nat} {Q : zR → zH → Prop} (k : zK G m d R args h Q) (hd : d ≤ 40) (hR : R ≤ 46060) : zK G m 40 46060 args h Q := (zW.deep k hd).pay hR
theorem kQ (hG : cReg x 0 [] w h U) (k : ∀ {st ll aq re rt ea ha er hr : Nat} {mc : Int32} {xs : List (Nat × Nat)} {qs rs : List Nat} {O : Nat → Prop} {fs : List Value}, h x = some (0, .ref st :: fs) → cP h O st ll aq re rt ea ha er hr mc xs qs rs w.1 → zK G m 40 R args h (cAns Es h q)) (hR : R ≤ 46060) : zK G m 40 46060 args h (cOut x U h Es (q.1, q.2, w)) := by
  obtain ⟨st, O, ⟨ll, aq, re, rt, ea, ha, er, hr, mc, xs, qs, rs, hP⟩, l, k3⟩ := id hG
  obtain ⟨fs, hx, -⟩ := k3.hx
  exact zW.post ((k hx hP).pay hR) fun o h' q => cOut.ans hG q
theorem kL {lv : Option Value} (hG : cReg x 0 [] w h U) (k : ∀ {st ll aq re rt ea ha er hr : Nat} {mc : Int32} {xs : List (Nat × Nat)} {qs rs : List Nat} {O : Nat → Prop} {fs : List Value}, h x = some (0, .ref st :: fs) → cP h O st ll aq re rt ea ha er hr mc xs qs rs w.1 → zK G m 40 R args h (zPu h lv)) (hR : R ≤ 46060) : zK G m 40 46060 args h (zPu h lv) := by
  obtain ⟨st, O, ⟨ll, aq, re, rt, ea, ha, er, hr, mc, xs, qs, rs, hP⟩, l, k3⟩ := id hG
  obtain ⟨fs, hx, -⟩ := k3.hx
  exact (k hx hP).pay hR
theorem kC (k : zK G m 30 1500 args h (cChg x 0 [] U h w RR)) (hG : cReg x 0 [] w h U) (hs : RR.1 ≠ 0 → sTh RR.1 n1 n2 n3 ≠ 0 ∧ Es[sTh RR.1 n1 n2 n3 - 1]? = some (cEx RR.1)) : zK G m 40 46060 args h (cOut x U h Es (sEnd w RR n1 n2 n3)) := by
  refine zW.post (kUp k (by decide) (by decide)) fun o h' q => ?_
  rcases q with ⟨e0, e1, e2, e3⟩ | ⟨e0, e1, e2⟩
  · have t0 : sTh RR.1 n1 n2 n3 = 0 := by rw [e0]; rfl
    have e : sEnd w RR n1 n2 n3 = (0, nI RR.2.1, (RR.2.2, sPush w.2.1 w.1, w.2.2)) := by
      unfold sEnd
      rw [if_pos t0, t0]
    rw [e]
    exact ⟨⟨e2, e3⟩, Or.inl ⟨rfl, e1⟩⟩
  · obtain ⟨h1, h2⟩ := hs e0
    have e : sEnd w RR n1 n2 n3 = (sTh RR.1 n1 n2 n3, 0, w) := by
      unfold sEnd
      rw [if_neg h1]
    rw [e, e2]
    exact ⟨⟨hG.up fun b hb _ => Or.inl hb, zfr.rf⟩, Or.inr ⟨h1, _, h2, e1⟩⟩
theorem th_012 {b : Nat} (hb : b < 4) (h1 : b ≠ 1) (h0 : b ≠ 0) : sTh b 0 1 2 ≠ 0 ∧ [eArg, eSta][sTh b 0 1 2 - 1]? = some (cEx b) := by
  match b with
  | 0 => exact absurd rfl h0
  | 1 => exact absurd rfl h1
  | 2 => exact ⟨by decide, rfl⟩
  | 3 => exact ⟨by decide, rfl⟩
  | b + 4 => omega
theorem th_123 {b : Nat} (hb : b < 4) (h0 : b ≠ 0) : sTh b 1 2 3 ≠ 0 ∧ [eElt, eArg, eSta][sTh b 1 2 3 - 1]? = some (cEx b) := by
  match b with
  | 0 => exact absurd rfl h0
  | 1 => exact ⟨by decide, rfl⟩
  | 2 => exact ⟨by decide, rfl⟩
  | 3 => exact ⟨by decide, rfl⟩
  | b + 4 => omega
theorem th_102 {b : Nat} (hb : b = 0 ∨ b = 1 ∨ b = 3) (h0 : b ≠ 0) : sTh b 1 0 2 ≠ 0 ∧ [eElt, eSta][sTh b 1 0 2 - 1]? = some (cEx b) := by
  rcases hb with e | e | e
  · exact absurd e h0
  · rw [e]; exact ⟨by decide, rfl⟩
  · rw [e]; exact ⟨by decide, rfl⟩
theorem th_010 {b : Nat} (hb : b = 0 ∨ b = 2) (h0 : b ≠ 0) : sTh b 0 1 0 ≠ 0 ∧ [eArg][sTh b 0 1 0 - 1]? = some (cEx b) := by
  rcases hb with e | e
  · exact absurd e h0
  · rw [e]; exact ⟨by decide, rfl⟩
theorem sTick1_eq : sTick1 s = sAdvance s (nI 1) := by
  unfold sAdvance sTick1
  rw [if_pos (by decide), show iN (nI 1) = 1 by decide, sTicks, sTicks, Nat.zero_add]
/-! the world stays in order -/
theorem sPush_mem {H : List sS} {s t : sS} (h : t ∈ sPush H s) : t ∈ H ∨ t = s := by
  unfold sPush at h
  split at h
  · rcases List.mem_append.mp h with q | q
    · exact Or.inl (List.mem_of_mem_tail q)
    · exact Or.inr (List.mem_singleton.mp q)
  · rcases List.mem_append.mp h with q | q
    · exact Or.inl q
    · exact Or.inr (List.mem_singleton.mp q)
theorem wOk.push (k : wOk T N w) {s' : sS} {T' N' : Nat} (hT : T ≤ T') (hN : N ≤ N') (hs : sJ T' N' s') {l i : List Nat} {e f : Nat} (he : e < 2 ^ 30) (hf : f < 2 ^ 30) : wOk T' N' (s', sPush w.2.1 w.1, w.2.2.1, l, i, e, f) := by
  have k2 := k.up hT hN
  refine ⟨hs, fun t ht => ?_, k2.2.2.1, he, hf⟩
  rcases sPush_mem ht with q | q
  · exact k2.2.1 t q
  · rw [q]; exact k2.1
theorem wOk.fin (k : wOk T N w) (hR : sJ (T + 50) (N + 1) RR.2.2) : wOk (T + 3100) (N + 62) (sEnd w RR n1 n2 n3).2.2 := by
  unfold sEnd
  split
  · exact k.push (by omega) (by omega) (hR.up (by omega) (by omega)) k.2.2.2.1 k.2.2.2.2
  · exact k.up (by omega) (by omega)
theorem wOk.same (k : wOk T N w) : wOk (T + 3100) (N + 62) w := k.up (by omega) (by omega)
theorem wOk.app (k : wOk T N w) : wOk (T + 3100) (N + 62) (sAppend w c).2.2 := by
  have k2 := k.same
  unfold sAppend
  split
  · split
    · exact k2
    · exact k2
  · exact k2
theorem wOk.form (k : wOk T N w) : wOk (T + 3100) (N + 62) (sForm w c).2.2 := by
  have k2 := k.same
  unfold sForm
  split
  · exact k2
  · exact k2
theorem wOk.undo (k : wOk T N w) : wOk (T + 3100) (N + 62) (sUndo w).2.2 := by
  have k2 := k.same
  obtain ⟨a1, a2, a3, a4⟩ := id k2
  unfold sUndo
  cases e : w.2.1.reverse with
  | nil => exact k2
  | cons s H =>
    have hm : ∀ t ∈ s :: H, sJ (T + 3100) (N + 62) t := fun t ht => a2 t (by rw [← List.mem_reverse, e]; exact ht)
    exact ⟨hm s List.mem_cons_self, fun t ht => hm t (List.mem_cons_of_mem _ (List.mem_reverse.mp ht)), a3, a4⟩
theorem wOk.save (k : wOk T N w) : wOk (T + 3100) (N + 62) (sSave w) := by
  obtain ⟨a1, a2, a3, a4⟩ := k.same
  exact ⟨a1, a2, fun s e => by cases e; exact a1, a4⟩
theorem wOk.rest (k : wOk T N w) : wOk (T + 3100) (N + 62) (sRestore w).2.2 := by
  have k2 := k.same
  obtain ⟨a1, a2, a3, a4⟩ := id k2
  unfold sRestore
  cases e : w.2.2.1 with
  | none => exact k2
  | some s =>
    show wOk _ _ (s, [], w.2.2)
    exact ⟨a3 s e, fun t ht => by (cases ht), fun s' e' => a3 s' e', a4⟩
theorem sDos_J : ∀ {cs : List pC} {s : sS} {T N : Nat}, sJ T N s → N + cs.length ≤ 10000 → sJ (T + 50 * cs.length) (N + cs.length) (sDos cs s).2 := by
  intro cs
  induction cs with
  | nil => intro s T N k _; exact k
  | cons c cs ih =>
    intro s T N k hN
    rw [List.length_cons] at hN
    rw [sDos, List.length_cons]
    split
    · have k2 := ih (k.doc (c := c) (by omega)) (by omega)
      exact k2.up (by omega) (by omega)
    · exact k.up (by omega) (by omega)
theorem pLoop_len : ∀ {m : Nat} {p : Nat × Nat} {cs : List pC}, (pLoop l m p cs).1.length ≤ cs.length + m := by
  intro m
  induction m with
  | zero => intro p cs; exact Nat.le_refl _
  | succ m ih =>
    intro p cs
    rw [pLoop]
    split
    · refine Nat.le_trans ih ?_
      rw [List.length_append, List.length_singleton]
      omega
    · exact Nat.le_add_right _ _
theorem pLoop_ok (hl : ∀ x ∈ l, x < 128) : ∀ {m : Nat} {p : Nat × Nat} {cs : List pC}, pOk p → p.1 ≤ l.length → pOk (pLoop l m p cs).2 ∧ (pLoop l m p cs).2.1 ≤ l.length := by
  intro m
  induction m with
  | zero => intro p cs h1 h2; exact ⟨h1, h2⟩
  | succ m ih =>
    intro p cs h1 h2
    rw [pLoop]
    split
    · rename_i q
      obtain ⟨g1, g2⟩ := pCmd_ok (s := p.1 + 1) hl (List.getElem?_eq_some_iff.mp q.2).1
      exact ih g1 g2
    · exact ⟨h1, h2⟩
theorem pParse_b (hl : ∀ x ∈ l, x < 128) (hn : l.length ≤ 60) : (pParse l).2 ≤ 61 ∧ (pParse l).1.length ≤ 61 := by
  obtain ⟨g1, g2⟩ := pCmd_ok (l := l) (s := 0) hl (Nat.zero_le _)
  obtain ⟨h1, h2⟩ := pLoop_ok (m := 60) (cs := [(pCmd l 0).1]) hl g1 g2
  refine ⟨?_, by have := pLoop_len (l := l) (m := 60) (p := (pCmd l 0).2) (cs := [(pCmd l 0).1]); rw [List.length_singleton] at this; exact this⟩
  unfold pParse pFin
  dsimp only
  split
  · omega
  · rcases h1 with e | e <;> omega
theorem wOk.run (k : wOk T N w) (hl : ∀ x ∈ w.2.2.2.2.1, x < 128) (hn : w.2.2.2.2.1.length ≤ 60) (hN : N + 62 ≤ 10000) : wOk (T + 3100) (N + 62) (sRun w).2.2 := by
  have k2 := k.same
  obtain ⟨a1, a2, a3, a4, a5⟩ := id k2
  obtain ⟨b1, b2⟩ := pParse_b hl hn
  unfold sRun
  split
  · unfold sRunA
    split
    · exact k.push (by omega) (by omega) ((sDos_J k.1 (by omega)).up (by omega) (by omega)) a4 a5
    · have := sDos_le (cs := (pParse w.2.2.2.2.1).1) (s := w.1)
      exact ⟨a1, a2, a3, a4, by show (sDos _ _).1 + 1 < _; omega⟩
  · exact ⟨a1, a2, a3, by show (pParse _).2 < _; omega, a5⟩
/-! answers that are 0 or 1 -/
theorem b01 {P : Prop} [Decidable P] : nI (if P then 0 else 1) = nI 0 ∨ nI (if P then 0 else 1) = nI 1 := by
  split
  · exact Or.inl rfl
  · exact Or.inr rfl
theorem b10 {P : Prop} [Decidable P] : nI (if P then 1 else 0) = nI 0 ∨ nI (if P then 1 else 0) = nI 1 := by
  split
  · exact Or.inr rfl
  · exact Or.inl rfl
theorem qIs01 (h : (qIs s c f).1 = 0) : (qIs s c f).2 = nI 0 ∨ (qIs s c f).2 = nI 1 := by
  unfold qIs at h ⊢
  cases e : sFind s.2.1 c with
  | none => rw [e] at h; cases h
  | some i => exact b01
theorem qCanS01 (h : (qCanS s c y).1 = 0) : (qCanS s c y).2 = nI 0 ∨ (qCanS s c y).2 = nI 1 := by
  unfold qCanS at h ⊢
  cases e : sFind s.2.1 c with
  | none => rw [e] at h; cases h
  | some i =>
    rw [e] at h
    dsimp only at h ⊢
    by_cases q : sIn y (nI 0) (nI 3) = true
    · rw [if_pos q]; exact b10
    · rw [if_neg q] at h; cases h
theorem qCanC01 (h : (qCanC s c y).1 = 0) : (qCanC s c y).2 = nI 0 ∨ (qCanC s c y).2 = nI 1 := by
  unfold qCanC at h ⊢
  cases e : sFind s.2.1 c with
  | none => rw [e] at h; cases h
  | some i =>
    rw [e] at h
    dsimp only at h ⊢
    by_cases q : sIn y (nI 0) (nI 3) = true
    · rw [if_pos q]; exact b10
    · rw [if_neg q] at h; cases h
theorem qOwes01 (h : (qOwes s c y).1 = 0) : (qOwes s c y).2 = nI 0 ∨ (qOwes s c y).2 = nI 1 := by
  unfold qOwes at h ⊢
  by_cases q : sIn c (nI 0) (nI 7) = true ∧ sIn y (nI 0) (nI 7) = true
  · rw [if_pos q]; exact b10
  · rw [if_neg q] at h; cases h
/-! what the world gives -/
theorem cReg.chars (hG : cReg x 0 [] w h U) : (∀ y ∈ w.2.2.2.1, y < 128) ∧ ∀ y ∈ w.2.2.2.2.1, y < 128 := by
  obtain ⟨st, O, h1, h2, h3⟩ := hG
  obtain ⟨sv, hq, ib, lb, v, Ob, -, -, ⟨ml, t, -, -, -, c1⟩, -⟩ := h3.line
  obtain ⟨sv, hq, ib, lb, v, Ob, -, -, ⟨ml, t, -, -, -, c2⟩, -⟩ := h3.inp
  exact ⟨fun y hy => c1 y (List.mem_append_left _ hy), fun y hy => c2 y (List.mem_append_left _ hy)⟩
theorem lwM.kn (k : lwM G x o a w w' P S h) : zkn G h := k.choose_spec.choose_spec.2.2.2.2
theorem lwM.tt (k : lwM G x o a w w' P S h) : tD a ∧ tW S w' := ⟨k.choose_spec.choose_spec.2.2.1.1, k.choose_spec.choose_spec.2.2.1.2.1⟩
theorem lwM.chars (k : lwM G x o a w w' P S h) : (∀ y ∈ w.2.2.2.1, y < 128) ∧ ∀ y ∈ w.2.2.2.2.1, y < 128 := k.choose_spec.choose_spec.1.1.chars
theorem lwM.reg (k : lwM G x o a w w' P S h) : ∃ U, cReg x 0 [] w h U := ⟨_, k.choose_spec.choose_spec.1.1⟩
/-- the law's world at the loop's head -/
def lwI (G : zG) (x o : Nat) (a : tA) (T N : Nat) (h : zH) : Prop := ∃ w S, lwM G x o a w w (fun _ => True) S h ∧ wOk T N w
end
