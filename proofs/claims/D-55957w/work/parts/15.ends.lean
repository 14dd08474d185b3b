/-! ROWS: ends of a method, throws, catches -/
section
set_option maxRecDepth 100000
variable {G : zG} {M : zM} {d r pc pc' : Nat} {L L' st : List Value} {h : zH} {Q : zR → zH → Prop}
theorem zW.iret {ty : FieldType} {v : Int32} (hd : decode (zm_c M) pc = .ok (.ireturn, 1)) (hr : zm_r M = some ty) (hv : narrow ty (.int v) = .int v) (hq : Q (.inl (some (.int v))) h) : zW G M d r pc L [.int v] h Q := by
  intro p e0 R s m args below meth c A H locs cells slots ls hH hl hc hs hL
  refine W.widen (k := R.cells) (n := R.slots) (by omega) (by omega) (vx_ret ?_)
  exact W.zret A.1 A.2.1 (A.2.2.1.trans hr) hv (fun t ht hW => ⟨_, h, rfl, hq, by rw [ht]; exact hH.moved hW.alike⟩) hl hd A.2.2.2.2.2.1
theorem zW.lret {v : Int64} (hd : decode (zm_c M) pc = .ok (.lreturn, 1)) (hr : zm_r M = some .long) (hq : Q (.inl (some (.long v))) h) : zW G M d r pc L [.long v] h Q := by
  intro p e0 R s m args below meth c A H locs cells slots ls hH hl hc hs hL
  refine W.widen (k := R.cells) (n := R.slots) (by omega) (by omega) (vx_ret ?_)
  exact W.lret A.1 A.2.1 (A.2.2.1.trans hr) (fun t ht hW => ⟨_, h, rfl, hq, by rw [ht]; exact hH.moved hW.alike⟩) hl hd A.2.2.2.2.2.1
theorem zW.aret {v : Value} {rt : FieldType} (hd : decode (zm_c M) pc = .ok (.areturn, 1)) (hr : zm_r M = some rt) (hrt : (∃ n, rt = .object n) ∨ ∃ t, rt = .array t) (hv : zir v = true) (hq : Q (.inl (some v)) h) : zW G M d r pc L [v] h Q := by
  intro p e0 R s m args below meth c A H locs cells slots ls hH hl hc hs hL
  refine W.widen (k := R.cells) (n := R.slots) (by omega) (by omega) (vx_ret ?_)
  exact W.aret A.1 A.2.1 (A.2.2.1.trans hr) hrt (zir_or hv) (fun t ht hW => ⟨_, h, rfl, hq, by rw [ht]; exact hH.moved hW.alike⟩) hl hd A.2.2.2.2.2.1
theorem zW.vret (hd : decode (zm_c M) pc = .ok (.return_, 1)) (hr : zm_r M = none) (hq : Q (.inl none) h) : zW G M d r pc L [] h Q := by
  intro p e0 R s m args below meth c A H locs cells slots ls hH hl hc hs hL
  refine W.widen (k := R.cells) (n := R.slots) (by omega) (by omega) (vx_ret ?_)
  exact W.vret A.1 A.2.1 (A.2.2.1.trans hr) (fun t ht hW => ⟨_, h, rfl, hq, by rw [ht]; exact hH.moved hW.alike⟩) hl hd A.2.2.2.2.2.1
/-- not caught here -/
theorem zX.out {E : String} (ho : ∀ x ∈ tableOf (zm_h M), covers x pc = false) (hq : Q (.inr E) h) : zX G M d r pc L E h Q := by
  intro p e0 R s m args below meth c A H locs cells slots ls rest q ce hH hl hc hs hL h1 h2 h3
  exact vx_out (by rw [A.2.2.2.2.2.2.1]; exact ho) A.2.2.2.2.2.1 h1 h2 h3 (fun t ht hal => ⟨h, hq, by rw [ht]; exact hH.moved hal⟩) hl (by omega) (by omega)
theorem zX.out0 {E : String} (ho : zm_h M = []) (hq : Q (.inr E) h) : zX G M d r pc L E h Q := zX.out (by rw [ho]; intro x hx; cases hx) hq
/-- caught by a row of the table: its class is name, the rows ahead don't take it -/
theorem zX.catch {E name : String} (pre : List ExceptionTableEntry) (x : ExceptionTableEntry) (suf : List ExceptionTableEntry) (hsplit : tableOf (zm_h M) = pre ++ x :: suf) (tg : Nat) (htg : x.handlerPc = tg)
    (hpass : ∀ z ∈ pre, covers z pc = false ∨ (z.catchType ≠ 0 ∧ ∃ nm : String, Cond.classLink (zm_y M).cls z.catchType nm ∈ lw_tbl ∧ ∀ s, zTb G s → va_Nc E nm s)) (hx : covers x pc = true) (h0 : x.catchType ≠ 0)
    (hlk : Cond.classLink (zm_y M).cls x.catchType name ∈ lw_tbl) (hca : Cond.castable E name ∈ lw_tbl) (kq : ∀ q, zW G M d r tg L [.ref q] h Q) : zX G M d r pc L E h Q := by
  subst htg
  intro p e0 R s m args below meth c A H locs cells slots ls rest q ce hH hl hc hs hL h1 h2 h3
  refine vx_catch A.own pre x suf (by rw [A.2.2.2.2.2.2.1]; exact hsplit) (fun z hz => ?_) hx h0 (A.tb.w hlk rfl) (A.tb.w hca rfl) h1 h2 h3 (kq q p e0 R s m args below meth c A H locs cells slots ls hH hl hc hs hL)
  rcases hpass z hz with q9 | ⟨q9, nm, q8, q7⟩
  · exact Or.inl q9
  · exact Or.inr ⟨q9, nm, A.tb.w q8 rfl, q7 s A.tb⟩
/-- what a throw of a new exception without message asks -/
def zT (own : String) (ik ic : Nat) (cls : String) (names : List String) : Prop := Bundle.fit cls = true ∧ (∀ n ∈ names, Bundle.fit n = true) ∧ (∀ w ∈ Cond.classLink own ik cls :: Cond.initialized cls :: vx_at0 own ic cls names, w ∈ lw_tbl ∧ zgood w = true ∧ vx_ot w = true) ∧ names.length ≤ 6
theorem zW.throw0 {ik ic : Nat} {cls : String} {names : List String} (hT : zT (zm_y M).cls ik ic cls names) (d0 : decode (zm_c M) pc = .ok (.new ik, 3)) (d3 : decode (zm_c M) (pc + 3) = .ok (.dup, 1)) (d4 : decode (zm_c M) (pc + 4) = .ok (.invokespecial ic, 3)) (d7 : decode (zm_c M) (pc + 7) = .ok (.athrow, 1))
    (ho : ∀ x ∈ tableOf (zm_h M), covers x (pc + 7) = false) (hst : (st.map fun v => v.category).sum ≤ 8) (hdd : 10 ≤ d) (hr : 2 ≤ r) (hq : Q (.inr cls) h) : zW G M d r pc L st h Q := by
  obtain ⟨t1, t2, t3, t4⟩ := hT
  intro p e0 R s m args below meth c A H locs cells slots ls hH hl hc hs hL T hTH X
  have hsz : s.heap.size ≤ H.size := by
    have h9 : s.heap.size ≤ (T.setVm s.vm).heap.size := X.same.2.1
    rw [← hTH]; exact h9
  have hS : va_S (zfree G) s.heap H locs := ⟨hsz, fun q hq1 hq2 => by
    have hq3 : q < (zg_H G).size := Nat.not_le.mp hq2
    rw [hH.2.2 q hq3, A.2.2.2.2.2.2.2.2.2.2.2.2 q hq3], hl⟩
  have hdR := A.2.2.2.2.2.2.2.2.2.1
  have hEx := A.tb.2.2.2.2
  exact vx_throw0 (A := zfree G) (names := names) A.1 A.2.1 A.tb.2.2.2.1 A.own t1 t2 (A.tb.w (t3 _ List.mem_cons_self).1 (t3 _ List.mem_cons_self).2.1) (A.tb.w (t3 _ (List.mem_cons_of_mem _ List.mem_cons_self)).1 (t3 _ (List.mem_cons_of_mem _ List.mem_cons_self)).2.1)
    (fun w hw => A.tb.w (t3 w (List.mem_cons_of_mem _ (List.mem_cons_of_mem _ hw))).1 (t3 w (List.mem_cons_of_mem _ (List.mem_cons_of_mem _ hw))).2.1) (fun w hw => (t3 w hw).2.2)
    (hEx.1.kept A.old) (hEx.2.1.kept A.old) hS (hL.1.trans A.2.2.2.1.symm) d0 d3 d4 d7 (by rw [A.2.2.2.2.2.2.1]; exact ho) (by omega) (by omega) (by omega) (by omega) A.2.2.2.2.2.1
    (fun t hal h1 h2 => ⟨h, hq, ⟨fun a x hx => ⟨((hH.1 a x hx).1.kept (h2 a (hH.1 a x hx).1.lt)).moved hal, (hH.1 a x hx).2⟩, Nat.le_trans hH.2.1 h1, fun q hq9 => (h2 q (Nat.lt_of_lt_of_le hq9 hH.2.1)).trans (hH.2.2 q hq9)⟩⟩) hl (by omega) (by omega) T hTH X
end
