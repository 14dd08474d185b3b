/-! an exception made, kept, thrown; a handler for any -/
section
set_option maxRecDepth 100000
variable {G : zG} {M : zM} {d r pc : Nat} {L st : List Value} {h : zH} {Q : zR → zH → Prop}
theorem zW.make0 {ik ic : Nat} {names : List String} (hT : zT (zm_y M).cls ik ic "java/lang/IllegalStateException" names) (d0 : decode (zm_c M) pc = .ok (.new ik, 3)) (d3 : decode (zm_c M) (pc + 3) = .ok (.dup, 1)) (d4 : decode (zm_c M) (pc + 4) = .ok (.invokespecial ic, 3))
    (hst : (st.map fun v => v.category).sum ≤ 8) (hdd : 10 ≤ d) (kq : ∀ q h' sl, h q = none → h' = zup h q (70, sl) → h' q = some (70, sl) → zW G M d r (pc + 7) L (.ref q :: st) h' Q) : zW G M d (r + 2) pc L st h Q := by
  obtain ⟨hcls, hnames, t3, t4⟩ := hT
  intro p e R s m args below meth c A H locs cells slots ls hH hl hc hs hL T hTH X
  subst hTH
  have hexec := A.1
  have hb := A.2.1
  have hown := A.own
  have hdR := A.2.2.2.2.2.2.2.2.2.1
  have hEx := A.tb.2.2.2.2
  have hsize : ls.size = c.maxLocals := hL.1.trans A.2.2.2.1.symm
  have hsz : s.heap.size ≤ T.heap.size := by
    have h9 : s.heap.size ≤ (T.setVm s.vm).heap.size := X.same.2.1
    exact h9
  have hS : va_S (zfree G) s.heap T.heap locs := ⟨hsz, fun q hq1 hq2 => by
    have hq3 : q < (zg_H G).size := Nat.not_le.mp hq2
    rw [hH.2.2 q hq3, A.2.2.2.2.2.2.2.2.2.2.2.2 q hq3], hl⟩
  have hk := A.tb.w (A := args) (t3 _ List.mem_cons_self).1 (t3 _ List.mem_cons_self).2.1
  have hini := A.tb.w (A := args) (t3 _ (List.mem_cons_of_mem _ List.mem_cons_self)).1 (t3 _ (List.mem_cons_of_mem _ List.mem_cons_self)).2.1
  have hat : ∀ w ∈ vx_at0 (zm_y M).cls ic "java/lang/IllegalStateException" names, w.before args s = true := fun w hw => A.tb.w (t3 w (List.mem_cons_of_mem _ (List.mem_cons_of_mem _ hw))).1 (t3 w (List.mem_cons_of_mem _ (List.mem_cons_of_mem _ hw))).2.1
  have hgood : ∀ w ∈ Cond.classLink (zm_y M).cls ik "java/lang/IllegalStateException" :: Cond.initialized "java/lang/IllegalStateException" :: vx_at0 (zm_y M).cls ic "java/lang/IllegalStateException" names, vx_ot w = true := fun w hw => (t3 w hw).2.2
  have hU := hEx.1.kept A.old
  have hN := hEx.2.1.kept A.old
  have htr : e.platform.stackTraces = false := (show e.platform.stackTraces = (zg_l G).stackTraces by rw [X.admits.platform]).trans A.tb.2.2.2.1
  have Y := vx_rebase X (R' := { frames := R.frames, locals := R.locals, cells := 1, slots := 6 }) (Nat.le_refl _) (Nat.le_refl _) (show cells + 1 ≤ R.cells by omega) (show slots + 6 ≤ R.slots by omega)
  obtain ⟨s', hA'⟩ : ∃ z, z = (T.setVm s.vm).setFrames (.invoking m args :: below) := ⟨_, rfl⟩
  rw [← hA'] at Y
  have hvm : s'.vm = s.vm := by rw [hA']; rfl
  have hhp : s'.heap = T.heap := by rw [hA']; rfl
  have hW0 : s.WarmedH s'.vm := by rw [hvm]; exact State.WarmedH.refl s
  have hat' : ∀ w ∈ vx_at0 (zm_y M).cls ic "java/lang/IllegalStateException" names, w.before args s' = true := fun w hw => vx_ot_at hW0 hvm.symm (hgood w (List.mem_cons_of_mem _ (List.mem_cons_of_mem _ hw))) (hat w hw)
  have hk' : (Cond.classLink (zm_y M).cls ik "java/lang/IllegalStateException").before args s' = true := vx_ot_at hW0 hvm.symm (hgood _ List.mem_cons_self) hk
  have hini' : (Cond.initialized "java/lang/IllegalStateException").before args s' = true := vx_ot_at hW0 hvm.symm (hgood _ (List.mem_cons_of_mem _ List.mem_cons_self)) hini
  have hU' : vx_Zq Bundle.tN "UNASSIGNED_STACK" Bundle.steD (zfree G) s' s'.heap := by rw [hhp]; exact vx_Zq.moved hW0.alike (hU.kept hS.2.1)
  have hN' : vx_Zq Bundle.tN "SUPPRESSED_SENTINEL" Bundle.listD (zfree G) s' s'.heap := by rw [hhp]; exact vx_Zq.moved hW0.alike (hN.kept hS.2.1)
  have hall : ∀ w ∈ Bundle.ownAtoms0 (zm_y M).cls ic "java/lang/IllegalStateException" names, w.before args s' = true := vx_own hat' (vx_isRefq hU'.1) (vx_isRefq hN'.1) hU'.2.word hN'.2.word
  have hown' : s'.vm.findClass (zm_y M).cls = some m.cls := by rw [hvm]; exact hown
  have hins : (Cond.instantiable "java/lang/IllegalStateException" 6).before args s' = true := hall _ (by simp [Bundle.ownAtoms0])
  obtain ⟨vm₁, cX, kX, hfX, hkX, -, -, X₁, st1⟩ := Y.newCold hexec (own := (zm_y M).cls) (C := "java/lang/IllegalStateException") (index := ik) (n := 6) hown' hk' hins hini'
    (g := F0 m pc ls st) rfl (by rw [hb]; exact d0) (Nat.le_refl _) (Nat.le_refl _)
  generalize hT1 : (T.setVm vm₁).pushCell { cls := cX, slots := kX.instanceTypes.map defaultValue, vm := .none } = T1 at X₁ st1
  have hcat : (Value.ref T.heap.size).category = 1 := rfl
  have hcellA : T1.heap[T.heap.size]? = some (freshCell cX kX) := by rw [← hT1]; exact State.heap_pushCell_size _ _
  have d3' : decode c.code (pc + 3) = .ok (.dup, 1) := by rw [hb]; exact d3
  obtain ⟨V, ce, L9, Z, hL9, hlt, hcl9, hvm9, st9⟩ := vx_ctorMade0 X₁ hexec htr (own := (zm_y M).cls) (cls := "java/lang/IllegalStateException") (names := names) (ic := ic) hown' hcls hnames hall (fun x hx => nomatch hx) hfX hkX hcellA (by rw [hhp]; exact Nat.le_refl _)
    (g := { method := m, pc := pc + 4, locals := ls, stack := .ref T.heap.size :: .ref T.heap.size :: st, locked := none }) rfl hsize (rest := st) rfl
    (by rw [hb]; exact d4) (by show names.length + 3 < R.frames; omega) (by simp only [List.map_cons, List.sum_cons, hcat]; show 2 * 0 + _ + _ ≤ R.locals; omega)
  have Z0 := Stand.forget (locs := []) Z (fun y hy => by rw [hL9 y hy, hhp]; exact Nat.le_refl _)
  obtain ⟨f1, f2⟩ := vx_frame Z0.same
  rw [hhp] at f1 f2
  have hh : (V.setCell T.heap.size ce).heap[T.heap.size]? = some ce := heapAt_setCell_self (s := V) ce hlt
  subst hA'
  have X5 := vx_back9 X Y Z0
  have X6 : Stand p (zg_l G) e R s m args below meth c (V.setCell T.heap.size ce) locs (cells + 1) (slots + 6) := { X5 with same := X5.same.mono (by omega) (by omega) }
  have hcid : ce.cls = (zg_D G).1 70 := by
    rw [hcl9]
    rw [hvm] at hfX
    exact Option.some.inj (hfX.symm.trans A.tb.2.2.2.2.2.2.2.1.2.2.2.2)
  have h0 : h T.heap.size = none := by
    cases e9 : h T.heap.size with
    | none => rfl
    | some x => exact absurd ((hH.1 _ x e9).1.lt) (Nat.lt_irrefl _)
  have hp : zHp G s (zup h T.heap.size (70, ce.slots.toList)) (V.setCell T.heap.size ce).heap := by
    refine ⟨fun b x hx => ?_, Nat.le_trans hH.2.1 f1, fun q hq9 => (f2 q (Nat.lt_of_lt_of_le hq9 hH.2.1) (fun z hz => nomatch hz)).trans (hH.2.2 q hq9)⟩
    by_cases hbq : b = T.heap.size
    · rw [hbq, zup_s] at hx
      cases hx
      refine ⟨?_, fun _ => by rw [hbq]; exact hH.2.1⟩
      unfold zAt
      rw [if_neg (show ¬ (70 % 1000 < 50) by decide), if_pos (show 70 % 1000 < 100 by decide), hbq]
      exact ⟨ce, hh, hcid, hvm9, rfl⟩
    · rw [zup_n hbq] at hx
      have h9 := (hH.1 b x hx).1
      exact ⟨h9.kept (f2 b h9.lt (fun z hz => nomatch hz)), (hH.1 b x hx).2⟩
  obtain ⟨t, a1, b1⟩ := kq _ _ _ h0 rfl zup_s p e R s m args below meth c A _ locs _ _ ls hp hl (by omega) (by omega) hL _ rfl X6
  refine ⟨t, st1 _ ?_, b1⟩
  show Steps p.tables e below (T1.setTop { method := m, pc := pc + 3, locals := ls, stack := .ref T.heap.size :: st, locked := none }) _
  jvm_step X₁.here [X₁.here.top, hexec, d3', Value.category]
  exact st9 _ a1
/-- a kept exception is thrown, out of the method -/
theorem zW.athrow {q : Nat} {sl : List Value} (hd : decode (zm_c M) pc = .ok (.athrow, 1)) (hq : h q = some (70, sl)) (ho : ∀ x ∈ tableOf (zm_h M), covers x pc = false) (hQ : Q (.inr "java/lang/IllegalStateException") h) : zW G M d r pc L (.ref q :: st) h Q := by
  intro p e R s m args below meth c A H locs cells slots ls hH hl hc hs hL
  obtain ⟨hz, -⟩ := hH.1 q _ hq
  unfold zAt at hz
  rw [if_neg (show ¬ (70 % 1000 < 50) by decide), if_pos (show 70 % 1000 < 100 by decide)] at hz
  obtain ⟨cell, h1, h2, h3, h4⟩ := hz
  exact vx_athrow A.1 A.2.1 hd (zX.out (E := "java/lang/IllegalStateException") ho hQ p e R s m args below meth c A H locs cells slots ls st q cell hH hl hc hs hL h1 h3 (by rw [h2]; exact A.tb.2.2.2.2.2.2.2.1.2.2.2.2))
/-- a kept exception is thrown, to a handler for any -/
theorem zW.athrowAny {q : Nat} {sl : List Value} (hd : decode (zm_c M) pc = .ok (.athrow, 1)) (hq : h q = some (70, sl)) (pre : List ExceptionTableEntry) (x : ExceptionTableEntry) (suf : List ExceptionTableEntry) (hsplit : tableOf (zm_h M) = pre ++ x :: suf) (tg : Nat) (htg : x.handlerPc = tg) (hpass : ∀ z ∈ pre, covers z pc = false) (hx : covers x pc = true) (h0 : x.catchType = 0) (kq : zW G M d r tg L [.ref q] h Q) : zW G M d r pc L (.ref q :: st) h Q := by
  subst htg
  intro p e R s m args below meth c A H locs cells slots ls hH hl hc hs hL
  obtain ⟨hz, -⟩ := hH.1 q _ hq
  unfold zAt at hz
  rw [if_neg (show ¬ (70 % 1000 < 50) by decide), if_pos (show 70 % 1000 < 100 by decide)] at hz
  obtain ⟨cell, h1, h2, h3, h4⟩ := hz
  have hcl : s.vm.findClass "java/lang/IllegalStateException" = some cell.cls := by rw [h2]; exact A.tb.2.2.2.2.2.2.2.1.2.2.2.2
  refine vx_athrow A.1 A.2.1 hd ?_
  intro T hT X
  obtain ⟨vm', X', st9⟩ := X.thenCaughtThrough q (g := F0 m pc ls st) rfl (Steps.refl _) (by rw [hT]; exact h1) (by rw [h3]; rfl) (by obtain ⟨k9, h9, -⟩ := Vm.findClass_spec hcl; exact ⟨k9, h9⟩) pre x suf (by rw [A.2.2.2.2.2.2.1]; exact hsplit)
    (fun z hz => Or.inl (hpass z hz)) hx (Or.inl h0)
  obtain ⟨t, a1, b1⟩ := kq p e R s m args below meth c A H locs cells slots ls hH hl hc hs hL (T.setVm vm') hT X'
  exact ⟨t, st9.trans a1, b1⟩
end
