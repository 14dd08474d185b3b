/-! LAMBDAS: the rows of a forwarder; the way into a made class's method and out -/
section
set_option maxRecDepth 100000
variable {p : Program} {l : Launch} {e : Env} {R R' : Room} {s : State} {m mk : MethodId} {args a : Array Value} {below : List Frame} {meth methk : Method} {c ck : Code} {H : Heap} {locs : List Loc} {cells slots : Nat} {Q : State → Prop} {pc : Nat} {ls : Array Slot} {rest : List Value}
theorem lam_get (hexec : p.tables.exec = Jvm.exec) {index cF b : Nat} {cell : Cell} {v : Value} (hr : ∀ vm₁, s.WarmedH vm₁ → ∃ field : Field, vm₁.fieldReady m.cls index cF field ∧ field.isStatic = false ∧ cell.slots[field.slot]? = some v) (hcell : H[b]? = some cell) (hkn : cell.vm ≠ .unknown)
    (hdg : decode c.code pc = .ok (.getfield index, 3)) (k : W p l e R s m args below meth c H locs cells slots Q (F0 m (pc + 3) ls (v :: rest))) : W p l e R s m args below meth c H locs cells slots Q (F0 m pc ls (.ref b :: rest)) := by
  intro T hT X
  obtain ⟨field, hr1, hst, hv⟩ := hr _ X.warmed
  obtain ⟨t, a1, b1⟩ := k T hT X
  refine ⟨t, Steps.trans ?_ a1, b1⟩
  jvm_step X.here [hexec, hdg, getfield.wp_ready (e := e) (s := T) (c := cF) (field := field) (a := b) (rest := rest) (cell := cell) (v := v) (f := F0 m pc ls (.ref b :: rest)) X.here.top hr1 hst rfl (by rw [hT]; exact hcell) hkn hv]
  exact Steps.refl _
/-- the call out of a forwarder -/
theorem lam_run (hexec : p.tables.exec = Jvm.exec) {index mc ms : Nat} {y : MethodName} {Pc : Array Value → State → Prop} {Qc : Array Value → State → Outcome → State → Prop} {XC : String → State → State → Prop} {free : Addr → Prop} {As : List Value}
    (hsz : ls.size = c.maxLocals) (hK : vx_Back l R p e below s args y 3 8 (PreOf R mc ms Pc) (PostOf Qc mc ms free) (vx_Post XC mc ms free))
    (hf : ∀ T : State, s.WarmedH T.vm → ∃ (t : MethodId) (kt : Class) (metht : Method), plainRef T e m.cls index ∧ T.vm.methodReady m.cls index t ∧ T.vm.classes[t.cls]? = some kt ∧ T.vm.method? t = some metht ∧ signaturePolymorphic kt metht = false ∧ metht.isStatic = true ∧ kt.init = .initialized ∧ As.length = metht.sig.parameters.length ∧ T.methodNamed? y = some t)
    (hpre : ∀ T : State, T.heap = H → s.WarmedH T.vm → Pc As.toArray T) (hcells : cells + mc ≤ R.cells ∧ slots + ms ≤ R.slots) (hW : (rest.map fun v => v.category).sum ≤ 8) (hdg : decode c.code pc = .ok (.invokestatic index, 3)) :
    vx_Run p l e R s m args below meth c H locs cells slots mc ms (F0 m pc ls (As.reverse ++ rest)) rest (Qc As.toArray) XC free := by
  intro T hT X
  obtain ⟨t0, kt, metht, f1, f2, f3, f4, f5, f6, f7, f8, f9⟩ := hf T X.warmed
  have step : Steps p.tables e below (T.setTop (F0 m pc ls (As.reverse ++ rest))) (doInvoke e (T.setTop (F0 m pc ls rest)) [] t0 As.toArray).1 := by
    jvm_step X.here [hexec, hdg, invokestatic.wp_ready (e := e) (s := T) (m := t0) (k := kt) (meth := metht) (args := As) (rest := rest) (f := F0 m pc ls (As.reverse ++ rest)) X.here.top f1 f2 f3 f4 f5 f6 f7 f8 rfl]
    intro acts
    rw [doInvoke_state]
    exact Steps.refl _
  rcases hK m meth c ⟨T, locs, cells, slots⟩ (F0 m pc ls rest) (.invokestatic index) t0 As.toArray X rfl hsz hdg (by show 2 * 0 + (rest.map fun v => v.category).sum ≤ 8; omega) f9 ⟨hcells.1, hcells.2, hpre T hT X.warmed⟩ with ⟨v, ⟨U', l2, c2, s2⟩, X', ⟨g', mk, t, L, e1, e2, hq, h1, hL, h2, h3⟩, st⟩ | ⟨q, ⟨U', l2, c2, s2⟩, X', ⟨g', mk, t, L, E, ce, e1, e2, hq, hce, hcv, hcl, h1, hL, h2, h3⟩, st⟩
  · dsimp only [Pt.U, Pt.locs, Pt.cells, Pt.slots] at X' e1 e2 h1 h2 h3 st
    subst h1; subst h2; subst h3
    exact Or.inl ⟨v, T.calling g' mk As.toArray, t, U', L, hT, X', hL, e1, e2, hq, fun target h => step.trans (st.trans h)⟩
  · dsimp only [Pt.U, Pt.locs, Pt.cells, Pt.slots] at X' e1 e2 h1 h2 h3 st hcl
    subst h1; subst h2; subst h3
    exact Or.inr ⟨q, T.calling g' mk As.toArray, t, U', L, E, ce, hT, X', hL, e1, e2, hq, hce, hcv, by rw [← X.warmed.alike.findClass]; exact hcl, step.trans st⟩
/-- into a made class's method and out of it -/
theorem lam_thru {T : State} (X : Stand p l e R s m args below meth c T locs cells slots) {g : JFrame} (hg : g.method = m) (hsize : g.locals.size = c.maxLocals) {ig : Instr} {len : Nat} (hdg : decode c.code g.pc = .ok (ig, len))
    (hmk : T.vm.method? mk = some methk) (hck : methk.code = some ck) (hlk : methk.locks = false) (hpk : T.plainMethod mk)
    (hframes : R'.frames + 1 ≤ R.frames) (hlocals : 2 * g.monitorRoom + (g.stack.map fun v => v.category).sum + (ck.maxLocals + 11) + R'.locals ≤ R.locals) (hcells : cells + R'.cells ≤ R.cells) (hslots : slots + R'.slots ≤ R.slots)
    {Qc : Array Value → State → Outcome → State → Prop} {mc ms : Nat} {free : Addr → Prop}
    (kW : ∀ U₀ : State, U₀.heap = T.heap → U₀.vm = T.vm → Stand p l e R' (T.calling g mk a) mk a (.java g :: below) methk ck U₀ [] 0 0 → ∃ t, Steps p.tables e (.java g :: below) (U₀.setTop (entryFrame mk a ck.maxLocals)) t ∧ vx_MQ (.java g :: below) Qc (fun _ _ _ => False) a (T.calling g mk a) mc ms free t) :
    ∃ (v : Option Value) (t T' : State) (L : List Loc), Stand p l e R s m args below meth c T' (locs ++ L) (cells + mc) (slots + ms) ∧ (∀ q ∈ L, free q.base) ∧ T'.heap = t.heap ∧ T'.vm = t.vm ∧ Qc a (T.calling g mk a) (.returned v) t ∧
      ∀ acts, Steps p.tables e below (doInvoke e (T.setTop g) acts mk a).1 (T'.setTop { g with pc := g.pc + len, stack := v.toList ++ g.stack }) := by
  obtain ⟨Y₀, hin⟩ := X.into hg hsize hdg a (R' := R') hmk hck hlk hpk hframes hlocals hcells hslots
  obtain ⟨t, hst, o, -, hend, hq⟩ := kW ((T.setTop g).pushFrame (.java (entryFrame mk a ck.maxLocals))) rfl rfl Y₀
  rcases hq with ⟨hQ, L, ⟨⟨v, hv⟩, hWe, hsame⟩, hL⟩ | ⟨q, -, E, ce, L, hf, -⟩
  · subst hv
    obtain ⟨T', X', -, -, ht⟩ := X.outOf hg hdg hend hWe hsame
    refine ⟨v, t, T', L, X', hL, (congrArg State.heap ht).symm, (congrArg State.vm ht).symm, hQ, fun acts => ?_⟩
    rw [hin acts, ← ht]
    exact Steps.weaken (mid := [.java g]) hst
  · exact hf.elim
/-- a forwarder's end: the call, its int given back -/
theorem lam_tail {G : zG} {mc ms : Nat} {As : List Value} {rt : FieldType} {Q' : zR → zH → Prop} (hexec : p.tables.exec = Jvm.exec) (hsz : ls.size = c.maxLocals)
    (hr : vx_Run p l e R s m args below meth c H locs cells slots mc ms (F0 m pc ls (As.reverse ++ [])) [] (zQc G Q' As.toArray) (zXC G Q') (zfree G)) (hret : meth.sig.returnType = some rt)
    (hv : ∀ v h', Q' (.inl v) h' → ∃ w, v = some (.int w) ∧ narrow rt (.int w) = .int w) (hx : ∀ E h', ¬ Q' (.inr E) h') (hl : ∀ z ∈ locs, zfree G z.base) (hd : decode c.code (pc + 3) = .ok (.ireturn, 1)) (hlk : meth.locks = false) :
    W p l e R s m args below meth c H locs cells slots (vx_MQ below (zQc G Q') (fun _ _ _ => False) args s (cells + mc) (slots + ms) (zfree G)) (F0 m pc ls (As.reverse ++ [])) := by
  intro T hT X
  rcases hr T hT X with ⟨v, st₀, t, T', L, h0, X', hL, e1, e2, ⟨v', h', ev, hQ, hH'⟩, st9⟩ | ⟨q, st₀, t, T', L, E, ce, h0, X', hL, e1, e2, ⟨h', hQ, -⟩, -⟩
  · cases ev
    obtain ⟨w, rfl, hw⟩ := hv v h' hQ
    have hal : s.vm.Alike t.vm := by rw [← e2]; exact X'.warmed.alike
    have k : W p l e R s m args below meth c T'.heap (locs ++ L) (cells + mc) (slots + ms) (vx_MQ below (zQc G Q') (fun _ _ _ => False) args s (cells + mc) (slots + ms) (zfree G)) (F0 m (pc + 3) ls [.int w]) :=
      vx_ret (W.zret hexec rfl hret hw (fun t2 ht2 hW2 => ⟨_, h', rfl, hQ, by rw [ht2, e1]; exact (hH'.moved hal.symm).moved hW2.alike⟩) (fun z hz => (List.mem_append.mp hz).elim (hl z) (hL z)) hd hlk)
    obtain ⟨t2, a1, b1⟩ := k T' rfl X'
    exact ⟨t2, st9 t2 a1, b1⟩
  · exact absurd hQ (hx E h')
end
