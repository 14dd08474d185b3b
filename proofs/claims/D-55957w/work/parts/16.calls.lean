/-! ROWS: calls. A callee is known by its contract zK; what comes behind it is a judgement at the next instruction. -/
section
set_option maxRecDepth 100000
variable {G : zG} {M N : zM} {d d' r r' pc pc' : Nat} {L L' st st0 rest As : List Value} {h : zH} {Q Q' : zR → zH → Prop}
def zPc (G : zG) (As : List Value) (h : zH) : Array Value → State → Prop := fun v U => v = As.toArray ∧ zTb G U ∧ zHp G U h U.heap
theorem zPc.blind : FrameBlind (zPc G As h) := fun a U g mk q => ⟨q.1, q.2.1.moved (U := U.calling g mk a) (State.WarmedH.refl U), q.2.2.moved (u := U) (U := U.calling g mk a) (Vm.Alike.refl U.vm)⟩
theorem zho_cat : zho.category = 1 := rfl
theorem lg_sl1 : ∀ (vs : List Value), (∀ v ∈ vs, v.category = 1) → lg_sl vs = vs.map Slot.val
  | [], _ => rfl
  | v :: vs, hc => by
    have h1 : v.category = 1 := hc v List.mem_cons_self
    have ih := lg_sl1 vs (fun w hw => hc w (List.mem_cons_of_mem _ hw))
    unfold lg_sl at ih ⊢
    rw [List.flatMap_cons, ih, h1]
    rfl
theorem zL.entry {n : Nat} (hc : ∀ v ∈ As, v.category = 1) (hn : As.length ≤ n) : zL ((lg_sl As ++ List.replicate (n - (lg_sl As).length) Slot.unset).toArray) n (As ++ List.replicate (n - As.length) zho) := by
  have e := lg_sl1 As hc
  have hlen : (lg_sl As).length = As.length := by rw [e, List.length_map]
  have h1 := lv_entry As (n := n) (by rw [hlen]; exact hn)
  refine ⟨h1.1, by simp; omega, h1.2.1, fun v hv => ?_, fun i v hv hz => ?_⟩
  · rcases List.mem_append.mp hv with q | q
    · exact hc v q
    · rw [(List.mem_replicate.mp q).2]; rfl
  · by_cases hi : i < As.length
    · rw [List.getElem?_append_left hi] at hv
      rw [List.getElem?_toArray, List.getElem?_append_left (by rw [hlen]; exact hi), e, List.getElem?_map, hv]
      rfl
    · rw [List.getElem?_append_right (by omega)] at hv
      exact absurd (List.mem_replicate.mp (List.mem_of_getElem? hv)).2 hz
/-- a method that the tables hold -/
def zMw (N : zM) : Prop := (zm_h N = [] ∧ Cond.code (zm_y N) (zm_c N) (zm_n N) (zm_r N) ∈ lw_tbl) ∧ Cond.initialized (zm_y N).cls ∈ lw_tbl ∧ plainName (zm_y N).cls = true ∧ ((zm_y N).cls ≠ "java/lang/invoke/MethodHandle" ∧ (zm_y N).cls ≠ "java/lang/invoke/VarHandle") ∧ zm_n N ≤ 100
/-- the same for one with handlers -/
def zMwH (N : zM) : Prop := Cond.codeWith (zm_y N) (zm_c N) (zm_n N) (zm_r N) (zm_h N) ∈ lw_tbl ∧ Cond.initialized (zm_y N).cls ∈ lw_tbl ∧ plainName (zm_y N).cls = true ∧ ((zm_y N).cls ≠ "java/lang/invoke/MethodHandle" ∧ (zm_y N).cls ≠ "java/lang/invoke/VarHandle") ∧ zm_n N ≤ 100
abbrev zRm (d r : Nat) : Room := { frames := d, cells := r, slots := 4 * r, locals := 128 * d }
theorem zK.met (hm : zMw N) (hc : ∀ v ∈ As, v.category = 1) (hn : As.length ≤ zm_n N) (hK : zK G N d r As h Q) : vx_Met (zg_l G) (zm_y N) [Cond.code (zm_y N) (zm_c N) (zm_n N) (zm_r N)] (zRm d r) (zPc G As h) (zQc G Q) (zXC G Q) r (4 * r) (zfree G) := by
  refine vx_ofW hm.2.2.1 rfl ?_
  intro p e s m args below meth c s₁ B hml htab hP
  obtain ⟨rfl, hT, hH⟩ := hP
  rw [lg_entry_eq]
  have htl : c.exceptionTable.toList = [] := List.eq_nil_iff_forall_not_mem.mpr fun x hx => htab x hx
  have A : zAct G N d p (zRm d r) s m meth c := ⟨B.exec, B.bytes, B.returns, hml, findClass_of_methodNamed B.named, B.notSynchronized, by rw [htl, hm.1.1]; rfl, (name_of_methodNamed B.named B.method).1, hT, ⟨Nat.le_refl _, Nat.le_refl _⟩, B.named, hH.2.1, hH.2.2⟩
  exact hK p e (zRm d r) s m _ below meth c A s.heap [] 0 0 _ hH (fun z hz => by cases hz) (by rw [Nat.zero_add]; exact Nat.le_refl r) (by rw [Nat.zero_add]; exact Nat.le_refl (4 * r)) (zL.entry hc hn)
theorem zK.metH (hm : zMwH N) (hc : ∀ v ∈ As, v.category = 1) (hn : As.length ≤ zm_n N) (hK : zK G N d r As h Q) : vx_Met (zg_l G) (zm_y N) [Cond.codeWith (zm_y N) (zm_c N) (zm_n N) (zm_r N) (zm_h N)] (zRm d r) (zPc G As h) (zQc G Q) (zXC G Q) r (4 * r) (zfree G) := by
  refine vx_ofWH hm.2.2.1 rfl ?_
  intro p e s m args below meth c s₁ B hml hP
  obtain ⟨rfl, hT, hH⟩ := hP
  rw [lg_entry_eq]
  have htl : c.exceptionTable.toList = tableOf (zm_h N) := vx_table (y := zm_y N) (bytes := zm_c N) (maxL' := zm_n N) (ret' := zm_r N) (x := zm_y N) B (hT.w (A := As.toArray) hm.1 rfl)
  have A : zAct G N d p (zRm d r) s m meth c := ⟨B.exec, B.bytes, B.returns, hml, findClass_of_methodNamed B.named, B.notSynchronized, htl, (name_of_methodNamed B.named B.method).1, hT, ⟨Nat.le_refl _, Nat.le_refl _⟩, B.named, hH.2.1, hH.2.2⟩
  exact hK p e (zRm d r) s m _ below meth c A s.heap [] 0 0 _ hH (fun z hz => by cases hz) (by rw [Nat.zero_add]; exact Nat.le_refl r) (by rw [Nat.zero_add]; exact Nat.le_refl (4 * r)) (zL.entry hc hn)
theorem zgo {p : Program} {e : Env} {R : Room} {s : State} {m : MethodId} {args : Array Value} {below : List Frame} {meth : Method} {c : Code} {H : Heap} {locs : List Loc} {cells slots : Nat} {ls : Array Slot} {a : Array Value} (A : zAct G M d p R s m meth c)
    (hr : vx_Run p (zg_l G) e R s m args below meth c H locs cells slots r' (4 * r') (F0 m pc ls st0) rest (zQc G Q' a) (zXC G Q') (zfree G)) (hl : ∀ z ∈ locs, (zg_H G).size ≤ z.base) (hc : cells + (r + r') ≤ R.cells) (hs : slots + 4 * (r + r') ≤ R.slots) (hL : zL ls (zm_n M) L)
    (kk : ∀ v h', Q' (.inl v) h' → zW G M d r (pc + 3) L (v.toList ++ rest) h' Q) (kx : ∀ E h', Q' (.inr E) h' → zX G M d r pc L E h' Q) :
    W p (zg_l G) e R s m args below meth c H locs cells slots (vx_MQ below (zQc G Q) (zXC G Q) args s R.cells R.slots (zfree G)) (F0 m pc ls st0) := by
  intro T hT X
  have hap : ∀ {L9 : List Loc}, (∀ q ∈ L9, zfree G q.base) → ∀ z ∈ locs ++ L9, (zg_H G).size ≤ z.base := fun hL9 z hz => (List.mem_append.mp hz).elim (hl z) (hL9 z)
  rcases hr T hT X with ⟨v, st₀, t, T', L9, h0, X', hL9, e1, e2, ⟨v', h', ev, hQ, hH'⟩, st9⟩ | ⟨q, st₀, t, T', L9, E, ce, h0, X', hL9, e1, e2, ⟨h', hQ, hH'⟩, hce, hcv, hcl, st9⟩
  · cases ev
    have hal : s.vm.Alike t.vm := by rw [← e2]; exact X'.warmed.alike
    obtain ⟨t2, a1, b1⟩ := kk v h' hQ p e R s m args below meth c A T'.heap (locs ++ L9) (cells + r') (slots + 4 * r') ls (by rw [e1]; exact hH'.moved hal.symm) (hap hL9) (by omega) (by omega) hL T' rfl X'
    exact ⟨t2, st9 t2 a1, b1⟩
  · have hal : s.vm.Alike t.vm := by rw [← e2]; exact X'.warmed.alike
    obtain ⟨t2, a1, b1⟩ := kx E h' hQ p e R s m args below meth c A T'.heap (locs ++ L9) (cells + r') (slots + 4 * r') ls rest q ce (by rw [e1]; exact hH'.moved hal.symm) (hap hL9) (by omega) (by omega) hL (by rw [e1]; exact hce) hcv hcl T' rfl X'
    exact ⟨t2, st9.trans a1, b1⟩
theorem zgo5 {p : Program} {e : Env} {R : Room} {s : State} {m : MethodId} {args : Array Value} {below : List Frame} {meth : Method} {c : Code} {H : Heap} {locs : List Loc} {cells slots : Nat} {ls : Array Slot} {a : Array Value} (A : zAct G M d p R s m meth c)
    (hr : vx_Run5 p (zg_l G) e R s m args below meth c H locs cells slots r' (4 * r') (F0 m pc ls st0) rest (zQc G Q' a) (zXC G Q') (zfree G)) (hl : ∀ z ∈ locs, (zg_H G).size ≤ z.base) (hc : cells + (r + r') ≤ R.cells) (hs : slots + 4 * (r + r') ≤ R.slots) (hL : zL ls (zm_n M) L)
    (kk : ∀ v h', Q' (.inl v) h' → zW G M d r (pc + 5) L (v.toList ++ rest) h' Q) (kx : ∀ E h', Q' (.inr E) h' → zX G M d r pc L E h' Q) :
    W p (zg_l G) e R s m args below meth c H locs cells slots (vx_MQ below (zQc G Q) (zXC G Q) args s R.cells R.slots (zfree G)) (F0 m pc ls st0) := by
  intro T hT X
  have hap : ∀ {L9 : List Loc}, (∀ q ∈ L9, zfree G q.base) → ∀ z ∈ locs ++ L9, (zg_H G).size ≤ z.base := fun hL9 z hz => (List.mem_append.mp hz).elim (hl z) (hL9 z)
  rcases hr T hT X with ⟨v, st₀, t, T', L9, h0, X', hL9, e1, e2, ⟨v', h', ev, hQ, hH'⟩, st9⟩ | ⟨q, st₀, t, T', L9, E, ce, h0, X', hL9, e1, e2, ⟨h', hQ, hH'⟩, hce, hcv, hcl, st9⟩
  · cases ev
    have hal : s.vm.Alike t.vm := by rw [← e2]; exact X'.warmed.alike
    obtain ⟨t2, a1, b1⟩ := kk v h' hQ p e R s m args below meth c A T'.heap (locs ++ L9) (cells + r') (slots + 4 * r') ls (by rw [e1]; exact hH'.moved hal.symm) (hap hL9) (by omega) (by omega) hL T' rfl X'
    exact ⟨t2, st9 t2 a1, b1⟩
  · have hal : s.vm.Alike t.vm := by rw [← e2]; exact X'.warmed.alike
    obtain ⟨t2, a1, b1⟩ := kx E h' hQ p e R s m args below meth c A T'.heap (locs ++ L9) (cells + r') (slots + 4 * r') ls rest q ce (by rw [e1]; exact hH'.moved hal.symm) (hap hL9) (by omega) (by omega) hL (by rw [e1]; exact hce) hcv hcl T' rfl X'
    exact ⟨t2, st9.trans a1, b1⟩
/-- a method's descriptor has n parameters -/
def zNp (y : MethodName) (n : Nat) : Prop := (parseMethodDescriptor y.desc).map (fun d => d.parameters.length) = some n
theorem zNp.len {y : MethodName} {n : Nat} (hn : zNp y n) : ∀ sig, parseMethodDescriptor y.desc = some sig → n = sig.parameters.length := by
  intro sig hs
  unfold zNp at hn
  rw [hs] at hn
  exact (Option.some.inj hn).symm
theorem zws {s : State} (hT : zTb G s) {w : Cond} (hw : w ∈ lw_tbl) (hg : zgood w = true) : ∀ w' ∈ [w], ∀ (a' : Array Value) (U : State), s.WarmedH U.vm → w'.before a' U = true := by
  intro w' hw' a' U hW
  rw [List.mem_singleton] at hw'
  subst hw'
  exact zword_moved hg hW (hT.w (A := #[]) hw hg)
theorem zAct.rm {p : Program} {R : Room} {s : State} {m : MethodId} {meth : Method} {c : Code} (A : zAct G M d p R s m meth c) (hd : d' + 1 ≤ d) {n : Nat} (hn : n ≤ 100) : (zRm d' r').frames + 1 ≤ R.frames ∧ 8 + (n + 11) + (zRm d' r').locals ≤ R.locals := by
  have h1 := A.2.2.2.2.2.2.2.2.2.1
  exact ⟨by show d' + 1 ≤ _; omega, by show 8 + (n + 11) + 128 * d' ≤ _; omega⟩
theorem zAct.fix {p : Program} {R : Room} {s : State} {m : MethodId} {meth : Method} {c : Code} {args : Array Value} (A : zAct G M d p R s m meth c) : CallFix p m c (zm_c M) (zm_n M) s args [] (zm_y M).cls := ⟨A.1, A.2.1, A.2.2.2.1, A.own, fun w hw => by cases hw⟩
theorem zPreV {s : State} {H : Heap} {b : Nat} {C : String} (hT : zTb G s) (hH : zHp G s h H) (hr : ∃ cell : Cell, H[b]? = some cell ∧ cell.vm.isStatics = false ∧ s.vm.findClass C = some cell.cls) : PreV s H C b (zPc G (.ref b :: As) h) As :=
  ⟨zPc.blind, hr, fun U hU hW => ⟨rfl, hT.moved hW, by rw [hU]; exact hH.moved hW.alike⟩⟩
theorem zPreS {s : State} {H : Heap} (hT : zTb G s) (hH : zHp G s h H) : PreS s H (zPc G As h) As :=
  ⟨zPc.blind, fun U hU hW => ⟨rfl, hT.moved hW, by rw [hU]; exact hH.moved hW.alike⟩⟩
/-- invokevirtual, the method of the receiver's own class -/
def zCV (own : String) (idx : Nat) (N : zM) (n : Nat) : Prop := zMw N ∧ zNp (zm_y N) n ∧ Cond.methodLink own idx (zm_y N) ∈ lw_tbl ∧ Cond.instanceMethod (zm_y N) ∈ lw_tbl ∧ Cond.selects (zm_y N).cls (zm_y N) (zm_y N) ∈ lw_tbl
theorem zW.callV {idx n b kk ci : Nat} {fs : List Value} {T : u_T} {NF : Nat} (hd : decode (zm_c M) pc = .ok (.invokevirtual idx, 3)) (hn : pc + 3 = pc') (hcw : zCV (zm_y M).cls idx N n) (hst : st0 = As.reverse ++ .ref b :: rest) (hh : h b = some (kk, fs)) (hk : kk % 1000 = ci ∧ ci < 50) (hci : zcl[ci]? = some ((zm_y N).cls, T, NF))
    (hK : zK G N d' r' (.ref b :: As) h Q') (hc1 : ∀ v ∈ As, v.category = 1) (hlen : As.length = n) (hln : n + 1 ≤ zm_n N) (hdd : d' + 1 ≤ d) (hW : (rest.map fun v => v.category).sum ≤ 8)
    (kq : ∀ v h', Q' (.inl v) h' → zW G M d r pc' L (v.toList ++ rest) h' Q) (kx : ∀ E h', Q' (.inr E) h' → zX G M d r pc L E h' Q) : zW G M d (r + r') pc L st0 h Q := by
  subst hn; subst hst; subst hlen
  obtain ⟨hm, hnp, hl1, hl2, hl3⟩ := hcw
  intro p e R s m args below meth c A H locs cells slots ls hH hl hc hs hL
  have hT := A.tb
  obtain ⟨hr1, hr2⟩ := A.rm (r' := r') hdd hm.2.2.2.2
  exact zgo A (vx_runV A.fix (zK.met hm (List.forall_mem_cons.mpr ⟨rfl, hc1⟩) (by simp only [List.length_cons]; omega) hK) (C := (zm_y N).cls) (index := idx)
    ⟨⟨rfl, rfl, hr1, hr2, zws hT hm.1.2 rfl, List.mem_singleton.mpr rfl, hT.w hm.1.2 rfl, hT.w hm.2.1 rfl, hm.2.2.2.1, hnp.len, hT.w hl1 rfl⟩, hT.w hl2 rfl, hT.w hl3 rfl⟩
    (zPreV hT hH (zrecv hT hH hh hk hci)) rfl rfl hL.1 rfl (lv_room hW) hd ⟨by omega, by omega⟩) hl hc hs hL kq kx
/-- a constructor -/
def zCI (own : String) (idx : Nat) (N : zM) (n : Nat) : Prop := zMw N ∧ zNp (zm_y N) n ∧ Cond.methodLink own idx (zm_y N) ∈ lw_tbl ∧ Cond.instanceMethod (zm_y N) ∈ lw_tbl ∧ (zm_y N).name = "<init>" ∧ zm_r N = none
theorem zW.callI {idx n b : Nat} (hd : decode (zm_c M) pc = .ok (.invokespecial idx, 3)) (hn : pc + 3 = pc') (hcw : zCI (zm_y M).cls idx N n) (hst : st0 = As.reverse ++ .ref b :: rest)
    (hK : zK G N d' r' (.ref b :: As) h Q') (hc1 : ∀ v ∈ As, v.category = 1) (hlen : As.length = n) (hln : n + 1 ≤ zm_n N) (hdd : d' + 1 ≤ d) (hW : (rest.map fun v => v.category).sum ≤ 8)
    (kq : ∀ v h', Q' (.inl v) h' → zW G M d r pc' L (v.toList ++ rest) h' Q) (kx : ∀ E h', Q' (.inr E) h' → zX G M d r pc L E h' Q) : zW G M d (r + r') pc L st0 h Q := by
  subst hn; subst hst; subst hlen
  obtain ⟨hm, hnp, hl1, hl2, hl3, hl4⟩ := hcw
  intro p e R s m args below meth c A H locs cells slots ls hH hl hc hs hL
  have hT := A.tb
  obtain ⟨hr1, hr2⟩ := A.rm (r' := r') hdd hm.2.2.2.2
  have hmc := hm.1.2
  rw [hl4] at hmc
  have hM := zK.met hm (List.forall_mem_cons.mpr ⟨rfl, hc1⟩) (by simp only [List.length_cons]; omega) hK
  rw [hl4] at hM
  exact zgo A (vx_runI A.fix hM (index := idx)
    ⟨⟨rfl, rfl, hr1, hr2, zws hT hmc rfl, List.mem_singleton.mpr rfl, hT.w hmc rfl, hT.w hm.2.1 rfl, hm.2.2.2.1, hnp.len, hT.w hl1 rfl⟩, hl3, hT.w hl2 rfl⟩
    (zPreS hT hH) rfl rfl hL.1 rfl (lv_room hW) hd ⟨by omega, by omega⟩) hl hc hs hL kq kx
/-- a static method -/
def zCS (own : String) (idx : Nat) (N : zM) (n : Nat) : Prop := zMw N ∧ zNp (zm_y N) n ∧ Cond.methodLink own idx (zm_y N) ∈ lw_tbl ∧ Cond.static (zm_y N) ∈ lw_tbl
theorem zW.callS {idx n : Nat} (hd : decode (zm_c M) pc = .ok (.invokestatic idx, 3)) (hn : pc + 3 = pc') (hcw : zCS (zm_y M).cls idx N n) (hst : st0 = As.reverse ++ rest)
    (hK : zK G N d' r' As h Q') (hc1 : ∀ v ∈ As, v.category = 1) (hlen : As.length = n) (hln : n ≤ zm_n N) (hdd : d' + 1 ≤ d) (hW : (rest.map fun v => v.category).sum ≤ 8)
    (kq : ∀ v h', Q' (.inl v) h' → zW G M d r pc' L (v.toList ++ rest) h' Q) (kx : ∀ E h', Q' (.inr E) h' → zX G M d r pc L E h' Q) : zW G M d (r + r') pc L st0 h Q := by
  subst hn; subst hst; subst hlen
  obtain ⟨hm, hnp, hl1, hl2⟩ := hcw
  intro p e R s m args below meth c A H locs cells slots ls hH hl hc hs hL
  have hT := A.tb
  obtain ⟨hr1, hr2⟩ := A.rm (r' := r') hdd hm.2.2.2.2
  exact zgo A (vx_runS A.fix (zK.met hm hc1 hln hK) (index := idx)
    ⟨⟨rfl, rfl, hr1, hr2, zws hT hm.1.2 rfl, List.mem_singleton.mpr rfl, hT.w hm.1.2 rfl, hT.w hm.2.1 rfl, hm.2.2.2.1, hnp.len, hT.w hl1 rfl⟩, hT.w hl2 rfl⟩
    (zPreS hT hH) rfl rfl hL.1 rfl (lv_room hW) hd ⟨by omega, by omega⟩) hl hc hs hL kq kx
/-- a static method of a nest mate -/
def zCSN (own : String) (idx : Nat) (N : zM) (n : Nat) (host : String) : Prop := zMw N ∧ zNp (zm_y N) n ∧ Cond.methodLinkNest own idx (zm_y N) host ∈ lw_tbl ∧ Cond.static (zm_y N) ∈ lw_tbl
theorem zW.callSN {idx n : Nat} {host : String} (hd : decode (zm_c M) pc = .ok (.invokestatic idx, 3)) (hn : pc + 3 = pc') (hcw : zCSN (zm_y M).cls idx N n host) (hst : st0 = As.reverse ++ rest)
    (hK : zK G N d' r' As h Q') (hc1 : ∀ v ∈ As, v.category = 1) (hlen : As.length = n) (hln : n ≤ zm_n N) (hdd : d' + 1 ≤ d) (hW : (rest.map fun v => v.category).sum ≤ 8)
    (kq : ∀ v h', Q' (.inl v) h' → zW G M d r pc' L (v.toList ++ rest) h' Q) (kx : ∀ E h', Q' (.inr E) h' → zX G M d r pc L E h' Q) : zW G M d (r + r') pc L st0 h Q := by
  subst hn; subst hst; subst hlen
  obtain ⟨hm, hnp, hl1, hl2⟩ := hcw
  intro p e R s m args below meth c A H locs cells slots ls hH hl hc hs hL
  have hT := A.tb
  obtain ⟨hr1, hr2⟩ := A.rm (r' := r') hdd hm.2.2.2.2
  exact zgo A (vx_runSN A.fix (zK.met hm hc1 hln hK) (index := idx)
    ⟨⟨⟨rfl, rfl, hr1, hr2, zws hT hm.1.2 rfl, List.mem_singleton.mpr rfl⟩, hT.w hm.1.2 rfl, hT.w hm.2.1 rfl, hm.2.2.2.1, hnp.len, hT.w hl1 rfl⟩, hT.w hl2 rfl, trivial⟩
    (zPreS hT hH) rfl rfl hL.1 rfl (lv_room hW) hd ⟨by omega, by omega⟩) hl hc hs hL kq kx
/-- invokespecial of the superclass's method -/
def zCSU (own : String) (idx : Nat) (N : zM) (n : Nat) : Prop := zMw N ∧ zNp (zm_y N) n ∧ Cond.methodLink own idx (zm_y N) ∈ lw_tbl ∧ Cond.sameMethod (zm_y N).cls (zm_y N).cls (zm_y N).name (zm_y N).desc ∈ lw_tbl ∧ Cond.superclass own (zm_y N).cls ∈ lw_tbl ∧ Cond.instanceMethod (zm_y N) ∈ lw_tbl ∧ (zm_y N).name ≠ "<init>"
theorem zW.callSU {idx n b kk ci : Nat} {fs : List Value} {rr : vw_C} (hd : decode (zm_c M) pc = .ok (.invokespecial idx, 3)) (hn : pc + 3 = pc') (hcw : zCSU (zm_y M).cls idx N n) (hst : st0 = As.reverse ++ .ref b :: rest) (hh : h b = some (kk, fs)) (hk : kk % 1000 = ci ∧ ci < 50) (hci : zcl[ci]? = some rr)
    (hK : zK G N d' r' (.ref b :: As) h Q') (hc1 : ∀ v ∈ As, v.category = 1) (hlen : As.length = n) (hln : n + 1 ≤ zm_n N) (hdd : d' + 1 ≤ d) (hW : (rest.map fun v => v.category).sum ≤ 8)
    (kq : ∀ v h', Q' (.inl v) h' → zW G M d r pc' L (v.toList ++ rest) h' Q) (kx : ∀ E h', Q' (.inr E) h' → zX G M d r pc L E h' Q) : zW G M d (r + r') pc L st0 h Q := by
  subst hn; subst hst; subst hlen
  obtain ⟨hm, hnp, hl1, hl2, hl3, hl4, hl5⟩ := hcw
  intro p e R s m args below meth c A H locs cells slots ls hH hl hc hs hL
  have hT := A.tb
  obtain ⟨hr1, hr2⟩ := A.rm (r' := r') hdd hm.2.2.2.2
  exact zgo A (vx_runSU (hT.2.1 ci _ hci).2 A.fix (zK.met hm (List.forall_mem_cons.mpr ⟨rfl, hc1⟩) (by simp only [List.length_cons]; omega) hK) (index := idx)
    ⟨⟨rfl, rfl, hr1, hr2, zws hT hm.1.2 rfl, List.mem_singleton.mpr rfl⟩, hT.w hl1 rfl, hT.w hl2 rfl, hT.w hl3 rfl, hT.w hl4 rfl, hT.w hm.2.1 rfl, hT.w hm.1.2 rfl, hl5, hnp.len⟩
    (zPreV hT hH (zrecv hT hH hh hk hci)) rfl rfl hL.1 rfl (lv_room hW) hd ⟨by omega, by omega⟩) hl hc hs hL kq kx
/-- invokevirtual of a method x, for a receiver of class C that runs N: what the reference finds is declared by owner -/
def zCU (own : String) (idx : Nat) (C owner : String) (x : MethodName) (N : zM) (n : Nat) : Prop := zMw N ∧ zNp x n ∧ Cond.methodLink own idx x ∈ lw_tbl ∧ Cond.sameMethod x.cls owner x.name x.desc ∈ lw_tbl ∧ Cond.selects C x (zm_y N) ∈ lw_tbl ∧ Cond.instanceMethod (zm_y N) ∈ lw_tbl ∧ (owner ≠ "java/lang/invoke/MethodHandle" ∧ owner ≠ "java/lang/invoke/VarHandle") ∧ ((Cond.instanceMethod ⟨owner, x.name, x.desc⟩ ∈ lw_tbl ∧ ∃ b0 m0 r0, Cond.code ⟨owner, x.name, x.desc⟩ b0 m0 r0 ∈ lw_tbl) ∨ Cond.declares ⟨owner, x.name, x.desc⟩ ∈ lw_tbl)
theorem zW.callU {idx n b kk ci : Nat} {C owner : String} {x : MethodName} {fs : List Value} {T : u_T} {NF : Nat} (hd : decode (zm_c M) pc = .ok (.invokevirtual idx, 3)) (hn : pc + 3 = pc') (hcw : zCU (zm_y M).cls idx C owner x N n) (hst : st0 = As.reverse ++ .ref b :: rest) (hh : h b = some (kk, fs)) (hk : kk % 1000 = ci ∧ ci < 50) (hci : zcl[ci]? = some (C, T, NF))
    (hK : zK G N d' r' (.ref b :: As) h Q') (hc1 : ∀ v ∈ As, v.category = 1) (hlen : As.length = n) (hln : n + 1 ≤ zm_n N) (hdd : d' + 1 ≤ d) (hW : (rest.map fun v => v.category).sum ≤ 8)
    (kq : ∀ v h', Q' (.inl v) h' → zW G M d r pc' L (v.toList ++ rest) h' Q) (kx : ∀ E h', Q' (.inr E) h' → zX G M d r pc L E h' Q) : zW G M d (r + r') pc L st0 h Q := by
  subst hn; subst hst; subst hlen
  obtain ⟨hm, hnp, hl1, hl2, hl3, hl4, hl5, hl6⟩ := hcw
  intro p e R s m args below meth c A H locs cells slots ls hH hl hc hs hL
  have hT := A.tb
  obtain ⟨hr1, hr2⟩ := A.rm (r' := r') hdd hm.2.2.2.2
  have hdecl : va_Decl s ⟨owner, x.name, x.desc⟩ := by
    rcases hl6 with ⟨q1, b0, m0, r0, q2⟩ | q
    · exact va_Decl.of (args := args) (hT.w q1 rfl) (hT.w q2 rfl)
    · exact va_Decl.abs (hT.w (A := #[]) q rfl)
  exact zgo A (vx_runU A.fix (zK.met hm (List.forall_mem_cons.mpr ⟨rfl, hc1⟩) (by simp only [List.length_cons]; omega) hK) (C := C) (owner := owner) (x := x) (index := idx)
    ⟨⟨rfl, rfl, hr1, hr2, zws hT hm.1.2 rfl, List.mem_singleton.mpr rfl⟩, hT.w hm.1.2 rfl, hT.w hm.2.1 rfl, hl5, hnp.len, hT.w hl1 rfl, hT.w hl2 rfl, hdecl, hT.w hl3 rfl, hT.w hl4 rfl⟩
    (zPreV hT hH (zrecv hT hH hh hk hci)) rfl rfl hL.1 rfl (lv_room hW) hd ⟨by omega, by omega⟩) hl hc hs hL kq kx
/-- invokeinterface of x, for a receiver of class C that runs N -/
def zCFw (own : String) (idx : Nat) (C : String) (x : MethodName) (N : zM) (n : Nat) : Prop := zNp x n ∧ Cond.methodLink own idx x ∈ lw_tbl ∧ Cond.declares x ∈ lw_tbl ∧ (Cond.interfaceMethod x.cls x.cls x.name x.desc ∈ lw_tbl ∧ zgood (Cond.interfaceMethod x.cls x.cls x.name x.desc) = true) ∧ Cond.selects C x (zm_y N) ∈ lw_tbl ∧ Cond.instanceMethod (zm_y N) ∈ lw_tbl ∧ Cond.publicMethod (zm_y N) ∈ lw_tbl ∧ Cond.unhidden C x.name x.desc ∈ lw_tbl ∧ Cond.castable C x.cls ∈ lw_tbl ∧ (x.cls ≠ "java/lang/invoke/MethodHandle" ∧ x.cls ≠ "java/lang/invoke/VarHandle")
def zCF (own : String) (idx : Nat) (C : String) (x : MethodName) (N : zM) (n : Nat) : Prop := zMw N ∧ zCFw own idx C x N n
theorem zW.callF {idx cnt n b kk ci : Nat} {C : String} {x : MethodName} {fs : List Value} {T : u_T} {NF : Nat} (hd : decode (zm_c M) pc = .ok (.invokeinterface idx cnt, 5)) (hn : pc + 5 = pc') (hcw : zCF (zm_y M).cls idx C x N n) (hst : st0 = As.reverse ++ .ref b :: rest) (hh : h b = some (kk, fs)) (hk : kk % 1000 = ci ∧ ci < 50) (hci : zcl[ci]? = some (C, T, NF))
    (hK : zK G N d' r' (.ref b :: As) h Q') (hc1 : ∀ v ∈ As, v.category = 1) (hlen : As.length = n) (hln : n + 1 ≤ zm_n N) (hdd : d' + 1 ≤ d) (hW : (rest.map fun v => v.category).sum ≤ 8)
    (kq : ∀ v h', Q' (.inl v) h' → zW G M d r pc' L (v.toList ++ rest) h' Q) (kx : ∀ E h', Q' (.inr E) h' → zX G M d r pc L E h' Q) : zW G M d (r + r') pc L st0 h Q := by
  subst hn; subst hst; subst hlen
  obtain ⟨hm, hnp, hl1, hl2, hl3, hl4, hl5, hl6, hl7, hl8, hl9⟩ := hcw
  intro p e R s m args below meth c A H locs cells slots ls hH hl hc hs hL
  have hT := A.tb
  obtain ⟨hr1, hr2⟩ := A.rm (r' := r') hdd hm.2.2.2.2
  exact zgo5 A (vx_runF (hT.2.1 ci _ hci).2 A.fix (zK.met hm (List.forall_mem_cons.mpr ⟨rfl, hc1⟩) (by simp only [List.length_cons]; omega) hK) (C := C) (x := x) (index := idx)
    ⟨⟨rfl, rfl, hr1, hr2, zws hT hm.1.2 rfl, List.mem_singleton.mpr rfl⟩, hT.w hl1 rfl, hT.w hl2 rfl, hT.w hl3.1 hl3.2, hT.w hl4 rfl, hT.w hl5 rfl, hT.w hl6 rfl, hT.w hl7 rfl, hT.w hl8 rfl, hT.w hm.2.1 rfl, hT.w hm.1.2 rfl, hl9, hnp.len⟩
    (zPreV hT hH (zrecv hT hH hh hk hci)) rfl rfl hL.1 rfl (lv_room hW) hd ⟨by omega, by omega⟩) hl hc hs hL kq kx
def zCFH (own : String) (idx : Nat) (C : String) (x : MethodName) (N : zM) (n : Nat) : Prop := zMwH N ∧ zCFw own idx C x N n
theorem zW.callFH {idx cnt n b kk ci : Nat} {C : String} {x : MethodName} {fs : List Value} {T : u_T} {NF : Nat} (hd : decode (zm_c M) pc = .ok (.invokeinterface idx cnt, 5)) (hn : pc + 5 = pc') (hcw : zCFH (zm_y M).cls idx C x N n) (hst : st0 = As.reverse ++ .ref b :: rest) (hh : h b = some (kk, fs)) (hk : kk % 1000 = ci ∧ ci < 50) (hci : zcl[ci]? = some (C, T, NF))
    (hK : zK G N d' r' (.ref b :: As) h Q') (hc1 : ∀ v ∈ As, v.category = 1) (hlen : As.length = n) (hln : n + 1 ≤ zm_n N) (hdd : d' + 1 ≤ d) (hW : (rest.map fun v => v.category).sum ≤ 8)
    (kq : ∀ v h', Q' (.inl v) h' → zW G M d r pc' L (v.toList ++ rest) h' Q) (kx : ∀ E h', Q' (.inr E) h' → zX G M d r pc L E h' Q) : zW G M d (r + r') pc L st0 h Q := by
  subst hn; subst hst; subst hlen
  obtain ⟨hm, hnp, hl1, hl2, hl3, hl4, hl5, hl6, hl7, hl8, hl9⟩ := hcw
  intro p e R s m args below meth c A H locs cells slots ls hH hl hc hs hL
  have hT := A.tb
  obtain ⟨hr1, hr2⟩ := A.rm (r' := r') hdd hm.2.2.2.2
  exact zgo5 A (vx_runFW (hT.2.1 ci _ hci).2 A.fix (zK.metH hm (List.forall_mem_cons.mpr ⟨rfl, hc1⟩) (by simp only [List.length_cons]; omega) hK) (C := C) (x := x) (index := idx)
    ⟨⟨rfl, rfl, hr1, hr2, zws hT hm.1 rfl, List.mem_singleton.mpr rfl⟩, hT.w hl1 rfl, hT.w hl2 rfl, hT.w hl3.1 hl3.2, hT.w hl4 rfl, hT.w hl5 rfl, hT.w hl6 rfl, hT.w hl7 rfl, hT.w hl8 rfl, hT.w hm.2.1 rfl, hT.w hm.1 rfl, hl9, hnp.len⟩
    (zPreV hT hH (zrecv hT hH hh hk hci)) rfl rfl hL.1 rfl (lv_room hW) hd ⟨by omega, by omega⟩) hl hc hs hL kq kx
/-- a virtual method with handlers -/
def zCVH (own : String) (idx : Nat) (N : zM) (n : Nat) : Prop := zMwH N ∧ zNp (zm_y N) n ∧ Cond.methodLink own idx (zm_y N) ∈ lw_tbl ∧ Cond.instanceMethod (zm_y N) ∈ lw_tbl ∧ Cond.selects (zm_y N).cls (zm_y N) (zm_y N) ∈ lw_tbl
theorem zW.callVH {idx n b kk ci : Nat} {fs : List Value} {T : u_T} {NF : Nat} (hd : decode (zm_c M) pc = .ok (.invokevirtual idx, 3)) (hn : pc + 3 = pc') (hcw : zCVH (zm_y M).cls idx N n) (hst : st0 = As.reverse ++ .ref b :: rest) (hh : h b = some (kk, fs)) (hk : kk % 1000 = ci ∧ ci < 50) (hci : zcl[ci]? = some ((zm_y N).cls, T, NF))
    (hK : zK G N d' r' (.ref b :: As) h Q') (hc1 : ∀ v ∈ As, v.category = 1) (hlen : As.length = n) (hln : n + 1 ≤ zm_n N) (hdd : d' + 1 ≤ d) (hW : (rest.map fun v => v.category).sum ≤ 8)
    (kq : ∀ v h', Q' (.inl v) h' → zW G M d r pc' L (v.toList ++ rest) h' Q) (kx : ∀ E h', Q' (.inr E) h' → zX G M d r pc L E h' Q) : zW G M d (r + r') pc L st0 h Q := by
  subst hn; subst hst; subst hlen
  obtain ⟨hm, hnp, hl1, hl2, hl3⟩ := hcw
  intro p e R s m args below meth c A H locs cells slots ls hH hl hc hs hL
  have hT := A.tb
  obtain ⟨hr1, hr2⟩ := A.rm (r' := r') hdd hm.2.2.2.2
  exact zgo A (vx_runVX A.fix (zK.metH hm (List.forall_mem_cons.mpr ⟨rfl, hc1⟩) (by simp only [List.length_cons]; omega) hK) (C := (zm_y N).cls) (index := idx)
    ⟨⟨rfl, rfl, hr1, hr2, zws hT hm.1 rfl, List.mem_singleton.mpr rfl⟩, hT.w hm.1 rfl, hT.w hm.2.1 rfl, hm.2.2.2.1, hnp.len, hT.w hl1 rfl, hT.w hl2 rfl, hT.w hl3 rfl⟩
    (zPreV hT hH (zrecv hT hH hh hk hci)) rfl rfl hL.1 rfl (lv_room hW) hd ⟨by omega, by omega⟩) hl hc hs hL kq kx
/-- a static method with handlers -/
def zCSH (own : String) (idx : Nat) (N : zM) (n : Nat) : Prop := zMwH N ∧ zNp (zm_y N) n ∧ Cond.methodLink own idx (zm_y N) ∈ lw_tbl ∧ Cond.static (zm_y N) ∈ lw_tbl
theorem zW.callSH {idx n : Nat} (hd : decode (zm_c M) pc = .ok (.invokestatic idx, 3)) (hn : pc + 3 = pc') (hcw : zCSH (zm_y M).cls idx N n) (hst : st0 = As.reverse ++ rest)
    (hK : zK G N d' r' As h Q') (hc1 : ∀ v ∈ As, v.category = 1) (hlen : As.length = n) (hln : n ≤ zm_n N) (hdd : d' + 1 ≤ d) (hW : (rest.map fun v => v.category).sum ≤ 8)
    (kq : ∀ v h', Q' (.inl v) h' → zW G M d r pc' L (v.toList ++ rest) h' Q) (kx : ∀ E h', Q' (.inr E) h' → zX G M d r pc L E h' Q) : zW G M d (r + r') pc L st0 h Q := by
  subst hn; subst hst; subst hlen
  obtain ⟨hm, hnp, hl1, hl2⟩ := hcw
  intro p e R s m args below meth c A H locs cells slots ls hH hl hc hs hL
  have hT := A.tb
  obtain ⟨hr1, hr2⟩ := A.rm (r' := r') hdd hm.2.2.2.2
  exact zgo A (vx_runSX A.fix (zK.metH hm hc1 hln hK) (index := idx)
    ⟨⟨rfl, rfl, hr1, hr2, zws hT hm.1 rfl, List.mem_singleton.mpr rfl⟩, hT.w hm.1 rfl, hT.w hm.2.1 rfl, hm.2.2.2.1, hnp.len, hT.w hl1 rfl, hT.w hl2 rfl⟩
    (zPreS hT hH) rfl rfl hL.1 rfl (lv_room hW) hd ⟨by omega, by omega⟩) hl hc hs hL kq kx
/-- Object's constructor -/
theorem zW.objInit {idx b : Nat} (hd : decode (zm_c M) pc = .ok (.invokespecial idx, 3)) (hn : pc + 3 = pc') (hl1 : Cond.methodLink (zm_y M).cls idx Lib.objectInit ∈ lw_tbl) (hl2 : Cond.instanceMethod Lib.objectInit ∈ lw_tbl) (hl3 : Cond.code Lib.objectInit ⟨#[0xb1]⟩ 1 none ∈ lw_tbl) (hdd : 1 ≤ d) (hW : (st.map fun v => v.category).sum ≤ 8) (k : zW G M d r pc' L st h Q) : zW G M d r pc L (.ref b :: st) h Q := by
  subst hn
  intro p e R s m args below meth c A H locs cells slots ls hH hl hc hs hL
  have h1 := A.2.2.2.2.2.2.2.2.2.1
  exact W.objInit A.1 A.2.1 A.own (A.tb.w hl1 rfl) (A.tb.w hl2 rfl) (A.tb.w hl3 rfl) rfl (by rw [A.2.2.2.1]; exact hL.1) rfl hd (by omega) (by show 2 * 0 + (st.map fun v => v.category).sum + 12 ≤ _; omega) (k p e R s m args below meth c A H locs cells slots ls hH hl hc hs hL)
end
