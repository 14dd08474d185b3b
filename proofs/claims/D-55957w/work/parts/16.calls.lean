/-! ROWS: calls. A callee is known by its contract zK; what comes behind it is a judgement at the next instruction. -/
section
set_option maxRecDepth 100000
variable {G : zG} {M N : zM} {d d' r r' pc pc' : Nat} {L L' st st0 rest As : List Value} {h : zH} {Q Q' : zR → zH → Prop}
def zPc (G : zG) (As : List Value) (h : zH) : Array Value → State → Prop := fun v U => v = As.toArray ∧ zTb G U ∧ zHp G U h U.heap
theorem zPc.blind : FrameBlind (zPc G As h) := sorry
theorem zho_cat : zho.category = 1 := sorry
theorem lg_sl1 : ∀ (vs : List Value), (∀ v ∈ vs, v.category = 1) → lg_sl vs = vs.map Slot.val := sorry
theorem zL.entry {n : Nat} (hc : ∀ v ∈ As, v.category = 1) (hn : As.length ≤ n) : zL ((lg_sl As ++ List.replicate (n - (lg_sl As).length) Slot.unset).toArray) n (As ++ List.replicate (n - As.length) zho) := sorry
/-- a method that the tables hold -/
def zMw (N : zM) : Prop := (zm_h N = [] ∧ Cond.code (zm_y N) (zm_c N) (zm_n N) (zm_r N) ∈ lw_tbl) ∧ Cond.initialized (zm_y N).cls ∈ lw_tbl ∧ plainName (zm_y N).cls = true ∧ ((zm_y N).cls ≠ "java/lang/invoke/MethodHandle" ∧ (zm_y N).cls ≠ "java/lang/invoke/VarHandle") ∧ zm_n N ≤ 100
/-- the same for one with handlers -/
def zMwH (N : zM) : Prop := Cond.codeWith (zm_y N) (zm_c N) (zm_n N) (zm_r N) (zm_h N) ∈ lw_tbl ∧ Cond.initialized (zm_y N).cls ∈ lw_tbl ∧ plainName (zm_y N).cls = true ∧ ((zm_y N).cls ≠ "java/lang/invoke/MethodHandle" ∧ (zm_y N).cls ≠ "java/lang/invoke/VarHandle") ∧ zm_n N ≤ 100
abbrev zRm (d r : Nat) : Room := { frames := d, cells := r, slots := 4 * r, locals := 128 * d }
theorem zK.met (hm : zMw N) (hc : ∀ v ∈ As, v.category = 1) (hn : As.length ≤ zm_n N) (hK : zK G N d r As h Q) : vx_Met (zg_l G) (zm_y N) [Cond.code (zm_y N) (zm_c N) (zm_n N) (zm_r N)] (zRm d r) (zPc G As h) (zQc G Q) (zXC G Q) r (4 * r) (zfree G) := sorry
theorem zK.metH (hm : zMwH N) (hc : ∀ v ∈ As, v.category = 1) (hn : As.length ≤ zm_n N) (hK : zK G N d r As h Q) : vx_Met (zg_l G) (zm_y N) [Cond.codeWith (zm_y N) (zm_c N) (zm_n N) (zm_r N) (zm_h N)] (zRm d r) (zPc G As h) (zQc G Q) (zXC G Q) r (4 * r) (zfree G) := sorry
theorem zgo {p : Program} {e : Env} {R : Room} {s : State} {m : MethodId} {args : Array Value} {below : List Frame} {meth : Method} {c : Code} {H : Heap} {locs : List Loc} {cells slots : Nat} {ls : Array Slot} {a : Array Value} (A : zAct G M d p R s m meth c)
    (hr : vx_Run p (zg_l G) e R s m args below meth c H locs cells slots r' (4 * r') (F0 m pc ls st0) rest (zQc G Q' a) (zXC G Q') (zfree G)) (hl : ∀ z ∈ locs, (zg_H G).size ≤ z.base) (hc : cells + (r + r') ≤ R.cells) (hs : slots + 4 * (r + r') ≤ R.slots) (hL : zL ls (zm_n M) L)
    (kk : ∀ v h', Q' (.inl v) h' → zW G M d r (pc + 3) L (v.toList ++ rest) h' Q) (kx : ∀ E h', Q' (.inr E) h' → zX G M d r pc L E h' Q) :
    W p (zg_l G) e R s m args below meth c H locs cells slots (vx_MQ below (zQc G Q) (zXC G Q) args s R.cells R.slots (zfree G)) (F0 m pc ls st0) := sorry
theorem zgo5 {p : Program} {e : Env} {R : Room} {s : State} {m : MethodId} {args : Array Value} {below : List Frame} {meth : Method} {c : Code} {H : Heap} {locs : List Loc} {cells slots : Nat} {ls : Array Slot} {a : Array Value} (A : zAct G M d p R s m meth c)
    (hr : vx_Run5 p (zg_l G) e R s m args below meth c H locs cells slots r' (4 * r') (F0 m pc ls st0) rest (zQc G Q' a) (zXC G Q') (zfree G)) (hl : ∀ z ∈ locs, (zg_H G).size ≤ z.base) (hc : cells + (r + r') ≤ R.cells) (hs : slots + 4 * (r + r') ≤ R.slots) (hL : zL ls (zm_n M) L)
    (kk : ∀ v h', Q' (.inl v) h' → zW G M d r (pc + 5) L (v.toList ++ rest) h' Q) (kx : ∀ E h', Q' (.inr E) h' → zX G M d r pc L E h' Q) :
    W p (zg_l G) e R s m args below meth c H locs cells slots (vx_MQ below (zQc G Q) (zXC G Q) args s R.cells R.slots (zfree G)) (F0 m pc ls st0) := sorry
/-- a method's descriptor has n parameters -/
def zNp (y : MethodName) (n : Nat) : Prop := (parseMethodDescriptor y.desc).map (fun d => d.parameters.length) = some n
theorem zNp.len {y : MethodName} {n : Nat} (hn : zNp y n) : ∀ sig, parseMethodDescriptor y.desc = some sig → n = sig.parameters.length := sorry
theorem zws {s : State} (hT : zTb G s) {w : Cond} (hw : w ∈ lw_tbl) (hg : zgood w = true) : ∀ w' ∈ [w], ∀ (a' : Array Value) (U : State), s.WarmedH U.vm → w'.before a' U = true := sorry
theorem zAct.rm {p : Program} {R : Room} {s : State} {m : MethodId} {meth : Method} {c : Code} (A : zAct G M d p R s m meth c) (hd : d' + 1 ≤ d) {n : Nat} (hn : n ≤ 100) : (zRm d' r').frames + 1 ≤ R.frames ∧ 8 + (n + 11) + (zRm d' r').locals ≤ R.locals := sorry
theorem zAct.fix {p : Program} {R : Room} {s : State} {m : MethodId} {meth : Method} {c : Code} {args : Array Value} (A : zAct G M d p R s m meth c) : CallFix p m c (zm_c M) (zm_n M) s args [] (zm_y M).cls := sorry
theorem zPreV {s : State} {H : Heap} {b : Nat} {C : String} (hT : zTb G s) (hH : zHp G s h H) (hr : ∃ cell : Cell, H[b]? = some cell ∧ cell.vm.isStatics = false ∧ s.vm.findClass C = some cell.cls) : PreV s H C b (zPc G (.ref b :: As) h) As := sorry
theorem zPreS {s : State} {H : Heap} (hT : zTb G s) (hH : zHp G s h H) : PreS s H (zPc G As h) As := sorry
/-- invokevirtual, the method of the receiver's own class -/
def zCV (own : String) (idx : Nat) (N : zM) (n : Nat) : Prop := zMw N ∧ zNp (zm_y N) n ∧ Cond.methodLink own idx (zm_y N) ∈ lw_tbl ∧ Cond.instanceMethod (zm_y N) ∈ lw_tbl ∧ Cond.selects (zm_y N).cls (zm_y N) (zm_y N) ∈ lw_tbl
theorem zW.callV {idx n b kk ci : Nat} {fs : List Value} {T : u_T} {NF : Nat} (hd : decode (zm_c M) pc = .ok (.invokevirtual idx, 3)) (hn : pc + 3 = pc') (hcw : zCV (zm_y M).cls idx N n) (hst : st0 = As.reverse ++ .ref b :: rest) (hh : h b = some (kk, fs)) (hk : kk % 1000 = ci ∧ ci < 50) (hci : zcl[ci]? = some ((zm_y N).cls, T, NF))
    (hK : zK G N d' r' (.ref b :: As) h Q') (hc1 : ∀ v ∈ As, v.category = 1) (hlen : As.length = n) (hln : n + 1 ≤ zm_n N) (hdd : d' + 1 ≤ d) (hW : (rest.map fun v => v.category).sum ≤ 8)
    (kq : ∀ v h', Q' (.inl v) h' → zW G M d r pc' L (v.toList ++ rest) h' Q) (kx : ∀ E h', Q' (.inr E) h' → zX G M d r pc L E h' Q) : zW G M d (r + r') pc L st0 h Q := sorry
/-- a constructor -/
def zCI (own : String) (idx : Nat) (N : zM) (n : Nat) : Prop := zMw N ∧ zNp (zm_y N) n ∧ Cond.methodLink own idx (zm_y N) ∈ lw_tbl ∧ Cond.instanceMethod (zm_y N) ∈ lw_tbl ∧ (zm_y N).name = "<init>" ∧ zm_r N = none
theorem zW.callI {idx n b : Nat} (hd : decode (zm_c M) pc = .ok (.invokespecial idx, 3)) (hn : pc + 3 = pc') (hcw : zCI (zm_y M).cls idx N n) (hst : st0 = As.reverse ++ .ref b :: rest)
    (hK : zK G N d' r' (.ref b :: As) h Q') (hc1 : ∀ v ∈ As, v.category = 1) (hlen : As.length = n) (hln : n + 1 ≤ zm_n N) (hdd : d' + 1 ≤ d) (hW : (rest.map fun v => v.category).sum ≤ 8)
    (kq : ∀ v h', Q' (.inl v) h' → zW G M d r pc' L (v.toList ++ rest) h' Q) (kx : ∀ E h', Q' (.inr E) h' → zX G M d r pc L E h' Q) : zW G M d (r + r') pc L st0 h Q := sorry
/-- a static method -/
def zCS (own : String) (idx : Nat) (N : zM) (n : Nat) : Prop := zMw N ∧ zNp (zm_y N) n ∧ Cond.methodLink own idx (zm_y N) ∈ lw_tbl ∧ Cond.static (zm_y N) ∈ lw_tbl
theorem zW.callS {idx n : Nat} (hd : decode (zm_c M) pc = .ok (.invokestatic idx, 3)) (hn : pc + 3 = pc') (hcw : zCS (zm_y M).cls idx N n) (hst : st0 = As.reverse ++ rest)
    (hK : zK G N d' r' As h Q') (hc1 : ∀ v ∈ As, v.category = 1) (hlen : As.length = n) (hln : n ≤ zm_n N) (hdd : d' + 1 ≤ d) (hW : (rest.map fun v => v.category).sum ≤ 8)
    (kq : ∀ v h', Q' (.inl v) h' → zW G M d r pc' L (v.toList ++ rest) h' Q) (kx : ∀ E h', Q' (.inr E) h' → zX G M d r pc L E h' Q) : zW G M d (r + r') pc L st0 h Q := sorry
/-- a static method of a nest mate -/
def zCSN (own : String) (idx : Nat) (N : zM) (n : Nat) (host : String) : Prop := zMw N ∧ zNp (zm_y N) n ∧ Cond.methodLinkNest own idx (zm_y N) host ∈ lw_tbl ∧ Cond.static (zm_y N) ∈ lw_tbl
theorem zW.callSN {idx n : Nat} {host : String} (hd : decode (zm_c M) pc = .ok (.invokestatic idx, 3)) (hn : pc + 3 = pc') (hcw : zCSN (zm_y M).cls idx N n host) (hst : st0 = As.reverse ++ rest)
    (hK : zK G N d' r' As h Q') (hc1 : ∀ v ∈ As, v.category = 1) (hlen : As.length = n) (hln : n ≤ zm_n N) (hdd : d' + 1 ≤ d) (hW : (rest.map fun v => v.category).sum ≤ 8)
    (kq : ∀ v h', Q' (.inl v) h' → zW G M d r pc' L (v.toList ++ rest) h' Q) (kx : ∀ E h', Q' (.inr E) h' → zX G M d r pc L E h' Q) : zW G M d (r + r') pc L st0 h Q := sorry
/-- invokespecial of the superclass's method -/
def zCSU (own : String) (idx : Nat) (N : zM) (n : Nat) : Prop := zMw N ∧ zNp (zm_y N) n ∧ Cond.methodLink own idx (zm_y N) ∈ lw_tbl ∧ Cond.sameMethod (zm_y N).cls (zm_y N).cls (zm_y N).name (zm_y N).desc ∈ lw_tbl ∧ Cond.superclass own (zm_y N).cls ∈ lw_tbl ∧ Cond.instanceMethod (zm_y N) ∈ lw_tbl ∧ (zm_y N).name ≠ "<init>"
theorem zW.callSU {idx n b kk ci : Nat} {fs : List Value} {rr : vw_C} (hd : decode (zm_c M) pc = .ok (.invokespecial idx, 3)) (hn : pc + 3 = pc') (hcw : zCSU (zm_y M).cls idx N n) (hst : st0 = As.reverse ++ .ref b :: rest) (hh : h b = some (kk, fs)) (hk : kk % 1000 = ci ∧ ci < 50) (hci : zcl[ci]? = some rr)
    (hK : zK G N d' r' (.ref b :: As) h Q') (hc1 : ∀ v ∈ As, v.category = 1) (hlen : As.length = n) (hln : n + 1 ≤ zm_n N) (hdd : d' + 1 ≤ d) (hW : (rest.map fun v => v.category).sum ≤ 8)
    (kq : ∀ v h', Q' (.inl v) h' → zW G M d r pc' L (v.toList ++ rest) h' Q) (kx : ∀ E h', Q' (.inr E) h' → zX G M d r pc L E h' Q) : zW G M d (r + r') pc L st0 h Q := sorry
/-- invokevirtual of a method x, for a receiver of class C that runs N: what the reference finds is declared by owner -/
def zCU (own : String) (idx : Nat) (C owner : String) (x : MethodName) (N : zM) (n : Nat) : Prop := zMw N ∧ zNp x n ∧ Cond.methodLink own idx x ∈ lw_tbl ∧ Cond.sameMethod x.cls owner x.name x.desc ∈ lw_tbl ∧ Cond.selects C x (zm_y N) ∈ lw_tbl ∧ Cond.instanceMethod (zm_y N) ∈ lw_tbl ∧ (owner ≠ "java/lang/invoke/MethodHandle" ∧ owner ≠ "java/lang/invoke/VarHandle") ∧ ((Cond.instanceMethod ⟨owner, x.name, x.desc⟩ ∈ lw_tbl ∧ ∃ b0 m0 r0, Cond.code ⟨owner, x.name, x.desc⟩ b0 m0 r0 ∈ lw_tbl) ∨ Cond.declares ⟨owner, x.name, x.desc⟩ ∈ lw_tbl)
theorem zW.callU {idx n b kk ci : Nat} {C owner : String} {x : MethodName} {fs : List Value} {T : u_T} {NF : Nat} (hd : decode (zm_c M) pc = .ok (.invokevirtual idx, 3)) (hn : pc + 3 = pc') (hcw : zCU (zm_y M).cls idx C owner x N n) (hst : st0 = As.reverse ++ .ref b :: rest) (hh : h b = some (kk, fs)) (hk : kk % 1000 = ci ∧ ci < 50) (hci : zcl[ci]? = some (C, T, NF))
    (hK : zK G N d' r' (.ref b :: As) h Q') (hc1 : ∀ v ∈ As, v.category = 1) (hlen : As.length = n) (hln : n + 1 ≤ zm_n N) (hdd : d' + 1 ≤ d) (hW : (rest.map fun v => v.category).sum ≤ 8)
    (kq : ∀ v h', Q' (.inl v) h' → zW G M d r pc' L (v.toList ++ rest) h' Q) (kx : ∀ E h', Q' (.inr E) h' → zX G M d r pc L E h' Q) : zW G M d (r + r') pc L st0 h Q := sorry
/-- invokeinterface of x, for a receiver of class C that runs N -/
def zCFw (own : String) (idx : Nat) (C : String) (x : MethodName) (N : zM) (n : Nat) : Prop := zNp x n ∧ Cond.methodLink own idx x ∈ lw_tbl ∧ Cond.declares x ∈ lw_tbl ∧ (Cond.interfaceMethod x.cls x.cls x.name x.desc ∈ lw_tbl ∧ zgood (Cond.interfaceMethod x.cls x.cls x.name x.desc) = true) ∧ Cond.selects C x (zm_y N) ∈ lw_tbl ∧ Cond.instanceMethod (zm_y N) ∈ lw_tbl ∧ Cond.publicMethod (zm_y N) ∈ lw_tbl ∧ Cond.unhidden C x.name x.desc ∈ lw_tbl ∧ Cond.castable C x.cls ∈ lw_tbl ∧ (x.cls ≠ "java/lang/invoke/MethodHandle" ∧ x.cls ≠ "java/lang/invoke/VarHandle")
def zCF (own : String) (idx : Nat) (C : String) (x : MethodName) (N : zM) (n : Nat) : Prop := zMw N ∧ zCFw own idx C x N n
theorem zW.callF {idx cnt n b kk ci : Nat} {C : String} {x : MethodName} {fs : List Value} {T : u_T} {NF : Nat} (hd : decode (zm_c M) pc = .ok (.invokeinterface idx cnt, 5)) (hn : pc + 5 = pc') (hcw : zCF (zm_y M).cls idx C x N n) (hst : st0 = As.reverse ++ .ref b :: rest) (hh : h b = some (kk, fs)) (hk : kk % 1000 = ci ∧ ci < 50) (hci : zcl[ci]? = some (C, T, NF))
    (hK : zK G N d' r' (.ref b :: As) h Q') (hc1 : ∀ v ∈ As, v.category = 1) (hlen : As.length = n) (hln : n + 1 ≤ zm_n N) (hdd : d' + 1 ≤ d) (hW : (rest.map fun v => v.category).sum ≤ 8)
    (kq : ∀ v h', Q' (.inl v) h' → zW G M d r pc' L (v.toList ++ rest) h' Q) (kx : ∀ E h', Q' (.inr E) h' → zX G M d r pc L E h' Q) : zW G M d (r + r') pc L st0 h Q := sorry
def zCFH (own : String) (idx : Nat) (C : String) (x : MethodName) (N : zM) (n : Nat) : Prop := zMwH N ∧ zCFw own idx C x N n
theorem zW.callFH {idx cnt n b kk ci : Nat} {C : String} {x : MethodName} {fs : List Value} {T : u_T} {NF : Nat} (hd : decode (zm_c M) pc = .ok (.invokeinterface idx cnt, 5)) (hn : pc + 5 = pc') (hcw : zCFH (zm_y M).cls idx C x N n) (hst : st0 = As.reverse ++ .ref b :: rest) (hh : h b = some (kk, fs)) (hk : kk % 1000 = ci ∧ ci < 50) (hci : zcl[ci]? = some (C, T, NF))
    (hK : zK G N d' r' (.ref b :: As) h Q') (hc1 : ∀ v ∈ As, v.category = 1) (hlen : As.length = n) (hln : n + 1 ≤ zm_n N) (hdd : d' + 1 ≤ d) (hW : (rest.map fun v => v.category).sum ≤ 8)
    (kq : ∀ v h', Q' (.inl v) h' → zW G M d r pc' L (v.toList ++ rest) h' Q) (kx : ∀ E h', Q' (.inr E) h' → zX G M d r pc L E h' Q) : zW G M d (r + r') pc L st0 h Q := sorry
/-- a virtual method with handlers -/
def zCVH (own : String) (idx : Nat) (N : zM) (n : Nat) : Prop := zMwH N ∧ zNp (zm_y N) n ∧ Cond.methodLink own idx (zm_y N) ∈ lw_tbl ∧ Cond.instanceMethod (zm_y N) ∈ lw_tbl ∧ Cond.selects (zm_y N).cls (zm_y N) (zm_y N) ∈ lw_tbl
theorem zW.callVH {idx n b kk ci : Nat} {fs : List Value} {T : u_T} {NF : Nat} (hd : decode (zm_c M) pc = .ok (.invokevirtual idx, 3)) (hn : pc + 3 = pc') (hcw : zCVH (zm_y M).cls idx N n) (hst : st0 = As.reverse ++ .ref b :: rest) (hh : h b = some (kk, fs)) (hk : kk % 1000 = ci ∧ ci < 50) (hci : zcl[ci]? = some ((zm_y N).cls, T, NF))
    (hK : zK G N d' r' (.ref b :: As) h Q') (hc1 : ∀ v ∈ As, v.category = 1) (hlen : As.length = n) (hln : n + 1 ≤ zm_n N) (hdd : d' + 1 ≤ d) (hW : (rest.map fun v => v.category).sum ≤ 8)
    (kq : ∀ v h', Q' (.inl v) h' → zW G M d r pc' L (v.toList ++ rest) h' Q) (kx : ∀ E h', Q' (.inr E) h' → zX G M d r pc L E h' Q) : zW G M d (r + r') pc L st0 h Q := sorry
/-- a static method with handlers -/
def zCSH (own : String) (idx : Nat) (N : zM) (n : Nat) : Prop := zMwH N ∧ zNp (zm_y N) n ∧ Cond.methodLink own idx (zm_y N) ∈ lw_tbl ∧ Cond.static (zm_y N) ∈ lw_tbl
theorem zW.callSH {idx n : Nat} (hd : decode (zm_c M) pc = .ok (.invokestatic idx, 3)) (hn : pc + 3 = pc') (hcw : zCSH (zm_y M).cls idx N n) (hst : st0 = As.reverse ++ rest)
    (hK : zK G N d' r' As h Q') (hc1 : ∀ v ∈ As, v.category = 1) (hlen : As.length = n) (hln : n ≤ zm_n N) (hdd : d' + 1 ≤ d) (hW : (rest.map fun v => v.category).sum ≤ 8)
    (kq : ∀ v h', Q' (.inl v) h' → zW G M d r pc' L (v.toList ++ rest) h' Q) (kx : ∀ E h', Q' (.inr E) h' → zX G M d r pc L E h' Q) : zW G M d (r + r') pc L st0 h Q := sorry
/-- Object's constructor -/
theorem zW.objInit {idx b : Nat} (hd : decode (zm_c M) pc = .ok (.invokespecial idx, 3)) (hn : pc + 3 = pc') (hl1 : Cond.methodLink (zm_y M).cls idx Lib.objectInit ∈ lw_tbl) (hl2 : Cond.instanceMethod Lib.objectInit ∈ lw_tbl) (hl3 : Cond.code Lib.objectInit ⟨#[0xb1]⟩ 1 none ∈ lw_tbl) (hdd : 1 ≤ d) (hW : (st.map fun v => v.category).sum ≤ 8) (k : zW G M d r pc' L st h Q) : zW G M d r pc L (.ref b :: st) h Q := sorry
end

