/-! LAMBDAS: the interface call on a made object -/
section
set_option maxRecDepth 100000
variable {G : zG} {M N : zM} {d d' r r' pc pc' : Nat} {L rest : List Value} {h : zH} {Q Q' : zR → zH → Prop}
def lmB : Nat → List UInt8
  | 0 => [43, 184, 0, 17, 172]
  | 1 => [42, 180, 0, 15, 43, 184, 0, 23, 172]
  | _ => [42, 180, 0, 16, 42, 180, 0, 18, 43, 184, 0, 26, 172]
def lmM : Nat → Nat × Nat × Nat × Nat
  | 0 => (17, 14, 16, 13)
  | 1 => (23, 19, 22, 18)
  | _ => (26, 22, 25, 21)
def lmG (ds1 ds2 : String) : Nat → List (Nat × Nat × String × String)
  | 0 => []
  | 1 => [(15, 14, "arg$1", ds1)]
  | _ => [(16, 15, "arg$1", ds1), (18, 17, "arg$2", ds2)]
/-- a call of x at entry idx of class own on an object of site i, of k captured values: it runs N -/
def zCL (own : String) (idx i k : Nat) (x : MethodName) (N : zM) (rt : FieldType) : Prop :=
  ∃ (z : MethodName × Nat × Nat × Lambda.Shape) (ds1 ds2 : String), lsites[i]? = some z ∧ k ≤ 2 ∧ lmK z.2.2.2 z.1.cls (lmB k) rt (lmM k).1 (lmM k).2.1 (lmM k).2.2.1 (lmM k).2.2.2 (lmG ds1 ds2 k) = true ∧ plainName (z.1.cls ++ "$$Lambda") = true ∧
    x = ⟨z.2.2.2.iface, z.2.2.2.name, z.2.2.2.sam.toString⟩ ∧ zm_y N = ⟨z.2.2.2.implClass, z.2.2.2.implName, z.2.2.2.implDesc.toString⟩ ∧ zMw N ∧ zNp (zm_y N) (k + 1) ∧ Cond.static (zm_y N) ∈ lw_tbl ∧
    Cond.methodLink own idx x ∈ lw_tbl ∧ Cond.declares x ∈ lw_tbl ∧ (Cond.interfaceMethod x.cls x.cls x.name x.desc ∈ lw_tbl ∧ zgood (Cond.interfaceMethod x.cls x.cls x.name x.desc) = true) ∧ zNp x 1 ∧ (x.cls ≠ "java/lang/invoke/MethodHandle" ∧ x.cls ≠ "java/lang/invoke/VarHandle")
theorem zAt.lam {s : State} {a kk j : Nat} {fs : List Value} {H : Heap} (hz : zAt G s a (kk, fs) H) (hk : kk % 1000 = 50 + j) (hj : j < 50) : ∃ cell : Cell, H[a]? = some cell ∧ cell.cls = (zg_D G).1 (50 + j) ∧ cell.vm = .none ∧ cell.slots.toList = fs := sorry
def lb0 : ByteArray := ⟨#[43, 184, 0, 17, 172]⟩
def lb1 : ByteArray := ⟨#[42, 180, 0, 15, 43, 184, 0, 23, 172]⟩
def lb2 : ByteArray := ⟨#[42, 180, 0, 16, 42, 180, 0, 18, 43, 184, 0, 26, 172]⟩
theorem lb0_0 : decode lb0 0 = .ok (.aload_n 1, 1) := sorry
theorem lb0_1 : decode lb0 1 = .ok (.invokestatic 17, 3) := sorry
theorem lb0_4 : decode lb0 4 = .ok (.ireturn, 1) := sorry
theorem lb1_0 : decode lb1 0 = .ok (.aload_n 0, 1) := sorry
theorem lb1_1 : decode lb1 1 = .ok (.getfield 15, 3) := sorry
theorem lb1_4 : decode lb1 4 = .ok (.aload_n 1, 1) := sorry
theorem lb1_5 : decode lb1 5 = .ok (.invokestatic 23, 3) := sorry
theorem lb1_8 : decode lb1 8 = .ok (.ireturn, 1) := sorry
theorem lb2_0 : decode lb2 0 = .ok (.aload_n 0, 1) := sorry
theorem lb2_1 : decode lb2 1 = .ok (.getfield 16, 3) := sorry
theorem lb2_4 : decode lb2 4 = .ok (.aload_n 0, 1) := sorry
theorem lb2_5 : decode lb2 5 = .ok (.getfield 18, 3) := sorry
theorem lb2_8 : decode lb2 8 = .ok (.aload_n 1, 1) := sorry
theorem lb2_9 : decode lb2 9 = .ok (.invokestatic 26, 3) := sorry
theorem lb2_12 : decode lb2 12 = .ok (.ireturn, 1) := sorry
theorem lb_of {b : ByteArray} {l : List UInt8} (e : b.data.toList = l) : b = ⟨l.toArray⟩ := sorry
/-- Object has no fields -/
theorem zTb.obj {s : State} (hT : zTb G s) : ∀ o ok, s.vm.findClass "java/lang/Object" = some o → s.vm.classes[o]? = some ok → ok.instanceTypes.size = 0 := sorry
/-- what a forwarder's call needs, at any warmer tables -/
theorem lam_static {s : State} (hT : zTb G s) {z : MethodName × Nat × Nat × Lambda.Shape} {i : Nat} (hz : lsites[i]? = some z) {bytes : List UInt8} {rt : FieldType} {mi ci nt cs k : Nat} {fs : List (Nat × Nat × String × String)} (K : lmK z.2.2.2 z.1.cls bytes rt mi ci nt cs fs = true)
    (hy : zm_y N = ⟨z.2.2.2.implClass, z.2.2.2.implName, z.2.2.2.implDesc.toString⟩) (hm : zMw N) (hnp : zNp (zm_y N) k) (hst : Cond.static (zm_y N) ∈ lw_tbl) {e : Env} {T : State} (hW : s.WarmedH T.vm) : 
    ∃ (t : MethodId) (kt : Class) (metht : Method), plainRef T e ((zg_D G).1 (50 + i)) mi ∧ T.vm.methodReady ((zg_D G).1 (50 + i)) mi t ∧ T.vm.classes[t.cls]? = some kt ∧ T.vm.method? t = some metht ∧ signaturePolymorphic kt metht = false ∧ metht.isStatic = true ∧ kt.init = .initialized ∧ k = metht.sig.parameters.length ∧ T.methodNamed? (zm_y N) = some t := sorry
theorem lam_entry {mk : MethodId} {b cc : Nat} : entryFrame mk #[.ref b, .ref cc] 2 = F0 mk 0 #[.val (.ref b), .val (.ref cc)] [] := sorry
/-- a forwarder from its entry to its end -/
theorem lam_body {i k b cc : Nat} {z : MethodName × Nat × Nat × Lambda.Shape} {ds1 ds2 : String} {rt : FieldType} {vals : List Value} (hz : lsites[i]? = some z) (K : lmK z.2.2.2 z.1.cls (lmB k) rt (lmM k).1 (lmM k).2.1 (lmM k).2.2.1 (lmM k).2.2.2 (lmG ds1 ds2 k) = true) (hk : k ≤ 2)
    {p : Program} {e : Env} {s : State} {a : Array Value} {below : List Frame} {methk : Method} {ck : Code} {H : Heap} {mc : Nat} {R : Room} (hexec : p.tables.exec = Jvm.exec) (hT : zTb G s) (hcode : ck.code.data.toList = lmB k) (hml : ck.maxLocals = 2) (hret : methk.sig.returnType = some rt) (hlk : methk.locks = false)
    (hcell : ∃ cell : Cell, H[b]? = some cell ∧ cell.vm = .none ∧ cell.slots.toList = vals) (hvl : vals.length = k)
    (hr : ∀ pc : Nat, decode ck.code pc = .ok (.invokestatic (lmM k).1, 3) → vx_Run p (zg_l G) e R s ⟨(zg_D G).1 (50 + i), 1⟩ a below methk ck H [] 0 0 mc (4 * mc) (F0 ⟨(zg_D G).1 (50 + i), 1⟩ pc #[.val (.ref b), .val (.ref cc)] ((vals ++ [Value.ref cc]).reverse ++ [])) [] (zQc G Q' (vals ++ [Value.ref cc]).toArray) (zXC G Q') (zfree G))
    (hv : ∀ v h', Q' (.inl v) h' → ∃ w, v = some (.int w) ∧ narrow rt (.int w) = .int w) (hx : ∀ E h', ¬ Q' (.inr E) h') :
    W p (zg_l G) e R s ⟨(zg_D G).1 (50 + i), 1⟩ a below methk ck H [] 0 0 (vx_MQ below (zQc G Q') (fun _ _ _ => False) a s (0 + mc) (0 + 4 * mc) (zfree G)) (entryFrame ⟨(zg_D G).1 (50 + i), 1⟩ #[.ref b, .ref cc] 2) := sorry
/-- a forwarder's run, at the state it was called in -/
theorem lam_kW {i k b cc : Nat} {z : MethodName × Nat × Nat × Lambda.Shape} {ds1 ds2 : String} {rt : FieldType} {vals : List Value} (hz : lsites[i]? = some z) (K : lmK z.2.2.2 z.1.cls (lmB k) rt (lmM k).1 (lmM k).2.1 (lmM k).2.2.1 (lmM k).2.2.2 (lmG ds1 ds2 k) = true) (hk2 : k ≤ 2)
    (hye : zm_y N = ⟨z.2.2.2.implClass, z.2.2.2.implName, z.2.2.2.implDesc.toString⟩) (hm : zMw N) (hnp : zNp (zm_y N) (k + 1)) (hst : Cond.static (zm_y N) ∈ lw_tbl) (hvl : vals.length = k) (hcat : ∀ v ∈ vals, v.category = 1) (hK : zK G N d' r' (vals ++ [Value.ref cc]) h Q') (hln : k + 1 ≤ zm_n N)
    (hv : ∀ v h', Q' (.inl v) h' → ∃ w, v = some (.int w) ∧ narrow rt (.int w) = .int w) (hx : ∀ E h', ¬ Q' (.inr E) h')
    {p : Program} {e : Env} {S : State} {below : List Frame} {methk : Method} {ck : Code} {H : Heap} (hexec : p.tables.exec = Jvm.exec) (hTs : zTb G S) (hH : zHp G S h H) (hcode : ck.code.data.toList = lmB k) (hml : ck.maxLocals = 2) (hret : methk.sig.returnType = some rt) (hlk : methk.locks = false)
    (hcell : ∃ cell : Cell, H[b]? = some cell ∧ cell.vm = .none ∧ cell.slots.toList = vals) (hown : S.heap = H) :
    W p (zg_l G) e (zRm (d' + 1) r') S ⟨(zg_D G).1 (50 + i), 1⟩ #[.ref b, .ref cc] below methk ck H [] 0 0 (vx_MQ below (zQc G Q') (fun _ _ _ => False) #[.ref b, .ref cc] S (0 + r') (0 + 4 * r') (zfree G)) (entryFrame ⟨(zg_D G).1 (50 + i), 1⟩ #[.ref b, .ref cc] 2) := sorry
set_option maxHeartbeats 4000000 in
theorem zW.callL {idx cnt i k b cc kk : Nat} {x : MethodName} {rt : FieldType} {vals : List Value} {st0 : List Value} (hd : decode (zm_c M) pc = .ok (.invokeinterface idx cnt, 5)) (hn : pc + 5 = pc') (hcw : zCL (zm_y M).cls idx i k x N rt) (hst : st0 = .ref cc :: .ref b :: rest) (hi : i < 50) (hh : h b = some (kk, vals)) (hkk : kk % 1000 = 50 + i) (hvl : vals.length = k) (hcat : ∀ v ∈ vals, v.category = 1)
    (hK : zK G N d' r' (vals ++ [Value.ref cc]) h Q') (hln : k + 1 ≤ zm_n N) (hv : ∀ v h', Q' (.inl v) h' → ∃ w, v = some (.int w) ∧ narrow rt (.int w) = .int w) (hx : ∀ E h', ¬ Q' (.inr E) h') (hdd : d' + 2 ≤ d) (hW : (rest.map fun v => v.category).sum ≤ 8)
    (kq : ∀ v h', Q' (.inl v) h' → zW G M d r pc' L (v.toList ++ rest) h' Q) : zW G M d (r + r') pc L st0 h Q := sorry
end

