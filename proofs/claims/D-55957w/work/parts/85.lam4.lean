/-! LAMBDAS: the interface call on a made object -/
section
set_option maxRecDepth 100000
variable {G : zG} {M N : zM} {d d' r r' pc pc' : Nat} {L rest : List Value} {h : zH} {Q Q' : zR → zH → Prop}
def lmB : Nat → List UInt8
  | 0 => [43, 184, 0, 17, 172]
  | 1 => [42, 180, 0, 15, 43, 184, 0, 23, 172]
  | _ => [42, 180, 0, 16, 42, 180, 0, 18, 43, 184, 0, 26, 172]
def lmM : Nat → Nat × Nat × Nat × Nat
  | 0 => (17, 14, 16, 13)
  | 1 => (23, 19, 22, 18)
  | _ => (26, 22, 25, 21)
def lmG (ds1 ds2 : String) : Nat → List (Nat × Nat × String × String)
  | 0 => []
  | 1 => [(15, 14, "arg$1", ds1)]
  | _ => [(16, 15, "arg$1", ds1), (18, 17, "arg$2", ds2)]
/-- a call of x at entry idx of class own on an object of site i, of k captured values: it runs N -/
def zCL (own : String) (idx i k : Nat) (x : MethodName) (N : zM) (rt : FieldType) : Prop :=
  ∃ (z : MethodName × Nat × Nat × Lambda.Shape) (ds1 ds2 : String), lsites[i]? = some z ∧ k ≤ 2 ∧ lmK z.2.2.2 z.1.cls (lmB k) rt (lmM k).1 (lmM k).2.1 (lmM k).2.2.1 (lmM k).2.2.2 (lmG ds1 ds2 k) = true ∧ plainName (z.1.cls ++ "$$Lambda") = true ∧
    x = ⟨z.2.2.2.iface, z.2.2.2.name, z.2.2.2.sam.toString⟩ ∧ zm_y N = ⟨z.2.2.2.implClass, z.2.2.2.implName, z.2.2.2.implDesc.toString⟩ ∧ zMw N ∧ zNp (zm_y N) (k + 1) ∧ Cond.static (zm_y N) ∈ lw_tbl ∧
    Cond.methodLink own idx x ∈ lw_tbl ∧ Cond.declares x ∈ lw_tbl ∧ (Cond.interfaceMethod x.cls x.cls x.name x.desc ∈ lw_tbl ∧ zgood (Cond.interfaceMethod x.cls x.cls x.name x.desc) = true) ∧ zNp x 1 ∧ (x.cls ≠ "java/lang/invoke/MethodHandle" ∧ x.cls ≠ "java/lang/invoke/VarHandle")
theorem zAt.lam {s : State} {a kk j : Nat} {fs : List Value} {H : Heap} (hz : zAt G s a (kk, fs) H) (hk : kk % 1000 = 50 + j) (hj : j < 50) : ∃ cell : Cell, H[a]? = some cell ∧ cell.cls = (zg_D G).1 (50 + j) ∧ cell.vm = .none ∧ cell.slots.toList = fs := by
  unfold zAt at hz
  rw [if_neg (by show ¬ kk % 1000 < 50; omega), if_pos (by show kk % 1000 < 100; omega)] at hz
  rw [show (kk, fs).1 % 1000 = 50 + j from hk] at hz
  exact hz
def lb0 : ByteArray := ⟨#[43, 184, 0, 17, 172]⟩
def lb1 : ByteArray := ⟨#[42, 180, 0, 15, 43, 184, 0, 23, 172]⟩
def lb2 : ByteArray := ⟨#[42, 180, 0, 16, 42, 180, 0, 18, 43, 184, 0, 26, 172]⟩
theorem lb0_0 : decode lb0 0 = .ok (.aload_n 1, 1) := by decide +kernel
theorem lb0_1 : decode lb0 1 = .ok (.invokestatic 17, 3) := by decide +kernel
theorem lb0_4 : decode lb0 4 = .ok (.ireturn, 1) := by decide +kernel
theorem lb1_0 : decode lb1 0 = .ok (.aload_n 0, 1) := by decide +kernel
theorem lb1_1 : decode lb1 1 = .ok (.getfield 15, 3) := by decide +kernel
theorem lb1_4 : decode lb1 4 = .ok (.aload_n 1, 1) := by decide +kernel
theorem lb1_5 : decode lb1 5 = .ok (.invokestatic 23, 3) := by decide +kernel
theorem lb1_8 : decode lb1 8 = .ok (.ireturn, 1) := by decide +kernel
theorem lb2_0 : decode lb2 0 = .ok (.aload_n 0, 1) := by decide +kernel
theorem lb2_1 : decode lb2 1 = .ok (.getfield 16, 3) := by decide +kernel
theorem lb2_4 : decode lb2 4 = .ok (.aload_n 0, 1) := by decide +kernel
theorem lb2_5 : decode lb2 5 = .ok (.getfield 18, 3) := by decide +kernel
theorem lb2_8 : decode lb2 8 = .ok (.aload_n 1, 1) := by decide +kernel
theorem lb2_9 : decode lb2 9 = .ok (.invokestatic 26, 3) := by decide +kernel
theorem lb2_12 : decode lb2 12 = .ok (.ireturn, 1) := by decide +kernel
theorem lb_of {b : ByteArray} {l : List UInt8} (e : b.data.toList = l) : b = ⟨l.toArray⟩ := by
  apply ByteArray.ext
  rw [← e]
/-- Object has no fields -/
theorem zTb.obj {s : State} (hT : zTb G s) : ∀ o ok, s.vm.findClass "java/lang/Object" = some o → s.vm.classes[o]? = some ok → ok.instanceTypes.size = 0 := by
  intro o ok ho hok
  obtain ⟨c, k, h1, h2, -, -, -, h3⟩ := Cond.instantiable_spec (hT.w (A := #[]) (lw_all_tbl q3149) rfl)
  cases ho.symm.trans h1
  cases hok.symm.trans h2
  exact h3
/-- what a forwarder's call needs, at any warmer tables -/
theorem lam_static {s : State} (hT : zTb G s) {z : MethodName × Nat × Nat × Lambda.Shape} {i : Nat} (hz : lsites[i]? = some z) {bytes : List UInt8} {rt : FieldType} {mi ci nt cs k : Nat} {fs : List (Nat × Nat × String × String)} (K : lmK z.2.2.2 z.1.cls bytes rt mi ci nt cs fs = true)
    (hy : zm_y N = ⟨z.2.2.2.implClass, z.2.2.2.implName, z.2.2.2.implDesc.toString⟩) (hm : zMw N) (hnp : zNp (zm_y N) k) (hst : Cond.static (zm_y N) ∈ lw_tbl) {e : Env} {T : State} (hW : s.WarmedH T.vm) : 
    ∃ (t : MethodId) (kt : Class) (metht : Method), plainRef T e ((zg_D G).1 (50 + i)) mi ∧ T.vm.methodReady ((zg_D G).1 (50 + i)) mi t ∧ T.vm.classes[t.cls]? = some kt ∧ T.vm.method? t = some metht ∧ signaturePolymorphic kt metht = false ∧ metht.isStatic = true ∧ kt.init = .initialized ∧ k = metht.sig.parameters.length ∧ T.methodNamed? (zm_y N) = some t := by
  have hTT : zTb G T := hT.moved hW
  obtain ⟨ms, kS, cfS, i0, p0, lk, e1, e2, e3, e4, e5, hmade, hcall, hlk⟩ := hTT.2.2.2.2.2.2.2.2.2 i z hz
  obtain ⟨dk, hdk, hdn⟩ := className_of_methodNamed e1
  obtain ⟨kK, tk, file, methk, ck, toy, iface, t, found, ⟨w1, w2, w3, w4⟩, -, ⟨t1, t2, t3⟩, ⟨r1, r2, r3, r4⟩, -⟩ := lmK.made K hdk hdn hmade hTT.obj
  have hcode := hTT.w (A := #[]) hm.1.2 rfl
  obtain ⟨mB, hnB⟩ := Cond.code_named hcode
  obtain ⟨methB, cB, hmB, -, -, -, -, -, -, hsigB⟩ := Cond.code_spec hnB hcode
  have hstaticB : methB.isStatic = true := Cond.static_spec hnB hmB (hTT.w (A := #[]) hst rfl)
  have hfT : T.vm.findClass (zm_y N).cls = some mB.cls := findClass_of_methodNamed hnB
  have htoy : T.vm.findClass (zm_y N).cls = some toy := by rw [hy]; exact t1
  cases htoy.symm.trans hfT
  have hinitK : tk.init = .initialized := Cond.initialized_spec hfT t2 (hTT.w (A := #[]) hm.2.1 rfl)
  obtain ⟨kT', hkT', hnameT⟩ := className_of_methodNamed hnB
  cases t2.symm.trans hkT'
  have htB : t = mB := by
    have h1 : T.methodFound? (zm_y N).cls (zm_y N).name (zm_y N).desc = some mB := State.methodFound?_of_named hnB hm.2.2.2.1
    simp only [State.methodFound?, hfT, t2, Option.bind_eq_bind, Option.bind_some] at h1
    rw [show (zm_y N).name = z.2.2.2.implName by rw [hy], show (zm_y N).desc = z.2.2.2.implDesc.toString by rw [hy], t3] at h1
    exact Option.some.inj h1
  subst htB
  have hsp : ∀ z : Method, signaturePolymorphic tk z = false := fun z => by simp [signaturePolymorphic, hnameT, hm.2.2.2.1.1, hm.2.2.2.1.2]
  obtain ⟨b, hmem⟩ := memberRef_ask' (e := e) (vm := T.vm) (d := (zg_D G).1 (50 + i)) (index := mi) w1 w3 (Or.inl r3) r4
  exact ⟨t, tk, methB, ⟨ci, _, _, b, t.cls, tk, hmem, r2, t2, by simp [hsp]⟩, r1, t2, hmB, hsp _, hstaticB, hinitK, hnp.len _ hsigB, hnB⟩
theorem lam_entry {mk : MethodId} {b cc : Nat} : entryFrame mk #[.ref b, .ref cc] 2 = F0 mk 0 #[.val (.ref b), .val (.ref cc)] [] := rfl
/-- a forwarder from its entry to its end -/
theorem lam_body {i k b cc : Nat} {z : MethodName × Nat × Nat × Lambda.Shape} {ds1 ds2 : String} {rt : FieldType} {vals : List Value} (hz : lsites[i]? = some z) (K : lmK z.2.2.2 z.1.cls (lmB k) rt (lmM k).1 (lmM k).2.1 (lmM k).2.2.1 (lmM k).2.2.2 (lmG ds1 ds2 k) = true) (hk : k ≤ 2)
    {p : Program} {e : Env} {s : State} {a : Array Value} {below : List Frame} {methk : Method} {ck : Code} {H : Heap} {mc : Nat} {R : Room} (hexec : p.tables.exec = Jvm.exec) (hT : zTb G s) (hcode : ck.code.data.toList = lmB k) (hml : ck.maxLocals = 2) (hret : methk.sig.returnType = some rt) (hlk : methk.locks = false)
    (hcell : ∃ cell : Cell, H[b]? = some cell ∧ cell.vm = .none ∧ cell.slots.toList = vals) (hvl : vals.length = k)
    (hr : ∀ pc : Nat, decode ck.code pc = .ok (.invokestatic (lmM k).1, 3) → vx_Run p (zg_l G) e R s ⟨(zg_D G).1 (50 + i), 1⟩ a below methk ck H [] 0 0 mc (4 * mc) (F0 ⟨(zg_D G).1 (50 + i), 1⟩ pc #[.val (.ref b), .val (.ref cc)] ((vals ++ [Value.ref cc]).reverse ++ [])) [] (zQc G Q' (vals ++ [Value.ref cc]).toArray) (zXC G Q') (zfree G))
    (hv : ∀ v h', Q' (.inl v) h' → ∃ w, v = some (.int w) ∧ narrow rt (.int w) = .int w) (hx : ∀ E h', ¬ Q' (.inr E) h') :
    W p (zg_l G) e R s ⟨(zg_D G).1 (50 + i), 1⟩ a below methk ck H [] 0 0 (vx_MQ below (zQc G Q') (fun _ _ _ => False) a s (0 + mc) (0 + 4 * mc) (zfree G)) (entryFrame ⟨(zg_D G).1 (50 + i), 1⟩ #[.ref b, .ref cc] 2) := by
  rw [lam_entry]
  obtain ⟨cell, hc1, hc2, hc3⟩ := hcell
  have hkn : cell.vm ≠ .unknown := by rw [hc2]; exact fun q => by cases q
  have hfd : ∀ (j : Nat) x v, (lmG ds1 ds2 k)[j]? = some x → vals[j]? = some v → ∀ vm₁, s.WarmedH vm₁ → ∃ field : Field, vm₁.fieldReady ((zg_D G).1 (50 + i)) x.1 ((zg_D G).1 (50 + i)) field ∧ field.isStatic = false ∧ cell.slots[field.slot]? = some v := by
    intro j x v hj hvj vm₁ hW
    have hTT : zTb G (s.setVm vm₁) := hT.moved (U := s.setVm vm₁) hW
    obtain ⟨ms, kS, cfS, i0, p0, lk, e1, e2, e3, e4, e5, hmade, hcall, hlk⟩ := hTT.2.2.2.2.2.2.2.2.2 i z hz
    obtain ⟨dk, hdk, hdn⟩ := className_of_methodNamed e1
    obtain ⟨kK, tk, file, methk, ck, toy, iface, t, found, -, -, -, -, hfs, -⟩ := lmK.made K hdk hdn hmade hTT.obj
    obtain ⟨f0, q1, q2, q3⟩ := hfs j x hj
    refine ⟨f0, q1, q2, ?_⟩
    rw [q3, ← Array.getElem?_toList, hc3]
    exact hvj
  match k, hk, hcode, hvl, hr, hfd with
  | 0, _, hcode, hvl, hr, _ =>
    have hb : ck.code = lb0 := lb_of hcode
    have hv0 : vals = [] := List.length_eq_zero_iff.mp hvl
    subst hv0
    refine lv_aload_n hexec hb lb0_0 rfl rfl ?_
    exact lam_tail (pc := 1) (As := [.ref cc]) hexec hml.symm (hr 1 (by rw [hb]; exact lb0_1)) hret hv hx (fun z hz => by cases hz) (by rw [hb]; exact lb0_4) hlk
  | 1, _, hcode, hvl, hr, hfd =>
    have hb : ck.code = lb1 := lb_of hcode
    obtain ⟨v0, rfl⟩ := List.length_eq_one_iff.mp hvl
    refine lv_aload_n hexec hb lb1_0 rfl rfl ?_
    refine lam_get hexec (hfd 0 _ v0 rfl rfl) hc1 hkn (by rw [hb]; exact lb1_1) ?_
    refine lv_aload_n hexec hb lb1_4 rfl rfl ?_
    exact lam_tail (pc := 5) (As := [v0, .ref cc]) hexec hml.symm (hr 5 (by rw [hb]; exact lb1_5)) hret hv hx (fun z hz => by cases hz) (by rw [hb]; exact lb1_8) hlk
  | 2, _, hcode, hvl, hr, hfd =>
    have hb : ck.code = lb2 := lb_of hcode
    obtain ⟨v0, v1, rfl⟩ : ∃ a b, vals = [a, b] := by
      match vals, hvl with
      | [a, b], _ => exact ⟨a, b, rfl⟩
    refine lv_aload_n hexec hb lb2_0 rfl rfl ?_
    refine lam_get hexec (hfd 0 _ v0 rfl rfl) hc1 hkn (by rw [hb]; exact lb2_1) ?_
    refine lv_aload_n hexec hb lb2_4 rfl rfl ?_
    refine lam_get hexec (hfd 1 _ v1 rfl rfl) hc1 hkn (by rw [hb]; exact lb2_5) ?_
    refine lv_aload_n hexec hb lb2_8 rfl rfl ?_
    exact lam_tail (pc := 9) (As := [v0, v1, .ref cc]) hexec hml.symm (hr 9 (by rw [hb]; exact lb2_9)) hret hv hx (fun z hz => by cases hz) (by rw [hb]; exact lb2_12) hlk
  | k + 3, hk, _, _, _, _ => exact absurd hk (by omega)
/-- a forwarder's run, at the state it was called in -/
theorem lam_kW {i k b cc : Nat} {z : MethodName × Nat × Nat × Lambda.Shape} {ds1 ds2 : String} {rt : FieldType} {vals : List Value} (hz : lsites[i]? = some z) (K : lmK z.2.2.2 z.1.cls (lmB k) rt (lmM k).1 (lmM k).2.1 (lmM k).2.2.1 (lmM k).2.2.2 (lmG ds1 ds2 k) = true) (hk2 : k ≤ 2)
    (hye : zm_y N = ⟨z.2.2.2.implClass, z.2.2.2.implName, z.2.2.2.implDesc.toString⟩) (hm : zMw N) (hnp : zNp (zm_y N) (k + 1)) (hst : Cond.static (zm_y N) ∈ lw_tbl) (hvl : vals.length = k) (hcat : ∀ v ∈ vals, v.category = 1) (hK : zK G N d' r' (vals ++ [Value.ref cc]) h Q') (hln : k + 1 ≤ zm_n N)
    (hv : ∀ v h', Q' (.inl v) h' → ∃ w, v = some (.int w) ∧ narrow rt (.int w) = .int w) (hx : ∀ E h', ¬ Q' (.inr E) h')
    {p : Program} {e : Env} {S : State} {below : List Frame} {methk : Method} {ck : Code} {H : Heap} (hexec : p.tables.exec = Jvm.exec) (hTs : zTb G S) (hH : zHp G S h H) (hcode : ck.code.data.toList = lmB k) (hml : ck.maxLocals = 2) (hret : methk.sig.returnType = some rt) (hlk : methk.locks = false)
    (hcell : ∃ cell : Cell, H[b]? = some cell ∧ cell.vm = .none ∧ cell.slots.toList = vals) (hown : S.heap = H) :
    W p (zg_l G) e (zRm (d' + 1) r') S ⟨(zg_D G).1 (50 + i), 1⟩ #[.ref b, .ref cc] below methk ck H [] 0 0 (vx_MQ below (zQc G Q') (fun _ _ _ => False) #[.ref b, .ref cc] S (0 + r') (0 + 4 * r') (zfree G)) (entryFrame ⟨(zg_D G).1 (50 + i), 1⟩ #[.ref b, .ref cc] 2) := by
  have hlenA : (vals ++ [Value.ref cc]).length = k + 1 := by rw [List.length_append, hvl]; rfl
  have hM := zK.met hm (fun w hw => (List.mem_append.mp hw).elim (hcat w) fun q => by rw [List.mem_singleton.mp q]; rfl) (by rw [hlenA]; exact hln) hK
  have hmax : zm_n N ≤ 100 := hm.2.2.2.2
  have hB : vx_Back (zg_l G) (zRm (d' + 1) r') p e below S #[.ref b, .ref cc] (zm_y N) 3 8 (PreOf (zRm (d' + 1) r') r' (4 * r') (zPc G (vals ++ [Value.ref cc]) h)) (PostOf (zQc G Q') r' (4 * r') (zfree G)) (vx_Post (zXC G Q') r' (4 * r') (zfree G)) :=
    vx_back hM zPc.blind rfl rfl (Nat.le_refl _) (by show 8 + (zm_n N + 11) + 128 * d' ≤ 128 * (d' + 1); omega) (zws hTs hm.1.2 rfl) (List.mem_singleton.mpr rfl) (fun a' U hW => zword_moved rfl hW (hTs.w (A := #[]) hm.2.1 rfl))
  refine lam_body (R := zRm (d' + 1) r') (mc := r') hz K hk2 hexec hTs hcode hml hret hlk hcell hvl (fun pc9 hd9 => ?_) hv hx
  refine lam_run (As := vals ++ [Value.ref cc]) hexec hml.symm hB (fun U hWU => ?_) (fun U hUH hWU => ⟨rfl, hTs.moved hWU, ?_⟩) ⟨by show 0 + r' ≤ r'; omega, by show 0 + 4 * r' ≤ 4 * r'; omega⟩ (by decide) hd9
  · have := lam_static hTs hz K hye hm hnp hst (e := e) hWU
    rw [hlenA]
    exact this
  · rw [hUH]
    exact hH.moved hWU.alike
set_option maxHeartbeats 4000000 in
theorem zW.callL {idx cnt i k b cc kk : Nat} {x : MethodName} {rt : FieldType} {vals : List Value} {st0 : List Value} (hd : decode (zm_c M) pc = .ok (.invokeinterface idx cnt, 5)) (hn : pc + 5 = pc') (hcw : zCL (zm_y M).cls idx i k x N rt) (hst : st0 = .ref cc :: .ref b :: rest) (hi : i < 50) (hh : h b = some (kk, vals)) (hkk : kk % 1000 = 50 + i) (hvl : vals.length = k) (hcat : ∀ v ∈ vals, v.category = 1)
    (hK : zK G N d' r' (vals ++ [Value.ref cc]) h Q') (hln : k + 1 ≤ zm_n N) (hv : ∀ v h', Q' (.inl v) h' → ∃ w, v = some (.int w) ∧ narrow rt (.int w) = .int w) (hx : ∀ E h', ¬ Q' (.inr E) h') (hdd : d' + 2 ≤ d) (hW : (rest.map fun v => v.category).sum ≤ 8)
    (kq : ∀ v h', Q' (.inl v) h' → zW G M d r pc' L (v.toList ++ rest) h' Q) : zW G M d (r + r') pc L st0 h Q := by
  subst hn; subst hst
  obtain ⟨z, ds1, ds2, hz, hk2, K, hpn, hxe, hye, hm, hnp, hst, hl1, hl2, ⟨hl3, hl3g⟩, hnx, hmh⟩ := hcw
  intro p e R s m args below meth c A H locs cells slots ls hH hl hc hs hL T hTH X
  have hT := A.tb
  obtain ⟨cell, g1, g2, g3, g4⟩ := (hH.1 b _ hh).1.lam hkk hi
  obtain ⟨ms, kS, cfS, i0, p0, lk, e1, e2, e3, e4, e5, hmade, hcall, hlk⟩ := hT.2.2.2.2.2.2.2.2.2 i z hz
  obtain ⟨dk, hdk, hdn⟩ := className_of_methodNamed e1
  obtain ⟨kK, tk, file, methk, ck, toy, iface, t, found, ⟨w1, w2, w3, w4⟩, ⟨f1, f2, f3, f4, f5, f6, f7, f8⟩, -, -, -, ⟨i1, i2, i3⟩⟩ := lmK.made K hdk hdn hmade hT.obj
  obtain ⟨r0, rm, hn0, hrm, hstR, hsigR⟩ := Cond.declares_spec (hT.w (A := args) hl2 rfl)
  obtain ⟨cL, kL, r1, hcL, hkL, hiL, hfoundL, hn1⟩ := Cond.interfaceMethod_spec (hT.w (A := args) hl3 hl3g)
  cases hn0.symm.trans hn1
  have hr0cls : r0.cls = cL := Option.some.inj ((findClass_of_methodNamed hn0).symm.trans hcL)
  obtain ⟨hnameR, hdescR⟩ := name_of_methodNamed hn0 hrm
  have hif : s.vm.findClass x.cls = some iface := by rw [hxe]; exact i1
  cases hcL.symm.trans hif
  have hfe : found = r0 := by
    have h1 := hfoundL
    simp only [State.methodFound?, hif, hkL, Option.bind_eq_bind, Option.bind_some, hiL] at h1
    rw [show x.name = z.2.2.2.name by rw [hxe], show x.desc = z.2.2.2.sam.toString by rw [hxe], i2] at h1
    exact Option.some.inj h1
  subst hfe
  obtain ⟨c9, hc9, hasg, hway⟩ := State.lambdaCallable_spec hcall
  cases i1.symm.trans hc9
  have hplain : ∀ U : State, s.vm.Alike U.vm → U.plainMethod ⟨(zg_D G).1 (50 + i), 1⟩ := fun U hal kU hkU => by
    obtain ⟨k', hk', he⟩ := hal.2.2 _ _ w1
    cases hk'.symm.trans hkU
    exact plain_of_name (by rw [he]; show plainName kK.name = true; rw [w2]; exact hpn)
  have hdR := A.2.2.2.2.2.2.2.2.2.1
  obtain ⟨vm₁, X₁, hstep₁⟩ := X.invokeinterface A.1 A.own (hT.w (A := args) hl1 rfl) hn0 hrm hstR (by rw [hr0cls]; exact hkL) hiL hmh (a := b) (cell := cell) (kcell := kK) (by rw [hTH]; exact g1) (fun q hq => by rw [g3] at hq; cases hq) (by rw [g2]; exact w1)
    (by rw [g2, hr0cls]; exact hasg) (m' := ⟨(zg_D G).1 (50 + i), 1⟩) (meth' := methk) (by rw [Launch.admits_selectMethod X.admits, g2]; exact i3) f1 (by rw [g2, hnameR, hdescR, hxe]; exact hway) (by rw [f7]; decide) (by simp [Method.isAbstract, f7, hasFlag, Acc.abstract])
    (g := F0 m pc ls (.ref cc :: .ref b :: rest)) rfl (argsL := [.ref cc]) (rest := rest) (hnx.len _ hsigR) rfl (by rw [A.2.1]; exact hd)
  have hW₁ : s.WarmedH vm₁ := X₁.warmed
  have hlenA : (vals ++ [Value.ref cc]).length = k + 1 := by rw [List.length_append, hvl]; rfl
  have hm2 : (T.setVm vm₁).vm.method? ⟨(zg_D G).1 (50 + i), 1⟩ = some methk := by
    show vm₁.method? _ = _
    rw [hW₁.alike.method?]; exact f1
  obtain ⟨v, t9, T', L9, X', hL9, q1, q2, ⟨v', h', ev, hQ, hH'⟩, st9⟩ := lam_thru (R' := zRm (d' + 1) r') (mk := ⟨(zg_D G).1 (50 + i), 1⟩) (a := #[.ref b, .ref cc]) (g := F0 m pc ls rest) (Qc := zQc G Q') (mc := 0 + r') (ms := 0 + 4 * r') (free := zfree G) X₁ rfl (by rw [A.2.2.2.1]; exact hL.1) (by rw [A.2.1]; exact hd) hm2 f2 f6 (hplain _ hW₁.alike)
    (by show d' + 1 + 1 ≤ R.frames; omega) (by show 2 * 0 + (rest.map fun v => v.category).sum + (ck.maxLocals + 11) + 128 * (d' + 1) ≤ R.locals; omega) (by show cells + r' ≤ R.cells; omega) (by show slots + 4 * r' ≤ R.slots; omega)
    (fun U₀ hU₀ hV₀ Y₀ => by
      have hTs : zTb G ((T.setVm vm₁).calling (F0 m pc ls rest) ⟨(zg_D G).1 (50 + i), 1⟩ #[.ref b, .ref cc]) := hT.moved (U := (T.setVm vm₁).calling (F0 m pc ls rest) ⟨(zg_D G).1 (50 + i), 1⟩ #[.ref b, .ref cc]) hW₁
      have hHS : zHp G ((T.setVm vm₁).calling (F0 m pc ls rest) ⟨(zg_D G).1 (50 + i), 1⟩ #[.ref b, .ref cc]) h H := hH.moved (u := s) (U := (T.setVm vm₁).calling (F0 m pc ls rest) ⟨(zg_D G).1 (50 + i), 1⟩ #[.ref b, .ref cc]) hW₁.alike
      have hk := lam_kW (G := G) (below := .java (F0 m pc ls rest) :: below) (cc := cc) hz K hk2 hye hm hnp hst hvl hcat hK hln hv hx (p := p) (e := e) A.1 hTs hHS f3 f4 f8 f6 ⟨cell, g1, g3, g4⟩ hTH
      rw [f4]
      exact hk U₀ (hU₀.trans hTH) Y₀)
  cases ev
  have hal : s.vm.Alike t9.vm := by rw [← q2]; exact X'.warmed.alike
  obtain ⟨t2, a1, b1⟩ := kq v h' hQ p e R s m args below meth c A T'.heap (locs ++ L9) (cells + (0 + r')) (slots + (0 + 4 * r')) ls (by rw [q1]; exact hH'.moved hal.symm) (fun z hz => (List.mem_append.mp hz).elim (hl z) (hL9 z)) (by omega) (by omega) hL T' rfl X'
  exact ⟨t2, hstep₁ _ fun acts => (st9 acts).trans a1, b1⟩
end
