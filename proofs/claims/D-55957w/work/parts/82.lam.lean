/-! LAMBDAS: what a made class holds -/
section
set_option maxRecDepth 100000
/-- a shape's class file, its second method, its fields, computed -/
def lmD (σ : Lambda.Shape) (cn : String) : ClassFile := (σ.file cn).getD { minorVersion := 0, majorVersion := 0, constantPool := #[], accessFlags := 0, thisClass := 0, superClass := 0, interfaces := #[], fields := #[], methods := #[], attributes := #[] }
def lmF (σ : Lambda.Shape) (cn : String) : Method := ((layoutMethods (lmD σ cn)).bind (·[1]?)).getD default
def lmL (σ : Lambda.Shape) (cn : String) : Array Field × Array FieldType × Array FieldType := (layoutFields (lmD σ cn) 0).getD (#[], #[], #[])
/-- what is computed of a shape: bytes, the method's entry mi (class ci, name and type nt), the fields' entries -/
def lmK (σ : Lambda.Shape) (cn : String) (bytes : List UInt8) (rt : FieldType) (mi ci nt cs : Nat) (fs : List (Nat × Nat × String × String)) : Bool :=
  (σ.file cn).isSome && ((layoutMethods (lmD σ cn)).bind (·[1]?)).isSome && (layoutFields (lmD σ cn) 0).isSome &&
  decide (((lmF σ cn).code.map fun c => (c.code.data.toList, c.maxLocals, c.exceptionTable.size)) = some (bytes, 2, 0)) &&
  decide ((lmL σ cn).2.1.toList = σ.captured) && decide (((lmF σ cn).accessFlags, (lmF σ cn).name, (lmF σ cn).sig.returnType) = (0x0001, σ.name, some rt)) &&
  decide ((lmD σ cn).constantPool[mi]? = some (.methodref ci nt)) && decide ((lmD σ cn).constantPool.className? ci = some σ.implClass) && decide ((lmD σ cn).constantPool.nameAndType? nt = some (σ.implName, σ.implDesc.toString)) &&
  decide ((lmD σ cn).constantPool[ci]? = some (.class_ cs)) && decide ((lmD σ cn).constantPool.string? cs = some σ.implClass) && decide (ci ≠ (lmD σ cn).thisClass) &&
  (fs.zipIdx.all fun x => decide ((lmD σ cn).constantPool[x.1.1]? = some (.fieldref 2 x.1.2.1)) && decide ((lmD σ cn).constantPool.nameAndType? x.1.2.1 = some (x.1.2.2.1, x.1.2.2.2)) && decide ((lmL σ cn).1.findIdx? (·.name == x.1.2.2.1) = some x.2) && decide (((lmL σ cn).1[x.2]?).map (fun f => (f.isStatic, f.slot)) = some (false, x.2)))
theorem lm_some {α : Type} {o : Option α} {x : α} (h : o.isSome = true) : o = some (o.getD x) := by
  cases o with
  | none => cases h
  | some y => rfl
theorem lmK.made {σ : Lambda.Shape} {cn : String} {bytes : List UInt8} {rt : FieldType} {mi ci nt cs : Nat} {fs : List (Nat × Nat × String × String)} (K : lmK σ cn bytes rt mi ci nt cs fs = true) {vm : Vm} {d c : ClassId} {dk : Class} (hd : vm.classes[d]? = some dk) (hname : dk.name = cn) (h : Lambda.isMade { classPath := fun _ => none } vm d σ c = true)
    (hO : ∀ o ok, vm.findClass "java/lang/Object" = some o → vm.classes[o]? = some ok → ok.instanceTypes.size = 0) :
    ∃ (k tk : Class) (file : ClassFile) (methk : Method) (ck : Code) (toy iface : ClassId) (t found : MethodId),
      (vm.classes[c]? = some k ∧ k.name = cn ++ "$$Lambda" ∧ k.cf = some file ∧ k.instanceTypes.toList = σ.captured) ∧ (vm.method? ⟨c, 1⟩ = some methk ∧ methk.code = some ck ∧ ck.code.data.toList = bytes ∧ ck.maxLocals = 2 ∧ ck.exceptionTable = #[] ∧ methk.locks = false ∧ methk.accessFlags = 0x0001 ∧ methk.sig.returnType = some rt) ∧
      (vm.findClass σ.implClass = some toy ∧ vm.classes[toy]? = some tk ∧ ((methodIn toy σ.implName σ.implDesc.toString tk.isInterface none).ask { classPath := fun _ => none } vm).1 = .ok t) ∧ (vm.methodReady c mi t ∧ vm.classReady c ci toy ∧ file.constantPool[mi]? = some (.methodref ci nt) ∧ file.constantPool.nameAndType? nt = some (σ.implName, σ.implDesc.toString)) ∧
      (∀ (j : Nat) x, fs[j]? = some x → ∃ f0 : Field, vm.fieldReady c x.1 c f0 ∧ f0.isStatic = false ∧ f0.slot = j) ∧ (vm.findClass σ.iface = some iface ∧ ((methodIn iface σ.name σ.sam.toString true none).ask { classPath := fun _ => none } vm).1 = .ok found ∧ selectMethod {} vm c found = .method ⟨c, 1⟩) := by
  unfold lmK at K
  simp only [Bool.and_eq_true, decide_eq_true_eq] at K
  obtain ⟨⟨⟨⟨⟨⟨⟨⟨⟨⟨⟨⟨K1, K2⟩, K3⟩, K4⟩, K5⟩, K6⟩, K7⟩, K8⟩, K9⟩, K10⟩, K11⟩, K12⟩, K13⟩ := K
  have e1 : σ.file cn = some (lmD σ cn) := lm_some K1
  have e2 : (layoutMethods (lmD σ cn)).bind (·[1]?) = some (lmF σ cn) := lm_some K2
  have e3 : layoutFields (lmD σ cn) 0 = some (lmL σ cn) := lm_some K3
  obtain ⟨dk', k, ok, tk, file, cf, object, iface, toy, lay, methods, target, found, hd', hk, hfile, hcf, hobj, hif, hok, hlay, hms, ht, htk, hg, hfo, hrec, -, -, -, -, hpool, hmeth, hfields, htys, hres, hsel⟩ := Lambda.isMade_spec h
  cases hd.symm.trans hd'
  rw [hname, e1] at hcf
  cases hcf
  rw [hO object ok hobj hok, e3] at hlay
  cases hlay
  rw [hms, Option.bind_some] at e2
  obtain ⟨b, hb, hsame⟩ := hmeth 1 _ e2
  obtain ⟨-, -, hsig, hfl, x, y, hx, hy, -, hml, hcode, hex⟩ := Lambda.sameMethod_spec hsame
  rw [hx] at K4
  simp only [Option.map_some, Option.some.injEq, Prod.mk.injEq] at K4
  simp only [Prod.mk.injEq] at K6
  have hty0 : ok.instanceTypes = #[] := Array.eq_empty_of_size_eq_zero (hO object ok hobj hok)
  refine ⟨k, tk, file, b, y, toy, iface, target, found, ⟨hk, by rw [hrec.1, hname], hfile, by rw [htys.1, hty0]; simpa using K5⟩, ⟨by simp [Vm.method?, hk, hb], hy, by rw [hcode]; exact K4.1, by rw [hml]; exact K4.2.1, hex, ?_, by rw [hfl]; exact K6.1, by rw [hsig]; exact K6.2.2⟩, ⟨ht, htk, hg⟩,
    ⟨⟨k, hk, hres mi _ (Lambda.resolvedOf_method K7 K8 ht htk K9 hg)⟩, ⟨k, hk, hres ci _ (Lambda.resolvedOf_class K10 K12 K11 ht)⟩, by rw [hpool.2.1]; exact K7, by rw [hpool.2.1]; exact K9⟩, fun j z hz => ?_, hif, hfo, hsel⟩
  · simp [Method.locks, Method.isSynchronized, hfl, K6.1, hasFlag, Acc.synchronized]
  · have hq := List.all_eq_true.mp K13 (z, j) (List.mem_zipIdx_iff_getElem?.mpr hz)
    simp only [Bool.and_eq_true, decide_eq_true_eq] at hq
    obtain ⟨⟨⟨q1, q2⟩, q3⟩, q4⟩ := hq
    obtain ⟨g0, hg0, hp0⟩ := Option.map_eq_some_iff.mp q4
    simp only [Prod.mk.injEq] at hp0
    exact ⟨g0, ⟨k, j, k, hk, hres z.1 _ (Lambda.resolvedOf_field q1 q2 q3), hk, hfields j _ hg0⟩, hp0.1, hp0.2⟩
end
