/-! LAMBDAS: the sites' own rows -/
section
set_option maxRecDepth 100000
variable {G : zG} {M : zM} {d r pc pc' : Nat} {L st st0 rest : List Value} {h : zH} {Q : zR → zH → Prop}
theorem lam_i1 {α : Type} {x : Option CpInfo} {f : Nat → Nat → Option α} {r : α} (h : Lambda.shapeOf?.match_19 (fun _ => Option α) x f (fun _ => none) = some r) : ∃ b nt, x = some (.invokeDynamic b nt) ∧ f b nt = some r := sorry
theorem lam_i2 {α : Type} {x : Option CpInfo} {f : Nat → Option α} {r : α} (h : Lambda.shapeOf?.match_17 (fun _ => Option α) x f (fun _ => none) = some r) : ∃ y, f y = some r := sorry
theorem lam_i3 {α : Type} {x : Array Nat} {f : Nat → Nat → Nat → Option α} {r : α} (h : Lambda.shapeOf?.match_15 (fun _ => Option α) x f (fun _ => none) = some r) : ∃ a0 a1 a2, f a0 a1 a2 = some r := sorry
theorem lam_i4 {α : Type} {x : Option CpInfo} {f : Nat → Option α} {r : α} (h : Lambda.shapeOf?.match_9 (fun _ => Option α) x f (fun _ => none) = some r) : ∃ y, f y = some r := sorry
theorem lam_i5 {α : Type} {x : Option CpInfo} {f : Nat → Nat → Option α} {r : α} (h : Lambda.shapeOf?.match_12 (fun _ => Option α) x f (fun _ => none) = some r) : ∃ y z, f y z = some r := sorry
theorem lam_i6 {α : Type} {x : Option FieldType} {f : String → Option α} {r : α} (h : Lambda.shapeOf?.match_6 (fun _ => Option α) x f (fun _ => none) = some r) : ∃ y, f y = some r := sorry
theorem lam_shape {cf : ClassFile} {index : Nat} {σ : Lambda.Shape} (h : Lambda.shapeOf? cf index = some σ) : ∃ (bsm nt : Nat) (name desc : String) (sig : MethodDescriptor), cf.constantPool[index]? = some (.invokeDynamic bsm nt) ∧ cf.constantPool.nameAndType? nt = some (name, desc) ∧ parseLongMethodDescriptor desc = some sig ∧ sig.parameters = σ.captured := sorry
/-- a site where nothing is captured: its one object -/
theorem zW.lamC {idx i : Nat} {z : MethodName × Nat × Nat × Lambda.Shape} (hd : decode (zm_c M) pc = .ok (.invokedynamic idx, 5)) (hn : pc + 5 = pc') (hz : lsites[i]? = some z) (hM : zm_y M = z.1) (hp : pc = z.2.1) (hcap : z.2.2.2.captured = []) (hdd : 25 ≤ d) (hW : (st.map fun v => v.category).sum ≤ 8)
    (k : zW G M d r pc' L (.ref (zg_a G (50 + i)) :: st) h Q) : zW G M d r pc L st h Q := sorry
/-- a site that captures: it makes an object -/
theorem zW.lamM {idx i : Nat} {z : MethodName × Nat × Nat × Lambda.Shape} {vals : List Value} (hd : decode (zm_c M) pc = .ok (.invokedynamic idx, 5)) (hn : pc + 5 = pc') (hz : lsites[i]? = some z) (hM : zm_y M = z.1) (hp : (pc, idx) = (z.2.1, z.2.2.1)) (hi : i < 50) {bytes : List UInt8} {rt : FieldType} {mi ci nt cs : Nat} {fs : List (Nat × Nat × String × String)} (K : lmK z.2.2.2 z.1.cls bytes rt mi ci nt cs fs = true)
    (hlen : vals.length = z.2.2.2.captured.length) (hne : 0 < vals.length) (h4 : vals.length ≤ 4) (hnar : ((z.2.2.2.captured.zip vals).map fun (t, v) => narrow t v) = vals) (hfit : ∀ (j : Nat) t v, z.2.2.2.captured[j]? = some t → vals[j]? = some v → fits t v = true) (hst : st0 = vals.reverse ++ rest) (hdd : 25 ≤ d) (hW : (st0.map fun v => v.category).sum ≤ 8)
    (kq : ∀ a h', h a = none → h' = zup h a (50 + i, vals) → h' a = some (50 + i, vals) → zW G M d r pc' L (.ref a :: rest) h' Q) : zW G M d (r + 1) pc L st0 h Q := sorry
end

