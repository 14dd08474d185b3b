/-! LAMBDAS: the sites' own rows -/
section
set_option maxRecDepth 100000
variable {G : zG} {M : zM} {d r pc pc' : Nat} {L st st0 rest : List Value} {h : zH} {Q : zR → zH → Prop}
theorem lam_i1 {α : Type} {x : Option CpInfo} {f : Nat → Nat → Option α} {r : α} (h : Lambda.shapeOf?.match_19 (fun _ => Option α) x f (fun _ => none) = some r) : ∃ b nt, x = some (.invokeDynamic b nt) ∧ f b nt = some r := by
  split at h
  · exact ⟨_, _, rfl, h⟩
  · cases h
theorem lam_i2 {α : Type} {x : Option CpInfo} {f : Nat → Option α} {r : α} (h : Lambda.shapeOf?.match_17 (fun _ => Option α) x f (fun _ => none) = some r) : ∃ y, f y = some r := by
  split at h
  · exact ⟨_, h⟩
  · cases h
theorem lam_i3 {α : Type} {x : Array Nat} {f : Nat → Nat → Nat → Option α} {r : α} (h : Lambda.shapeOf?.match_15 (fun _ => Option α) x f (fun _ => none) = some r) : ∃ a0 a1 a2, f a0 a1 a2 = some r := by
  rcases x with ⟨L⟩
  match L, h with
  | [], h => cases h
  | [_], h => cases h
  | [_, _], h => cases h
  | [a, b, c], h => exact ⟨a, b, c, h⟩
  | _ :: _ :: _ :: _ :: _, h => cases h
theorem lam_i4 {α : Type} {x : Option CpInfo} {f : Nat → Option α} {r : α} (h : Lambda.shapeOf?.match_9 (fun _ => Option α) x f (fun _ => none) = some r) : ∃ y, f y = some r := by
  split at h
  · exact ⟨_, h⟩
  · cases h
theorem lam_i5 {α : Type} {x : Option CpInfo} {f : Nat → Nat → Option α} {r : α} (h : Lambda.shapeOf?.match_12 (fun _ => Option α) x f (fun _ => none) = some r) : ∃ y z, f y z = some r := by
  split at h
  · exact ⟨_, _, h⟩
  · cases h
theorem lam_i6 {α : Type} {x : Option FieldType} {f : String → Option α} {r : α} (h : Lambda.shapeOf?.match_6 (fun _ => Option α) x f (fun _ => none) = some r) : ∃ y, f y = some r := by
  split at h
  · exact ⟨_, h⟩
  · cases h
theorem lam_shape {cf : ClassFile} {index : Nat} {σ : Lambda.Shape} (h : Lambda.shapeOf? cf index = some σ) : ∃ (bsm nt : Nat) (name desc : String) (sig : MethodDescriptor), cf.constantPool[index]? = some (.invokeDynamic bsm nt) ∧ cf.constantPool.nameAndType? nt = some (name, desc) ∧ parseLongMethodDescriptor desc = some sig ∧ sig.parameters = σ.captured := by
  unfold Lambda.shapeOf? at h
  obtain ⟨b, nt, hc, h⟩ := lam_i1 h
  obtain ⟨_, -, h⟩ := Option.bind_eq_some_iff.mp h
  obtain ⟨_, -, h⟩ := Option.bind_eq_some_iff.mp h
  obtain ⟨_, h⟩ := lam_i2 h
  obtain ⟨_, -, h⟩ := Option.bind_eq_some_iff.mp h
  obtain ⟨_, _, _, h⟩ := lam_i3 h
  obtain ⟨_, h⟩ := lam_i4 h
  obtain ⟨_, _, h⟩ := lam_i5 h
  obtain ⟨_, h⟩ := lam_i4 h
  obtain ⟨⟨name, desc⟩, hnt, h⟩ := Option.bind_eq_some_iff.mp h
  obtain ⟨site, hsite, h⟩ := Option.bind_eq_some_iff.mp h
  obtain ⟨_, h⟩ := lam_i6 h
  obtain ⟨⟨_, _, _, _⟩, -, h⟩ := Option.bind_eq_some_iff.mp h
  obtain ⟨_, -, h⟩ := Option.bind_eq_some_iff.mp h
  obtain ⟨_, -, h⟩ := Option.bind_eq_some_iff.mp h
  obtain ⟨_, -, h⟩ := Option.bind_eq_some_iff.mp h
  obtain ⟨_, -, h⟩ := Option.bind_eq_some_iff.mp h
  obtain ⟨_, -, h⟩ := Option.bind_eq_some_iff.mp h
  cases h
  exact ⟨b, nt, name, desc, site, hc, hnt, parseLong_of_parse hsite, rfl⟩
/-- a site where nothing is captured: its one object -/
theorem zW.lamC {idx i : Nat} {z : MethodName × Nat × Nat × Lambda.Shape} (hd : decode (zm_c M) pc = .ok (.invokedynamic idx, 5)) (hn : pc + 5 = pc') (hz : lsites[i]? = some z) (hM : zm_y M = z.1) (hp : pc = z.2.1) (hcap : z.2.2.2.captured = []) (hdd : 25 ≤ d) (hW : (st.map fun v => v.category).sum ≤ 8)
    (k : zW G M d r pc' L (.ref (zg_a G (50 + i)) :: st) h Q) : zW G M d r pc L st h Q := by
  subst hn; subst hp
  intro p e R s m args below meth c A H locs cells slots ls hH hl hc hs hL T hTH X
  have hT := A.tb
  obtain ⟨ms, kS, cfS, i0, p0, lk, e1, e2, e3, e4, e5, hmade, hcall, hlk⟩ := hT.2.2.2.2.2.2.2.2.2 i z hz
  have hms : ms = m := by
    have := A.2.2.2.2.2.2.2.2.2.2.1
    rw [hM] at this
    exact Option.some.inj (e1.symm.trans this)
  subst hms
  obtain ⟨rfl, -⟩ : lk = .constant (zg_a G (50 + i)) ∧ z.2.2.2.captured = [] := by
    rcases hlk with q | q
    · exact q
    · exact absurd hcap q.2
  have hR := A.2.2.2.2.2.2.2.2.2.1
  obtain ⟨t2, a1, b1⟩ := k p e R s ms args below meth c A H locs cells slots ls hH hl hc hs hL T hTH X
  refine ⟨t2, ?_, b1⟩
  exact X.lambdaConstant A.1 (g := F0 ms z.2.1 ls st) rfl (by rw [A.2.2.2.1]; exact hL.1) (by rw [A.2.1]; exact hd) e2 e5 (by rw [X.admits.platform]; show 2 * 0 + (st.map fun v => v.category).sum + 3072 ≤ R.locals; omega) a1
/-- a site that captures: it makes an object -/
theorem zW.lamM {idx i : Nat} {z : MethodName × Nat × Nat × Lambda.Shape} {vals : List Value} (hd : decode (zm_c M) pc = .ok (.invokedynamic idx, 5)) (hn : pc + 5 = pc') (hz : lsites[i]? = some z) (hM : zm_y M = z.1) (hp : (pc, idx) = (z.2.1, z.2.2.1)) (hi : i < 50) {bytes : List UInt8} {rt : FieldType} {mi ci nt cs : Nat} {fs : List (Nat × Nat × String × String)} (K : lmK z.2.2.2 z.1.cls bytes rt mi ci nt cs fs = true)
    (hlen : vals.length = z.2.2.2.captured.length) (hne : 0 < vals.length) (h4 : vals.length ≤ 4) (hnar : ((z.2.2.2.captured.zip vals).map fun (t, v) => narrow t v) = vals) (hfit : ∀ (j : Nat) t v, z.2.2.2.captured[j]? = some t → vals[j]? = some v → fits t v = true) (hst : st0 = vals.reverse ++ rest) (hdd : 25 ≤ d) (hW : (st0.map fun v => v.category).sum ≤ 8)
    (kq : ∀ a h', h a = none → h' = zup h a (50 + i, vals) → h' a = some (50 + i, vals) → zW G M d r pc' L (.ref a :: rest) h' Q) : zW G M d (r + 1) pc L st0 h Q := by
  subst hn; subst hst
  obtain ⟨hp1, hp2⟩ := Prod.mk.inj hp
  subst hp1; subst hp2
  intro p e R s m args below meth c A H locs cells slots ls hH hl hc hs hL T hTH X
  have hT := A.tb
  obtain ⟨ms, kS, cfS, i0, p0, lk, e1, e2, e3, e4, e5, hmade, hcall, hlk⟩ := hT.2.2.2.2.2.2.2.2.2 i z hz
  have hms : ms = m := by
    have := A.2.2.2.2.2.2.2.2.2.2.1
    rw [hM] at this
    exact Option.some.inj (e1.symm.trans this)
  subst hms
  have hlk : lk = .makes ((zg_D G).1 (50 + i)) := by
    rcases hlk with q | q
    · rw [q.2] at hlen
      exact absurd hlen (by simp only [List.length_nil]; omega)
    · exact q.1
  subst hlk
  obtain ⟨dk, hdk, hdn⟩ := className_of_methodNamed e1
  obtain ⟨kK, tk, file, methk, ck, toy, iface, t, found, ⟨w1, w2, w3, w4⟩, -, -, -, -, -⟩ := lmK.made K hdk hdn hmade hT.obj
  obtain ⟨bsm, nt9, name, desc, sig, hc7, hnt7, hsig, hsp⟩ := lam_shape e4
  have hR := A.2.2.2.2.2.2.2.2.2.1
  have hslE : ((kK.instanceTypes.toList.zip vals).map fun (t, v) => narrow t v) = vals := by rw [w4]; exact hnar
  have hkind : kK.kind = .ordinary := by
    obtain ⟨dk', k, ok, tk', file', cf', object, iface', toy', lay, methods, target, found', -, hk, -, -, -, -, -, -, -, -, -, -, -, hrec, -⟩ := Lambda.isMade_spec hmade
    cases hk.symm.trans w1
    exact hrec.2.1
  obtain ⟨X₁, st1⟩ := X.lambdaMakes A.1 (g := F0 ms z.2.1 ls (vals.reverse ++ rest)) rfl (by rw [A.2.2.2.1]; exact hL.1) (by rw [A.2.1]; exact hd) (vals := vals) (rest := rest) e2 e5 e3 hc7 hnt7 hsig (by rw [hsp]; exact hlen) rfl w1
    (by rw [X.admits.platform]; show 2 * 0 + ((vals.reverse ++ rest).map fun v => v.category).sum + 3072 ≤ R.locals; omega) (by omega) (by rw [hslE]; omega)
    (fun j v hj => by
      rw [hslE] at hj
      have hjl := (Array.getElem?_eq_some_iff.mp hj).1
      rw [List.getElem?_toArray] at hj
      rw [List.size_toArray, hlen] at hjl
      have ht := List.getElem?_eq_getElem hjl
      have hc9 : kK.instanceTypes[j]? = some z.2.2.2.captured[j] := by rw [← Array.getElem?_toList, w4]; exact ht
      simp only [State.fitsSlot, State.slotType?, w1, hkind, Option.bind_eq_bind, Option.bind_some, hc9]
      exact hfit j _ v ht hj)
  rw [hslE] at X₁ st1
  obtain ⟨h0, hp⟩ := hH.push (c := (50 + i, vals)) (H' := H.push { cls := (zg_D G).1 (50 + i), slots := vals.toArray, vm := .none }) (by simp) (fun q hq => by rw [Array.getElem?_push, if_neg (Nat.ne_of_lt hq)]) (by
    unfold zAt
    rw [if_neg (by show ¬ (50 + i) % 1000 < 50; omega), if_pos (by show (50 + i) % 1000 < 100; omega)]
    exact ⟨_, Array.getElem?_push_size, by show _ = (zg_D G).1 ((50 + i) % 1000); rw [Nat.mod_eq_of_lt (by omega)], rfl, by simp⟩)
  have hsz : T.heap.size = H.size := by rw [hTH]
  obtain ⟨t2, a1, b1⟩ := kq _ _ h0 rfl zup_s p e R s ms args below meth c A _ locs (cells + 1) (slots + vals.length) ls hp hl (by omega) (by omega) hL (T.pushCell { cls := (zg_D G).1 (50 + i), slots := vals.toArray, vm := .none }) (by show T.heap.push _ = _; rw [hTH]) (by simpa using X₁)
  rw [hsz] at st1
  exact ⟨t2, st1 _ a1, b1⟩
end
