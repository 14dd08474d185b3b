/-! ROWS: new cells, arrays, statics, casts, ends -/
section
set_option maxRecDepth 100000
variable {G : zG} {M : zM} {d r pc pc' : Nat} {L L' st : List Value} {h : zH} {Q : zR → zH → Prop}
/-- a class entry: pool entry idx of class own is class nm -/
theorem zAct.own {p : Program} {R : Room} {s : State} {m : MethodId} {meth : Method} {c : Code} (A : zAct G M d p R s m meth c) : s.vm.findClass (zm_y M).cls = some m.cls := A.2.2.2.2.1
theorem zAct.tb {p : Program} {R : Room} {s : State} {m : MethodId} {meth : Method} {c : Code} (A : zAct G M d p R s m meth c) : zTb G s := A.2.2.2.2.2.2.2.2.1
/-- what a 'new' asks: pool entry idx of class own is class number ci, u units -/
def zN (own : String) (idx ci u : Nat) : Prop := ∃ (C : String) (T : u_T) (N : Nat), zcl[ci]? = some (C, T, N) ∧ ci < 50 ∧ Cond.classLink own idx C ∈ lw_tbl ∧ Cond.instantiable C N ∈ lw_tbl ∧ Cond.initialized C ∈ lw_tbl ∧ 1 ≤ u ∧ N ≤ 4 * u
theorem zdv_V {ci : Nat} {C : String} {T : u_T} {N : Nat} {ty : Nat → FieldType} (hci : zcl[ci]? = some (C, T, N)) (hty : ∀ k, k < N → parseFieldDescriptor (T k).2.2.1 = some (ty k)) : (zdv ci).length = N ∧ ∀ j, j < N → defaultValue (ty j) = vp_V (zdv ci) j := by
  unfold zdv
  rw [hci]
  refine ⟨by simp, fun j hj => ?_⟩
  simp only [vp_V, List.getD_eq_getElem?_getD, List.getElem?_map, List.getElem?_range hj, Option.map_some, Option.getD_some, hty j hj]
theorem zW.new {idx ci u : Nat} {fs : List Value} (hd : decode (zm_c M) pc = .ok (.new idx, 3)) (hn : pc + 3 = pc') (hN : zN (zm_y M).cls idx ci u) (hf : zdv ci = fs) (kq : ∀ a, h a = none → zW G M d r pc' L (.ref a :: st) (zup h a (ci, fs)) Q) : zW G M d (r + u) pc L st h Q := by
  subst hn; subst hf
  intro p e0 R s m args below meth c A H locs cells slots ls hH hl hc hs hL
  obtain ⟨C, T, N, hci, h50, hlk, hins, hini, hu1, hu2⟩ := hN
  have hT := A.tb
  obtain ⟨hin, ⟨ty, hty⟩, hnmn⟩ := zcl_ok hci
  have hKn := hT.2.1 ci _ hci
  refine W.newcK A.1 A.2.1 A.own (hT.w hlk rfl) (hT.w hins rfl) (hT.w hini rfl) rfl hd (by omega) (by omega) hKn.2.1 rfl fun H1 kC hkC e1 z1 o1 => ?_
  obtain ⟨hlen, hval⟩ := zdv_V hci hty
  obtain ⟨h0, hp⟩ := hH.push (c := (ci, zdv ci)) z1 o1 (zAt.mk (ci := ci) ⟨Nat.mod_eq_of_lt (by omega), h50⟩ ⟨_, hci, hlen, (u_born ty (hT.all (A := args)) hin hKn hkC e1 hty).to hval⟩)
  exact kq _ h0 p e0 R s m args below meth c A H1 locs _ _ ls hp hl (by omega) (by omega) hL
/-- what a 'newarray' asks -/
theorem zW.newa {at_ : ArrayType} {kk N u : Nat} {n : Int32} {fs : List Value} (hd : decode (zm_c M) pc = .ok (.newarray at_, 2)) (hn : pc + 2 = pc') (hk : 100 ≤ kk ∧ kk < 200) (hty : newarray.typeOf at_ = zty kk) (harr : Cond.arrayClass (newarray.typeOf at_) ∈ lw_tbl) (hra : ∀ (s : State) (cA : ClassId), s.vm.findClass ("[" ++ (zty kk).toString) = some cA → va_RA s cA (zty kk)) (hn0 : ¬ n < 0) (hN : n.toNatClampNeg = N) (hb : N * componentBytes (newarray.typeOf at_) ≤ 536870912) (hu : 1 ≤ u ∧ N ≤ 4 * u) (hf : List.replicate N (defaultValue (newarray.typeOf at_)) = fs) (kq : ∀ a, h a = none → zW G M d r pc' L (.ref a :: st) (zup h a (kk, fs)) Q) : zW G M d (r + u) pc L (.int n :: st) h Q := by
  subst hn; subst hf; subst hN
  intro p e0 R s m args below meth c A H locs cells slots ls hH hl hc hs hL
  have hT := A.tb
  refine W.newa A.1 A.2.1 (hT.w harr rfl) rfl hd rfl hn0 hb (by omega) (by omega) fun cA kA comp h1 h2 h3 => ?_
  have hkk : kk % 1000 = kk := Nat.mod_eq_of_lt (by omega)
  obtain ⟨h0, hp⟩ := hH.push (c := (kk, List.replicate n.toNatClampNeg (defaultValue (newarray.typeOf at_)))) (H' := H.push { cls := cA, slots := Array.replicate n.toNatClampNeg (defaultValue (newarray.typeOf at_)), vm := .none }) (by simp) (fun q hq => by rw [Array.getElem?_push, if_neg (Nat.ne_of_lt hq)]) (zAt.mkA (by rw [hkk]; exact hk.1) ⟨_, Array.getElem?_push_size, by rw [hkk, ← hty]; exact ⟨(fun k hq => by cases hq), kA, h2, comp, h3⟩, (fun hq => by cases hq), by simp, fun _ => by rw [hkk]; exact hra s cA (by rw [← hty]; exact h1)⟩)
  exact kq _ h0 p e0 R s m args below meth c A _ locs _ _ ls hp hl (by omega) (by omega) hL
theorem zW.anew {idx N u : Nat} {n : Int32} {fs : List Value} (hd : decode (zm_c M) pc = .ok (.anewarray idx, 3)) (hn : pc + 3 = pc') (hlk : Cond.classLink (zm_y M).cls idx "java/lang/Object" ∈ lw_tbl) (hov : Cond.arrayOver (.object "java/lang/Object") ∈ lw_tbl) (hn0 : ¬ n < 0) (hN : n.toNatClampNeg = N) (hb : N * 4 ≤ 536870912) (hu : 1 ≤ u ∧ N ≤ 4 * u) (hf : List.replicate N Value.null = fs) (kq : ∀ a, h a = none → zW G M d r pc' L (.ref a :: st) (zup h a (104, fs)) Q) : zW G M d (r + u) pc L (.int n :: st) h Q := by
  subst hn; subst hf; subst hN
  intro p e0 R s m args below meth c A H locs cells slots ls hH hl hc hs hL
  have hT := A.tb
  refine W.anew A.1 A.2.1 A.own (hT.w hlk rfl) (hT.w hov rfl) rfl hd rfl hn0 hb (by omega) (by omega) fun cA kA comp h1 h2 h3 h4 => ?_
  obtain ⟨h0, hp⟩ := hH.push (c := (104, List.replicate n.toNatClampNeg Value.null)) (H' := H.push { cls := cA, slots := Array.replicate n.toNatClampNeg .null, vm := .none }) (by simp) (fun q hq => by rw [Array.getElem?_push, if_neg (Nat.ne_of_lt hq)]) (zAt.mkA (by decide) ⟨_, Array.getElem?_push_size, ⟨(fun k hq => by cases hq), kA, h2, comp, h3⟩, (fun hq => by cases hq), by simp, fun _ => ⟨kA, comp, h2, h3, h4, h1⟩⟩)
  exact kq _ h0 p e0 R s m args below meth c A _ locs _ _ ls hp hl (by omega) (by omega) hL
theorem zW.alen {kk a : Nat} {fs : List Value} {n : Int32} (hd : decode (zm_c M) pc = .ok (.arraylength, 1)) (hn : pc + 1 = pc') (hh : h a = some (kk, fs)) (hk : 100 ≤ kk % 1000) (hv : Int32.ofNat fs.length = n) (kq : zW G M d r pc' L (.int n :: st) h Q) : zW G M d r pc L (.ref a :: st) h Q := by
  subst hn; subst hv
  intro p e0 R s m args below meth c A H locs cells slots ls hH hl hc hs hL
  obtain ⟨cell, q1, q2, q3, q4, -⟩ := (hH.1 a _ hh).1.arr hk
  refine W.alen A.1 A.2.1 q1 q2 (n := Int32.ofNat fs.length) q4.2.2 rfl rfl hd (kq p e0 R s m args below meth c A H locs cells slots ls hH hl hc hs hL)
/-- an index into n places -/
theorem zin {i : Int32} {fs : List Value} {cell : Cell} {v : Value} (h0 : ¬ i < 0) (hv : fs[i.toNatClampNeg]? = some v) (q4 : ∃ t, cell.slots.toList = fs ++ t) : ¬ (i < 0 ∨ cell.slots.size ≤ i.toNatClampNeg) ∧ cell.slots[i.toNatClampNeg]? = some v := by
  obtain ⟨t, q4⟩ := q4
  have h1 := (List.getElem?_eq_some_iff.mp hv).1
  have h2 : fs.length ≤ cell.slots.size := by rw [← Array.length_toList, q4, List.length_append]; omega
  exact ⟨fun q => q.elim h0 (fun z => by omega), by rw [← Array.getElem?_toList, q4, List.getElem?_append_left h1]; exact hv⟩
theorem zW.iald {kk a : Nat} {fs : List Value} {i : Int32} {v : Value} (hd : decode (zm_c M) pc = .ok (.iaload, 1)) (hn : pc + 1 = pc') (hh : h a = some (kk, fs)) (hk : kk % 1000 = 100) (h0 : ¬ i < 0) (hv : fs[i.toNatClampNeg]? = some v) (kq : zW G M d r pc' L (v :: st) h Q) : zW G M d r pc L (.int i :: .ref a :: st) h Q := by
  subst hn
  intro p e0 R s m args below meth c A H locs cells slots ls hH hl hc hs hL
  obtain ⟨cell, q1, q2, q3, q4, -⟩ := (hH.1 a _ hh).1.arr (by rw [hk]; decide)
  rw [hk] at q2
  obtain ⟨w1, w2⟩ := zin h0 hv q4.2.1
  exact W.iald A.1 A.2.1 q1 q2 q3 w1 w2 rfl rfl hd (kq p e0 R s m args below meth c A H locs cells slots ls hH hl hc hs hL)
theorem zW.lald {kk a : Nat} {fs : List Value} {i : Int32} {v : Value} (hd : decode (zm_c M) pc = .ok (.laload, 1)) (hn : pc + 1 = pc') (hh : h a = some (kk, fs)) (hk : kk % 1000 = 101) (h0 : ¬ i < 0) (hv : fs[i.toNatClampNeg]? = some v) (kq : zW G M d r pc' L (v :: st) h Q) : zW G M d r pc L (.int i :: .ref a :: st) h Q := by
  subst hn
  intro p e0 R s m args below meth c A H locs cells slots ls hH hl hc hs hL
  obtain ⟨cell, q1, q2, q3, q4, -⟩ := (hH.1 a _ hh).1.arr (by rw [hk]; decide)
  rw [hk] at q2
  obtain ⟨w1, w2⟩ := zin h0 hv q4.2.1
  exact W.lald A.1 A.2.1 q1 q2 q3 w1 w2 rfl rfl hd (kq p e0 R s m args below meth c A H locs cells slots ls hH hl hc hs hL)
theorem zW.cald {kk a : Nat} {fs : List Value} {i : Int32} {v : Value} (hd : decode (zm_c M) pc = .ok (.caload, 1)) (hn : pc + 1 = pc') (hh : h a = some (kk, fs)) (hk : kk % 1000 = 102) (h0 : ¬ i < 0) (hv : fs[i.toNatClampNeg]? = some v) (kq : zW G M d r pc' L (v :: st) h Q) : zW G M d r pc L (.int i :: .ref a :: st) h Q := by
  subst hn
  intro p e0 R s m args below meth c A H locs cells slots ls hH hl hc hs hL
  obtain ⟨cell, q1, q2, q3, q4, -⟩ := (hH.1 a _ hh).1.arr (by rw [hk]; decide)
  rw [hk] at q2
  obtain ⟨w1, w2⟩ := zin h0 hv q4.2.1
  exact W.cald A.1 A.2.1 q1 q2 q3 w1 w2 rfl rfl hd (kq p e0 R s m args below meth c A H locs cells slots ls hH hl hc hs hL)
theorem zW.bald {kk a : Nat} {fs : List Value} {i : Int32} {v : Value} (hd : decode (zm_c M) pc = .ok (.baload, 1)) (hn : pc + 1 = pc') (hh : h a = some (kk, fs)) (hk : kk % 1000 = 103) (h0 : ¬ i < 0) (hv : fs[i.toNatClampNeg]? = some v) (kq : zW G M d r pc' L (v :: st) h Q) : zW G M d r pc L (.int i :: .ref a :: st) h Q := by
  subst hn
  intro p e0 R s m args below meth c A H locs cells slots ls hH hl hc hs hL
  obtain ⟨cell, q1, q2, q3, q4, -⟩ := (hH.1 a _ hh).1.arr (by rw [hk]; decide)
  rw [hk] at q2
  obtain ⟨w1, w2⟩ := zin h0 hv q4.2.1
  exact W.bald A.1 A.2.1 q1 q2 q3 w1 w2 rfl rfl hd (kq p e0 R s m args below meth c A H locs cells slots ls hH hl hc hs hL)
theorem zW.aald {kk a : Nat} {fs : List Value} {i : Int32} {v : Value} (hd : decode (zm_c M) pc = .ok (.aaload, 1)) (hn : pc + 1 = pc') (hh : h a = some (kk, fs)) (hk : 104 ≤ kk % 1000) (h0 : ¬ i < 0) (hv : fs[i.toNatClampNeg]? = some v) (kq : zW G M d r pc' L (v :: st) h Q) : zW G M d r pc L (.int i :: .ref a :: st) h Q := by
  subst hn
  intro p e0 R s m args below meth c A H locs cells slots ls hH hl hc hs hL
  obtain ⟨cell, q1, q2, q3, q4, -⟩ := (hH.1 a _ hh).1.arr (by omega)
  obtain ⟨w1, w2⟩ := zin h0 hv q4.2.1
  exact W.aald A.1 A.2.1 q1 q2 (by unfold zty; rw [if_neg (by omega), if_neg (by omega), if_neg (by omega), if_neg (by omega)]; split <;> rfl) q3 w1 w2 rfl rfl hd (kq p e0 R s m args below meth c A H locs cells slots ls hH hl hc hs hL)
theorem zarr_set {s : State} {H' : Heap} {a kk i : Nat} {fs : List Value} {v : Value} {cell : Cell} (hk : 100 ≤ kk % 1000) (q2 : s.isArrayOf cell (zty (kk % 1000))) (q3 : cell.vm ≠ .unknown) (q4 : cell.slots.toList = fs) (q5 : kk < 1000 → va_RA s cell.cls (zty (kk % 1000))) (e : H'[a]? = some (cell.setSlot i v)) : zAt G s a (kk, fs.set i v) H' := by
  refine zAt.mkA hk ⟨_, e, q2, q3, ?_, q5⟩
  show (cell.slots.setIfInBounds i v).toList = _
  rw [Array.toList_setIfInBounds, q4]
theorem zW.iast {a : Nat} {fs fs' : List Value} {i : Int32} {x : Int32} (hd : decode (zm_c M) pc = .ok (.iastore, 1)) (hn : pc + 1 = pc') (hh : h a = some (100, fs)) (h0 : ¬ i < 0) (hi : i.toNatClampNeg < fs.length) (hs' : fs.set i.toNatClampNeg (.int x) = fs') (kq : zW G M d r pc' L st (zup h a (100, fs')) Q) : zW G M d r pc L (.int x :: .int i :: .ref a :: st) h Q := by
  subst hn; subst hs'
  intro p e0 R s m args below meth c A H locs cells slots ls hH hl hc hs hL
  obtain ⟨cell, q1, q2, q3, q4, q5⟩ := (hH.1 a _ hh).1.arr (by decide)
  have q4 := q4.1 (Nat.le_of_ble_eq_true rfl)
  have hsz : ¬ (i < 0 ∨ cell.slots.size ≤ i.toNatClampNeg) := by
    rw [← q4, Array.length_toList] at hi
    exact fun q => q.elim h0 (fun z => by omega)
  exact W.iast A.1 A.2.1 q1 q2 q3 hsz rfl rfl hd (fun H' e z oq => kq p e0 R s m args below meth c A H' _ cells slots ls (hH.set hh (by decide) z oq (zarr_set (by decide) q2 q3 q4 q5 e)) (zlocs hl ((hH.1 a _ hh).2 (Nat.le_of_ble_eq_true rfl))) hc hs hL)
theorem zW.last {a : Nat} {fs fs' : List Value} {i : Int32} {x : Int64} (hd : decode (zm_c M) pc = .ok (.lastore, 1)) (hn : pc + 1 = pc') (hh : h a = some (101, fs)) (h0 : ¬ i < 0) (hi : i.toNatClampNeg < fs.length) (hs' : fs.set i.toNatClampNeg (.long x) = fs') (kq : zW G M d r pc' L st (zup h a (101, fs')) Q) : zW G M d r pc L (.long x :: .int i :: .ref a :: st) h Q := by
  subst hn; subst hs'
  intro p e0 R s m args below meth c A H locs cells slots ls hH hl hc hs hL
  obtain ⟨cell, q1, q2, q3, q4, q5⟩ := (hH.1 a _ hh).1.arr (by decide)
  have q4 := q4.1 (Nat.le_of_ble_eq_true rfl)
  have hsz : ¬ (i < 0 ∨ cell.slots.size ≤ i.toNatClampNeg) := by
    rw [← q4, Array.length_toList] at hi
    exact fun q => q.elim h0 (fun z => by omega)
  exact W.last A.1 A.2.1 q1 q2 q3 hsz rfl rfl hd (fun H' e z oq => kq p e0 R s m args below meth c A H' _ cells slots ls (hH.set hh (by decide) z oq (zarr_set (by decide) q2 q3 q4 q5 e)) (zlocs hl ((hH.1 a _ hh).2 (Nat.le_of_ble_eq_true rfl))) hc hs hL)
theorem zW.cast {a : Nat} {fs fs' : List Value} {i : Int32} {x : Int32} (hd : decode (zm_c M) pc = .ok (.castore, 1)) (hn : pc + 1 = pc') (hh : h a = some (102, fs)) (h0 : ¬ i < 0) (hi : i.toNatClampNeg < fs.length) (hs' : fs.set i.toNatClampNeg (narrow .char (.int x)) = fs') (kq : zW G M d r pc' L st (zup h a (102, fs')) Q) : zW G M d r pc L (.int x :: .int i :: .ref a :: st) h Q := by
  subst hn; subst hs'
  intro p e0 R s m args below meth c A H locs cells slots ls hH hl hc hs hL
  obtain ⟨cell, q1, q2, q3, q4, q5⟩ := (hH.1 a _ hh).1.arr (by decide)
  have q4 := q4.1 (Nat.le_of_ble_eq_true rfl)
  have hsz : ¬ (i < 0 ∨ cell.slots.size ≤ i.toNatClampNeg) := by
    rw [← q4, Array.length_toList] at hi
    exact fun q => q.elim h0 (fun z => by omega)
  exact W.cast A.1 A.2.1 q1 q2 q3 hsz rfl rfl hd (fun H' e z oq => kq p e0 R s m args below meth c A H' _ cells slots ls (hH.set hh (by decide) z oq (zarr_set (by decide) q2 q3 q4 q5 e)) (zlocs hl ((hH.1 a _ hh).2 (Nat.le_of_ble_eq_true rfl))) hc hs hL)
theorem zW.bast {a : Nat} {fs fs' : List Value} {i : Int32} {x : Int32} (hd : decode (zm_c M) pc = .ok (.bastore, 1)) (hn : pc + 1 = pc') (hh : h a = some (103, fs)) (h0 : ¬ i < 0) (hi : i.toNatClampNeg < fs.length) (hs' : fs.set i.toNatClampNeg (narrow .byte (.int x)) = fs') (kq : zW G M d r pc' L st (zup h a (103, fs')) Q) : zW G M d r pc L (.int x :: .int i :: .ref a :: st) h Q := by
  subst hn; subst hs'
  intro p e0 R s m args below meth c A H locs cells slots ls hH hl hc hs hL
  obtain ⟨cell, q1, q2, q3, q4, q5⟩ := (hH.1 a _ hh).1.arr (by decide)
  have q4 := q4.1 (Nat.le_of_ble_eq_true rfl)
  have hsz : ¬ (i < 0 ∨ cell.slots.size ≤ i.toNatClampNeg) := by
    rw [← q4, Array.length_toList] at hi
    exact fun q => q.elim h0 (fun z => by omega)
  exact W.bast A.1 A.2.1 q1 q2 q3 hsz rfl rfl hd (fun H' e z oq => kq p e0 R s m args below meth c A H' _ cells slots ls (hH.set hh (by decide) z oq (zarr_set (by decide) q2 q3 q4 q5 e)) (zlocs hl ((hH.1 a _ hh).2 (Nat.le_of_ble_eq_true rfl))) hc hs hL)
/-- any known object may be put into an Object[] -/
def zObj (c : zC) : Prop := c.1 % 1000 < 50 ∧ ∃ r : vw_C, zcl[c.1 % 1000]? = some r ∧ Cond.castable r.1 "java/lang/Object" ∈ lw_tbl
theorem zW.aast {a b : Nat} {fs fs' : List Value} {i : Int32} {cb : zC} (hd : decode (zm_c M) pc = .ok (.aastore, 1)) (hn : pc + 1 = pc') (hh : h a = some (104, fs)) (h0 : ¬ i < 0) (hi : i.toNatClampNeg < fs.length) (hb : h b = some cb) (ho : zObj cb) (hs' : fs.set i.toNatClampNeg (.ref b) = fs') (kq : zW G M d r pc' L st (zup h a (104, fs')) Q) : zW G M d r pc L (.ref b :: .int i :: .ref a :: st) h Q := by
  subst hn; subst hs'
  intro p e0 R s m args below meth c A H locs cells slots ls hH hl hc hs hL
  obtain ⟨cell, q1, q2, q3, q4, q5⟩ := (hH.1 a _ hh).1.arr (by decide)
  have q4 := q4.1 (Nat.le_of_ble_eq_true rfl)
  have hT := A.tb
  obtain ⟨kA, comp, k1, k2, k3, -⟩ := q5 (by decide)
  obtain ⟨kE, hkE, -⟩ := Vm.findClass_spec k3
  obtain ⟨ho1, r9, hr9, hcast⟩ := ho
  obtain ⟨r8, hr8, -, cellB, g1, g2, g3, -⟩ := (hH.1 b _ hb).1.obj (ci := cb.1 % 1000) ⟨rfl, ho1⟩
  cases hr9.symm.trans hr8
  have hcls := (hT.2.1 _ _ hr9).2
  obtain ⟨c0, t1, f1, f2, f3⟩ := Cond.castable_spec (hT.w (A := args) hcast rfl)
  cases hcls.1.symm.trans f1
  cases k3.symm.trans f2
  obtain ⟨kC, hkC, -⟩ := hcls.2
  refine W.aast A.1 A.2.1 q1 (fun q => q2.1 q) q3 k1 k2 rfl hkE ⟨h0, by rw [← q4, Array.length_toList] at hi; exact hi⟩ g1 (fun q hq => by have h9 := g3.1; rw [hq] at h9; exact Bool.false_ne_true h9.symm) (by rw [g2]; exact hkC) (by rw [g2]; exact f3) rfl rfl hd (fun H' e z oq => kq p e0 R s m args below meth c A H' _ cells slots ls (hH.set hh (by decide) z oq (zarr_set (by decide) q2 q3 q4 q5 e)) (zlocs hl ((hH.1 a _ hh).2 (Nat.le_of_ble_eq_true rfl))) hc hs hL)
theorem zW.aastN {a : Nat} {fs fs' : List Value} {i : Int32} (hd : decode (zm_c M) pc = .ok (.aastore, 1)) (hn : pc + 1 = pc') (hh : h a = some (104, fs)) (h0 : ¬ i < 0) (hi : i.toNatClampNeg < fs.length) (hs' : fs.set i.toNatClampNeg .null = fs') (kq : zW G M d r pc' L st (zup h a (104, fs')) Q) : zW G M d r pc L (.null :: .int i :: .ref a :: st) h Q := by
  subst hn; subst hs'
  intro p e0 R s m args below meth c A H locs cells slots ls hH hl hc hs hL
  obtain ⟨cell, q1, q2, q3, q4, q5⟩ := (hH.1 a _ hh).1.arr (by decide)
  have q4 := q4.1 (Nat.le_of_ble_eq_true rfl)
  have hsz : ¬ (i < 0 ∨ cell.slots.size ≤ i.toNatClampNeg) := by
    rw [← q4, Array.length_toList] at hi
    exact fun q => q.elim h0 (fun z => by omega)
  exact va_WaastN A.1 A.2.1 q1 q2 q3 hsz rfl rfl hd (fun H' e z oq => kq p e0 R s m args below meth c A H' _ cells slots ls (hH.set hh (by decide) z oq (zarr_set (by decide) q2 q3 q4 q5 e)) (zlocs hl ((hH.1 a _ hh).2 (Nat.le_of_ble_eq_true rfl))) hc hs hL)
/-- an object's class by name, in the heap -/
theorem zrecv {s : State} {H : Heap} {a kk ci : Nat} {fs : List Value} {rr : vw_C} (hT : zTb G s) (hH : zHp G s h H) (hh : h a = some (kk, fs)) (hk : kk % 1000 = ci ∧ ci < 50) (hr : zcl[ci]? = some rr) : ∃ cell : Cell, H[a]? = some cell ∧ cell.vm.isStatics = false ∧ s.vm.findClass rr.1 = some cell.cls := by
  obtain ⟨r', h1, h2, cell, q1, q2, q3, q4⟩ := (hH.1 a _ hh).1.obj hk
  cases hr.symm.trans h1
  exact ⟨cell, q1, q3.1, by rw [q2]; exact (hT.2.1 ci _ hr).2.1⟩
theorem zW.castS {idx ci kk a : Nat} {fs : List Value} {C : String} {T : u_T} {N : Nat} (hd : decode (zm_c M) pc = .ok (.checkcast idx, 3)) (hn : pc + 3 = pc') (hlk : Cond.classLink (zm_y M).cls idx C ∈ lw_tbl) (hh : h a = some (kk, fs)) (hk : kk % 1000 = ci ∧ ci < 50) (hr : zcl[ci]? = some (C, T, N)) (kq : zW G M d r pc' L (.ref a :: st) h Q) : zW G M d r pc L (.ref a :: st) h Q := by
  subst hn
  intro p e0 R s m args below meth c A H locs cells slots ls hH hl hc hs hL
  have hT := A.tb
  exact va_castS A.1 A.2.1 A.own (hT.w hlk rfl) (hT.2.1 ci _ hr).2 (zrecv hT hH hh hk hr) hd (kq p e0 R s m args below meth c A H locs cells slots ls hH hl hc hs hL)
theorem zW.castY {idx ci kk a : Nat} {fs : List Value} {nm C : String} {T : u_T} {N : Nat} (hd : decode (zm_c M) pc = .ok (.checkcast idx, 3)) (hn : pc + 3 = pc') (hlk : Cond.classLink (zm_y M).cls idx nm ∈ lw_tbl) (hca : Cond.castable C nm ∈ lw_tbl) (hh : h a = some (kk, fs)) (hk : kk % 1000 = ci ∧ ci < 50) (hr : zcl[ci]? = some (C, T, N)) (kq : zW G M d r pc' L (.ref a :: st) h Q) : zW G M d r pc L (.ref a :: st) h Q := by
  subst hn
  intro p e0 R s m args below meth c A H locs cells slots ls hH hl hc hs hL
  have hT := A.tb
  exact va_castY A.1 A.2.1 A.own (hT.w hlk rfl) (hT.w hca rfl) (zrecv hT hH hh hk hr) hd (kq p e0 R s m args below meth c A H locs cells slots ls hH hl hc hs hL)
theorem zW.castN {idx : Nat} (hd : decode (zm_c M) pc = .ok (.checkcast idx, 3)) (hn : pc + 3 = pc') (kq : zW G M d r pc' L (.null :: st) h Q) : zW G M d r pc L (.null :: st) h Q := by
  subst hn
  intro p e0 R s m args below meth c A H locs cells slots ls hH hl hc hs hL
  exact lv_castN A.1 A.2.1 hd (kq p e0 R s m args below meth c A H locs cells slots ls hH hl hc hs hL)
theorem zW.instS {idx ci kk a : Nat} {fs : List Value} {C : String} {T : u_T} {N : Nat} (hd : decode (zm_c M) pc = .ok (.instanceof idx, 3)) (hn : pc + 3 = pc') (hlk : Cond.classLink (zm_y M).cls idx C ∈ lw_tbl) (hh : h a = some (kk, fs)) (hk : kk % 1000 = ci ∧ ci < 50) (hr : zcl[ci]? = some (C, T, N)) (kq : zW G M d r pc' L (.int 1 :: st) h Q) : zW G M d r pc L (.ref a :: st) h Q := by
  subst hn
  intro p e0 R s m args below meth c A H locs cells slots ls hH hl hc hs hL
  have hT := A.tb
  exact va_instS A.1 A.2.1 A.own (hT.w hlk rfl) (hT.2.1 ci _ hr).2 (zrecv hT hH hh hk hr) hd (kq p e0 R s m args below meth c A H locs cells slots ls hH hl hc hs hL)
theorem zW.ldc {idx : Nat} (v : Int32) (hd : decode (zm_c M) pc = .ok (.ldc idx, 2)) (hn : pc + 2 = pc') (hc0 : Cond.constant (zm_y M).cls idx v ∈ lw_tbl) (kq : zW G M d r pc' L (.int v :: st) h Q) : zW G M d r pc L st h Q := by
  subst hn
  intro p e0 R s m args below meth c A H locs cells slots ls hH hl hc hs hL
  exact lv_ldc A.1 A.2.1 A.own (A.tb.w hc0 rfl) hd (kq p e0 R s m args below meth c A H locs cells slots ls hH hl hc hs hL)
theorem zW.ldcw {idx : Nat} (v : Int32) (hd : decode (zm_c M) pc = .ok (.ldc_w idx, 3)) (hn : pc + 3 = pc') (hc0 : Cond.constant (zm_y M).cls idx v ∈ lw_tbl) (kq : zW G M d r pc' L (.int v :: st) h Q) : zW G M d r pc L st h Q := by
  subst hn
  intro p e0 R s m args below meth c A H locs cells slots ls hH hl hc hs hL
  exact lv_ldcw A.1 A.2.1 A.own (A.tb.w hc0 rfl) hd (kq p e0 R s m args below meth c A H locs cells slots ls hH hl hc hs hL)
theorem zW.ldcS {idx j : Nat} {tx : String} (hd : decode (zm_c M) pc = .ok (.ldc idx, 2)) (hn : pc + 2 = pc') (hz : zlit[j]? = some ((zm_y M).cls, idx, tx)) (kq : zW G M d r pc' L (.ref (zg_a G (100 + j)) :: st) h Q) : zW G M d r pc L st h Q := by
  subst hn
  intro p e0 R s m args below meth c A H locs cells slots ls hH hl hc hs hL
  exact va_ldcS A.1 A.2.1 A.own (A.tb.2.2.2.2.2.2.2.2.1 j _ hz) hd (kq p e0 R s m args below meth c A H locs cells slots ls hH hl hc hs hL)
/-- the heap at a method's entry against the one at the law's start -/
theorem zAct.old {p : Program} {R : Room} {s : State} {m : MethodId} {meth : Method} {c : Code} (A : zAct G M d p R s m meth c) : ∀ a : Nat, a < (zg_H G).size → ¬ zfree G a → s.heap[a]? = (zg_H G)[a]? := fun a ha _ => A.2.2.2.2.2.2.2.2.2.2.2.2 a ha
/-- what a static read asks -/
def zS (own : String) (idx : Nat) (C n dd : String) : Prop := ∃ ref, Cond.fieldLink own idx ref n dd ∈ lw_tbl ∧ ref = C
theorem zW.gets {idx j : Nat} {C n dd : String} {v : Value} (hd : decode (zm_c M) pc = .ok (.getstatic idx, 3)) (hn : pc + 3 = pc') (hz : (zstat (zg_a G))[j]? = some (C, n, dd, v)) (hlk : Cond.fieldLink (zm_y M).cls idx C n dd ∈ lw_tbl) (kq : zW G M d r pc' L (v :: st) h Q) : zW G M d r pc L st h Q := by
  subst hn
  intro p e0 R s m args below meth c A H locs cells slots ls hH hl hc hs hL
  obtain ⟨cf, kf, fi, f, a, cell, g1, g2, g3, g4, g5, g6, g7, g8⟩ := A.tb.2.2.2.2.2.2.1 j _ hz
  have ha : a < (zg_H G).size := (Array.getElem?_eq_some_iff.mp g5).1
  have g5' : H[a]? = some cell := by rw [hH.2.2 a ha]; exact g5
  have hkn : cell.vm ≠ .unknown := by intro q; rw [q] at g6; cases g6
  exact W.gets A.1 A.2.1 A.own (A.tb.w hlk rfl) g1 g2 g3 g4 g5' hkn g7 rfl hd (kq p e0 R s m args below meth c A H locs cells slots ls hH hl hc hs hL)
end
