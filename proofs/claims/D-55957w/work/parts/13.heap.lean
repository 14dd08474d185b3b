/-! ROWS that read and write the heap -/
section
set_option maxRecDepth 100000
theorem zs0 {α : Type} {a x : α} {l : List α} : (a :: l).set 0 x = x :: l := sorry
theorem zsS {α : Type} {a x : α} {l l' : List α} {k : Nat} (h : l.set k x = l') : (a :: l).set (k + 1) x = a :: l' := sorry
theorem zg0 {α : Type} {a : α} {l : List α} : (a :: l)[0]? = some a := sorry
theorem zgS {α : Type} {a x : α} {l : List α} {k : Nat} (h : l[k]? = some x) : (a :: l)[k + 1]? = some x := sorry
theorem zTb.all {G : zG} {s : State} (h : zTb G s) {A : Array Value} : ∀ w ∈ lw_all, w.before A s = true := sorry
/-- a final field's declarer -/
theorem zlaysFin {args : Array Value} {s : State} {C O f dd : String} {i : ClassId} {cf fi : Nat} {kf : Class} {fd : Field} (h5 : s.vm.findClass O = some i) (h6 : (Cond.laysFinal C O f dd).before args s = true) (hi : s.fieldFound? O f dd = some (cf, kf, fi, fd)) : i = cf := sorry
/-- a field's entry: class own, pool entry idx: field k of class ci -/
def zF (own : String) (idx ci k : Nat) : Prop := ∃ (C : String) (T : u_T) (N : Nat) (ref : String), zcl[ci]? = some (C, T, N) ∧ k < N ∧ (Cond.fieldLink own idx ref (T k).2.1 (T k).2.2.1 ∈ lw_tbl ∨ ∃ host, Cond.fieldLinkNest own idx ref (T k).2.1 (T k).2.2.1 host ∈ lw_tbl) ∧ (ref = (T k).1 ∨ Cond.sameField ref (T k).1 (T k).2.1 (T k).2.2.1 ∈ lw_tbl)
variable {G : zG} {M : zM} {d r pc pc' : Nat} {L L' st : List Value} {h : zH} {Q : zR → zH → Prop}
theorem zHp.set {s : State} {H H' : Heap} {a : Nat} {kk : Nat} {fs fs' : List Value} (hH : zHp G s h H) (hh : h a = some (kk, fs)) (hk : kk < 1000) (hz : H'.size = H.size) (ho : ∀ q, q ≠ a → H'[q]? = H[q]?) (hc : zAt G s a (kk, fs') H') : zHp G s (zup h a (kk, fs')) H' := sorry
theorem zHp.push {s : State} {H H' : Heap} {c : zC} (hH : zHp G s h H) (hz : H'.size = H.size + 1) (ho : ∀ q, q < H.size → H'[q]? = H[q]?) (hc : zAt G s H.size c H') : h H.size = none ∧ zHp G s (zup h H.size c) H' := sorry
theorem zlocs {locs : List Loc} {n a i : Nat} (hl : ∀ z ∈ locs, n ≤ z.base) (ha : n ≤ a) : ∀ z ∈ locs ++ [⟨a, i⟩], n ≤ z.base := sorry
theorem zW.get {idx ci k kk a : Nat} {fs : List Value} {v : Value} (hd : decode (zm_c M) pc = .ok (.getfield idx, 3)) (hn : pc + 3 = pc') (hf : zF (zm_y M).cls idx ci k) (hh : h a = some (kk, fs)) (hk : kk % 1000 = ci ∧ ci < 50) (hv : fs[k]? = some v) (kq : zW G M d r pc' L (v :: st) h Q) : zW G M d r pc L (.ref a :: st) h Q := sorry
theorem zAt.obj {s : State} {a kk ci : Nat} {fs : List Value} {H : Heap} (hz : zAt G s a (kk, fs) H) (hk : kk % 1000 = ci ∧ ci < 50) : ∃ r : vw_C, zcl[ci]? = some r ∧ fs.length = r.2.2 ∧ t_OB a ((zg_D G).1 ci) r.2.2 ((zg_D G).2 ci) H (vp_V fs) := sorry
theorem zAt.mk {s : State} {a kk ci : Nat} {fs : List Value} {H : Heap} (hk : kk % 1000 = ci ∧ ci < 50) (h : ∃ r : vw_C, zcl[ci]? = some r ∧ fs.length = r.2.2 ∧ t_OB a ((zg_D G).1 ci) r.2.2 ((zg_D G).2 ci) H (vp_V fs)) : zAt G s a (kk, fs) H := sorry
theorem zAt.arr {s : State} {a kk : Nat} {fs : List Value} {H : Heap} (hz : zAt G s a (kk, fs) H) (hk : 100 ≤ kk % 1000) : ∃ cell : Cell, H[a]? = some cell ∧ s.isArrayOf cell (zty (kk % 1000)) ∧ cell.vm ≠ .unknown ∧ cell.slots.toList = fs ∧ (kk < 1000 → va_RA s cell.cls (zty (kk % 1000))) := sorry
theorem zAt.mkA {s : State} {a kk : Nat} {fs : List Value} {H : Heap} (hk : 100 ≤ kk % 1000) (h : ∃ cell : Cell, H[a]? = some cell ∧ s.isArrayOf cell (zty (kk % 1000)) ∧ cell.vm ≠ .unknown ∧ cell.slots.toList = fs ∧ (kk < 1000 → va_RA s cell.cls (zty (kk % 1000)))) : zAt G s a (kk, fs) H := sorry
/-- what a putfield asks of the value, and that it may be written -/
def zFw (M : zM) (ci k : Nat) (v : Value) : Prop := ∃ (ty : FieldType) (fin : Bool), zfty ci k = some (ty, fin) ∧ narrow ty v = v ∧ fits ty v = true ∧ (fin = true → (zm_y M).name = "<init>" ∧ ∃ r : vw_C, zcl[ci]? = some r ∧ (zm_y M).cls = (r.2.1 k).1)
theorem zFw.of {ci k : Nat} {v : Value} {ty : FieldType} (h : zfty ci k = some (ty, false)) (h1 : narrow ty v = v) (h2 : fits ty v = true) : zFw M ci k v := sorry
theorem zFw.fin {ci k : Nat} {v : Value} {ty : FieldType} {r : vw_C} (h : zfty ci k = some (ty, true)) (h1 : narrow ty v = v) (h2 : fits ty v = true) (h3 : (zm_y M).name = "<init>") (h4 : zcl[ci]? = some r) (h5 : (zm_y M).cls = (r.2.1 k).1) : zFw M ci k v := sorry
theorem zset_V {fs : List Value} {k : Nat} {v : Value} (hk : k < fs.length) (j : Nat) : updV (vp_V fs) k v j = vp_V (fs.set k v) j := sorry
theorem zW.put {idx ci k kk a : Nat} {fs fs' : List Value} {v : Value} (hd : decode (zm_c M) pc = .ok (.putfield idx, 3)) (hn : pc + 3 = pc') (hf : zF (zm_y M).cls idx ci k) (hh : h a = some (kk, fs)) (hk : (kk % 1000 = ci ∧ ci < 50) ∧ kk < 1000) (hw : zFw M ci k v) (hs' : fs.set k v = fs') (kq : zW G M d r pc' L st (zup h a (kk, fs')) Q) : zW G M d r pc L (v :: .ref a :: st) h Q := sorry
end

