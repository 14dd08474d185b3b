/-! ROWS of the judgement that move locals and stack alone (printed by gen/rows.py) -/
section
set_option maxRecDepth 100000
variable {G : zG} {M : zM} {d r pc pc' : Nat} {L L' st : List Value} {h : zH} {Q : zR → zH → Prop}
def zir : Value → Bool
  | .null => true
  | .ref _ => true
  | _ => false
theorem zir_or {v : Value} (h : zir v = true) : v = .null ∨ ∃ a, v = .ref a := by
  cases v <;> first | exact Or.inl rfl | exact Or.inr ⟨_, rfl⟩ | cases h
theorem zir_rf (o : Option Nat) : zir (va_rf o) = true := by cases o <;> rfl
theorem zir_cat {v : Value} (h : zir v = true) : v.category = 1 := by
  rcases zir_or h with e | ⟨a, e⟩ <;> (subst e; rfl)
theorem zir_ho {v : Value} (h : zir v = true) : v ≠ zho := by
  rcases zir_or h with e | ⟨a, e⟩ <;> (subst e; exact fun q => by cases q)
theorem zint_ho {x : Int32} : Value.int x ≠ zho := fun q => by cases q
theorem zW.iconst {n : Int} (v : Int32) (hd : decode (zm_c M) pc = .ok (.iconst n, 1)) (hn : pc + 1 = pc') (hv : Int32.ofInt n = v) (k : zW G M d r pc' L (.int v :: st) h Q) : zW G M d r pc L (st) h Q := by
  subst hn
  intro p e R s m args below meth c A H locs cells slots ls hH hl hc hs hL
  exact lv_iconst A.1 A.2.1 hd hv (k p e R s m args below meth c A H locs cells slots ls hH hl hc hs hL)
theorem zW.bipush {n : Int} (v : Int32) (hd : decode (zm_c M) pc = .ok (.bipush n, 2)) (hn : pc + 2 = pc') (hv : (Int8.ofInt n).toInt32 = v) (k : zW G M d r pc' L (.int v :: st) h Q) : zW G M d r pc L (st) h Q := by
  subst hn
  intro p e R s m args below meth c A H locs cells slots ls hH hl hc hs hL
  exact lv_bipush A.1 A.2.1 hd hv (k p e R s m args below meth c A H locs cells slots ls hH hl hc hs hL)
theorem zW.sipush {n : Int} (v : Int32) (hd : decode (zm_c M) pc = .ok (.sipush n, 3)) (hn : pc + 3 = pc') (hv : (Int16.ofInt n).toInt32 = v) (k : zW G M d r pc' L (.int v :: st) h Q) : zW G M d r pc L (st) h Q := by
  subst hn
  intro p e R s m args below meth c A H locs cells slots ls hH hl hc hs hL
  exact lv_sipush A.1 A.2.1 hd hv (k p e R s m args below meth c A H locs cells slots ls hH hl hc hs hL)
theorem zW.lconst {n : Fin 2} (v : Int64) (hd : decode (zm_c M) pc = .ok (.lconst n, 1)) (hn : pc + 1 = pc') (hv : Int64.ofNat (n : Nat) = v) (k : zW G M d r pc' L (.long v :: st) h Q) : zW G M d r pc L (st) h Q := by
  subst hn
  intro p e R s m args below meth c A H locs cells slots ls hH hl hc hs hL
  exact lv_lconst A.1 A.2.1 hd hv (k p e R s m args below meth c A H locs cells slots ls hH hl hc hs hL)
theorem zW.iload_n {j : Fin 4} {i : Nat} {x : Int32} (hd : decode (zm_c M) pc = .ok (.iload_n j, 1)) (hn : pc + 1 = pc') (hi : (j : Nat) = i) (hv : L[i]? = some (.int x)) (k : zW G M d r pc' L (.int x :: st) h Q) : zW G M d r pc L (st) h Q := by
  subst hn
  intro p e R s m args below meth c A H locs cells slots ls hH hl hc hs hL
  exact lv_iload_n A.1 A.2.1 hd hi (hL.at hv zint_ho) (k p e R s m args below meth c A H locs cells slots ls hH hl hc hs hL)
theorem zW.iload {i : Nat} {x : Int32} (hd : decode (zm_c M) pc = .ok (.iload i, 2)) (hn : pc + 2 = pc') (hv : L[i]? = some (.int x)) (k : zW G M d r pc' L (.int x :: st) h Q) : zW G M d r pc L (st) h Q := by
  subst hn
  intro p e R s m args below meth c A H locs cells slots ls hH hl hc hs hL
  exact lv_iload A.1 A.2.1 hd (hL.at hv zint_ho) (k p e R s m args below meth c A H locs cells slots ls hH hl hc hs hL)
theorem zW.aload_n {j : Fin 4} {i : Nat} {v : Value} (hd : decode (zm_c M) pc = .ok (.aload_n j, 1)) (hn : pc + 1 = pc') (hi : (j : Nat) = i) (hv : L[i]? = some v) (hr : zir v = true) (k : zW G M d r pc' L (v :: st) h Q) : zW G M d r pc L (st) h Q := by
  subst hn
  intro p e R s m args below meth c A H locs cells slots ls hH hl hc hs hL
  rcases zir_or hr with q | ⟨a, q⟩
  · subst q
    exact lv_aload_nN A.1 A.2.1 hd hi (hL.at hv (zir_ho hr)) (k p e R s m args below meth c A H locs cells slots ls hH hl hc hs hL)
  · subst q
    exact lv_aload_n A.1 A.2.1 hd hi (hL.at hv (zir_ho hr)) (k p e R s m args below meth c A H locs cells slots ls hH hl hc hs hL)
theorem zW.aload {i : Nat} {v : Value} (hd : decode (zm_c M) pc = .ok (.aload i, 2)) (hn : pc + 2 = pc') (hv : L[i]? = some v) (hr : zir v = true) (k : zW G M d r pc' L (v :: st) h Q) : zW G M d r pc L (st) h Q := by
  subst hn
  intro p e R s m args below meth c A H locs cells slots ls hH hl hc hs hL
  rcases zir_or hr with q | ⟨a, q⟩
  · subst q
    exact lv_aloadN A.1 A.2.1 hd (hL.at hv (zir_ho hr)) (k p e R s m args below meth c A H locs cells slots ls hH hl hc hs hL)
  · subst q
    exact lv_aload A.1 A.2.1 hd (hL.at hv (zir_ho hr)) (k p e R s m args below meth c A H locs cells slots ls hH hl hc hs hL)
theorem zW.istore_n {j : Fin 4} {i : Nat} {x : Int32} (hd : decode (zm_c M) pc = .ok (.istore_n j, 1)) (hn : pc + 1 = pc') (hi : (j : Nat) = i) (hb : i < zm_n M) (hs' : L.set i (.int x) = L') (k : zW G M d r pc' L' st h Q) : zW G M d r pc L (.int x :: st) h Q := by
  subst hn; subst hs'
  intro p e R s m args below meth c A H locs cells slots ls hH hl hc hs hL
  exact lv_istore_n A.1 A.2.1 hd hi hL.lv hb rfl (fun ls' h' => k p e R s m args below meth c A H locs cells slots ls' hH hl hc hs (hL.set hb rfl h'))
theorem zW.istore {i : Nat} {x : Int32} (hd : decode (zm_c M) pc = .ok (.istore i, 2)) (hn : pc + 2 = pc') (hb : i < zm_n M) (hs' : L.set i (.int x) = L') (k : zW G M d r pc' L' st h Q) : zW G M d r pc L (.int x :: st) h Q := by
  subst hn; subst hs'
  intro p e R s m args below meth c A H locs cells slots ls hH hl hc hs hL
  exact lv_istore A.1 A.2.1 hd hL.lv hb rfl (fun ls' h' => k p e R s m args below meth c A H locs cells slots ls' hH hl hc hs (hL.set hb rfl h'))
theorem zW.astore_n {j : Fin 4} {i : Nat} {v : Value} (hd : decode (zm_c M) pc = .ok (.astore_n j, 1)) (hn : pc + 1 = pc') (hi : (j : Nat) = i) (hb : i < zm_n M) (hr : zir v = true) (hs' : L.set i v = L') (k : zW G M d r pc' L' st h Q) : zW G M d r pc L (v :: st) h Q := by
  subst hn; subst hs'
  intro p e R s m args below meth c A H locs cells slots ls hH hl hc hs hL
  rcases zir_or hr with q | ⟨a, q⟩
  · subst q
    exact lv_astore_nN A.1 A.2.1 hd hi hL.lv hb rfl (fun ls' h' => k p e R s m args below meth c A H locs cells slots ls' hH hl hc hs (hL.set hb rfl h'))
  · subst q
    exact lv_astore_n A.1 A.2.1 hd hi hL.lv hb rfl (fun ls' h' => k p e R s m args below meth c A H locs cells slots ls' hH hl hc hs (hL.set hb rfl h'))
theorem zW.astore {i : Nat} {v : Value} (hd : decode (zm_c M) pc = .ok (.astore i, 2)) (hn : pc + 2 = pc') (hb : i < zm_n M) (hr : zir v = true) (hs' : L.set i v = L') (k : zW G M d r pc' L' st h Q) : zW G M d r pc L (v :: st) h Q := by
  subst hn; subst hs'
  intro p e R s m args below meth c A H locs cells slots ls hH hl hc hs hL
  rcases zir_or hr with q | ⟨a, q⟩
  · subst q
    exact lv_astoreN A.1 A.2.1 hd hL.lv hb rfl (fun ls' h' => k p e R s m args below meth c A H locs cells slots ls' hH hl hc hs (hL.set hb rfl h'))
  · subst q
    exact lv_astore A.1 A.2.1 hd hL.lv hb rfl (fun ls' h' => k p e R s m args below meth c A H locs cells slots ls' hH hl hc hs (hL.set hb rfl h'))
theorem zW.iinc {i : Nat} {n : Int} {x : Int32} (v : Int32) (hd : decode (zm_c M) pc = .ok (.iinc i n, 3)) (hn : pc + 3 = pc') (hb : i < zm_n M) (hx : L[i]? = some (.int x)) (hv : x + Int32.ofInt n = v) (hs' : L.set i (.int v) = L') (k : zW G M d r pc' L' st h Q) : zW G M d r pc L st h Q := by
  subst hn; subst hs'
  intro p e R s m args below meth c A H locs cells slots ls hH hl hc hs hL
  obtain ⟨j, hj⟩ := List.getElem?_of_mem ((zpr_mem (q := (i, Value.int x))).mpr ⟨hx, zint_ho⟩)
  exact lv_iinc A.1 A.2.1 hd hL.lv hj hv hb rfl (fun ls' h' => k p e R s m args below meth c A H locs cells slots ls' hH hl hc hs (hL.set hb rfl h'))
theorem zW.iadd {x y : Int32} (hd : decode (zm_c M) pc = .ok (.iadd, 1)) (hn : pc + 1 = pc') (k : zW G M d r pc' L (.int (x + y) :: st) h Q) : zW G M d r pc L (.int y :: .int x :: st) h Q := by
  subst hn
  intro p e R s m args below meth c A H locs cells slots ls hH hl hc hs hL
  exact lv_iadd A.1 A.2.1 hd (k p e R s m args below meth c A H locs cells slots ls hH hl hc hs hL)
theorem zW.isub {x y : Int32} (hd : decode (zm_c M) pc = .ok (.isub, 1)) (hn : pc + 1 = pc') (k : zW G M d r pc' L (.int (x - y) :: st) h Q) : zW G M d r pc L (.int y :: .int x :: st) h Q := by
  subst hn
  intro p e R s m args below meth c A H locs cells slots ls hH hl hc hs hL
  exact lv_isub A.1 A.2.1 hd (k p e R s m args below meth c A H locs cells slots ls hH hl hc hs hL)
theorem zW.imul {x y : Int32} (hd : decode (zm_c M) pc = .ok (.imul, 1)) (hn : pc + 1 = pc') (k : zW G M d r pc' L (.int (x * y) :: st) h Q) : zW G M d r pc L (.int y :: .int x :: st) h Q := by
  subst hn
  intro p e R s m args below meth c A H locs cells slots ls hH hl hc hs hL
  exact lv_imul A.1 A.2.1 hd (k p e R s m args below meth c A H locs cells slots ls hH hl hc hs hL)
theorem zW.iand {x y : Int32} (hd : decode (zm_c M) pc = .ok (.iand, 1)) (hn : pc + 1 = pc') (k : zW G M d r pc' L (.int (x &&& y) :: st) h Q) : zW G M d r pc L (.int y :: .int x :: st) h Q := by
  subst hn
  intro p e R s m args below meth c A H locs cells slots ls hH hl hc hs hL
  exact lv_iand A.1 A.2.1 hd (k p e R s m args below meth c A H locs cells slots ls hH hl hc hs hL)
theorem zW.ior {x y : Int32} (hd : decode (zm_c M) pc = .ok (.ior, 1)) (hn : pc + 1 = pc') (k : zW G M d r pc' L (.int (x ||| y) :: st) h Q) : zW G M d r pc L (.int y :: .int x :: st) h Q := by
  subst hn
  intro p e R s m args below meth c A H locs cells slots ls hH hl hc hs hL
  exact lv_ior A.1 A.2.1 hd (k p e R s m args below meth c A H locs cells slots ls hH hl hc hs hL)
theorem zW.ixor {x y : Int32} (hd : decode (zm_c M) pc = .ok (.ixor, 1)) (hn : pc + 1 = pc') (k : zW G M d r pc' L (.int (x ^^^ y) :: st) h Q) : zW G M d r pc L (.int y :: .int x :: st) h Q := by
  subst hn
  intro p e R s m args below meth c A H locs cells slots ls hH hl hc hs hL
  exact lv_ixor A.1 A.2.1 hd (k p e R s m args below meth c A H locs cells slots ls hH hl hc hs hL)
theorem zW.ishl {x y : Int32} (hd : decode (zm_c M) pc = .ok (.ishl, 1)) (hn : pc + 1 = pc') (k : zW G M d r pc' L (.int (x <<< (y &&& 31)) :: st) h Q) : zW G M d r pc L (.int y :: .int x :: st) h Q := by
  subst hn
  intro p e R s m args below meth c A H locs cells slots ls hH hl hc hs hL
  exact lv_ishl A.1 A.2.1 hd (k p e R s m args below meth c A H locs cells slots ls hH hl hc hs hL)
theorem zW.ishr {x y : Int32} (hd : decode (zm_c M) pc = .ok (.ishr, 1)) (hn : pc + 1 = pc') (k : zW G M d r pc' L (.int (x >>> (y &&& 31)) :: st) h Q) : zW G M d r pc L (.int y :: .int x :: st) h Q := by
  subst hn
  intro p e R s m args below meth c A H locs cells slots ls hH hl hc hs hL
  exact lv_ishr A.1 A.2.1 hd (k p e R s m args below meth c A H locs cells slots ls hH hl hc hs hL)
theorem zW.idiv {x y : Int32} (hd : decode (zm_c M) pc = .ok (.idiv, 1)) (hn : pc + 1 = pc') (hne : ¬ y = 0) (k : zW G M d r pc' L (.int (x / y) :: st) h Q) : zW G M d r pc L (.int y :: .int x :: st) h Q := by
  subst hn
  intro p e R s m args below meth c A H locs cells slots ls hH hl hc hs hL
  exact lv_idiv A.1 A.2.1 hd hne (k p e R s m args below meth c A H locs cells slots ls hH hl hc hs hL)
theorem zW.irem {x y : Int32} (hd : decode (zm_c M) pc = .ok (.irem, 1)) (hn : pc + 1 = pc') (hne : ¬ y = 0) (k : zW G M d r pc' L (.int (x - x / y * y) :: st) h Q) : zW G M d r pc L (.int y :: .int x :: st) h Q := by
  subst hn
  intro p e R s m args below meth c A H locs cells slots ls hH hl hc hs hL
  exact lv_irem A.1 A.2.1 hd hne (k p e R s m args below meth c A H locs cells slots ls hH hl hc hs hL)
theorem zW.ineg {x : Int32} (hd : decode (zm_c M) pc = .ok (.ineg, 1)) (hn : pc + 1 = pc') (k : zW G M d r pc' L (.int (-x) :: st) h Q) : zW G M d r pc L (.int x :: st) h Q := by
  subst hn
  intro p e R s m args below meth c A H locs cells slots ls hH hl hc hs hL
  exact lv_ineg A.1 A.2.1 hd (k p e R s m args below meth c A H locs cells slots ls hH hl hc hs hL)
theorem zW.iushr {x y : Int32} (v : Int32) (hd : decode (zm_c M) pc = .ok (.iushr, 1)) (hn : pc + 1 = pc') (hv : (x.toUInt32 >>> (y.toUInt32 &&& Int32.toUInt32 31)).toInt32 = v) (k : zW G M d r pc' L (.int v :: st) h Q) : zW G M d r pc L (.int y :: .int x :: st) h Q := by
  subst hn
  intro p e R s m args below meth c A H locs cells slots ls hH hl hc hs hL
  exact lv_iushr A.1 A.2.1 hd hv (k p e R s m args below meth c A H locs cells slots ls hH hl hc hs hL)
theorem zW.ladd {x y : Int64} (hd : decode (zm_c M) pc = .ok (.ladd, 1)) (hn : pc + 1 = pc') (k : zW G M d r pc' L (.long (x + y) :: st) h Q) : zW G M d r pc L (.long y :: .long x :: st) h Q := by
  subst hn
  intro p e R s m args below meth c A H locs cells slots ls hH hl hc hs hL
  exact lv_ladd A.1 A.2.1 hd (k p e R s m args below meth c A H locs cells slots ls hH hl hc hs hL)
theorem zW.lsub {x y : Int64} (hd : decode (zm_c M) pc = .ok (.lsub, 1)) (hn : pc + 1 = pc') (k : zW G M d r pc' L (.long (x - y) :: st) h Q) : zW G M d r pc L (.long y :: .long x :: st) h Q := by
  subst hn
  intro p e R s m args below meth c A H locs cells slots ls hH hl hc hs hL
  exact lv_lsub A.1 A.2.1 hd (k p e R s m args below meth c A H locs cells slots ls hH hl hc hs hL)
theorem zW.i2l {x : Int32} (hd : decode (zm_c M) pc = .ok (.i2l, 1)) (hn : pc + 1 = pc') (k : zW G M d r pc' L (.long x.toInt64 :: st) h Q) : zW G M d r pc L (.int x :: st) h Q := by
  subst hn
  intro p e R s m args below meth c A H locs cells slots ls hH hl hc hs hL
  exact lv_i2l A.1 A.2.1 hd rfl (k p e R s m args below meth c A H locs cells slots ls hH hl hc hs hL)
theorem zW.i2b {x : Int32} (v : Int32) (hd : decode (zm_c M) pc = .ok (.i2b, 1)) (hn : pc + 1 = pc') (hv : x.toInt8.toInt32 = v) (k : zW G M d r pc' L (.int v :: st) h Q) : zW G M d r pc L (.int x :: st) h Q := by
  subst hn
  intro p e R s m args below meth c A H locs cells slots ls hH hl hc hs hL
  exact lv_i2b A.1 A.2.1 hd hv (k p e R s m args below meth c A H locs cells slots ls hH hl hc hs hL)
theorem zW.i2c {x : Int32} (v : Int32) (hd : decode (zm_c M) pc = .ok (.i2c, 1)) (hn : pc + 1 = pc') (hv : (x.toUInt32 % 65536).toInt32 = v) (k : zW G M d r pc' L (.int v :: st) h Q) : zW G M d r pc L (.int x :: st) h Q := by
  subst hn
  intro p e R s m args below meth c A H locs cells slots ls hH hl hc hs hL
  exact lv_i2c A.1 A.2.1 hd hv (k p e R s m args below meth c A H locs cells slots ls hH hl hc hs hL)
theorem zW.lcmp {x y : Int64} (hd : decode (zm_c M) pc = .ok (.lcmp, 1)) (hn : pc + 1 = pc') (k : zW G M d r pc' L (.int (lg_cmp x y) :: st) h Q) : zW G M d r pc L (.long y :: .long x :: st) h Q := by
  subst hn
  intro p e R s m args below meth c A H locs cells slots ls hH hl hc hs hL
  exact W.lcmp A.1 A.2.1 hd (k p e R s m args below meth c A H locs cells slots ls hH hl hc hs hL)
theorem zW.null (hd : decode (zm_c M) pc = .ok (.aconst_null, 1)) (hn : pc + 1 = pc') (k : zW G M d r pc' L (.null :: st) h Q) : zW G M d r pc L (st) h Q := by
  subst hn
  intro p e R s m args below meth c A H locs cells slots ls hH hl hc hs hL
  exact lv_null A.1 A.2.1 hd (k p e R s m args below meth c A H locs cells slots ls hH hl hc hs hL)
theorem zW.dup {a : Value} (hd : decode (zm_c M) pc = .ok (.dup, 1)) (hn : pc + 1 = pc') (ha : a.category = 1) (k : zW G M d r pc' L (a :: a :: st) h Q) : zW G M d r pc L (a :: st) h Q := by
  subst hn
  intro p e R s m args below meth c A H locs cells slots ls hH hl hc hs hL
  exact lv_dup A.1 A.2.1 hd ha (k p e R s m args below meth c A H locs cells slots ls hH hl hc hs hL)
theorem zW.pop {a : Value} (hd : decode (zm_c M) pc = .ok (.pop, 1)) (hn : pc + 1 = pc') (ha : a.category = 1) (k : zW G M d r pc' L (st) h Q) : zW G M d r pc L (a :: st) h Q := by
  subst hn
  intro p e R s m args below meth c A H locs cells slots ls hH hl hc hs hL
  exact lv_pop A.1 A.2.1 hd ha (k p e R s m args below meth c A H locs cells slots ls hH hl hc hs hL)
theorem zW.dup_x1 {a b : Value} (hd : decode (zm_c M) pc = .ok (.dup_x1, 1)) (hn : pc + 1 = pc') (ha : a.category = 1) (hb : b.category = 1) (k : zW G M d r pc' L (a :: b :: a :: st) h Q) : zW G M d r pc L (a :: b :: st) h Q := by
  subst hn
  intro p e R s m args below meth c A H locs cells slots ls hH hl hc hs hL
  exact lv_dup_x1 A.1 A.2.1 hd ha hb (k p e R s m args below meth c A H locs cells slots ls hH hl hc hs hL)
theorem zW.dup_x2 {a b b2 : Value} (hd : decode (zm_c M) pc = .ok (.dup_x2, 1)) (hn : pc + 1 = pc') (ha : a.category = 1) (hb : b.category = 1) (hb2 : b2.category = 1) (k : zW G M d r pc' L (a :: b :: b2 :: a :: st) h Q) : zW G M d r pc L (a :: b :: b2 :: st) h Q := by
  subst hn
  intro p e R s m args below meth c A H locs cells slots ls hH hl hc hs hL
  exact lv_dup_x2 A.1 A.2.1 hd ha hb hb2 (k p e R s m args below meth c A H locs cells slots ls hH hl hc hs hL)
theorem zW.dup2 {a b : Value} (hd : decode (zm_c M) pc = .ok (.dup2, 1)) (hn : pc + 1 = pc') (ha : a.category = 1) (hb : b.category = 1) (k : zW G M d r pc' L (a :: b :: a :: b :: st) h Q) : zW G M d r pc L (a :: b :: st) h Q := by
  subst hn
  intro p e R s m args below meth c A H locs cells slots ls hH hl hc hs hL
  exact lv_dup2_11 A.1 A.2.1 hd ha hb (k p e R s m args below meth c A H locs cells slots ls hH hl hc hs hL)
theorem zW.icmp_eq {x y : Int32} {off : Int} (tg : Nat) (hd : decode (zm_c M) pc = .ok (.if_icmp .eq off, 3)) (hn : pc + 3 = pc') (ht : (pc : Int) + off = (tg : Int)) (kt : x = y → zW G M d r tg L st h Q) (kf : ¬ x = y → zW G M d r pc' L st h Q) : zW G M d r pc L (.int y :: .int x :: st) h Q := by
  subst hn
  intro p e R s m args below meth c A H locs cells slots ls hH hl hc hs hL
  exact lv_icmp_eq A.1 A.2.1 hd ht (fun q => kt q p e R s m args below meth c A H locs cells slots ls hH hl hc hs hL) (fun q => kf q p e R s m args below meth c A H locs cells slots ls hH hl hc hs hL)
theorem zW.if_eq {x : Int32} {off : Int} (tg : Nat) (hd : decode (zm_c M) pc = .ok (.ifCond .eq off, 3)) (hn : pc + 3 = pc') (ht : (pc : Int) + off = (tg : Int)) (kt : x = 0 → zW G M d r tg L st h Q) (kf : ¬ x = 0 → zW G M d r pc' L st h Q) : zW G M d r pc L (.int x :: st) h Q := by
  subst hn
  intro p e R s m args below meth c A H locs cells slots ls hH hl hc hs hL
  exact lv_if_eq A.1 A.2.1 hd ht (fun q => kt q p e R s m args below meth c A H locs cells slots ls hH hl hc hs hL) (fun q => kf q p e R s m args below meth c A H locs cells slots ls hH hl hc hs hL)
theorem zW.icmp_ne {x y : Int32} {off : Int} (tg : Nat) (hd : decode (zm_c M) pc = .ok (.if_icmp .ne off, 3)) (hn : pc + 3 = pc') (ht : (pc : Int) + off = (tg : Int)) (kt : ¬ x = y → zW G M d r tg L st h Q) (kf : x = y → zW G M d r pc' L st h Q) : zW G M d r pc L (.int y :: .int x :: st) h Q := by
  subst hn
  intro p e R s m args below meth c A H locs cells slots ls hH hl hc hs hL
  exact lv_icmp_ne A.1 A.2.1 hd ht (fun q => kt q p e R s m args below meth c A H locs cells slots ls hH hl hc hs hL) (fun q => kf q p e R s m args below meth c A H locs cells slots ls hH hl hc hs hL)
theorem zW.if_ne {x : Int32} {off : Int} (tg : Nat) (hd : decode (zm_c M) pc = .ok (.ifCond .ne off, 3)) (hn : pc + 3 = pc') (ht : (pc : Int) + off = (tg : Int)) (kt : ¬ x = 0 → zW G M d r tg L st h Q) (kf : x = 0 → zW G M d r pc' L st h Q) : zW G M d r pc L (.int x :: st) h Q := by
  subst hn
  intro p e R s m args below meth c A H locs cells slots ls hH hl hc hs hL
  exact lv_if_ne A.1 A.2.1 hd ht (fun q => kt q p e R s m args below meth c A H locs cells slots ls hH hl hc hs hL) (fun q => kf q p e R s m args below meth c A H locs cells slots ls hH hl hc hs hL)
theorem zW.icmp_lt {x y : Int32} {off : Int} (tg : Nat) (hd : decode (zm_c M) pc = .ok (.if_icmp .lt off, 3)) (hn : pc + 3 = pc') (ht : (pc : Int) + off = (tg : Int)) (kt : x < y → zW G M d r tg L st h Q) (kf : ¬ x < y → zW G M d r pc' L st h Q) : zW G M d r pc L (.int y :: .int x :: st) h Q := by
  subst hn
  intro p e R s m args below meth c A H locs cells slots ls hH hl hc hs hL
  exact lv_icmp_lt A.1 A.2.1 hd ht (fun q => kt q p e R s m args below meth c A H locs cells slots ls hH hl hc hs hL) (fun q => kf q p e R s m args below meth c A H locs cells slots ls hH hl hc hs hL)
theorem zW.if_lt {x : Int32} {off : Int} (tg : Nat) (hd : decode (zm_c M) pc = .ok (.ifCond .lt off, 3)) (hn : pc + 3 = pc') (ht : (pc : Int) + off = (tg : Int)) (kt : x < 0 → zW G M d r tg L st h Q) (kf : ¬ x < 0 → zW G M d r pc' L st h Q) : zW G M d r pc L (.int x :: st) h Q := by
  subst hn
  intro p e R s m args below meth c A H locs cells slots ls hH hl hc hs hL
  exact lv_if_lt A.1 A.2.1 hd ht (fun q => kt q p e R s m args below meth c A H locs cells slots ls hH hl hc hs hL) (fun q => kf q p e R s m args below meth c A H locs cells slots ls hH hl hc hs hL)
theorem zW.icmp_ge {x y : Int32} {off : Int} (tg : Nat) (hd : decode (zm_c M) pc = .ok (.if_icmp .ge off, 3)) (hn : pc + 3 = pc') (ht : (pc : Int) + off = (tg : Int)) (kt : y ≤ x → zW G M d r tg L st h Q) (kf : ¬ y ≤ x → zW G M d r pc' L st h Q) : zW G M d r pc L (.int y :: .int x :: st) h Q := by
  subst hn
  intro p e R s m args below meth c A H locs cells slots ls hH hl hc hs hL
  exact lv_icmp_ge A.1 A.2.1 hd ht (fun q => kt q p e R s m args below meth c A H locs cells slots ls hH hl hc hs hL) (fun q => kf q p e R s m args below meth c A H locs cells slots ls hH hl hc hs hL)
theorem zW.if_ge {x : Int32} {off : Int} (tg : Nat) (hd : decode (zm_c M) pc = .ok (.ifCond .ge off, 3)) (hn : pc + 3 = pc') (ht : (pc : Int) + off = (tg : Int)) (kt : 0 ≤ x → zW G M d r tg L st h Q) (kf : ¬ 0 ≤ x → zW G M d r pc' L st h Q) : zW G M d r pc L (.int x :: st) h Q := by
  subst hn
  intro p e R s m args below meth c A H locs cells slots ls hH hl hc hs hL
  exact lv_if_ge A.1 A.2.1 hd ht (fun q => kt q p e R s m args below meth c A H locs cells slots ls hH hl hc hs hL) (fun q => kf q p e R s m args below meth c A H locs cells slots ls hH hl hc hs hL)
theorem zW.icmp_gt {x y : Int32} {off : Int} (tg : Nat) (hd : decode (zm_c M) pc = .ok (.if_icmp .gt off, 3)) (hn : pc + 3 = pc') (ht : (pc : Int) + off = (tg : Int)) (kt : y < x → zW G M d r tg L st h Q) (kf : ¬ y < x → zW G M d r pc' L st h Q) : zW G M d r pc L (.int y :: .int x :: st) h Q := by
  subst hn
  intro p e R s m args below meth c A H locs cells slots ls hH hl hc hs hL
  exact lv_icmp_gt A.1 A.2.1 hd ht (fun q => kt q p e R s m args below meth c A H locs cells slots ls hH hl hc hs hL) (fun q => kf q p e R s m args below meth c A H locs cells slots ls hH hl hc hs hL)
theorem zW.if_gt {x : Int32} {off : Int} (tg : Nat) (hd : decode (zm_c M) pc = .ok (.ifCond .gt off, 3)) (hn : pc + 3 = pc') (ht : (pc : Int) + off = (tg : Int)) (kt : 0 < x → zW G M d r tg L st h Q) (kf : ¬ 0 < x → zW G M d r pc' L st h Q) : zW G M d r pc L (.int x :: st) h Q := by
  subst hn
  intro p e R s m args below meth c A H locs cells slots ls hH hl hc hs hL
  exact lv_if_gt A.1 A.2.1 hd ht (fun q => kt q p e R s m args below meth c A H locs cells slots ls hH hl hc hs hL) (fun q => kf q p e R s m args below meth c A H locs cells slots ls hH hl hc hs hL)
theorem zW.icmp_le {x y : Int32} {off : Int} (tg : Nat) (hd : decode (zm_c M) pc = .ok (.if_icmp .le off, 3)) (hn : pc + 3 = pc') (ht : (pc : Int) + off = (tg : Int)) (kt : x ≤ y → zW G M d r tg L st h Q) (kf : ¬ x ≤ y → zW G M d r pc' L st h Q) : zW G M d r pc L (.int y :: .int x :: st) h Q := by
  subst hn
  intro p e R s m args below meth c A H locs cells slots ls hH hl hc hs hL
  exact lv_icmp_le A.1 A.2.1 hd ht (fun q => kt q p e R s m args below meth c A H locs cells slots ls hH hl hc hs hL) (fun q => kf q p e R s m args below meth c A H locs cells slots ls hH hl hc hs hL)
theorem zW.if_le {x : Int32} {off : Int} (tg : Nat) (hd : decode (zm_c M) pc = .ok (.ifCond .le off, 3)) (hn : pc + 3 = pc') (ht : (pc : Int) + off = (tg : Int)) (kt : x ≤ 0 → zW G M d r tg L st h Q) (kf : ¬ x ≤ 0 → zW G M d r pc' L st h Q) : zW G M d r pc L (.int x :: st) h Q := by
  subst hn
  intro p e R s m args below meth c A H locs cells slots ls hH hl hc hs hL
  exact lv_if_le A.1 A.2.1 hd ht (fun q => kt q p e R s m args below meth c A H locs cells slots ls hH hl hc hs hL) (fun q => kf q p e R s m args below meth c A H locs cells slots ls hH hl hc hs hL)
theorem zW.goto {off : Int} (tg : Nat) (hd : decode (zm_c M) pc = .ok (.goto off, 3)) (ht : (pc : Int) + off = (tg : Int)) (k : zW G M d r tg L st h Q) : zW G M d r pc L st h Q := by
  intro p e R s m args below meth c A H locs cells slots ls hH hl hc hs hL
  exact lv_goto A.1 A.2.1 hd ht (k p e R s m args below meth c A H locs cells slots ls hH hl hc hs hL)
theorem zW.ifnonnull {v : Value} {off : Int} (tg : Nat) (hd : decode (zm_c M) pc = .ok (.ifnonnull off, 3)) (hn : pc + 3 = pc') (ht : (pc : Int) + off = (tg : Int)) (hr : zir v = true) (kt : v ≠ .null → zW G M d r tg L st h Q) (kf : v = .null → zW G M d r pc' L st h Q) : zW G M d r pc L (v :: st) h Q := by
  subst hn
  intro p e R s m args below meth c A H locs cells slots ls hH hl hc hs hL
  rcases zir_or hr with q | ⟨a, q⟩
  · subst q
    exact lv_ifnonnullN A.1 A.2.1 hd (kf rfl p e R s m args below meth c A H locs cells slots ls hH hl hc hs hL)
  · subst q
    exact lv_ifnonnull A.1 A.2.1 hd ht (kt (fun q => by cases q) p e R s m args below meth c A H locs cells slots ls hH hl hc hs hL)
theorem zW.ifnull {v : Value} {off : Int} (tg : Nat) (hd : decode (zm_c M) pc = .ok (.ifnull off, 3)) (hn : pc + 3 = pc') (ht : (pc : Int) + off = (tg : Int)) (hr : zir v = true) (kt : v = .null → zW G M d r tg L st h Q) (kf : v ≠ .null → zW G M d r pc' L st h Q) : zW G M d r pc L (v :: st) h Q := by
  subst hn
  intro p e R s m args below meth c A H locs cells slots ls hH hl hc hs hL
  rcases zir_or hr with q | ⟨a, q⟩
  · subst q
    exact lv_ifnullN A.1 A.2.1 hd ht (kt rfl p e R s m args below meth c A H locs cells slots ls hH hl hc hs hL)
  · subst q
    exact lv_ifnull A.1 A.2.1 hd (kf (fun q => by cases q) p e R s m args below meth c A H locs cells slots ls hH hl hc hs hL)
theorem zrf_of {v : Value} (h : zir v = true) : ∃ o, v = va_rf o := by
  rcases zir_or h with q | ⟨a, q⟩
  · exact ⟨none, q⟩
  · exact ⟨some a, q⟩
theorem zrf_inj {o o' : Option Nat} (h : va_rf o = va_rf o') : o = o' := by
  cases o <;> cases o' <;> first | rfl | (cases h; done) | (cases h; rfl)
theorem zW.acmp_eq {v w : Value} {off : Int} (tg : Nat) (hd : decode (zm_c M) pc = .ok (.if_acmp .eq off, 3)) (hn : pc + 3 = pc') (ht : (pc : Int) + off = (tg : Int)) (hv : zir v = true) (hw : zir w = true) (kt : v = w → zW G M d r tg L st h Q) (kf : ¬ v = w → zW G M d r pc' L st h Q) : zW G M d r pc L (w :: v :: st) h Q := by
  subst hn
  intro p e R s m args below meth c A H locs cells slots ls hH hl hc hs hL
  obtain ⟨o, rfl⟩ := zrf_of hv
  obtain ⟨o', rfl⟩ := zrf_of hw
  exact lv_acmp_eq A.1 A.2.1 hd ht (fun q => kt (by rw [q]) p e R s m args below meth c A H locs cells slots ls hH hl hc hs hL) (fun q => kf (fun z => q (zrf_inj z)) p e R s m args below meth c A H locs cells slots ls hH hl hc hs hL)
theorem zW.acmp_ne {v w : Value} {off : Int} (tg : Nat) (hd : decode (zm_c M) pc = .ok (.if_acmp .ne off, 3)) (hn : pc + 3 = pc') (ht : (pc : Int) + off = (tg : Int)) (hv : zir v = true) (hw : zir w = true) (kt : ¬ v = w → zW G M d r tg L st h Q) (kf : v = w → zW G M d r pc' L st h Q) : zW G M d r pc L (w :: v :: st) h Q := by
  subst hn
  intro p e R s m args below meth c A H locs cells slots ls hH hl hc hs hL
  obtain ⟨o, rfl⟩ := zrf_of hv
  obtain ⟨o', rfl⟩ := zrf_of hw
  exact lv_acmp_ne A.1 A.2.1 hd ht (fun q => kt (fun z => q (zrf_inj z)) p e R s m args below meth c A H locs cells slots ls hH hl hc hs hL) (fun q => kf (by rw [q]) p e R s m args below meth c A H locs cells slots ls hH hl hc hs hL)
theorem zW.tableIn {dflt lo hi : Int} {offs : Array Int} {len : Nat} {x : Int32} {off : Int} (tg : Nat) (hd : decode (zm_c M) pc = .ok (.tableswitch dflt lo hi offs, len)) (h1 : ¬ x.toInt < lo) (h2 : ¬ hi < x.toInt) (ho : offs[(x.toInt - lo).toNat]? = some off) (ht : (pc : Int) + off = (tg : Int)) (k : zW G M d r tg L st h Q) : zW G M d r pc L (.int x :: st) h Q := by
  intro p e R s m args below meth c A H locs cells slots ls hH hl hc hs hL
  exact lv_tableIn A.1 A.2.1 hd h1 h2 ho ht (k p e R s m args below meth c A H locs cells slots ls hH hl hc hs hL)
theorem zW.tableOut {dflt lo hi : Int} {offs : Array Int} {len : Nat} {x : Int32} (tg : Nat) (hd : decode (zm_c M) pc = .ok (.tableswitch dflt lo hi offs, len)) (h1 : x.toInt < lo ∨ hi < x.toInt) (ht : (pc : Int) + dflt = (tg : Int)) (k : zW G M d r tg L st h Q) : zW G M d r pc L (.int x :: st) h Q := by
  intro p e R s m args below meth c A H locs cells slots ls hH hl hc hs hL
  exact lv_tableOut A.1 A.2.1 hd h1 ht (k p e R s m args below meth c A H locs cells slots ls hH hl hc hs hL)
theorem zW.lookup {dflt : Int} {ps : Array (Int × Int)} {len : Nat} {x : Int32} {off : Int} (tg : Nat) (hd : decode (zm_c M) pc = .ok (.lookupswitch dflt ps, len)) (hp : (ps.toList.zip (ps.toList.drop 1)).all (fun (a, next) => a.1 < next.1) = true) (ho : Op.lookupswitch.offset ps.toList dflt x.toInt = off) (ht : (pc : Int) + off = (tg : Int)) (k : zW G M d r tg L st h Q) : zW G M d r pc L (.int x :: st) h Q := by
  intro p e R s m args below meth c A H locs cells slots ls hH hl hc hs hL
  exact lv_lookup A.1 A.2.1 hd hp ho ht (k p e R s m args below meth c A H locs cells slots ls hH hl hc hs hL)
end
