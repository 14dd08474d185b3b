/-! rows for bytes, clones, class objects, String constants by ldc_w, statics of unknown value -/
section
set_option maxRecDepth 100000
variable {G : zG} {M : zM} {d r pc pc' : Nat} {L st : List Value} {h : zH} {Q : zR → zH → Prop}
/-- bytes of letters below 128 -/
def btab (l : List Nat) : List Value := l.map fun x => Value.int (nI x)
theorem btab_len {l : List Nat} : (btab l).length = l.length := by simp [btab]
theorem btab_n {l : List Nat} {n : Nat} (e : l.length = n) : Int32.ofNat (btab l).length = nI n := by rw [btab_len, e]; rfl
theorem btab_get {l : List Nat} {j x : Nat} (hx : l[j]? = some x) : (btab l)[j]? = some (.int (nI x)) := by simp [btab, hx]
theorem btab_set {l : List Nat} {j x : Nat} : (btab l).set j (.int (nI x)) = btab (l.set j x) := by
  unfold btab
  exact List.map_set.symm
theorem btab_cp {l1 l2 : List Nat} {i j n : Nat} : zcp (btab l1) (btab l2) i j n = btab (l2.take j ++ (l1.drop i).take n ++ l2.drop (j + n)) := by
  unfold zcp btab
  rw [List.map_append, List.map_append, List.map_take, List.map_take, List.map_drop, List.map_drop]
theorem btab_rep {n : Nat} : List.replicate n (.int 0) = btab (List.replicate n 0) := by
  unfold btab
  rw [List.map_replicate]
  rfl
theorem nI_byte_all : ∀ x : Fin 128, narrow .byte (.int (nI x.1)) = .int (nI x.1) ∧ fits .byte (.int (nI x.1)) = true ∧ (nI x.1).toInt8.toInt32 = nI x.1 ∧ (nI x.1 &&& 255) = nI x.1 ∧ ((nI x.1).toUInt32 % 65536).toInt32 = nI x.1 := by decide +kernel
theorem btab_fit {l : List Nat} (hl : ∀ x ∈ l, x < 128) : ∀ v ∈ btab l, fits .byte v = true := fun v hv => by
  obtain ⟨x, hx, rfl⟩ := List.mem_map.mp hv
  exact (nI_byte_all ⟨x, hl x hx⟩).2.1
theorem zW.baldN {kk a j x : Nat} {l : List Nat} (hd : decode (zm_c M) pc = .ok (.baload, 1)) (hn : pc + 1 = pc') (hh : h a = some (kk, btab l)) (hk : kk % 1000 = 103) (hx : l[j]? = some x) (hb : l.length < 2 ^ 31) (kq : zW G M d r pc' L (.int (nI x) :: st) h Q) : zW G M d r pc L (.int (nI j) :: .ref a :: st) h Q := by
  have hj : j < 2 ^ 31 := Nat.lt_trans (List.getElem?_eq_some_iff.mp hx).1 hb
  exact zW.bald hd hn hh hk (nI_pos hj) (by rw [nI_clamp hj]; exact btab_get hx) kq
theorem zW.bastN {a j x : Nat} {l : List Nat} (hd : decode (zm_c M) pc = .ok (.bastore, 1)) (hn : pc + 1 = pc') (hh : h a = some (103, btab l)) (hj : j < l.length) (hx : x < 128) (hb : l.length < 2 ^ 31) (kq : ∀ h', h' = zup h a (103, btab (l.set j x)) → h' a = some (103, btab (l.set j x)) → zW G M d r pc' L st h' Q) : zW G M d r pc L (.int (nI x) :: .int (nI j) :: .ref a :: st) h Q := by
  have hj' : j < 2 ^ 31 := Nat.lt_trans hj hb
  exact zW.bast hd hn hh (nI_pos hj') (by rw [nI_clamp hj', btab_len]; exact hj) (by rw [nI_clamp hj', (nI_byte_all ⟨x, hx⟩).1]; exact btab_set) (kq _ rfl zup_s)
theorem zW.newaBK {N u : Nat} {n : Int32} (hd : decode (zm_c M) pc = .ok (.newarray .byte, 2)) (hn : pc + 2 = pc') (hn0 : ¬ n < 0) (hN : n.toNatClampNeg = N) (hb : N ≤ 536870912) (hu : 1 ≤ u ∧ N ≤ 4 * u) (kq : ∀ a h', h a = none → h' = zup h a (103, btab (List.replicate N 0)) → h' a = some (103, btab (List.replicate N 0)) → zW G M d r pc' L (.ref a :: st) h' Q) : zW G M d (r + u) pc L (.int n :: st) h Q :=
  zW.newa (kk := 103) hd hn (by decide) rfl (lw_all_tbl q298) (fun _ _ q => q) hn0 hN (by show N * 1 ≤ _; omega) hu rfl fun a n => by
    rw [show List.replicate N (defaultValue (newarray.typeOf .byte)) = btab (List.replicate N 0) from btab_rep]
    exact kq a _ n rfl zup_s
theorem zW.acopyB {idx a b kk i j n : Nat} {l1 l2 : List Nat} (hd : decode (zm_c M) pc = .ok (.invokestatic idx, 3)) (hn : pc + 3 = pc') (hl1 : Cond.methodLink (zm_y M).cls idx Stand.acN ∈ lw_tbl) (ha : h a = some (kk, btab l1)) (hb : h b = some (103, btab l2)) (hk : kk % 1000 = 103) (hi : i + n ≤ l1.length) (hj : j + n ≤ l2.length) (h31 : l1.length < 2 ^ 30 ∧ l2.length < 2 ^ 30) (hx : ∀ x ∈ l1, x < 128) (hdd : 1 ≤ d) (hW : (st.map fun v => v.category).sum ≤ 8)
    (kq : ∀ h', h' = zup h b (103, btab (l2.take j ++ (l1.drop i).take n ++ l2.drop (j + n))) → h' b = some (103, btab (l2.take j ++ (l1.drop i).take n ++ l2.drop (j + n))) → zW G M d r pc' L st h' Q) : zW G M d r pc L (.int (nI n) :: .int (nI j) :: .ref b :: .int (nI i) :: .ref a :: st) h Q := by
  refine zW.acopy hd hn hl1 ha hb ⟨by decide, hk⟩ (by rw [btab_len]; exact hi) (by rw [btab_len]; exact hj) (by rw [btab_len, btab_len]; exact h31) (fun q => absurd q (by decide)) (fun _ t v ht e => btab_fit hx v (List.mem_of_getElem? e)) hdd hW fun h' e1 e2 => ?_
  rw [btab_cp] at e1 e2
  exact kq h' e1 e2
theorem nI_sub_le {q m : Nat} (hq : q < 2 ^ 30) (hm : m < 2 ^ 30) : nI q - nI m ≤ 0 ↔ q ≤ m := by
  have e : (nI q - nI m).toInt = (q : Int) - m := pk_sub_toInt (by omega) (by omega)
  rw [Int32.le_iff_toInt_le, e, Int32.toInt_zero]
  omega
theorem nI_sh0 {x : Int32} : x >>> (nI 0 &&& 31) = x := sb_shr0 x
theorem nI_sl0 {x : Int32} : x <<< (nI 0 &&& 31) = x := sb_shl0 x
theorem zW.ishr0 {x : Int32} (hd : decode (zm_c M) pc = .ok (.ishr, 1)) (hn : pc + 1 = pc') (k : zW G M d r pc' L (.int x :: st) h Q) : zW G M d r pc L (.int (nI 0) :: .int x :: st) h Q :=
  zW.ishr hd hn (by rw [nI_sh0]; exact k)
theorem zW.ishl0 {x : Int32} (hd : decode (zm_c M) pc = .ok (.ishl, 1)) (hn : pc + 1 = pc') (k : zW G M d r pc' L (.int x :: st) h Q) : zW G M d r pc L (.int (nI 0) :: .int x :: st) h Q :=
  zW.ishl hd hn (by rw [nI_sl0]; exact k)
theorem zW.iandB {x : Nat} (hd : decode (zm_c M) pc = .ok (.iand, 1)) (hn : pc + 1 = pc') (hx : x < 128) (k : zW G M d r pc' L (.int (nI x) :: st) h Q) : zW G M d r pc L (.int (nI 255) :: .int (nI x) :: st) h Q :=
  zW.iand hd hn (by rw [show nI x &&& nI 255 = nI x from (nI_byte_all ⟨x, hx⟩).2.2.2.1]; exact k)
theorem zW.i2cB {x : Nat} (hd : decode (zm_c M) pc = .ok (.i2c, 1)) (hn : pc + 1 = pc') (hx : x < 128) (k : zW G M d r pc' L (.int (nI x) :: st) h Q) : zW G M d r pc L (.int (nI x) :: st) h Q :=
  zW.i2c (nI x) hd hn (nI_byte_all ⟨x, hx⟩).2.2.2.2 k
theorem zW.i2bB {x : Nat} (hd : decode (zm_c M) pc = .ok (.i2b, 1)) (hn : pc + 1 = pc') (hx : x < 128) (k : zW G M d r pc' L (.int (nI x) :: st) h Q) : zW G M d r pc L (.int (nI x) :: st) h Q :=
  zW.i2b (nI x) hd hn (nI_byte_all ⟨x, hx⟩).2.2.1 k
theorem zW.ldcM {idx : Nat} (hd : decode (zm_c M) pc = .ok (.ldc idx, 2)) (hn : pc + 2 = pc') (hlk : Cond.classLink (zm_y M).cls idx "[Ljava/lang/Object;" ∈ lw_tbl) (kq : zW G M d r pc' L (.ref (zg_a G 5) :: st) h Q) : zW G M d r pc L st h Q := by
  subst hn
  intro p e0 R s m args below meth c A H locs cells slots ls hH hl hc hs hL
  exact va_ldcM A.1 A.2.1 A.own (A.tb.w hlk rfl) A.tb.2.2.2.2.2.2.2.1.2.1 hd (kq p e0 R s m args below meth c A H locs cells slots ls hH hl hc hs hL)
theorem zW.ldcSW {idx j : Nat} {tx : String} (hd : decode (zm_c M) pc = .ok (.ldc_w idx, 3)) (hn : pc + 3 = pc') (hz : zlit[j]? = some ((zm_y M).cls, idx, tx)) (kq : zW G M d r pc' L (.ref (zg_a G (100 + j)) :: st) h Q) : zW G M d r pc L st h Q := by
  subst hn
  intro p e R s m args below meth c A H locs cells slots ls hH hl hc hs hL T hTH X
  have hZ := A.tb.2.2.2.2.2.2.2.2.1 j _ hz
  obtain ⟨t, a1, b1⟩ := kq p e R s m args below meth c A H locs cells slots ls hH hl hc hs hL T hTH X
  refine ⟨t, ?_, b1⟩
  have hconst : (Cond.stringRef (zm_y M).cls idx tx).before args s = true := hZ.1
  have hev : (Term.string (zm_y M).cls idx).eval args s none [] s = some (.ref (zg_a G (100 + j))) := hZ.2
  obtain ⟨k, cf, i, a', hk, hcf, hcp, -, hr, hev'⟩ := Cond.stringRef_spec A.own hconst
  cases hev.symm.trans hev'
  obtain ⟨k', hk', he⟩ := X.warmed.alike.2.2 _ _ hk
  have hr' : k'.resolved[idx]? = some (some (.string (zg_a G (100 + j)))) := by
    rcases X.warmed.entry hk hk' idx with h | ⟨h, -⟩
    · rw [h]; exact hr
    · rw [hr] at h; cases h
  have hexec := A.1
  have hdg : decode c.code pc = .ok (.ldc_w idx, 3) := by rw [A.2.1]; exact hd
  jvm_step X.here [hexec, hdg, ldc_w.wp_string (e := e) (s := T) (f := F0 m pc ls st) X.here.top hk' (by rw [he]; exact hcf) hcp hr']
  exact a1
/-- a static of unknown value -/
theorem zW.getsQ {idx : Nat} (hd : decode (zm_c M) pc = .ok (.getstatic idx, 3)) (hn : pc + 3 = pc') (hlk : Cond.fieldLink (zm_y M).cls idx "jdk/internal/util/Preconditions" "SIOOBE_FORMATTER" "Ljava/util/function/BiFunction;" ∈ lw_tbl) (kq : ∀ o, zW G M d r pc' L (zrf o :: st) h Q) : zW G M d r pc L st h Q := by
  subst hn
  intro p e0 R s m args below meth c A H locs cells slots ls hH hl hc hs hL
  have go : ∀ o, va_Z "jdk/internal/util/Preconditions" "SIOOBE_FORMATTER" "Ljava/util/function/BiFunction;" (zrf o) (zfree G) s (zg_H G) → W p (zg_l G) e0 R s m args below meth c H locs cells slots (vx_MQ below (zQc G Q) (zXC G Q) args s R.cells R.slots (zfree G)) (F0 m pc ls st) := by
    intro o hz
    obtain ⟨cf, kf, fi, f, a, cell, g1, g2, g3, g4, g5, g6, g7, g8⟩ := hz
    have ha : a < (zg_H G).size := (Array.getElem?_eq_some_iff.mp g5).1
    have g5' : H[a]? = some cell := by rw [hH.2.2 a ha]; exact g5
    have hkn : cell.vm ≠ .unknown := by intro q; rw [q] at g6; cases g6
    exact W.gets A.1 A.2.1 A.own (A.tb.w hlk rfl) g1 g2 g3 g4 g5' hkn g7 rfl hd (kq o p e0 R s m args below meth c A H locs cells slots ls hH hl hc hs hL)
  rcases A.tb.2.2.2.2.2.2.2.1.1 with hz | ⟨t, hz⟩
  · exact go none hz
  · exact go (some t) hz
/-- a byte array's clone -/
theorem zW.cloneB {a u idx : Nat} {l : List Nat} (hd : decode (zm_c M) pc = .ok (.invokevirtual idx, 3)) (hn : pc + 3 = pc') (hlk : Cond.methodLink (zm_y M).cls idx ⟨"[B", "clone", "()Ljava/lang/Object;"⟩ ∈ lw_tbl) (hh : h a = some (103, btab l)) (hx : ∀ x ∈ l, x < 128) (hu : 1 ≤ u ∧ l.length ≤ 4 * u) (hdd : 1 ≤ d) (hW : (st.map fun v => v.category).sum ≤ 8)
    (kq : ∀ b h', h b = none → h' = zup h b (103, btab l) → h' b = some (103, btab l) → zW G M d r pc' L (.ref b :: st) h' Q) : zW G M d (r + u) pc L (.ref a :: st) h Q := by
  subst hn
  intro p e0 R s m args below meth c A H locs cells slots ls hH hl hc hs hL T hT X
  have hTb := A.tb
  have hdR := A.2.2.2.2.2.2.2.2.2.1
  obtain ⟨cell, q1, q2, q3, q4, q5⟩ := (hH.1 a _ hh).1.arr (by decide)
  have q4 := q4.1 (Nat.le_of_ble_eq_true rfl)
  have hnm : s.vm.findClass "[B" = some cell.cls := q5 (by decide)
  obtain ⟨q21, kA, hkA, compA, hkind⟩ := q2
  obtain ⟨c0, t0, f1, f2, f3⟩ := Cond.castable_spec (hTb.w (A := args) q451 rfl)
  cases hnm.symm.trans f1
  have hlen : cell.slots.size = l.length := by rw [← Array.length_toList, q4, btab_len]
  obtain ⟨kA', hkA', heA⟩ := X.warmed.alike.2.2 _ _ hkA
  have hkind' : kA'.kind = .array compA .byte := by rw [heA]; exact hkind
  obtain ⟨vm', X', st9⟩ := X.cloneArray A.1 A.own (hTb.w hlk rfl) (hTb.w (lw_all_tbl q447) rfl) (hTb.w (lw_all_tbl q448) rfl) (hTb.w (lw_all_tbl q449) rfl) (hTb.w (lw_all_tbl q450) rfl) (a := a) (cell := cell) (by rw [hT]; exact q1) q21 q3 hnm f2 f3
    (fun i v hv => by
      have hm : v ∈ btab l := by rw [← q4]; exact List.mem_of_getElem? (by rw [Array.getElem?_toList]; exact hv)
      have hf := btab_fit hx v hm
      simpa [State.fitsSlot, State.slotType?, hkA', hkind'] using hf)
    (g := F0 m pc ls (.ref a :: st)) rfl (by rw [A.2.2.2.1]; exact hL.1) rfl (by rw [A.2.1]; exact hd) (by omega) (by show 2 * 0 + _ + 14 ≤ _; omega) (by omega) (by rw [hlen]; omega) (hloader := Vm.clonesLoader_of_array hkA hkind)
  obtain ⟨h0, hp⟩ := hH.push (c := (103, btab l)) (H' := H.push { cls := cell.cls, slots := cell.slots }) (by simp) (fun q hq => by rw [Array.getElem?_push, if_neg (Nat.ne_of_lt hq)]) (zAt.mkA (by decide) ⟨_, Array.getElem?_push_size, ⟨(fun k hq => by cases hq), kA, hkA, compA, hkind⟩, (fun hq => by cases hq), q4, fun _ => q5 (by decide)⟩)
  obtain ⟨t, b1, b2⟩ := kq _ _ h0 rfl zup_s p e0 R s m args below meth c A _ locs _ _ ls hp hl (by omega) (by rw [hlen]; omega) hL ((T.setVm vm').pushCell { cls := cell.cls, slots := cell.slots }) (by rw [← hT]; rfl) X'
  refine ⟨t, st9 t ?_, b2⟩
  rw [hT]
  exact b1
/-- a fresh byte array is cast to what it is -/
theorem zW.castB {idx a : Nat} {fs : List Value} (hd : decode (zm_c M) pc = .ok (.checkcast idx, 3)) (hn : pc + 3 = pc') (hlk : Cond.classLink (zm_y M).cls idx "[B" ∈ lw_tbl) (hh : h a = some (103, fs)) (kq : zW G M d r pc' L (.ref a :: st) h Q) : zW G M d r pc L (.ref a :: st) h Q := by
  subst hn
  intro p e0 R s m args below meth c A H locs cells slots ls hH hl hc hs hL T hT X
  have hTb := A.tb
  obtain ⟨cell, q1, q2, q3, q4, q5⟩ := (hH.1 a _ hh).1.arr (by decide)
  have hnm : s.vm.findClass "[B" = some cell.cls := q5 (by decide)
  have hst : cell.vm.isStatics = false := by
    have h9 := q2.1
    cases e : cell.vm <;> first | rfl | exact absurd e (h9 _)
  obtain ⟨vm', X', st9⟩ := X.checkcastYes A.1 A.own (hTb.w hlk rfl) (by rw [hT]; exact q1) hst hnm (va_asg _ _) (g := F0 m pc ls (.ref a :: st)) rfl rfl (by rw [A.2.1]; exact hd)
  obtain ⟨t, a1, b1⟩ := kq p e0 R s m args below meth c A H locs cells slots ls hH hl hc hs hL (T.setVm vm') hT X'
  exact ⟨t, st9 t a1, b1⟩
end
