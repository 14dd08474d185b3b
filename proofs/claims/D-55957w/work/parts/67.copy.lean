/-! System.arraycopy -/
section
set_option maxRecDepth 100000
variable {G : zG} {M : zM} {d r pc pc' : Nat} {L st : List Value} {h : zH} {Q : zR → zH → Prop}
/-- gs with n values of fs from i on laid from j on -/
def zcp (fs gs : List Value) (i j n : Nat) : List Value := gs.take j ++ (fs.drop i).take n ++ gs.drop (j + n)
theorem zcp_len {fs gs : List Value} {i j n : Nat} (hi : i + n ≤ fs.length) (hj : j + n ≤ gs.length) : (zcp fs gs i j n).length = gs.length := by
  unfold zcp
  rw [List.length_append, List.length_append, List.length_take, List.length_take, List.length_drop, List.length_drop]
  omega
theorem zcp_get {fs gs : List Value} {i j n k : Nat} (hi : i + n ≤ fs.length) (hj : j + n ≤ gs.length) : (zcp fs gs i j n)[k]? = if j ≤ k ∧ k < j + n then fs[i + (k - j)]? else gs[k]? := by
  unfold zcp
  have h1 : (gs.take j).length = j := by rw [List.length_take]; omega
  have h2 : ((fs.drop i).take n).length = n := by rw [List.length_take, List.length_drop]; omega
  by_cases q1 : k < j
  · rw [if_neg (by omega), List.append_assoc, List.getElem?_append_left (by omega), List.getElem?_take, if_pos q1]
  · by_cases q2 : k < j + n
    · rw [if_pos ⟨by omega, q2⟩, List.getElem?_append_left (by rw [List.length_append, h1, h2]; exact q2), List.getElem?_append_right (by omega), h1, List.getElem?_take, if_pos (by omega), List.getElem?_drop]
    · rw [if_neg (by omega), List.getElem?_append_right (by rw [List.length_append, h1, h2]; omega), List.length_append, h1, h2, List.getElem?_drop]
      congr 1
      omega
theorem zcp_cell {cs cd : Cell} {i j n : Nat} (hi : i + n ≤ cs.slots.size) (hj : j + n ≤ cd.slots.size) : (cd.storeRun j (cs.stretch i n)).slots.toList = zcp cs.slots.toList cd.slots.toList i j n := by
  apply List.ext_getElem?
  intro k
  have hl := Cell.stretch_length cs i n
  rw [zcp_get (by rw [Array.length_toList]; exact hi) (by rw [Array.length_toList]; exact hj), Array.getElem?_toList, Cell.storeRun_get cd j _ k (by rw [hl]; exact hj), hl]
  by_cases q : j ≤ k ∧ k < j + n
  · rw [if_pos q, if_pos q]
    unfold Cell.stretch
    rw [List.getElem?_map, List.getElem?_range (by omega), Option.map_some, Array.getElem?_toList, Array.getElem?_eq_getElem (by omega)]
    simp only [Array.getD, dif_pos (show i + (k - j) < cs.slots.size by omega)]
    rfl
  · rw [if_neg q, if_neg q, Array.getElem?_toList]
theorem zcp_pre {fs gs t : List Value} {i j n : Nat} (h : i + n ≤ fs.length) : zcp (fs ++ t) gs i j n = zcp fs gs i j n := by
  unfold zcp
  rw [List.drop_append_of_le_length (by omega), List.take_append_of_le_length (by rw [List.length_drop]; omega)]
theorem zW.acopy {idx a b kk kk' i j n : Nat} {fs gs : List Value} (hd : decode (zm_c M) pc = .ok (.invokestatic idx, 3)) (hn : pc + 3 = pc') (hl1 : Cond.methodLink (zm_y M).cls idx Stand.acN ∈ lw_tbl) (ha : h a = some (kk, fs)) (hb : h b = some (kk', gs)) (hk : (100 ≤ kk' ∧ kk' ≤ 104) ∧ kk % 1000 = kk') (hi : i + n ≤ fs.length) (hj : j + n ≤ gs.length) (h31 : fs.length < 2 ^ 30 ∧ gs.length < 2 ^ 30)
    (hv : kk' = 104 → ∀ t v, t < n → fs[i + t]? = some v → v = .null ∨ ∃ x c, v = .ref x ∧ h x = some c ∧ zObj c) (hv2 : kk' ≠ 104 → ∀ t v, t < n → fs[i + t]? = some v → fits (zty kk') v = true) (hdd : 1 ≤ d) (hW : (st.map fun v => v.category).sum ≤ 8)
    (kq : ∀ h', h' = zup h b (kk', zcp fs gs i j n) → h' b = some (kk', zcp fs gs i j n) → zW G M d r pc' L st h' Q) : zW G M d r pc L (.int (nI n) :: .int (nI j) :: .ref b :: .int (nI i) :: .ref a :: st) h Q := by
  subst hn
  intro p e0 R s m args below meth c A H locs cells slots ls hH hl hc hs hL T hTH X
  obtain ⟨cs, q1, q2, q3, q4, -⟩ := (hH.1 a _ ha).1.arr (by rw [hk.2]; exact hk.1.1)
  obtain ⟨cd, p1, p2, p3, p4, p5⟩ := (hH.1 b _ hb).1.arr (by rw [Nat.mod_eq_of_lt (by omega)]; exact hk.1.1)
  rw [hk.2] at q2
  rw [Nat.mod_eq_of_lt (show kk' < 1000 by omega)] at p2 p5
  have hp5 := p5 (by omega)
  obtain ⟨q21, ks, hks, sC, hsk⟩ := q2
  obtain ⟨p21, kd, hkd, dC, hdk⟩ := p2
  have hT := A.tb
  have hnw : nativeFrameWords "java/lang/System" "arraycopy" 5 = 7 := by decide
  have hdR := A.2.2.2.2.2.2.2.2.2.1
  obtain ⟨tl, q4⟩ := q4.2.1
  have p4 := p4.1 (by omega)
  have ls1 : fs.length ≤ cs.slots.size := by rw [← Array.length_toList, q4, List.length_append]; omega
  have ls2 : cd.slots.size = gs.length := by rw [← p4, Array.length_toList]
  have ei : (nI i).toNatClampNeg = i := nI_clamp (by omega)
  have ej : (nI j).toNatClampNeg = j := nI_clamp (by omega)
  have en : (nI n).toNatClampNeg = n := nI_clamp (by omega)
  have hval : ∀ t, t < n → fs[i + t]? = some (cs.slots.getD (i + t) .null) := fun t ht => by
    rw [show fs[i + t]? = cs.slots.toList[i + t]? by rw [q4, List.getElem?_append_left (by omega)], Array.getElem?_toList, Array.getElem?_eq_getElem (by omega)]
    simp only [Array.getD, dif_pos (show i + t < cs.slots.size by omega)]
    rfl
  obtain ⟨vm₁, hW₁, X₂, steps⟩ := X.arraycopyK A.1 A.own (hT.w hl1 rfl) (hT.w (lw_all_tbl q458) rfl) (hT.w (lw_all_tbl q457) rfl) (hT.w (lw_all_tbl q116) rfl) (by rw [hTH]; exact q1) (by rw [hTH]; exact p1) q21 p21 q3 p3 hks hkd hsk hdk
    (by
      have : refKind (zty kk') = refKind (zty kk') := rfl
      cases refKind (zty kk') <;> simp)
    (nI_pos (n := i) (by omega)) (nI_pos (n := j) (by omega)) (nI_pos (n := n) (by omega)) (by rw [nI_toInt (by omega), nI_toInt (by omega)]; omega) (by rw [nI_toInt (by omega), nI_toInt (by omega)]; omega)
    (fun vm1 hW1 t ht => by
      rw [en] at ht
      rw [ei]
      have hv1 := hval t ht
      by_cases hk4 : kk' = 104
      · subst hk4
        rcases hv rfl t _ ht hv1 with e | ⟨x, cx, e, hx, ho⟩
        · rw [e]; exact ⟨rfl, trivial⟩
        · rw [e]
          refine ⟨rfl, ?_⟩
          obtain ⟨kA, comp, k1, k2, k3, -⟩ := hp5
          obtain ⟨kE, hkE, -⟩ := Vm.findClass_spec k3
          cases hkd.symm.trans k1
          cases hdk.symm.trans k2
          obtain ⟨ho1, r9, hr9, hcast⟩ := ho
          obtain ⟨r8, hr8, -, cellB, g1, g2, g3, -⟩ := (hH.1 x _ hx).1.obj (ci := cx.1 % 1000) ⟨rfl, ho1⟩
          cases hr9.symm.trans hr8
          have hcls := (hT.2.1 _ _ hr9).2
          obtain ⟨c0, t1, f1, f2, f3⟩ := Cond.castable_spec (hT.w (A := args) hcast rfl)
          cases hcls.1.symm.trans f1
          cases k3.symm.trans f2
          obtain ⟨kC, hkC, -⟩ := hcls.2
          obtain ⟨kC', hkC', -⟩ := hW1.alike.2.2 _ _ hkC
          obtain ⟨kE', hkE', -⟩ := hW1.alike.2.2 _ _ hkE
          refine ⟨cellB, (by show T.heap[x]? = _; rw [hTH]; exact g1), (fun q hq => by have h9 := g3.1; rw [hq] at h9; exact Bool.false_ne_true h9.symm), ⟨kC', by rw [g2]; exact hkC'⟩, ⟨kE', hkE'⟩, ?_⟩
          show (T.setVm vm1).vm.assignable _ _ = true
          rw [g2, show (T.setVm vm1).vm.assignable ((zg_D G).1 (cx.1 % 1000)) dC = s.vm.assignable ((zg_D G).1 (cx.1 % 1000)) dC from hW1.alike.assignable _ _]
          exact f3
      · have hf := hv2 hk4 t _ ht hv1
        refine ⟨hf, State.takes_of_prim _ _ (t := zty kk') ?_ hf⟩
        unfold zty
        split
        · rfl
        · split
          · rfl
          · split
            · rfl
            · split
              · rfl
              · omega)
    (g := F0 m pc ls (.int (nI n) :: .int (nI j) :: .ref b :: .int (nI i) :: .ref a :: st)) rfl (by rw [A.2.2.2.1]; exact hL.1) (rest := st) rfl (by rw [A.2.1]; exact hd) (by omega) (by show 2 * 0 + (st.map fun v => v.category).sum + (nativeFrameWords "java/lang/System" "arraycopy" 5 + 11) ≤ _; rw [hnw]; omega)
  have hbb := (hH.1 b _ hb).2 (show kk' < 1000 by omega)
  have hfacts := Cell.storeRun_facts cd j (cs.stretch i n)
  have goal : zHp G s (zup h b (kk', zcp fs gs i j n)) (T.heap.setIfInBounds b (cd.storeRun j (cs.stretch i n))) := by
    rw [hTH]
    refine hH.set hb (by omega) (by simp) (fun q hq => by simp [Array.getElem?_setIfInBounds, Ne.symm hq]) (zAt.mkA (by rw [Nat.mod_eq_of_lt (by omega)]; exact hk.1.1) ⟨cd.storeRun j (cs.stretch i n), by simp [Array.getElem?_setIfInBounds, (Array.getElem?_eq_some_iff.mp p1).1], ?_, ?_, ?_, fun _ => ?_⟩)
    · rw [Nat.mod_eq_of_lt (by omega)]
      refine ⟨by rw [hfacts.2.1]; exact p21, kd, by rw [hfacts.1]; exact hkd, dC, hdk⟩
    · rw [hfacts.2.1]; exact p3
    · rw [← zcp_pre (t := tl) (show i + n ≤ fs.length by omega), ← q4, ← p4]; exact zcp_cell (by omega) (by omega)
    · rw [Nat.mod_eq_of_lt (by omega), hfacts.1]; exact hp5
  have ecop : copied cs cd (nI i) (nI j) (nI n) = cd.storeRun j (cs.stretch i n) := by
    show cd.storeRun _ (cs.stretch _ _) = _
    rw [ei, ej, en]
  rw [ecop] at X₂ steps
  rw [ej, en] at X₂
  obtain ⟨t, a1, b1⟩ := kq _ rfl zup_s p e0 R s m args below meth c A _ _ cells slots ls goal (fun z hz => (List.mem_append.mp hz).elim (hl z) fun q => by rw [Stand.copyLocs_base q]; exact hbb) hc hs hL _ rfl X₂
  exact ⟨t, steps t a1, b1⟩
end
