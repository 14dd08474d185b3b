/-! ROWS that read and write the heap -/
section
set_option maxRecDepth 100000
theorem zs0 {α : Type} {a x : α} {l : List α} : (a :: l).set 0 x = x :: l := rfl
theorem zsS {α : Type} {a x : α} {l l' : List α} {k : Nat} (h : l.set k x = l') : (a :: l).set (k + 1) x = a :: l' := by rw [← h]; rfl
theorem zg0 {α : Type} {a : α} {l : List α} : (a :: l)[0]? = some a := rfl
theorem zgS {α : Type} {a x : α} {l : List α} {k : Nat} (h : l[k]? = some x) : (a :: l)[k + 1]? = some x := by rw [← h]; rfl
theorem zTb.all {G : zG} {s : State} (h : zTb G s) {A : Array Value} : ∀ w ∈ lw_all, w.before A s = true := by
  intro w hw
  refine h.w (lw_all_tbl hw) ?_
  unfold zgood
  rw [(List.mem_filter.mp hw).2]
  rfl
/-- a final field's declarer -/
theorem zlaysFin {args : Array Value} {s : State} {C O f dd : String} {i : ClassId} {cf fi : Nat} {kf : Class} {fd : Field} (h5 : s.vm.findClass O = some i) (h6 : (Cond.laysFinal C O f dd).before args s = true) (hi : s.fieldFound? O f dd = some (cf, kf, fi, fd)) : i = cf := by
  obtain ⟨_, _, c', _, _, _, -, -, hf', -, -, -, hown2, -⟩ := Cond.laysFinal_spec h6
  cases hi.symm.trans hf'
  exact Option.some.inj (h5.symm.trans hown2)
/-- a field's entry: class own, pool entry idx: field k of class ci -/
def zF (own : String) (idx ci k : Nat) : Prop := ∃ (C : String) (T : u_T) (N : Nat) (ref : String), zcl[ci]? = some (C, T, N) ∧ k < N ∧ (Cond.fieldLink own idx ref (T k).2.1 (T k).2.2.1 ∈ lw_tbl ∨ ∃ host, Cond.fieldLinkNest own idx ref (T k).2.1 (T k).2.2.1 host ∈ lw_tbl) ∧ (ref = (T k).1 ∨ Cond.sameField ref (T k).1 (T k).2.1 (T k).2.2.1 ∈ lw_tbl)
variable {G : zG} {M : zM} {d r pc pc' : Nat} {L L' st : List Value} {h : zH} {Q : zR → zH → Prop}
theorem zHp.set {s : State} {H H' : Heap} {a : Nat} {kk : Nat} {fs fs' : List Value} (hH : zHp G s h H) (hh : h a = some (kk, fs)) (hk : kk < 1000) (hz : H'.size = H.size) (ho : ∀ q, q ≠ a → H'[q]? = H[q]?) (hc : zAt G s a (kk, fs') H') : zHp G s (zup h a (kk, fs')) H' := by
  have hb := (hH.1 a _ hh).2 hk
  refine ⟨fun b c hb' => ?_, by rw [hz]; exact hH.2.1, fun q hq => ?_⟩
  · by_cases hba : b = a
    · subst hba
      rw [zup_s] at hb'
      cases hb'
      exact ⟨hc, fun _ => hb⟩
    · rw [zup_n hba] at hb'
      obtain ⟨h1, h2⟩ := hH.1 b c hb'
      exact ⟨h1.kept (ho b hba), h2⟩
  · rw [ho q (by intro e; rw [e] at hq; exact absurd hb (Nat.not_le.mpr hq))]
    exact hH.2.2 q hq
theorem zHp.push {s : State} {H H' : Heap} {c : zC} (hH : zHp G s h H) (hz : H'.size = H.size + 1) (ho : ∀ q, q < H.size → H'[q]? = H[q]?) (hc : zAt G s H.size c H') : h H.size = none ∧ zHp G s (zup h H.size c) H' := by
  have h0 : h H.size = none := by
    cases e : h H.size with
    | none => rfl
    | some x => exact absurd (hH.1 _ _ e).1.lt (Nat.lt_irrefl _)
  refine ⟨h0, fun b c' hb' => ?_, by rw [hz]; exact Nat.le_succ_of_le hH.2.1, fun q hq => ?_⟩
  · by_cases hba : b = H.size
    · subst hba
      rw [zup_s] at hb'
      cases hb'
      exact ⟨hc, fun _ => hH.2.1⟩
    · rw [zup_n hba] at hb'
      obtain ⟨h1, h2⟩ := hH.1 b c' hb'
      exact ⟨h1.kept (ho b h1.lt), h2⟩
  · rw [ho q (Nat.lt_of_lt_of_le hq hH.2.1)]
    exact hH.2.2 q hq
theorem zlocs {locs : List Loc} {n a i : Nat} (hl : ∀ z ∈ locs, n ≤ z.base) (ha : n ≤ a) : ∀ z ∈ locs ++ [⟨a, i⟩], n ≤ z.base := by
  intro z hz
  rcases List.mem_append.mp hz with q | q
  · exact hl z q
  · rw [List.mem_singleton] at q
    subst q
    exact ha
theorem zW.get {idx ci k kk a : Nat} {fs : List Value} {v : Value} (hd : decode (zm_c M) pc = .ok (.getfield idx, 3)) (hn : pc + 3 = pc') (hf : zF (zm_y M).cls idx ci k) (hh : h a = some (kk, fs)) (hk : kk % 1000 = ci ∧ ci < 50) (hv : fs[k]? = some v) (kq : zW G M d r pc' L (v :: st) h Q) : zW G M d r pc L (.ref a :: st) h Q := by
  subst hn
  intro p e0 R s m args below meth c A H locs cells slots ls hH hl hc hs hL
  have A' := A
  obtain ⟨hx, hb, -, -, hown, -, -, -, hT, -⟩ := A'
  obtain ⟨C, T, N, ref, hci, hkN, hlk, hsm⟩ := hf
  have hz := (hH.1 a _ hh).1
  unfold zAt at hz
  rw [if_pos (by show kk % 1000 < 50; rw [hk.1]; exact hk.2)] at hz
  obtain ⟨r', h1, h2, cell, q1, q2, q3, q4⟩ := hz
  rw [show kk % 1000 = ci from hk.1] at h1 q2 q4
  cases hci.symm.trans h1
  obtain ⟨hS, hfc, kC, hkC, hkind⟩ := hT.2.1 ci _ hci
  obtain ⟨cf, kf, fi, f, hi, hsl⟩ := hS k hkN
  have hsame : s.fieldFound? ref (T k).2.1 (T k).2.2.1 = some (cf, kf, fi, f) := by
    rcases hsm with e | e
    · rw [e]; exact hi
    · exact u_same (args := args) (hT.w e rfl) _ hi
  have hst := (u_facts (args := args) hfc hkC (u_lays hT.all (zcl_ok hci).1 hkN) hi).1
  have hv2 : cell.slots[f.slot]? = some v := by
    rw [hsl, q4 k hkN]
    simp [vp_V, hv]
  have hkn : cell.vm ≠ .unknown := q3.2.1
  rcases hlk with e | ⟨host, e⟩
  · exact W.getf hx hb hown (hT.w e rfl) hsame hst q1 hkn hv2 rfl rfl hd (kq p e0 R s m args below meth c A H locs cells slots ls hH hl hc hs hL)
  · exact va_Wgetf hx hb hown (hT.w e rfl) hsame hst q1 hkn hv2 rfl rfl hd (kq p e0 R s m args below meth c A H locs cells slots ls hH hl hc hs hL)
theorem zAt.obj {s : State} {a kk ci : Nat} {fs : List Value} {H : Heap} (hz : zAt G s a (kk, fs) H) (hk : kk % 1000 = ci ∧ ci < 50) : ∃ r : vw_C, zcl[ci]? = some r ∧ fs.length = r.2.2 ∧ zOB kk a ((zg_D G).1 ci) r.2.2 ((zg_D G).2 ci) H (vp_V fs) := by
  unfold zAt at hz
  rw [if_pos (by show kk % 1000 < 50; rw [hk.1]; exact hk.2)] at hz
  rw [show kk % 1000 = ci from hk.1] at hz
  exact hz
theorem zAt.mk {s : State} {a kk ci : Nat} {fs : List Value} {H : Heap} (hk : kk % 1000 = ci ∧ ci < 50) (h : ∃ r : vw_C, zcl[ci]? = some r ∧ fs.length = r.2.2 ∧ t_OB a ((zg_D G).1 ci) r.2.2 ((zg_D G).2 ci) H (vp_V fs)) : zAt G s a (kk, fs) H := by
  unfold zAt
  rw [if_pos (by show kk % 1000 < 50; rw [hk.1]; exact hk.2)]
  rw [show kk % 1000 = ci from hk.1]
  obtain ⟨r, h1, h2, h3⟩ := h
  exact ⟨r, h1, h2, zOB.of h3⟩
theorem zAt.arr {s : State} {a kk : Nat} {fs : List Value} {H : Heap} (hz : zAt G s a (kk, fs) H) (hk : 100 ≤ kk % 1000) : ∃ cell : Cell, H[a]? = some cell ∧ s.isArrayOf cell (zty (kk % 1000)) ∧ cell.vm ≠ .unknown ∧ zAr kk cell.slots fs ∧ (kk < 1000 → va_RA s cell.cls (zty (kk % 1000))) := by
  unfold zAt at hz
  rw [if_neg (by show ¬ kk % 1000 < 50; omega), if_neg (by show ¬ kk % 1000 < 100; omega)] at hz
  exact hz
theorem zAt.mkA {s : State} {a kk : Nat} {fs : List Value} {H : Heap} (hk : 100 ≤ kk % 1000) (h : ∃ cell : Cell, H[a]? = some cell ∧ s.isArrayOf cell (zty (kk % 1000)) ∧ cell.vm ≠ .unknown ∧ cell.slots.toList = fs ∧ (kk < 1000 → va_RA s cell.cls (zty (kk % 1000)))) : zAt G s a (kk, fs) H := by
  unfold zAt
  rw [if_neg (by show ¬ kk % 1000 < 50; omega), if_neg (by show ¬ kk % 1000 < 100; omega)]
  obtain ⟨cell, h1, h2, h3, h4, h5⟩ := h
  exact ⟨cell, h1, h2, h3, zAr.of h4, h5⟩
/-- what a putfield asks of the value, and that it may be written -/
def zFw (M : zM) (ci k : Nat) (v : Value) : Prop := ∃ (ty : FieldType) (fin : Bool), zfty ci k = some (ty, fin) ∧ narrow ty v = v ∧ fits ty v = true ∧ (fin = true → (zm_y M).name = "<init>" ∧ ∃ r : vw_C, zcl[ci]? = some r ∧ (zm_y M).cls = (r.2.1 k).1)
theorem zFw.of {ci k : Nat} {v : Value} {ty : FieldType} (h : zfty ci k = some (ty, false)) (h1 : narrow ty v = v) (h2 : fits ty v = true) : zFw M ci k v := ⟨ty, false, h, h1, h2, fun q => by cases q⟩
theorem zFw.fin {ci k : Nat} {v : Value} {ty : FieldType} {r : vw_C} (h : zfty ci k = some (ty, true)) (h1 : narrow ty v = v) (h2 : fits ty v = true) (h3 : (zm_y M).name = "<init>") (h4 : zcl[ci]? = some r) (h5 : (zm_y M).cls = (r.2.1 k).1) : zFw M ci k v := ⟨ty, true, h, h1, h2, fun _ => ⟨h3, r, h4, h5⟩⟩
theorem zset_V {fs : List Value} {k : Nat} {v : Value} (hk : k < fs.length) (j : Nat) : updV (vp_V fs) k v j = vp_V (fs.set k v) j := vp_updV_set hk v j
theorem zW.put {idx ci k kk a : Nat} {fs fs' : List Value} {v : Value} (hd : decode (zm_c M) pc = .ok (.putfield idx, 3)) (hn : pc + 3 = pc') (hf : zF (zm_y M).cls idx ci k) (hh : h a = some (kk, fs)) (hk : (kk % 1000 = ci ∧ ci < 50) ∧ kk < 1000) (hw : zFw M ci k v) (hs' : fs.set k v = fs') (kq : zW G M d r pc' L st (zup h a (kk, fs')) Q) : zW G M d r pc L (v :: .ref a :: st) h Q := by
  subst hn; subst hs'
  intro p e0 R s m args below meth c A H locs cells slots ls hH hl hc hs hL
  have A' := A
  obtain ⟨hx, hb, -, -, hown, -, -, hmn, hT, -, hnm, -⟩ := A'
  obtain ⟨C, T, N, ref, hci, hkN, hlk, hsm⟩ := hf
  have hz0 := hH.1 a _ hh
  obtain ⟨r', h1, h2, cell, q1, q2, q3, q4⟩ := hz0.1.obj hk.1
  cases hci.symm.trans h1
  obtain ⟨hS, hfc, kC, hkC, hkind⟩ := hT.2.1 ci _ hci
  obtain ⟨cf, kf, fi, f, hi, hsl⟩ := hS k hkN
  have hsame : s.fieldFound? ref (T k).2.1 (T k).2.2.1 = some (cf, kf, fi, f) := by
    rcases hsm with e | e
    · rw [e]; exact hi
    · exact u_same (args := args) (hT.w e rfl) _ hi
  obtain ⟨hin, ⟨ty0, hty0⟩, hnmn⟩ := zcl_ok hci
  have hlays := u_lays (args := args) hT.all hin hkN
  have hst := (u_facts (args := args) hfc hkC hlays hi).1
  obtain ⟨ty, fin, ht, hnr, hft, hfin⟩ := hw
  have hpd : parseFieldDescriptor (T k).2.2.1 = some ty ∧ (T k).2.2.2 = fin := by
    unfold zfty at ht
    rw [hci, Option.bind_some] at ht
    cases hq : parseFieldDescriptor (T k).2.2.1 with
    | none => rw [show (parseFieldDescriptor ((C, T, N).2.1 k).2.2.1) = none from hq] at ht; cases ht
    | some t =>
      rw [show (parseFieldDescriptor ((C, T, N).2.1 k).2.2.1) = some t from hq] at ht
      cases ht
      exact ⟨rfl, rfl⟩
  obtain ⟨hfn, hff⟩ := u_fits (args := args) (v := v) hfc hkC hkind hlays hi hpd.1 hnr hft
  have hkn : cell.vm ≠ .unknown := q3.2.1
  have hlt : f.slot < cell.slots.size := by rw [hsl]; exact k2_hasslot (q4 k hkN)
  have hfi : hasFlag f.accessFlags Acc.final = false ∨ (m.cls = cf ∧ meth.name = "<init>") := by
    cases fin with
    | false =>
      have hlay := hT.all (A := args) _ (hin _ (u_in_lay hkN))
      unfold u_lay at hlay
      rw [if_neg (by rw [hpd.2]; decide)] at hlay
      exact Or.inl (u_store (args := args) (v := v) hfc hkC hkind hlay hi hpd.1 hnr hft).1
    | true =>
      obtain ⟨hy1, r9, hr9, hy2⟩ := hfin rfl
      cases hci.symm.trans hr9
      refine Or.inr ⟨?_, by rw [hmn]; exact hy1⟩
      have h5 : s.vm.findClass (T k).1 = some m.cls := by
        rw [← show (zm_y M).cls = (T k).1 from hy2]; exact hown
      have h6 := hT.all (A := args) _ (hin _ (u_in_lay hkN))
      unfold u_lay at h6
      rw [if_pos (by rw [hpd.2])] at h6
      exact zlaysFin h5 h6 hi
  have hap := va_apart (D := zg_D G) (cl := zcl) (tys := []) (own := C) (args := args) hT.all hin ty0 hty0 hnmn ⟨hT.2.1, fun k q h => by simp at h⟩ hci
  have ha : a < H.size := (Array.getElem?_eq_some_iff.mp q1).1
  have hfit2 : s.fitsSlot cell.cls cell.vm f.slot v = true := by rw [q2, q3.2.2 hk.2]; exact hff
  have goal : zHp G s (zup h a (kk, fs.set k v)) (H.setIfInBounds a (cell.setSlot f.slot v)) := by
    refine hH.set hh hk.2 (by simp) (fun q hq => by simp [Array.getElem?_setIfInBounds, Ne.symm hq]) (zAt.mk hk.1 ⟨(C, T, N), hci, by rw [List.length_set]; exact h2, t_OB.to (V := updV (vp_V fs) k v) ⟨cell.setSlot f.slot v, by simp [Array.getElem?_setIfInBounds, ha], q2, q3.2.2 hk.2, ?_⟩ (fun j _ => zset_V (by rw [h2]; exact hkN) j)⟩)
    rw [hsl]
    exact t_set q4 hap hkN v
  rcases hlk with e | ⟨host, e⟩
  · exact W.putf hx hb hown (hT.w e rfl) hsame hst hfi q1 hkn hlt hfn hfit2 rfl rfl hd (kq p e0 R s m args below meth c A _ _ cells slots ls goal (zlocs hl (hz0.2 hk.2)) hc hs hL)
  · exact va_Wputf hx hb hown (hT.w e rfl) hsame hst hfi q1 hkn hlt hfn hfit2 rfl rfl hd (kq p e0 R s m args below meth c A _ _ cells slots ls goal (zlocs hl (hz0.2 hk.2)) hc hs hL)
end
