/-! ArrayList of commands -/
section
set_option maxRecDepth 100000
variable {G : zG} {M : zM} {d r pc pc' : Nat} {L st : List Value} {h h' H : zH} {Q : zR → zH → Prop} {a n al ea x it i : Nat} {es : List Nat}
theorem zW.getC {idx a : Nat} {fs : List Value} (hd : decode (zm_c M) pc = .ok (.invokevirtual idx, 3)) (hn : pc + 3 = pc') (hlk : Cond.methodLink (zm_y M).cls idx ⟨"java/lang/Object", "getClass", "()Ljava/lang/Class;"⟩ ∈ lw_tbl) (hh : h a = some (104, fs)) (hdd : 1 ≤ d) (hW : (st.map fun v => v.category).sum ≤ 8) (kq : zW G M d r pc' L (.ref (zg_a G 5) :: st) h Q) : zW G M d r pc L (.ref a :: st) h Q := by
  subst hn
  intro p e0 R s m args below meth c A H locs cells slots ls hH hl hc hs hL
  have hT := A.tb
  have hdR := A.2.2.2.2.2.2.2.2.2.1
  obtain ⟨cell, q1, q2, q3, q4, q5⟩ := (hH.1 a _ hh).1.arr (by decide)
  have hnm : s.vm.findClass "[Ljava/lang/Object;" = some cell.cls := va_nmO (q5 (by decide)) rfl
  have hst : cell.vm.isStatics = false := by
    have h9 := q2.1
    cases e : cell.vm <;> first | rfl | exact absurd e (h9 _)
  exact va_getC A.1 A.2.1 (A.2.2.2.1.trans hL.1.symm) A.own (hT.w hlk rfl) (hT.w (by first | exact q3135 | exact lw_all_tbl q3135) rfl) (hT.w (by first | exact q3134 | exact lw_all_tbl q3134) rfl) (hT.w (by first | exact q866 | exact lw_all_tbl q866) rfl) (hT.w (by first | exact q897 | exact lw_all_tbl q897) rfl) A.tb.2.2.2.2.2.2.2.1.2.1 ⟨cell, q1, hst, hnm⟩ (by omega) (by omega) hd (kq p e0 R s m args below meth c A H locs cells slots ls hH hl hc hs hL)
theorem nI_sh1_all : ∀ n : Fin 256, nI n.1 >>> (nI 1 &&& 31) = nI (n.1 / 2) := by decide +kernel
/-- the slots of a list of commands -/
def eTab (es : List Nat) (t : Nat) : List Value := es.map Value.ref ++ List.replicate t .null
theorem eTab_len {t : Nat} : (eTab es t).length = es.length + t := by simp [eTab]
theorem eTab_get {t : Nat} (h : es[i]? = some x) : (eTab es t)[i]? = some (.ref x) := by
  unfold eTab
  rw [List.getElem?_append_left (by rw [List.length_map]; exact (List.getElem?_eq_some_iff.mp h).1), List.getElem?_map, h]
  rfl
theorem eTab_set {t : Nat} : (eTab es (t + 1)).set es.length (.ref x) = eTab (es ++ [x]) t := by
  unfold eTab
  rw [List.set_append_right _ _ (by rw [List.length_map]; exact Nat.le_refl _), List.length_map, Nat.sub_self, List.map_append, List.append_assoc]
  rfl
/-- the list: its object, its array -/
def cAL (G : zG) (h : zH) (al ea : Nat) (es : List Nat) : Prop := ∃ (mc : Int32) (kk t : Nat), h al = some (11, [.int mc, .ref ea, .int (nI es.length)]) ∧ h ea = some (kk, eTab es t) ∧ (kk = 104 ∧ 0 < es.length ∨ ea = zg_a G 3 ∧ kk = 1104 ∧ es = [] ∧ t = 0) ∧ es.length + t ≤ 100 ∧ ∀ x ∈ es, ∃ l, h x = some (5, l)
theorem zObj_cmd {l : List Value} : zObj ((5, l) : zC) := ⟨Nat.le_of_ble_eq_true rfl, (RX6, TX6, 2), rfl, id q3127⟩
theorem w_alSize (k : cAL G h al ea es) : zK G mJ39_size 1 0 [.ref al] h (zPu h (some (.int (nI es.length)))) := by
  obtain ⟨mc, kk, t, ha, -⟩ := k
  show zW G mJ39_size 1 0 0 [.ref al] [] h _
  refine zW.aload_n (pc' := 1) dJ39_size_0 rfl rfl zg0 rfl ?_
  refine zW.get (pc' := 4) dJ39_size_1 rfl f_J39_48_11 ha ⟨rfl, (Nat.le_of_ble_eq_true rfl)⟩ rfl ?_
  refine zW.iret dJ39_size_4 rfl (rfl) ?_
  exact ⟨rfl, rfl⟩
/-- what is known of the empty array -/
def zkE (G : zG) : Prop := zg_k G (zg_a G 3) = some (1104, [])
theorem w_alInit (hk : zkn G h) (hE : zkE G) (ha : h al = some (11, [.int 0, .null, .int 0])) : zK G mJ39_init 3 0 [.ref al] h (zO fun o h' => o = none ∧ cAL G h' al (zg_a G 3) [] ∧ zfr (fun b => b = al) h h') := by
  have zf := zfr.rf (A := fun b => b = al) (h := h)
  have k1 : zK G mJ1_init 2 0 [.ref al] h (zPk h none al (11, [.int (nI 0), .null, .int 0])) := by
    show zW G mJ1_init 2 0 0 [.ref al] [] h _
    refine zW.aload_n (pc' := 1) dJ1_init_0 rfl rfl zg0 rfl ?_
    refine zW.callI (r' := 0) (pc' := 4) dJ1_init_1 rfl l_J1_1 rfl (w_ac0) zc0 rfl (Nat.le_of_ble_eq_true rfl) (Nat.le_of_ble_eq_true rfl) (Nat.le_of_ble_eq_true rfl) (fun _ _ q9 => ?_) (fun _ _ q9 => by cases q9.1)
    obtain ⟨q8, e9⟩ := q9
    cases q8
    replace e9 := e9.symm
    subst e9
    refine zW.aload_n (pc' := 5) dJ1_init_4 rfl rfl zg0 rfl ?_
    refine zW.iconst (pc' := 6) (nI 0) dJ1_init_5 rfl (by decide) ?_
    refine zW.putK (pc' := 9) dJ1_init_6 rfl f_J1_7_11 ha ⟨⟨rfl, (Nat.le_of_ble_eq_true rfl)⟩, (Nat.le_of_ble_eq_true rfl)⟩ (zFw.of ft_11_0 rfl rfl) zs0 (fun _ e9 k9 => ?_)
    have hq := e9
    replace ha := k9
    clear e9 k9
    refine zW.vret dJ1_init_9 rfl ?_
    exact ⟨_, rfl, rfl, hq, ha⟩
  show zW G mJ39_init 3 0 0 [.ref al] [] h _
  refine zW.aload_n (pc' := 1) dJ39_init_0 rfl rfl zg0 rfl ?_
  refine zW.callI (r' := 0) (pc' := 4) dJ39_init_1 rfl l_J39_1 rfl (k1) zc0 rfl (Nat.le_of_ble_eq_true rfl) (Nat.le_of_ble_eq_true rfl) (Nat.le_of_ble_eq_true rfl) (fun _ _ q9 => ?_) (fun _ _ q9 => absurd q9 zO.no)
  obtain ⟨_, q8, e1, e9, k9⟩ := q9
  cases q8
  subst e1
  have zf := zf.put e9 ha (by decide) (Or.inl rfl)
  replace ha := k9
  clear e9 k9
  refine zW.aload_n (pc' := 5) dJ39_init_4 rfl rfl zg0 rfl ?_
  refine zW.gets (j := 5) (pc' := 8) dJ39_init_5 rfl rfl (lw_all_tbl q2168) ?_
  refine zW.putK (pc' := 11) dJ39_init_8 rfl f_J39_9_11 ha ⟨⟨rfl, (Nat.le_of_ble_eq_true rfl)⟩, (Nat.le_of_ble_eq_true rfl)⟩ (zFw.of ft_11_1 rfl rfl) (zsS (zs0)) (fun _ e9 k9 => ?_)
  have zf := zf.put e9 ha (by decide) (Or.inl rfl)
  replace ha := k9
  clear e9 k9
  refine zW.vret dJ39_init_11 rfl ?_
  exact ⟨_, rfl, rfl, ⟨nI 0, 1104, 0, ha, ((zf.kn hk) _ _ hE).1, Or.inr ⟨rfl, rfl, rfl, rfl⟩, Nat.zero_le _, fun x hx => by cases hx⟩, zf⟩
/-- a bigger array -/
theorem w_copyO {N u : Nat} (hea : h ea = some (104, eTab es 0)) (hN : es.length ≤ N) (hN2 : N ≤ 100) (hu : 1 ≤ u ∧ N ≤ 4 * u) (hx : ∀ x ∈ es, ∃ l, h x = some (5, l)) : zK G mJ17_copyOf_2 3 u [.ref ea, .int (nI N)] h (zO fun o h' => ∃ b, o = some (.ref b) ∧ h b = none ∧ h' = zup h b (104, eTab es (N - es.length)) ∧ h' b = some (104, eTab es (N - es.length))) := by
  have k3 : zK G mJ17_copyOf_3 2 u [.ref ea, .int (nI N), .ref (zg_a G 5)] h (zO fun o h' => ∃ b, o = some (.ref b) ∧ h b = none ∧ h' = zup h b (104, eTab es (N - es.length)) ∧ h' b = some (104, eTab es (N - es.length))) := by
    refine zW.pay (r1 := 0 + u) ?_ (by omega)
    show zW G mJ17_copyOf_3 2 (0+u) 0 [.ref ea, .int (nI N), .ref (zg_a G 5), zho] [] h _
    refine zW.aload_n (pc' := 1) dJ17_copyOf_3_0 rfl rfl (zgS (zgS (zg0))) rfl ?_
    refine zW.ldcM (pc' := 3) dJ17_copyOf_3_1 rfl (lw_all_tbl q1201) ?_
    refine zW.acmp_ne (pc' := 6) 13 dJ17_copyOf_3_3 rfl (by decide) rfl rfl (fun b1 => ?_) (fun b1 => ?_)
    · exact absurd rfl b1
    refine zW.iload_n (pc' := 7) dJ17_copyOf_3_6 rfl rfl (zgS (zg0)) ?_
    refine zW.anewK (u := u) (N := N) (pc' := 10) dJ17_copyOf_3_7 rfl (lw_all_tbl q1202) q202 (nI_pos (by omega)) (nI_clamp (by omega)) (by omega) hu rfl (fun b _ nb e9 k9 => ?_)
    have e8 := e9
    have hb := k9
    have he := zpres e9 (zfresh nb hea) hea
    have hx2 : ∀ x ∈ es, ∃ l, _ = some (5, l) := fun x q => by
      obtain ⟨l, hl⟩ := hx x q
      exact ⟨l, zpres e9 (zfresh nb hl) hl⟩
    clear e9 k9
    refine zW.goto 24 dJ17_copyOf_3_10 (by decide) ?_
    refine zW.astore_n (pc' := 25) dJ17_copyOf_3_24 rfl rfl (Nat.le_of_ble_eq_true rfl) rfl (zsS (zsS (zsS (zs0)))) ?_
    refine zW.aload_n (pc' := 26) dJ17_copyOf_3_25 rfl rfl zg0 rfl ?_
    refine zW.iconst (pc' := 27) (nI 0) dJ17_copyOf_3_26 rfl (by decide) ?_
    refine zW.aload_n (pc' := 28) dJ17_copyOf_3_27 rfl rfl (zgS (zgS (zgS (zg0)))) rfl ?_
    refine zW.iconst (pc' := 29) (nI 0) dJ17_copyOf_3_28 rfl (by decide) ?_
    refine zW.aload_n (pc' := 30) dJ17_copyOf_3_29 rfl rfl zg0 rfl ?_
    refine zW.alen (pc' := 31) dJ17_copyOf_3_30 rfl he (by decide) (show Int32.ofNat (eTab es 0).length = nI es.length by rw [eTab_len]; rfl) ?_
    refine zW.iload_n (pc' := 32) dJ17_copyOf_3_31 rfl rfl (zgS (zg0)) ?_
    refine zW.mmin (pc' := 35) dJ17_copyOf_3_32 rfl (lw_all_tbl q453) (Nat.le_of_ble_eq_true rfl) (Nat.le_of_ble_eq_true rfl) (by omega) (by omega) ?_
    rw [Nat.min_eq_left hN]
    refine zW.acopy (pc' := 38) dJ17_copyOf_3_35 rfl (lw_all_tbl q456) he hb ⟨⟨by decide, by decide⟩, by decide⟩ (by rw [eTab_len]; omega) (by rw [List.length_replicate]; omega) (by rw [eTab_len, List.length_replicate]; omega) (fun _ t v ht e => ?_) (fun q => absurd rfl q) (Nat.le_of_ble_eq_true rfl) (Nat.le_of_ble_eq_true rfl) (fun _ e9 k9 => ?_)
    · rw [Nat.zero_add] at e
      obtain ⟨x, hx3⟩ : ∃ x, es[t]? = some x := ⟨_, List.getElem?_eq_getElem ht⟩
      rw [eTab_get hx3] at e
      cases e
      obtain ⟨l, hl⟩ := hx2 x (List.mem_of_getElem? hx3)
      exact Or.inr ⟨x, _, rfl, hl, zObj_cmd⟩
    refine zW.aload_n (pc' := 39) dJ17_copyOf_3_38 rfl rfl (zgS (zgS (zgS (zg0)))) rfl ?_
    refine zW.aret dJ17_copyOf_3_39 rfl (Or.inr ⟨_, rfl⟩) rfl ?_
    have e7 : zcp (eTab es 0) (List.replicate N .null) 0 0 es.length = eTab es (N - es.length) := by
      unfold zcp eTab
      rw [List.take_zero, List.drop_zero, List.nil_append, Nat.zero_add, List.drop_replicate, List.replicate_zero, List.append_nil, List.take_of_length_le (by rw [List.length_map]; exact Nat.le_refl _)]
    rw [e7] at e9 k9
    exact ⟨_, rfl, b, rfl, nb, ztrk e8 e9, k9⟩
  refine zW.pay (r1 := 0 + u) ?_ (by omega)
  show zW G mJ17_copyOf_2 3 (0+u) 0 [.ref ea, .int (nI N)] [] h _
  refine zW.aload_n (pc' := 1) dJ17_copyOf_2_0 rfl rfl zg0 rfl ?_
  refine zW.iload_n (pc' := 2) dJ17_copyOf_2_1 rfl rfl (zgS (zg0)) ?_
  refine zW.aload_n (pc' := 3) dJ17_copyOf_2_2 rfl rfl zg0 rfl ?_
  refine zW.getC (pc' := 6) dJ17_copyOf_2_3 rfl (lw_all_tbl q1197) hea (Nat.le_of_ble_eq_true rfl) (Nat.le_of_ble_eq_true rfl) ?_
  refine zW.callS (r' := u) (pc' := 9) dJ17_copyOf_2_6 rfl l_J17_300 rfl (k3) (zcc rfl (zcc rfl (zcc rfl zc0))) rfl (Nat.le_of_ble_eq_true rfl) (Nat.le_of_ble_eq_true rfl) (Nat.le_of_ble_eq_true rfl) (fun _ _ q9 => ?_) (fun _ _ q9 => absurd q9 zO.no)
  obtain ⟨_, q8, b, e1, nb, e9, k9⟩ := q9
  cases q8
  cases e1
  refine zW.aret dJ17_copyOf_2_9 rfl (Or.inr ⟨_, rfl⟩) rfl ?_
  exact ⟨_, rfl, b, rfl, nb, e9, k9⟩
theorem es5_put {k : Nat} {l : List Value} {c : zC} {b : Nat} (hy : ∀ y ∈ es, ∃ l, h y = some (5, l)) (e : h' = zup h b c) (hb : h b = some (k, l)) (hk : 5 ≠ k) : ∀ y ∈ es, ∃ l, h' y = some (5, l) := fun y q => by
  obtain ⟨l, hl⟩ := hy y q
  exact ⟨l, zpres e (zne hl hb hk) hl⟩
theorem cAL.kk {kk : Nat} {ea : Nat} {t : Nat} (hkk : kk = 104 ∧ 0 < es.length ∨ ea = zg_a G 3 ∧ kk = 1104 ∧ es = [] ∧ t = 0) : 104 ≤ kk % 1000 := by
  rcases hkk with q | q
  · rw [q.1]; decide
  · rw [q.2.1]; decide
/-- the list grows: behind it there is room for one more -/
abbrev cGr (h : zH) (al : Nat) (mc : Int32) (es : List Nat) : zR → zH → Prop := zO fun o h' => ∃ (b t : Nat), o = some (.ref b) ∧ h b = none ∧ h' al = some (11, [.int mc, .ref b, .int (nI es.length)]) ∧ h' b = some (104, eTab es (t + 1)) ∧ es.length + (t + 1) ≤ 100 ∧ zfr (fun c => c = al) h h'
theorem w_alGrow2 {mc : Int32} {kk : Nat} (ha : h al = some (11, [.int mc, .ref ea, .int (nI es.length)])) (hea : h ea = some (kk, eTab es 0)) (hkk : kk = 104 ∧ 0 < es.length ∨ ea = zg_a G 3 ∧ kk = 1104 ∧ es = [] ∧ 0 = 0) (hx : ∀ x ∈ es, ∃ l, h x = some (5, l)) (hn : es.length ≤ 61) : zK G mJ39_grow_2 4 25 [.ref al, .int (nI (es.length + 1))] h (cGr h al mc es) := by
  have zf := zfr.rf (A := fun c => c = al) (h := h)
  show zW G mJ39_grow_2 4 25 0 [.ref al, .int (nI (es.length + 1)), zho, zho] [] h _
  refine zW.aload_n (pc' := 1) dJ39_grow_2_0 rfl rfl zg0 rfl ?_
  refine zW.get (pc' := 4) dJ39_grow_2_1 rfl f_J39_9_11 ha ⟨rfl, (Nat.le_of_ble_eq_true rfl)⟩ rfl ?_
  refine zW.alen (pc' := 5) dJ39_grow_2_4 rfl hea (Nat.le_trans (by decide) (cAL.kk hkk)) (show Int32.ofNat (eTab es 0).length = nI es.length by rw [eTab_len]; rfl) ?_
  refine zW.istore_n (pc' := 6) dJ39_grow_2_5 rfl rfl (Nat.le_of_ble_eq_true rfl) (zsS (zsS (zs0))) ?_
  refine zW.iload_n (pc' := 7) dJ39_grow_2_6 rfl rfl (zgS (zgS (zg0))) ?_
  rcases hkk with ⟨q1, q2⟩ | ⟨q1, q2, q3, -⟩
  · subst q1
    refine zW.if_gtN (pc' := 10) 20 dJ39_grow_2_7 rfl (by decide) (by omega) (fun b9 => ?_) (fun b9 => absurd b9 (by omega))
    have hN : es.length + 1 ≤ es.length + max (es.length + 1 - es.length) (es.length / 2) ∧ es.length + max (es.length + 1 - es.length) (es.length / 2) ≤ 100 := by
      rw [Nat.max_def]
      split <;> omega
    refine zW.iload_n (pc' := 21) dJ39_grow_2_20 rfl rfl (zgS (zgS (zg0))) ?_
    refine zW.iload_n (pc' := 22) dJ39_grow_2_21 rfl rfl (zgS (zg0)) ?_
    refine zW.iload_n (pc' := 23) dJ39_grow_2_22 rfl rfl (zgS (zgS (zg0))) ?_
    refine zW.isubN (pc' := 24) dJ39_grow_2_23 rfl (by omega) ?_
    refine zW.iload_n (pc' := 25) dJ39_grow_2_24 rfl rfl (zgS (zgS (zg0))) ?_
    refine zW.iconst (pc' := 26) (nI 1) dJ39_grow_2_25 rfl (by decide) ?_
    refine zW.ishr (pc' := 27) dJ39_grow_2_26 rfl ?_
    rw [nI_sh1_all ⟨es.length, by omega⟩]
    refine zW.callS (r' := 0) (pc' := 30) dJ39_grow_2_27 rfl l_J39_73 rfl (w_newLen (o := es.length) (mg := es.length + 1 - es.length) (pg := es.length / 2) (by omega) (by omega) (by omega) (by omega)) (zcc rfl (zcc rfl (zcc rfl zc0))) rfl (Nat.le_of_ble_eq_true rfl) (Nat.le_of_ble_eq_true rfl) (Nat.le_of_ble_eq_true rfl) (fun _ _ q9 => ?_) (fun _ _ q9 => by cases q9.1)
    obtain ⟨q8, e9⟩ := q9
    cases q8
    replace e9 := e9.symm
    subst e9
    refine zW.istore_n (pc' := 31) dJ39_grow_2_30 rfl rfl (Nat.le_of_ble_eq_true rfl) (zsS (zsS (zsS (zs0)))) ?_
    refine zW.aload_n (pc' := 32) dJ39_grow_2_31 rfl rfl zg0 rfl ?_
    refine zW.aload_n (pc' := 33) dJ39_grow_2_32 rfl rfl zg0 rfl ?_
    refine zW.get (pc' := 36) dJ39_grow_2_33 rfl f_J39_9_11 ha ⟨rfl, (Nat.le_of_ble_eq_true rfl)⟩ rfl ?_
    refine zW.iload_n (pc' := 37) dJ39_grow_2_36 rfl rfl (zgS (zgS (zgS (zg0)))) ?_
    refine zW.callS (r' := 25) (pc' := 40) dJ39_grow_2_37 rfl l_J39_66 rfl (w_copyO (u := 25) hea (N := es.length + max (es.length + 1 - es.length) (es.length / 2)) (by omega) hN.2 (by omega) hx) (zcc rfl (zcc rfl zc0)) rfl (Nat.le_of_ble_eq_true rfl) (Nat.le_of_ble_eq_true rfl) (Nat.le_of_ble_eq_true rfl) (fun _ _ q9 => ?_) (fun _ _ q9 => absurd q9 zO.no)
    obtain ⟨_, q8, b, e1, nb, e9, k9⟩ := q9
    cases q8
    cases e1
    have zf := zf.new e9 nb
    have ha := zpres e9 (zfresh nb ha) ha
    have hb := k9
    clear e9 k9
    refine zW.dup_x1 (pc' := 41) dJ39_grow_2_40 rfl rfl rfl ?_
    refine zW.putK (pc' := 44) dJ39_grow_2_41 rfl f_J39_9_11 ha ⟨⟨rfl, (Nat.le_of_ble_eq_true rfl)⟩, (Nat.le_of_ble_eq_true rfl)⟩ (zFw.of ft_11_1 rfl rfl) (zsS (zs0)) (fun _ e9 k9 => ?_)
    have hb := zpres e9 (zne hb ha (by decide)) hb
    have zf := zf.put e9 ha (by decide) (Or.inl rfl)
    replace ha := k9
    clear e9 k9
    refine zW.aret dJ39_grow_2_44 rfl (Or.inr ⟨_, rfl⟩) rfl ?_
    refine ⟨_, rfl, b, es.length + max (es.length + 1 - es.length) (es.length / 2) - es.length - 1, rfl, nb, ha, ?_, by omega, zf⟩
    rw [show es.length + max (es.length + 1 - es.length) (es.length / 2) - es.length - 1 + 1 = es.length + max (es.length + 1 - es.length) (es.length / 2) - es.length by omega]
    exact hb
  · subst q1 q2 q3
    refine zW.if_gtN (pc' := 10) 20 dJ39_grow_2_7 rfl (by decide) (by omega) (fun b9 => absurd b9 (fun q ↦ q rfl)) (fun b9 => ?_)
    refine zW.aload_n (pc' := 11) dJ39_grow_2_10 rfl rfl zg0 rfl ?_
    refine zW.get (pc' := 14) dJ39_grow_2_11 rfl f_J39_9_11 ha ⟨rfl, (Nat.le_of_ble_eq_true rfl)⟩ rfl ?_
    refine zW.gets (j := 5) (pc' := 17) dJ39_grow_2_14 rfl rfl (lw_all_tbl q2168) ?_
    refine zW.acmp_eq (pc' := 20) 45 dJ39_grow_2_17 rfl (by decide) rfl rfl (fun b1 => ?_) (fun b1 => ?_)
    rotate_left
    · exact absurd rfl b1
    refine zW.aload_n (pc' := 46) dJ39_grow_2_45 rfl rfl zg0 rfl ?_
    refine zW.bipush (pc' := 48) (nI 10) dJ39_grow_2_46 rfl (by decide) ?_
    refine zW.iload_n (pc' := 49) dJ39_grow_2_48 rfl rfl (zgS (zg0)) ?_
    refine zW.mmax (pc' := 52) dJ39_grow_2_49 rfl (lw_all_tbl q2423) (Nat.le_of_ble_eq_true rfl) (Nat.le_of_ble_eq_true rfl) (by omega) (by omega) ?_
    refine zW.anewK (u := 3) (N := 10) (pc' := 55) dJ39_grow_2_52 rfl (lw_all_tbl q2424) q202 (by decide) (by decide) (by decide) ⟨by decide, by decide⟩ rfl (fun b _ nb e9 k9 => ?_)
    have zf := zf.new e9 nb
    have ha := zpres e9 (zfresh nb ha) ha
    have hb := k9
    clear e9 k9
    refine zW.pay (r1 := 0) ?_ (Nat.zero_le _)
    refine zW.dup_x1 (pc' := 56) dJ39_grow_2_55 rfl rfl rfl ?_
    refine zW.putK (pc' := 59) dJ39_grow_2_56 rfl f_J39_9_11 ha ⟨⟨rfl, (Nat.le_of_ble_eq_true rfl)⟩, (Nat.le_of_ble_eq_true rfl)⟩ (zFw.of ft_11_1 rfl rfl) (zsS (zs0)) (fun _ e9 k9 => ?_)
    have hb := zpres e9 (zne hb ha (by decide)) hb
    have zf := zf.put e9 ha (by decide) (Or.inl rfl)
    replace ha := k9
    clear e9 k9
    refine zW.aret dJ39_grow_2_59 rfl (Or.inr ⟨_, rfl⟩) rfl ?_
    exact ⟨_, rfl, b, 9, rfl, nb, ha, hb, by decide, zf⟩
theorem w_alGrow {mc : Int32} {kk : Nat} (ha : h al = some (11, [.int mc, .ref ea, .int (nI es.length)])) (hea : h ea = some (kk, eTab es 0)) (hkk : kk = 104 ∧ 0 < es.length ∨ ea = zg_a G 3 ∧ kk = 1104 ∧ es = [] ∧ 0 = 0) (hx : ∀ x ∈ es, ∃ l, h x = some (5, l)) (hn : es.length ≤ 61) : zK G mJ39_grow 5 25 [.ref al] h (cGr h al mc es) := by
  show zW G mJ39_grow 5 25 0 [.ref al] [] h _
  refine zW.aload_n (pc' := 1) dJ39_grow_0 rfl rfl zg0 rfl ?_
  refine zW.aload_n (pc' := 2) dJ39_grow_1 rfl rfl zg0 rfl ?_
  refine zW.get (pc' := 5) dJ39_grow_2 rfl f_J39_48_11 ha ⟨rfl, (Nat.le_of_ble_eq_true rfl)⟩ rfl ?_
  refine zW.iconst (pc' := 6) (nI 1) dJ39_grow_5 rfl (by decide) ?_
  refine zW.iaddN (pc' := 7) dJ39_grow_6 rfl ?_
  refine zW.callV (r' := 25) (pc' := 10) dJ39_grow_7 rfl l_J39_69 rfl ha ⟨rfl, (Nat.le_of_ble_eq_true rfl)⟩ rfl (w_alGrow2 ha hea hkk hx hn) (zcc rfl zc0) rfl (Nat.le_of_ble_eq_true rfl) (Nat.le_of_ble_eq_true rfl) (Nat.le_of_ble_eq_true rfl) (fun _ _ q9 => ?_) (fun _ _ q9 => absurd q9 zO.no)
  obtain ⟨_, q8, b, t, e1, k⟩ := q9
  cases q8
  cases e1
  refine zW.aret dJ39_grow_10 rfl (Or.inr ⟨_, rfl⟩) rfl ?_
  exact ⟨_, rfl, b, t, rfl, k⟩
abbrev cAdd (G : zG) (h : zH) (al ea : Nat) (es : List Nat) (x : Nat) (ov : Option Value) : zR → zH → Prop := zO fun o h' => o = ov ∧ ∃ ea', cAL G h' al ea' (es ++ [x]) ∧ ((ea' = ea ∧ 0 < es.length) ∨ h ea' = none) ∧ zfr (fun c => c = al ∨ (c = ea ∧ 0 < es.length)) h h'
theorem w_alAdd2 {l : List Value} (k : cAL G h al ea es) (hn : es.length ≤ 61) (hxx : h x = some (5, l)) : zK G mJ39_add_2 6 25 [.ref al, .ref x, .ref ea, .int (nI es.length)] h (cAdd G h al ea es x none) := by
  obtain ⟨mc, kk, t, ha, hea, hkk, hb, hx⟩ := k
  have fin : ∀ (H : zH) (b t : Nat), H al = some (11, [.int mc, .ref b, .int (nI es.length)]) → H b = some (104, eTab es (t + 1)) → es.length + (t + 1) ≤ 100 → zfr (fun c => c = al ∨ (c = ea ∧ 0 < es.length)) h H → (b = ea ∧ 0 < es.length ∨ h b = none) → (∀ y ∈ es, ∃ l, H y = some (5, l)) → H x = some (5, l) → zW G mJ39_add_2 6 0 11 [.ref al, .ref x, .ref b, .int (nI es.length)] [] H (cAdd G h al ea es x none) := by
    intro H b t ha hb hb2 zf hm hy hxx
    have ha0 := ha
    refine zW.aload_n (pc' := 12) dJ39_add_2_11 rfl rfl (zgS (zgS (zg0))) rfl ?_
    refine zW.iload_n (pc' := 13) dJ39_add_2_12 rfl rfl (zgS (zgS (zgS (zg0)))) ?_
    refine zW.aload_n (pc' := 14) dJ39_add_2_13 rfl rfl (zgS (zg0)) rfl ?_
    refine zW.aastL (pc' := 15) dJ39_add_2_14 rfl hb ⟨by rw [eTab_len]; omega, by omega⟩ hxx zObj_cmd (fun _ e9 k9 => ?_)
    rw [eTab_set] at e9 k9
    have zf := zf.put e9 hb (by decide) (hm.elim (fun q => Or.inl (Or.inr q)) Or.inr)
    have ha := zpres e9 (zne ha hb (by decide)) ha
    have hxx := zpres e9 (zne hxx hb (by decide)) hxx
    have hy := es5_put hy e9 hb (by decide)
    have hb := k9
    clear e9 k9
    have ha1 := ha
    refine zW.aload_n (pc' := 16) dJ39_add_2_15 rfl rfl zg0 rfl ?_
    refine zW.iload_n (pc' := 17) dJ39_add_2_16 rfl rfl (zgS (zgS (zgS (zg0)))) ?_
    refine zW.iconst (pc' := 18) (nI 1) dJ39_add_2_17 rfl (by decide) ?_
    refine zW.iaddN (pc' := 19) dJ39_add_2_18 rfl ?_
    refine zW.putK (pc' := 22) dJ39_add_2_19 rfl f_J39_48_11 ha ⟨⟨rfl, (Nat.le_of_ble_eq_true rfl)⟩, (Nat.le_of_ble_eq_true rfl)⟩ (zFw.of ft_11_2 rfl rfl) (zsS (zsS (zs0))) (fun _ e9 k9 => ?_)
    have hb := zpres e9 (zne hb ha (by decide)) hb
    have zf := zf.put e9 ha (by decide) (Or.inl (Or.inl rfl))
    have eq := e9
    replace ha := k9
    clear e9 k9
    refine zW.vret dJ39_add_2_22 rfl ?_
    have hy := es5_put hy eq ha1 (by decide)
    have hxx := zpres eq (zne hxx ha1 (by decide)) hxx
    refine ⟨_, rfl, rfl, b, ⟨mc, 104, t, by rw [List.length_append]; exact ha, hb, Or.inl ⟨rfl, by rw [List.length_append, List.length_singleton]; omega⟩, by rw [List.length_append, List.length_singleton]; omega, fun y q => ?_⟩, hm, zf⟩
    rcases List.mem_append.mp q with q | q
    · exact hy y q
    · rw [List.mem_singleton.mp q]; exact ⟨l, hxx⟩
  show zW G mJ39_add_2 6 25 0 [.ref al, .ref x, .ref ea, .int (nI es.length)] [] h _
  refine zW.iload_n (pc' := 1) dJ39_add_2_0 rfl rfl (zgS (zgS (zgS (zg0)))) ?_
  refine zW.aload_n (pc' := 2) dJ39_add_2_1 rfl rfl (zgS (zgS (zg0))) rfl ?_
  refine zW.alen (pc' := 3) dJ39_add_2_2 rfl hea (Nat.le_trans (by decide) (cAL.kk hkk)) (show Int32.ofNat (eTab es t).length = nI (es.length + t) by rw [eTab_len]; rfl) ?_
  by_cases q : t = 0
  · subst q
    refine zW.icmp_neN (pc' := 6) 11 dJ39_add_2_3 rfl (by decide) (by omega) (by omega) (fun b9 => absurd b9 (by omega)) (fun b9 => ?_)
    refine zW.aload_n (pc' := 7) dJ39_add_2_6 rfl rfl zg0 rfl ?_
    refine zW.callV (r' := 25) (pc' := 10) dJ39_add_2_7 rfl l_J39_129 rfl ha ⟨rfl, (Nat.le_of_ble_eq_true rfl)⟩ rfl (w_alGrow ha hea hkk hx hn) zc0 rfl (Nat.le_of_ble_eq_true rfl) (Nat.le_of_ble_eq_true rfl) (Nat.le_of_ble_eq_true rfl) (fun _ H1 q9 => ?_) (fun _ _ q9 => absurd q9 zO.no)
    obtain ⟨_, q8, b, t, e1, nb, ha1, hb1, hb2, z1⟩ := q9
    cases q8
    cases e1
    refine zW.astore_n (pc' := 11) dJ39_add_2_10 rfl rfl (Nat.le_of_ble_eq_true rfl) rfl (zsS (zsS (zs0))) ?_
    have hx1 : ∀ y ∈ es, ∃ l, H1 y = some (5, l) := fun y q => by
      obtain ⟨l, hl⟩ := hx y q
      exact ⟨l, z1.at hl (zne hl ha (by decide))⟩
    exact fin H1 b t ha1 hb1 hb2 (z1.mono fun c hc => Or.inl (Or.inl hc)) (Or.inr nb) hx1 (z1.at hxx (zne hxx ha (by decide)))
  · obtain ⟨t, rfl⟩ : ∃ t', t = t' + 1 := ⟨t - 1, by omega⟩
    obtain ⟨q1, q2⟩ : kk = 104 ∧ 0 < es.length := hkk.resolve_right fun q => by omega
    subst q1
    refine zW.icmp_neN (pc' := 6) 11 dJ39_add_2_3 rfl (by decide) (by omega) (by omega) (fun b9 => ?_) (fun b9 => absurd b9 (by omega))
    refine zW.pay (r1 := 0) ?_ (Nat.zero_le _)
    exact fin h ea t ha hea hb zfr.rf (Or.inl ⟨rfl, q2⟩) hx hxx
theorem w_alAdd {l : List Value} (k : cAL G h al ea es) (hn : es.length ≤ 61) (hxx : h x = some (5, l)) : zK G mJ39_add 7 25 [.ref al, .ref x] h (cAdd G h al ea es x (some (.int (nI 1)))) := by
  obtain ⟨mc, kk, t, ha, hea, hkk, hb, hx⟩ := k
  have ha1 := ha
  have zf := zfr.rf (A := fun c => c = al) (h := h)
  show zW G mJ39_add 7 25 0 [.ref al, .ref x] [] h _
  refine zW.aload_n (pc' := 1) dJ39_add_0 rfl rfl zg0 rfl ?_
  refine zW.dup (pc' := 2) dJ39_add_1 rfl rfl ?_
  refine zW.get (pc' := 5) dJ39_add_2 rfl f_J39_63_11 ha ⟨rfl, (Nat.le_of_ble_eq_true rfl)⟩ rfl ?_
  refine zW.iconst (pc' := 6) (nI 1) dJ39_add_5 rfl (by decide) ?_
  refine zW.iadd (pc' := 7) dJ39_add_6 rfl ?_
  refine zW.putK (pc' := 10) dJ39_add_7 rfl f_J39_63_11 ha ⟨⟨rfl, (Nat.le_of_ble_eq_true rfl)⟩, (Nat.le_of_ble_eq_true rfl)⟩ (zFw.of ft_11_0 rfl rfl) zs0 (fun _ e9 k9 => ?_)
  have zf := zf.put e9 ha (by decide) (Or.inl rfl)
  have eq := e9
  replace ha := k9
  clear e9 k9
  refine zW.aload_n (pc' := 11) dJ39_add_10 rfl rfl zg0 rfl ?_
  refine zW.aload_n (pc' := 12) dJ39_add_11 rfl rfl (zgS (zg0)) rfl ?_
  refine zW.aload_n (pc' := 13) dJ39_add_12 rfl rfl zg0 rfl ?_
  refine zW.get (pc' := 16) dJ39_add_13 rfl f_J39_9_11 ha ⟨rfl, (Nat.le_of_ble_eq_true rfl)⟩ rfl ?_
  refine zW.aload_n (pc' := 17) dJ39_add_16 rfl rfl zg0 rfl ?_
  refine zW.get (pc' := 20) dJ39_add_17 rfl f_J39_48_11 ha ⟨rfl, (Nat.le_of_ble_eq_true rfl)⟩ rfl ?_
  have hy := es5_put hx eq ha1 (by decide)
  have hxx := zpres eq (zne hxx ha1 (by decide)) hxx
  have hne : ea ≠ al := zne hea ha1 (fun e => by have h9 := cAL.kk hkk; rw [e] at h9; exact absurd h9 (by decide))
  have hea := zpres eq hne hea
  refine zW.callV (r' := 25) (pc' := 23) dJ39_add_20 rfl l_J39_131 rfl ha ⟨rfl, (Nat.le_of_ble_eq_true rfl)⟩ rfl (w_alAdd2 ⟨mc + nI 1, kk, t, ha, hea, hkk, hb, hy⟩ hn hxx) (zcc rfl (zcc rfl (zcc rfl zc0))) rfl (Nat.le_of_ble_eq_true rfl) (Nat.le_of_ble_eq_true rfl) (Nat.le_of_ble_eq_true rfl) (fun _ _ q9 => ?_) (fun _ _ q9 => absurd q9 zO.no)
  obtain ⟨_, q8, e1, ea', k2, k3, z2⟩ := q9
  cases q8
  subst e1
  refine zW.iconst (pc' := 24) (nI 1) dJ39_add_23 rfl (by decide) ?_
  refine zW.iret dJ39_add_24 rfl (rfl) ?_
  exact ⟨_, rfl, rfl, ea', k2, k3.elim Or.inl (fun q => Or.inr (zf.nn0 q)), (zf.mono (B := fun c => c = al ∨ (c = ea ∧ 0 < es.length)) fun c hc => Or.inl (Or.inl hc)).tr z2 fun c hc => Or.inl hc⟩
/-- the list's iterator at i -/
def cAIt (h : zH) (it al : Nat) (mc : Int32) (i : Nat) : Prop := ∃ lr : Int32, h it = some (12, [.int (nI i), .int lr, .int mc, .ref al])
theorem w_alIter {mc : Int32} {n : Nat} (ha : h al = some (11, [.int mc, .ref ea, .int (nI n)])) : zK G mJ39_iterator 3 1 [.ref al] h (zO fun o h' => ∃ it, o = some (.ref it) ∧ h it = none ∧ cAIt h' it al mc 0 ∧ zfr (fun _ => False) h h') := by
  have zf := zfr.rf (A := fun _ => False) (h := h)
  have ki : ∀ (H : zH) (it : Nat), H al = some (11, [.int mc, .ref ea, .int (nI n)]) → H it = some (12, [.int 0, .int 0, .int 0, .null]) → zK G mJ23_init 2 0 [.ref it, .ref al] H (zPk H none it (12, [.int 0, .int (-1), .int mc, .ref al])) := fun H it ha hi => by
    show zW G mJ23_init 2 0 0 [.ref it, .ref al] [] H _
    refine zW.aload_n (pc' := 1) dJ23_init_0 rfl rfl zg0 rfl ?_
    refine zW.aload_n (pc' := 2) dJ23_init_1 rfl rfl (zgS (zg0)) rfl ?_
    refine zW.putK (pc' := 5) dJ23_init_2 rfl f_J23_1_12 hi ⟨⟨rfl, (Nat.le_of_ble_eq_true rfl)⟩, (Nat.le_of_ble_eq_true rfl)⟩ (zFw.fin ft_12_3 rfl rfl rfl rfl rfl) (zsS (zsS (zsS (zs0)))) (fun _ e9 k9 => ?_)
    have ha := zpres e9 (zne ha hi (by decide)) ha
    have hq := e9
    replace hi := k9
    clear e9 k9
    refine zW.aload_n (pc' := 6) dJ23_init_5 rfl rfl zg0 rfl ?_
    refine zW.objInit (pc' := 9) dJ23_init_6 rfl (lw_all_tbl q675) (lw_all_tbl q151) (lw_all_tbl q152) (Nat.le_of_ble_eq_true rfl) (Nat.le_of_ble_eq_true rfl) ?_
    refine zW.aload_n (pc' := 10) dJ23_init_9 rfl rfl zg0 rfl ?_
    refine zW.iconst (pc' := 11) (-1) dJ23_init_10 rfl (by decide) ?_
    refine zW.putK (pc' := 14) dJ23_init_11 rfl f_J23_13_12 hi ⟨⟨rfl, (Nat.le_of_ble_eq_true rfl)⟩, (Nat.le_of_ble_eq_true rfl)⟩ (zFw.of ft_12_1 rfl rfl) (zsS (zs0)) (fun _ e9 k9 => ?_)
    have ha := zpres e9 (zne ha hi (by decide)) ha
    have hq := ztrk hq e9
    replace hi := k9
    clear e9 k9
    refine zW.aload_n (pc' := 15) dJ23_init_14 rfl rfl zg0 rfl ?_
    refine zW.aload_n (pc' := 16) dJ23_init_15 rfl rfl zg0 rfl ?_
    refine zW.get (pc' := 19) dJ23_init_16 rfl f_J23_1_12 hi ⟨rfl, (Nat.le_of_ble_eq_true rfl)⟩ rfl ?_
    refine zW.get (pc' := 22) dJ23_init_19 rfl f_J23_17_11 ha ⟨rfl, (Nat.le_of_ble_eq_true rfl)⟩ rfl ?_
    refine zW.putK (pc' := 25) dJ23_init_22 rfl f_J23_22_12 hi ⟨⟨rfl, (Nat.le_of_ble_eq_true rfl)⟩, (Nat.le_of_ble_eq_true rfl)⟩ (zFw.of ft_12_2 rfl rfl) (zsS (zsS (zs0))) (fun _ e9 k9 => ?_)
    have ha := zpres e9 (zne ha hi (by decide)) ha
    have hq := ztrk hq e9
    replace hi := k9
    clear e9 k9
    refine zW.vret dJ23_init_25 rfl ?_
    exact ⟨_, rfl, rfl, hq, hi⟩
  show zW G mJ39_iterator 3 1 0 [.ref al] [] h _
  refine zW.newK (u := 1) (pc' := 3) dJ39_iterator_0 rfl n_J39_267 zd_12 (fun it _ nit e9 k9 => ?_)
  have ha := zpres e9 (zfresh nit ha) ha
  have oit := zf.nn0 nit
  have zf := zf.new e9 nit
  have hit := k9
  clear k9
  clear e9
  refine zW.dup (pc' := 4) dJ39_iterator_3 rfl rfl ?_
  refine zW.aload_n (pc' := 5) dJ39_iterator_4 rfl rfl zg0 rfl ?_
  refine zW.callI (r' := 0) (pc' := 8) dJ39_iterator_5 rfl l_J39_269 rfl (ki _ _ ha hit) (zcc rfl zc0) rfl (Nat.le_of_ble_eq_true rfl) (Nat.le_of_ble_eq_true rfl) (Nat.le_of_ble_eq_true rfl) (fun _ _ q9 => ?_) (fun _ _ q9 => absurd q9 zO.no)
  obtain ⟨_, q8, e1, e9, k9⟩ := q9
  cases q8
  subst e1
  have ha := zpres e9 (zne ha hit (by decide)) ha
  have zf := zf.put e9 hit (by decide) (Or.inr oit)
  replace hit := k9
  clear e9 k9
  refine zW.aret dJ39_iterator_8 rfl (Or.inl ⟨_, rfl⟩) rfl ?_
  exact ⟨_, rfl, it, rfl, nit, ⟨-1, hit⟩, zf⟩
theorem w_aiHas {mc : Int32} {n i : Nat} (ha : h al = some (11, [.int mc, .ref ea, .int (nI n)])) (hi : cAIt h it al mc i) (hn : n ≤ 100 ∧ i ≤ n) : zK G mJ23_hasNext 1 0 [.ref it] h (zPu h (some (.int (nI (if i = n then 0 else 1))))) := by
  obtain ⟨lr, hi⟩ := hi
  show zW G mJ23_hasNext 1 0 0 [.ref it] [] h _
  refine zW.aload_n (pc' := 1) dJ23_hasNext_0 rfl rfl zg0 rfl ?_
  refine zW.get (pc' := 4) dJ23_hasNext_1 rfl f_J23_25_12 hi ⟨rfl, (Nat.le_of_ble_eq_true rfl)⟩ rfl ?_
  refine zW.aload_n (pc' := 5) dJ23_hasNext_4 rfl rfl zg0 rfl ?_
  refine zW.get (pc' := 8) dJ23_hasNext_5 rfl f_J23_1_12 hi ⟨rfl, (Nat.le_of_ble_eq_true rfl)⟩ rfl ?_
  refine zW.get (pc' := 11) dJ23_hasNext_8 rfl f_J23_28_11 ha ⟨rfl, (Nat.le_of_ble_eq_true rfl)⟩ rfl ?_
  refine zW.icmp_eqN (pc' := 14) 18 dJ23_hasNext_11 rfl (by decide) (by omega) (by omega) (fun b1 => ?_) (fun b1 => ?_)
  · refine zW.iconst (pc' := 19) (nI 0) dJ23_hasNext_18 rfl (by decide) ?_
    refine zW.iret dJ23_hasNext_19 rfl (rfl) ?_
    rw [if_pos b1]
    exact ⟨rfl, rfl⟩
  · refine zW.iconst (pc' := 15) (nI 1) dJ23_hasNext_14 rfl (by decide) ?_
    refine zW.goto 19 dJ23_hasNext_15 (by decide) ?_
    refine zW.iret dJ23_hasNext_19 rfl (rfl) ?_
    rw [if_neg b1]
    exact ⟨rfl, rfl⟩
theorem w_aiNext {mc : Int32} {t : Nat} {kk : Nat} (ha : h al = some (11, [.int mc, .ref ea, .int (nI es.length)])) (hea : h ea = some (kk, eTab es t)) (hkk : 104 ≤ kk % 1000) (hb : es.length + t ≤ 100) (hi : cAIt h it al mc i) (hx : es[i]? = some x) : zK G mJ23_next 2 0 [.ref it] h (zO fun o h' => o = some (.ref x) ∧ cAIt h' it al mc (i + 1) ∧ zfr (fun b => b = it) h h') := by
  obtain ⟨lr, hi⟩ := hi
  have hil := (List.getElem?_eq_some_iff.mp hx).1
  have zf := zfr.rf (A := fun b => b = it) (h := h)
  have kc : zK G mJ23_checkForComodification 1 0 [.ref it] h (zPu h none) := by
    show zW G mJ23_checkForComodification 1 0 0 [.ref it] [] h _
    refine zW.aload_n (pc' := 1) dJ23_checkForComodification_0 rfl rfl zg0 rfl ?_
    refine zW.get (pc' := 4) dJ23_checkForComodification_1 rfl f_J23_1_12 hi ⟨rfl, (Nat.le_of_ble_eq_true rfl)⟩ rfl ?_
    refine zW.get (pc' := 7) dJ23_checkForComodification_4 rfl f_J23_17_11 ha ⟨rfl, (Nat.le_of_ble_eq_true rfl)⟩ rfl ?_
    refine zW.aload_n (pc' := 8) dJ23_checkForComodification_7 rfl rfl zg0 rfl ?_
    refine zW.get (pc' := 11) dJ23_checkForComodification_8 rfl f_J23_22_12 hi ⟨rfl, (Nat.le_of_ble_eq_true rfl)⟩ rfl ?_
    refine zW.icmp_eq (pc' := 14) 22 dJ23_checkForComodification_11 rfl (by decide) (fun b1 => ?_) (fun b1 => ?_)
    rotate_left
    · exact absurd rfl b1
    refine zW.vret dJ23_checkForComodification_22 rfl ?_
    exact ⟨rfl, rfl⟩
  show zW G mJ23_next 2 0 0 [.ref it, zho, zho] [] h _
  refine zW.aload_n (pc' := 1) dJ23_next_0 rfl rfl zg0 rfl ?_
  refine zW.callV (r' := 0) (pc' := 4) dJ23_next_1 rfl l_J23_31 rfl hi ⟨rfl, (Nat.le_of_ble_eq_true rfl)⟩ rfl (kc) zc0 rfl (Nat.le_of_ble_eq_true rfl) (Nat.le_of_ble_eq_true rfl) (Nat.le_of_ble_eq_true rfl) (fun _ _ q9 => ?_) (fun _ _ q9 => by cases q9.1)
  obtain ⟨q8, e9⟩ := q9
  cases q8
  replace e9 := e9.symm
  subst e9
  refine zW.aload_n (pc' := 5) dJ23_next_4 rfl rfl zg0 rfl ?_
  refine zW.get (pc' := 8) dJ23_next_5 rfl f_J23_25_12 hi ⟨rfl, (Nat.le_of_ble_eq_true rfl)⟩ rfl ?_
  refine zW.istore_n (pc' := 9) dJ23_next_8 rfl rfl (Nat.le_of_ble_eq_true rfl) (zsS (zs0)) ?_
  refine zW.iload_n (pc' := 10) dJ23_next_9 rfl rfl (zgS (zg0)) ?_
  refine zW.aload_n (pc' := 11) dJ23_next_10 rfl rfl zg0 rfl ?_
  refine zW.get (pc' := 14) dJ23_next_11 rfl f_J23_1_12 hi ⟨rfl, (Nat.le_of_ble_eq_true rfl)⟩ rfl ?_
  refine zW.get (pc' := 17) dJ23_next_14 rfl f_J23_28_11 ha ⟨rfl, (Nat.le_of_ble_eq_true rfl)⟩ rfl ?_
  refine zW.icmp_ltN (pc' := 20) 28 dJ23_next_17 rfl (by decide) (by omega) (by omega) (fun b9 => ?_) (fun b9 => absurd b9 (by omega))
  refine zW.aload_n (pc' := 29) dJ23_next_28 rfl rfl zg0 rfl ?_
  refine zW.get (pc' := 32) dJ23_next_29 rfl f_J23_1_12 hi ⟨rfl, (Nat.le_of_ble_eq_true rfl)⟩ rfl ?_
  refine zW.get (pc' := 35) dJ23_next_32 rfl f_J23_37_11 ha ⟨rfl, (Nat.le_of_ble_eq_true rfl)⟩ rfl ?_
  refine zW.astore_n (pc' := 36) dJ23_next_35 rfl rfl (Nat.le_of_ble_eq_true rfl) rfl (zsS (zsS (zs0))) ?_
  refine zW.iload_n (pc' := 37) dJ23_next_36 rfl rfl (zgS (zg0)) ?_
  refine zW.aload_n (pc' := 38) dJ23_next_37 rfl rfl (zgS (zgS (zg0))) rfl ?_
  refine zW.alen (pc' := 39) dJ23_next_38 rfl hea (Nat.le_trans (by decide) hkk) (show Int32.ofNat (eTab es t).length = nI (es.length + t) by rw [eTab_len]; rfl) ?_
  refine zW.icmp_ltN (pc' := 42) 50 dJ23_next_39 rfl (by decide) (by omega) (by omega) (fun b9 => ?_) (fun b9 => absurd b9 (by omega))
  have nit : ea ≠ it := zne hea hi (fun e => by rw [e] at hkk; exact absurd hkk (by decide))
  refine zW.aload_n (pc' := 51) dJ23_next_50 rfl rfl zg0 rfl ?_
  refine zW.iload_n (pc' := 52) dJ23_next_51 rfl rfl (zgS (zg0)) ?_
  refine zW.iconst (pc' := 53) (nI 1) dJ23_next_52 rfl (by decide) ?_
  refine zW.iaddN (pc' := 54) dJ23_next_53 rfl ?_
  refine zW.putK (pc' := 57) dJ23_next_54 rfl f_J23_25_12 hi ⟨⟨rfl, (Nat.le_of_ble_eq_true rfl)⟩, (Nat.le_of_ble_eq_true rfl)⟩ (zFw.of ft_12_0 rfl rfl) zs0 (fun _ e9 k9 => ?_)
  have ha := zpres e9 (zne ha hi (by decide)) ha
  have zf := zf.put e9 hi (by decide) (Or.inl rfl)
  have eq := e9
  replace hi := k9
  clear e9 k9
  refine zW.aload_n (pc' := 58) dJ23_next_57 rfl rfl (zgS (zgS (zg0))) rfl ?_
  refine zW.aload_n (pc' := 59) dJ23_next_58 rfl rfl zg0 rfl ?_
  refine zW.iload_n (pc' := 60) dJ23_next_59 rfl rfl (zgS (zg0)) ?_
  refine zW.dup_x1 (pc' := 61) dJ23_next_60 rfl rfl rfl ?_
  refine zW.putK (pc' := 64) dJ23_next_61 rfl f_J23_13_12 hi ⟨⟨rfl, (Nat.le_of_ble_eq_true rfl)⟩, (Nat.le_of_ble_eq_true rfl)⟩ (zFw.of ft_12_1 rfl rfl) (zsS (zs0)) (fun _ e9 k9 => ?_)
  have ha := zpres e9 (zne ha hi (by decide)) ha
  have zf := zf.put e9 hi (by decide) (Or.inl rfl)
  have eq := ztrk eq e9
  replace hi := k9
  clear e9 k9
  have hea := zpres eq nit hea
  refine zW.aaldL (pc' := 65) dJ23_next_64 rfl hea hkk (eTab_get hx) (by omega) ?_
  refine zW.aret dJ23_next_65 rfl (Or.inl ⟨_, rfl⟩) rfl ?_
  exact ⟨_, rfl, rfl, ⟨_, hi⟩, zf⟩
end
