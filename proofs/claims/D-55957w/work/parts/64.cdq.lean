/-! ArrayDeque: seventeen slots, items from the head on -/
section
set_option maxRecDepth 100000
variable {G : zG} {M : zM} {d r pc pc' : Nat} {L st : List Value} {h h' h0 : zH} {Q : zR → zH → Prop} {a ar hd it : Nat} {its : List Nat}
def qtab (f : Nat → Option Nat) : List Value := (List.range 17).map fun i => zrf (f i)
def zuo (f : Nat → Option Nat) (k : Nat) (o : Option Nat) : Nat → Option Nat := fun i => if i = k then o else f i
theorem zuo_s {f : Nat → Option Nat} {k : Nat} {o : Option Nat} : zuo f k o k = o := if_pos rfl
theorem zuo_n {f : Nat → Option Nat} {k j : Nat} {o : Option Nat} (hj : j ≠ k) : zuo f k o j = f j := if_neg hj
theorem qtab_len {f : Nat → Option Nat} : (qtab f).length = 17 := by simp [qtab]
theorem qtab_n {f : Nat → Option Nat} : Int32.ofNat (qtab f).length = nI 17 := by rw [qtab_len]; rfl
theorem qtab_get {f : Nat → Option Nat} {j : Nat} (hj : j < 17) : (qtab f)[j]? = some (zrf (f j)) := by simp [qtab, hj]
theorem qtab_set {f : Nat → Option Nat} {j : Nat} {o : Option Nat} : (qtab f).set j (zrf o) = qtab (zuo f j o) := by
  apply List.ext_getElem?
  intro i
  rw [List.getElem?_set]
  by_cases hi : i < 17
  · rw [qtab_get hi]
    by_cases hij : j = i
    · subst hij
      rw [if_pos rfl, if_pos (by rw [qtab_len]; exact hi), qtab_get hi, zuo_s]
    · rw [if_neg hij, qtab_get hi, zuo_n (Ne.symm hij)]
  · rw [List.getElem?_eq_none (by rw [qtab_len]; omega), List.getElem?_eq_none (l := qtab (zuo f j o)) (by rw [qtab_len]; omega)]
    by_cases hij : j = i
    · rw [if_pos hij, if_neg (by rw [qtab_len]; omega)]
    · rw [if_neg hij]
theorem qtab_nul : List.replicate 17 Value.null = qtab fun _ => none := rfl
theorem nI_nn {j : Nat} (hj : j < 2 ^ 31) : ¬ nI j < 0 := nI_pos hj
theorem nI_cl {j : Nat} (hj : j < 2 ^ 31) : (nI j).toNatClampNeg = j := iN_nI hj
theorem zW.aaldQ {kk j : Nat} {f : Nat → Option Nat} (hd : decode (zm_c M) pc = .ok (.aaload, 1)) (hn : pc + 1 = pc') (hh : h a = some (kk, qtab f)) (hj : j < 17 ∧ 104 ≤ kk % 1000) (kq : zW G M d r pc' L (zrf (f j) :: st) h Q) : zW G M d r pc L (.int (nI j) :: .ref a :: st) h Q :=
  zW.aald hd hn hh hj.2 (nI_nn (by omega)) (by rw [nI_cl (by omega)]; exact qtab_get hj.1) kq
theorem zW.aastQK {b j : Nat} {f : Nat → Option Nat} {cb : zC} (hd : decode (zm_c M) pc = .ok (.aastore, 1)) (hn : pc + 1 = pc') (hh : h a = some (104, qtab f)) (hj : j < 17) (hb : h b = some cb) (ho : zObj cb) (kq : ∀ h', h' = zup h a (104, qtab (zuo f j (some b))) → h' a = some (104, qtab (zuo f j (some b))) → zW G M d r pc' L st h' Q) : zW G M d r pc L (.ref b :: .int (nI j) :: .ref a :: st) h Q :=
  zW.aast hd hn hh (nI_nn (by omega)) (by rw [nI_cl (by omega), qtab_len]; exact hj) hb ho (by rw [nI_cl (by omega)]; exact qtab_set (o := some b)) (kq _ rfl zup_s)
theorem zW.aastNK {j : Nat} {f : Nat → Option Nat} (hd : decode (zm_c M) pc = .ok (.aastore, 1)) (hn : pc + 1 = pc') (hh : h a = some (104, qtab f)) (hj : j < 17) (kq : ∀ h', h' = zup h a (104, qtab (zuo f j none)) → h' a = some (104, qtab (zuo f j none)) → zW G M d r pc' L st h' Q) : zW G M d r pc L (.null :: .int (nI j) :: .ref a :: st) h Q :=
  zW.aastN hd hn hh (nI_nn (by omega)) (by rw [nI_cl (by omega), qtab_len]; exact hj) (by rw [nI_cl (by omega)]; exact qtab_set (o := none)) (kq _ rfl zup_s)
theorem zW.anewK {idx N u : Nat} {n : Int32} {fs : List Value} (hd : decode (zm_c M) pc = .ok (.anewarray idx, 3)) (hn : pc + 3 = pc') (hlk : Cond.classLink (zm_y M).cls idx "java/lang/Object" ∈ lw_tbl) (hov : Cond.arrayOver (.object "java/lang/Object") ∈ lw_tbl) (hn0 : ¬ n < 0) (hN : n.toNatClampNeg = N) (hb : N * 4 ≤ 536870912) (hu : 1 ≤ u ∧ N ≤ 4 * u) (hf : List.replicate N Value.null = fs) (kq : ∀ a h', h a = none → h' = zup h a (104, fs) → h' a = some (104, fs) → zW G M d r pc' L (.ref a :: st) h' Q) : zW G M d (r + u) pc L (.int n :: st) h Q :=
  zW.anew hd hn hlk hov hn0 hN hb hu hf fun a n => kq a _ n rfl zup_s
/-- deque a, its slots ar, the head's place, the items -/
def cDQ (h : zH) (a ar hd : Nat) (its : List Nat) : Prop := (hd < 17 ∧ its.length ≤ 16) ∧ h a = some (9, [.ref ar, .int (nI hd), .int (nI ((hd + its.length) % 17))]) ∧ ∃ f, h ar = some (104, qtab f) ∧ ∀ i x, its[i]? = some x → f ((hd + i) % 17) = some x
def cDf (a ar : Nat) : Nat → Prop := fun b => b = a ∨ b = ar
theorem cDQ.mv (hQ : cDQ h a ar hd its) (z : ∀ b k l, (b = a ∨ b = ar) → h b = some (k, l) → h' b = some (k, l)) : cDQ h' a ar hd its := by
  obtain ⟨h1, h2, f, h3, h4⟩ := hQ
  exact ⟨h1, z _ _ _ (Or.inl rfl) h2, f, z _ _ _ (Or.inr rfl) h3, h4⟩
theorem cDQ.fr (hQ : cDQ h a ar hd its) {A : Nat → Prop} (z : zfr A h h') (n1 : ¬ A a) (n2 : ¬ A ar) : cDQ h' a ar hd its :=
  hQ.mv fun b k l hb e => z.at e (fun q => hb.elim (fun w => n1 (by rw [← w]; exact q)) fun w => n2 (by rw [← w]; exact q))
theorem w_dqInc {i : Nat} (hi : i < 17) : zK G mJ4_inc 1 0 [.int (nI i), .int (nI 17)] h (zPu h (some (.int (nI ((i + 1) % 17))))) := by
  show zW G mJ4_inc 1 0 0 [.int (nI i), .int (nI 17)] [] h _
  refine zW.iincN (pc' := 3) (n := 1) dJ4_inc_0 rfl (Nat.le_of_ble_eq_true rfl) zg0 zs0 ?_
  refine zW.iload_n (pc' := 4) dJ4_inc_3 rfl rfl zg0 ?_
  refine zW.iload_n (pc' := 5) dJ4_inc_4 rfl rfl (zgS (zg0)) ?_
  refine zW.icmp_ltN (pc' := 8) 10 dJ4_inc_5 rfl (by decide) (by omega) (by omega) (fun b1 => ?_) (fun b1 => ?_)
  · refine zW.iload_n (pc' := 11) dJ4_inc_10 rfl rfl zg0 ?_
    refine zW.iret dJ4_inc_11 rfl (rfl) ?_
    rw [Nat.mod_eq_of_lt b1]
    exact ⟨rfl, rfl⟩
  · refine zW.iconst (pc' := 9) (nI 0) dJ4_inc_8 rfl (by decide) ?_
    refine zW.istore_n (pc' := 10) dJ4_inc_9 rfl rfl (Nat.le_of_ble_eq_true rfl) zs0 ?_
    refine zW.iload_n (pc' := 11) dJ4_inc_10 rfl rfl zg0 ?_
    refine zW.iret dJ4_inc_11 rfl (rfl) ?_
    have : i = 16 := by omega
    subst this
    exact ⟨rfl, rfl⟩
theorem w_dqDec {i : Nat} (hi : i < 17) : zK G mJ4_dec 1 0 [.int (nI i), .int (nI 17)] h (zPu h (some (.int (nI ((i + 16) % 17))))) := by
  show zW G mJ4_dec 1 0 0 [.int (nI i), .int (nI 17)] [] h _
  cases i with
  | zero =>
    refine zW.iinc (pc' := 3) ((-1)) dJ4_dec_0 rfl (Nat.le_of_ble_eq_true rfl) zg0 (by decide) zs0 ?_
    refine zW.iload_n (pc' := 4) dJ4_dec_3 rfl rfl zg0 ?_
    refine zW.if_ge (pc' := 7) 11 dJ4_dec_4 rfl (by decide) (fun b1 => ?_) (fun b1 => ?_)
    · exact absurd b1 (by decide)
    refine zW.iload_n (pc' := 8) dJ4_dec_7 rfl rfl (zgS (zg0)) ?_
    refine zW.iconst (pc' := 9) (nI 1) dJ4_dec_8 rfl (by decide) ?_
    refine zW.isubN (pc' := 10) dJ4_dec_9 rfl (by omega) ?_
    refine zW.istore_n (pc' := 11) dJ4_dec_10 rfl rfl (Nat.le_of_ble_eq_true rfl) zs0 ?_
    refine zW.iload_n (pc' := 12) dJ4_dec_11 rfl rfl zg0 ?_
    refine zW.iret dJ4_dec_12 rfl (rfl) ?_
    exact ⟨rfl, rfl⟩
  | succ i =>
    refine zW.iinc (pc' := 3) (nI i) dJ4_dec_0 rfl (Nat.le_of_ble_eq_true rfl) zg0 nI_dec zs0 ?_
    refine zW.iload_n (pc' := 4) dJ4_dec_3 rfl rfl zg0 ?_
    refine zW.if_geN 11 dJ4_dec_4 (by decide) (by omega) ?_
    refine zW.iload_n (pc' := 12) dJ4_dec_11 rfl rfl zg0 ?_
    refine zW.iret dJ4_dec_12 rfl (rfl) ?_
    rw [show (i + 1 + 16) % 17 = i by omega]
    exact ⟨rfl, rfl⟩
theorem dqSub_all : ∀ i j : Fin 17, i.1 < j.1 → ((nI i.1 - nI j.1 < 0) ∧ nI i.1 - nI j.1 + nI 17 = nI (i.1 + 17 - j.1)) := by decide +kernel
theorem w_dqSub {i j : Nat} (hi : i < 17) (hj : j < 17) : zK G mJ4_sub 1 0 [.int (nI i), .int (nI j), .int (nI 17)] h (zPu h (some (.int (nI ((i + 17 - j) % 17))))) := by
  show zW G mJ4_sub 1 0 0 [.int (nI i), .int (nI j), .int (nI 17)] [] h _
  by_cases q : j ≤ i
  · refine zW.iload_n (pc' := 1) dJ4_sub_0 rfl rfl zg0 ?_
    refine zW.iload_n (pc' := 2) dJ4_sub_1 rfl rfl (zgS (zg0)) ?_
    refine zW.isubN (pc' := 3) dJ4_sub_2 rfl (by omega) ?_
    refine zW.dup (pc' := 4) dJ4_sub_3 rfl rfl ?_
    refine zW.istore_n (pc' := 5) dJ4_sub_4 rfl rfl (Nat.le_of_ble_eq_true rfl) zs0 ?_
    refine zW.if_geN 12 dJ4_sub_5 (by decide) (by omega) ?_
    refine zW.iload_n (pc' := 13) dJ4_sub_12 rfl rfl zg0 ?_
    refine zW.iret dJ4_sub_13 rfl (rfl) ?_
    rw [show (i + 17 - j) % 17 = i - j by omega]
    exact ⟨rfl, rfl⟩
  · obtain ⟨q1, q2⟩ := dqSub_all ⟨i, hi⟩ ⟨j, hj⟩ (by show i < j; omega)
    refine zW.iload_n (pc' := 1) dJ4_sub_0 rfl rfl zg0 ?_
    refine zW.iload_n (pc' := 2) dJ4_sub_1 rfl rfl (zgS (zg0)) ?_
    refine zW.isub (pc' := 3) dJ4_sub_2 rfl ?_
    refine zW.dup (pc' := 4) dJ4_sub_3 rfl rfl ?_
    refine zW.istore_n (pc' := 5) dJ4_sub_4 rfl rfl (Nat.le_of_ble_eq_true rfl) zs0 ?_
    refine zW.if_ge (pc' := 8) 12 dJ4_sub_5 rfl (by decide) (fun b1 => ?_) (fun b1 => ?_)
    · exact absurd q1 (Int32.not_lt.mpr b1)
    refine zW.iload_n (pc' := 9) dJ4_sub_8 rfl rfl zg0 ?_
    refine zW.iload_n (pc' := 10) dJ4_sub_9 rfl rfl (zgS (zgS (zg0))) ?_
    refine zW.iadd (pc' := 11) dJ4_sub_10 rfl ?_
    refine zW.istore_n (pc' := 12) dJ4_sub_11 rfl rfl (Nat.le_of_ble_eq_true rfl) zs0 ?_
    refine zW.iload_n (pc' := 13) dJ4_sub_12 rfl rfl zg0 ?_
    refine zW.iret dJ4_sub_13 rfl (rfl) ?_
    rw [show (i + 17 - j) % 17 = i + 17 - j by omega]
    exact ⟨by rw [← q2], rfl⟩
theorem w_dqSize (hQ : cDQ h a ar hd its) : zK G mJ4_size 2 0 [.ref a] h (zPu h (some (.int (nI its.length)))) := by
  obtain ⟨⟨h1, h2⟩, ha, f, har, hf⟩ := hQ
  show zW G mJ4_size 2 0 0 [.ref a] [] h _
  refine zW.aload_n (pc' := 1) dJ4_size_0 rfl rfl zg0 rfl ?_
  refine zW.get (pc' := 4) dJ4_size_1 rfl f_J4_20_9 ha ⟨rfl, (Nat.le_of_ble_eq_true rfl)⟩ rfl ?_
  refine zW.aload_n (pc' := 5) dJ4_size_4 rfl rfl zg0 rfl ?_
  refine zW.get (pc' := 8) dJ4_size_5 rfl f_J4_24_9 ha ⟨rfl, (Nat.le_of_ble_eq_true rfl)⟩ rfl ?_
  refine zW.aload_n (pc' := 9) dJ4_size_8 rfl rfl zg0 rfl ?_
  refine zW.get (pc' := 12) dJ4_size_9 rfl f_J4_3_9 ha ⟨rfl, (Nat.le_of_ble_eq_true rfl)⟩ rfl ?_
  refine zW.alen (pc' := 13) dJ4_size_12 rfl har (by decide) qtab_n ?_
  refine zW.callS (r' := 0) (pc' := 16) dJ4_size_13 rfl l_J4_127 rfl (w_dqSub (Nat.mod_lt _ (by decide)) h1) (zcc rfl (zcc rfl (zcc rfl zc0))) rfl (Nat.le_of_ble_eq_true rfl) (Nat.le_of_ble_eq_true rfl) (Nat.le_of_ble_eq_true rfl) (fun _ _ q9 => ?_) (fun _ _ q9 => by cases q9.1)
  obtain ⟨q8, e9⟩ := q9
  cases q8
  replace e9 := e9.symm
  subst e9
  rw [show ((hd + its.length) % 17 + 17 - hd) % 17 = its.length by omega]
  refine zW.iret dJ4_size_16 rfl (rfl) ?_
  exact ⟨rfl, rfl⟩
theorem w_dqEmpty (hQ : cDQ h a ar hd its) : zK G mJ4_isEmpty 1 0 [.ref a] h (zPu h (some (.int (nI (if its = [] then 1 else 0))))) := by
  obtain ⟨⟨h1, h2⟩, ha, f, har, hf⟩ := hQ
  show zW G mJ4_isEmpty 1 0 0 [.ref a] [] h _
  refine zW.aload_n (pc' := 1) dJ4_isEmpty_0 rfl rfl zg0 rfl ?_
  refine zW.get (pc' := 4) dJ4_isEmpty_1 rfl f_J4_24_9 ha ⟨rfl, (Nat.le_of_ble_eq_true rfl)⟩ rfl ?_
  refine zW.aload_n (pc' := 5) dJ4_isEmpty_4 rfl rfl zg0 rfl ?_
  refine zW.get (pc' := 8) dJ4_isEmpty_5 rfl f_J4_20_9 ha ⟨rfl, (Nat.le_of_ble_eq_true rfl)⟩ rfl ?_
  refine zW.icmp_neN (pc' := 11) 15 dJ4_isEmpty_8 rfl (by decide) (by omega) (by omega) (fun b1 => ?_) (fun b1 => ?_)
  · refine zW.iconst (pc' := 16) (nI 0) dJ4_isEmpty_15 rfl (by decide) ?_
    refine zW.iret dJ4_isEmpty_16 rfl (rfl) ?_
    rw [if_neg (fun q => b1 (by rw [q]; exact (Nat.mod_eq_of_lt h1).symm))]
    exact ⟨rfl, rfl⟩
  · refine zW.iconst (pc' := 12) (nI 1) dJ4_isEmpty_11 rfl (by decide) ?_
    refine zW.goto 16 dJ4_isEmpty_12 (by decide) ?_
    refine zW.iret dJ4_isEmpty_16 rfl (rfl) ?_
    rw [if_pos (List.length_eq_zero_iff.mp (by omega))]
    exact ⟨rfl, rfl⟩
theorem w_dqAt {f : Nat → Option Nat} {j : Nat} (har : h ar = some (104, qtab f)) (hj : j < 17) : zK G mJ4_elementAt 1 0 [.ref ar, .int (nI j)] h (zPu h (some (zrf (f j)))) := by
  show zW G mJ4_elementAt 1 0 0 [.ref ar, .int (nI j)] [] h _
  refine zW.aload_n (pc' := 1) dJ4_elementAt_0 rfl rfl zg0 rfl ?_
  refine zW.iload_n (pc' := 2) dJ4_elementAt_1 rfl rfl (zgS (zg0)) ?_
  refine zW.aaldQ (pc' := 3) dJ4_elementAt_2 rfl har (⟨hj, by decide⟩) ?_
  refine zW.aret dJ4_elementAt_3 rfl (Or.inl ⟨_, rfl⟩) zrf_ir ?_
  exact ⟨rfl, rfl⟩
theorem w_dqAtN {f : Nat → Option Nat} {j x : Nat} (har : h ar = some (104, qtab f)) (hj : j < 17) (hx : f j = some x) : zK G mJ4_nonNullElementAt 1 0 [.ref ar, .int (nI j)] h (zPu h (some (.ref x))) := by
  show zW G mJ4_nonNullElementAt 1 0 0 [.ref ar, .int (nI j), zho] [] h _
  refine zW.aload_n (pc' := 1) dJ4_nonNullElementAt_0 rfl rfl zg0 rfl ?_
  refine zW.iload_n (pc' := 2) dJ4_nonNullElementAt_1 rfl rfl (zgS (zg0)) ?_
  refine zW.aaldQ (pc' := 3) dJ4_nonNullElementAt_2 rfl har (⟨hj, by decide⟩) ?_
  rw [hx]
  refine zW.astore_n (pc' := 4) dJ4_nonNullElementAt_3 rfl rfl (Nat.le_of_ble_eq_true rfl) zrf_ir (zsS (zsS (zs0))) ?_
  refine zW.aload_n (pc' := 5) dJ4_nonNullElementAt_4 rfl rfl (zgS (zgS (zg0))) zrf_ir ?_
  refine zW.ifnonnull (pc' := 8) 16 dJ4_nonNullElementAt_5 rfl (by decide) zrf_ir (fun b1 => ?_) (fun b1 => ?_)
  rotate_left
  · cases b1
  refine zW.aload_n (pc' := 17) dJ4_nonNullElementAt_16 rfl rfl (zgS (zgS (zg0))) zrf_ir ?_
  refine zW.aret dJ4_nonNullElementAt_17 rfl (Or.inl ⟨_, rfl⟩) rfl ?_
  exact ⟨rfl, rfl⟩
/-- a new deque -/
theorem w_dqInit {x : Value} (ha : h a = some (9, [x, .int 0, .int 0])) : zK G mJ4_init 2 5 [.ref a] h (zO fun v h' => v = none ∧ ∃ ar, h ar = none ∧ cDQ h' a ar 0 [] ∧ zfr (fun b => b = a) h h') := by
  have hf := zfr.rf (A := fun b => b = a) (h := h)
  have k0 : zK G mJ0_init 1 0 [.ref a] h (zPu h none) := by
    show zW G mJ0_init 1 0 0 [.ref a] [] h _
    refine zW.aload_n (pc' := 1) dJ0_init_0 rfl rfl zg0 rfl ?_
    refine zW.objInit (pc' := 4) dJ0_init_1 rfl (lw_all_tbl q173) (lw_all_tbl q151) (lw_all_tbl q152) (Nat.le_of_ble_eq_true rfl) (Nat.le_of_ble_eq_true rfl) ?_
    refine zW.vret dJ0_init_4 rfl ?_
    exact ⟨rfl, rfl⟩
  show zW G mJ4_init 2 5 0 [.ref a] [] h _
  refine zW.aload_n (pc' := 1) dJ4_init_0 rfl rfl zg0 rfl ?_
  refine zW.callI (r' := 0) (pc' := 4) dJ4_init_1 rfl l_J4_42 rfl (k0) zc0 rfl (Nat.le_of_ble_eq_true rfl) (Nat.le_of_ble_eq_true rfl) (Nat.le_of_ble_eq_true rfl) (fun _ _ q9 => ?_) (fun _ _ q9 => by cases q9.1)
  obtain ⟨q8, e9⟩ := q9
  cases q8
  replace e9 := e9.symm
  subst e9
  refine zW.aload_n (pc' := 5) dJ4_init_4 rfl rfl zg0 rfl ?_
  refine zW.bipush (pc' := 7) (nI 17) dJ4_init_5 rfl (by decide) ?_
  refine zW.anewK (u := 5) (N := 17) (pc' := 10) dJ4_init_7 rfl (lw_all_tbl q201) q202 (by decide) (by decide) (by decide) ⟨by decide, by decide⟩ rfl (fun ar _ nar e9 k9 => ?_)
  have ha := zpres e9 (zfresh nar ha) ha
  have oar := hf.nn0 nar
  have hf := hf.new e9 nar
  have har := k9
  clear k9
  refine zW.putK (pc' := 13) dJ4_init_10 rfl f_J4_3_9 ha ⟨⟨rfl, (Nat.le_of_ble_eq_true rfl)⟩, (Nat.le_of_ble_eq_true rfl)⟩ (zFw.of ft_9_0 rfl rfl) zs0 (fun _ e9 k9 => ?_)
  have har := zpres e9 (zne har ha (by decide)) har
  have hf := hf.put e9 ha (by decide) (Or.inl rfl)
  replace ha := k9
  clear e9 k9
  refine zW.vret dJ4_init_13 rfl ?_
  exact ⟨_, rfl, rfl, ar, oar, ⟨⟨by decide, by decide⟩, ha, fun _ => none, har, (fun i x e => by cases e)⟩, hf⟩
theorem w_dqAddLast (hQ : cDQ h a ar hd its) (hl : its.length ≤ 15) {x : Nat} {cb : zC} (hx : h x = some cb) (hO : zObj cb) (hxa : x ≠ a) : zK G mJ4_addLast 2 0 [.ref a, .ref x] h (zO fun v h' => v = none ∧ cDQ h' a ar hd (its ++ [x]) ∧ zfr (cDf a ar) h h') := by
  obtain ⟨⟨h1, h2⟩, ha, f, har, hf⟩ := hQ
  have z := zfr.rf (A := cDf a ar) (h := h)
  have hm : (hd + its.length) % 17 < 17 := Nat.mod_lt _ (by decide)
  show zW G mJ4_addLast 2 0 0 [.ref a, .ref x, zho] [] h _
  refine zW.aload_n (pc' := 1) dJ4_addLast_0 rfl rfl (zgS (zg0)) rfl ?_
  refine zW.ifnonnull (pc' := 4) 12 dJ4_addLast_1 rfl (by decide) rfl (fun b1 => ?_) (fun b1 => ?_)
  rotate_left
  · cases b1
  refine zW.aload_n (pc' := 13) dJ4_addLast_12 rfl rfl zg0 rfl ?_
  refine zW.get (pc' := 16) dJ4_addLast_13 rfl f_J4_3_9 ha ⟨rfl, (Nat.le_of_ble_eq_true rfl)⟩ rfl ?_
  refine zW.astore_n (pc' := 17) dJ4_addLast_16 rfl rfl (Nat.le_of_ble_eq_true rfl) rfl (zsS (zsS (zs0))) ?_
  refine zW.aload_n (pc' := 18) dJ4_addLast_17 rfl rfl (zgS (zgS (zg0))) rfl ?_
  refine zW.aload_n (pc' := 19) dJ4_addLast_18 rfl rfl zg0 rfl ?_
  refine zW.get (pc' := 22) dJ4_addLast_19 rfl f_J4_20_9 ha ⟨rfl, (Nat.le_of_ble_eq_true rfl)⟩ rfl ?_
  refine zW.aload_n (pc' := 23) dJ4_addLast_22 rfl rfl (zgS (zg0)) rfl ?_
  refine zW.aastQK (pc' := 24) dJ4_addLast_23 rfl har (by omega) hx hO (fun _ e9 k9 => ?_)
  have ha := zpres e9 (zne ha har (by decide)) ha
  have z := z.put e9 har (by decide) (Or.inl (Or.inr rfl))
  replace har := k9
  clear e9 k9
  refine zW.aload_n (pc' := 25) dJ4_addLast_24 rfl rfl zg0 rfl ?_
  refine zW.get (pc' := 28) dJ4_addLast_25 rfl f_J4_24_9 ha ⟨rfl, (Nat.le_of_ble_eq_true rfl)⟩ rfl ?_
  refine zW.aload_n (pc' := 29) dJ4_addLast_28 rfl rfl zg0 rfl ?_
  refine zW.aload_n (pc' := 30) dJ4_addLast_29 rfl rfl zg0 rfl ?_
  refine zW.get (pc' := 33) dJ4_addLast_30 rfl f_J4_20_9 ha ⟨rfl, (Nat.le_of_ble_eq_true rfl)⟩ rfl ?_
  refine zW.aload_n (pc' := 34) dJ4_addLast_33 rfl rfl (zgS (zgS (zg0))) rfl ?_
  refine zW.alen (pc' := 35) dJ4_addLast_34 rfl har (by decide) qtab_n ?_
  refine zW.callS (r' := 0) (pc' := 38) dJ4_addLast_35 rfl l_J4_74 rfl (w_dqInc hm) (zcc rfl (zcc rfl zc0)) rfl (Nat.le_of_ble_eq_true rfl) (Nat.le_of_ble_eq_true rfl) (Nat.le_of_ble_eq_true rfl) (fun _ _ q9 => ?_) (fun _ _ q9 => by cases q9.1)
  obtain ⟨q8, e9⟩ := q9
  cases q8
  replace e9 := e9.symm
  subst e9
  refine zW.dup_x1 (pc' := 39) dJ4_addLast_38 rfl rfl rfl ?_
  refine zW.putK (pc' := 42) dJ4_addLast_39 rfl f_J4_20_9 ha ⟨⟨rfl, (Nat.le_of_ble_eq_true rfl)⟩, (Nat.le_of_ble_eq_true rfl)⟩ (zFw.of ft_9_2 rfl rfl) (zsS (zsS (zs0))) (fun _ e9 k9 => ?_)
  have har := zpres e9 (zne har ha (by decide)) har
  have z := z.put e9 ha (by decide) (Or.inl (Or.inl rfl))
  replace ha := k9
  clear e9 k9
  refine zW.icmp_neN (pc' := 45) 50 dJ4_addLast_42 rfl (by decide) (by omega) (by omega) (fun b9 => ?_) (fun b9 => absurd b9 (by omega))
  refine zW.vret dJ4_addLast_50 rfl ?_
  refine ⟨_, rfl, rfl, ⟨⟨h1, by rw [List.length_append, List.length_singleton]; omega⟩, ?_, _, har, fun i y e => ?_⟩, z⟩
  · rw [List.length_append, List.length_singleton, show (hd + (its.length + 1)) % 17 = ((hd + its.length) % 17 + 1) % 17 by omega]
    exact ha
  · by_cases q : i < its.length
    · rw [List.getElem?_append_left q] at e
      rw [zuo_n (by omega)]
      exact hf i y e
    · rw [List.getElem?_append_right (by omega)] at e
      have hi1 := (List.getElem?_eq_some_iff.mp e).1
      rw [List.length_singleton] at hi1
      have hi2 : i = its.length := by omega
      subst hi2
      rw [Nat.sub_self] at e
      cases e
      exact zuo_s
theorem w_dqAddFirst (hQ : cDQ h a ar hd its) (hl : its.length ≤ 15) {x : Nat} {cb : zC} (hx : h x = some cb) (hO : zObj cb) (hxa : x ≠ a) : zK G mJ4_addFirst 2 0 [.ref a, .ref x] h (zO fun v h' => v = none ∧ cDQ h' a ar ((hd + 16) % 17) (x :: its) ∧ zfr (cDf a ar) h h') := by
  obtain ⟨⟨h1, h2⟩, ha, f, har, hf⟩ := hQ
  have z := zfr.rf (A := cDf a ar) (h := h)
  have hm : (hd + 16) % 17 < 17 := Nat.mod_lt _ (by decide)
  show zW G mJ4_addFirst 2 0 0 [.ref a, .ref x, zho] [] h _
  refine zW.aload_n (pc' := 1) dJ4_addFirst_0 rfl rfl (zgS (zg0)) rfl ?_
  refine zW.ifnonnull (pc' := 4) 12 dJ4_addFirst_1 rfl (by decide) rfl (fun b1 => ?_) (fun b1 => ?_)
  rotate_left
  · cases b1
  refine zW.aload_n (pc' := 13) dJ4_addFirst_12 rfl rfl zg0 rfl ?_
  refine zW.get (pc' := 16) dJ4_addFirst_13 rfl f_J4_3_9 ha ⟨rfl, (Nat.le_of_ble_eq_true rfl)⟩ rfl ?_
  refine zW.astore_n (pc' := 17) dJ4_addFirst_16 rfl rfl (Nat.le_of_ble_eq_true rfl) rfl (zsS (zsS (zs0))) ?_
  refine zW.aload_n (pc' := 18) dJ4_addFirst_17 rfl rfl (zgS (zgS (zg0))) rfl ?_
  refine zW.aload_n (pc' := 19) dJ4_addFirst_18 rfl rfl zg0 rfl ?_
  refine zW.aload_n (pc' := 20) dJ4_addFirst_19 rfl rfl zg0 rfl ?_
  refine zW.get (pc' := 23) dJ4_addFirst_20 rfl f_J4_24_9 ha ⟨rfl, (Nat.le_of_ble_eq_true rfl)⟩ rfl ?_
  refine zW.aload_n (pc' := 24) dJ4_addFirst_23 rfl rfl (zgS (zgS (zg0))) rfl ?_
  refine zW.alen (pc' := 25) dJ4_addFirst_24 rfl har (by decide) qtab_n ?_
  refine zW.callS (r' := 0) (pc' := 28) dJ4_addFirst_25 rfl l_J4_68 rfl (w_dqDec h1) (zcc rfl (zcc rfl zc0)) rfl (Nat.le_of_ble_eq_true rfl) (Nat.le_of_ble_eq_true rfl) (Nat.le_of_ble_eq_true rfl) (fun _ _ q9 => ?_) (fun _ _ q9 => by cases q9.1)
  obtain ⟨q8, e9⟩ := q9
  cases q8
  replace e9 := e9.symm
  subst e9
  refine zW.dup_x1 (pc' := 29) dJ4_addFirst_28 rfl rfl rfl ?_
  refine zW.putK (pc' := 32) dJ4_addFirst_29 rfl f_J4_24_9 ha ⟨⟨rfl, (Nat.le_of_ble_eq_true rfl)⟩, (Nat.le_of_ble_eq_true rfl)⟩ (zFw.of ft_9_1 rfl rfl) (zsS (zs0)) (fun _ e9 k9 => ?_)
  have har := zpres e9 (zne har ha (by decide)) har
  have hx := zpres e9 hxa hx
  have z := z.put e9 ha (by decide) (Or.inl (Or.inl rfl))
  replace ha := k9
  clear e9 k9
  refine zW.aload_n (pc' := 33) dJ4_addFirst_32 rfl rfl (zgS (zg0)) rfl ?_
  refine zW.aastQK (pc' := 34) dJ4_addFirst_33 rfl har (by omega) hx hO (fun _ e9 k9 => ?_)
  have ha := zpres e9 (zne ha har (by decide)) ha
  have z := z.put e9 har (by decide) (Or.inl (Or.inr rfl))
  replace har := k9
  clear e9 k9
  refine zW.aload_n (pc' := 35) dJ4_addFirst_34 rfl rfl zg0 rfl ?_
  refine zW.get (pc' := 38) dJ4_addFirst_35 rfl f_J4_24_9 ha ⟨rfl, (Nat.le_of_ble_eq_true rfl)⟩ rfl ?_
  refine zW.aload_n (pc' := 39) dJ4_addFirst_38 rfl rfl zg0 rfl ?_
  refine zW.get (pc' := 42) dJ4_addFirst_39 rfl f_J4_20_9 ha ⟨rfl, (Nat.le_of_ble_eq_true rfl)⟩ rfl ?_
  refine zW.icmp_neN (pc' := 45) 50 dJ4_addFirst_42 rfl (by decide) (by omega) (by omega) (fun b9 => ?_) (fun b9 => absurd b9 (by omega))
  refine zW.vret dJ4_addFirst_50 rfl ?_
  refine ⟨_, rfl, rfl, ⟨⟨hm, by rw [List.length_cons]; omega⟩, ?_, _, har, fun i y e => ?_⟩, z⟩
  · rw [List.length_cons, show ((hd + 16) % 17 + (its.length + 1)) % 17 = (hd + its.length) % 17 by omega]
    exact ha
  · cases i with
    | zero =>
      cases e
      rw [show ((hd + 16) % 17 + 0) % 17 = (hd + 16) % 17 by omega]
      exact zuo_s
    | succ i =>
      have hi := (List.getElem?_eq_some_iff.mp e).1
      rw [List.length_cons] at hi
      rw [zuo_n (by omega), show ((hd + 16) % 17 + (i + 1)) % 17 = (hd + i) % 17 by omega]
      exact hf i y e
theorem w_dqFirst {x : Nat} (hQ : cDQ h a ar hd (x :: its)) : zK G mJ4_getFirst 2 0 [.ref a] h (zPu h (some (.ref x))) := by
  obtain ⟨⟨h1, h2⟩, ha, f, har, hf⟩ := hQ
  have h0 := hf 0 x rfl
  rw [Nat.add_zero, Nat.mod_eq_of_lt h1] at h0
  show zW G mJ4_getFirst 2 0 0 [.ref a, zho] [] h _
  refine zW.aload_n (pc' := 1) dJ4_getFirst_0 rfl rfl zg0 rfl ?_
  refine zW.get (pc' := 4) dJ4_getFirst_1 rfl f_J4_3_9 ha ⟨rfl, (Nat.le_of_ble_eq_true rfl)⟩ rfl ?_
  refine zW.aload_n (pc' := 5) dJ4_getFirst_4 rfl rfl zg0 rfl ?_
  refine zW.get (pc' := 8) dJ4_getFirst_5 rfl f_J4_24_9 ha ⟨rfl, (Nat.le_of_ble_eq_true rfl)⟩ rfl ?_
  refine zW.callS (r' := 0) (pc' := 11) dJ4_getFirst_8 rfl l_J4_103 rfl (w_dqAt har h1) (zcc rfl (zcc rfl zc0)) rfl (Nat.le_of_ble_eq_true rfl) (Nat.le_of_ble_eq_true rfl) (Nat.le_of_ble_eq_true rfl) (fun _ _ q9 => ?_) (fun _ _ q9 => by cases q9.1)
  obtain ⟨q8, e9⟩ := q9
  cases q8
  replace e9 := e9.symm
  subst e9
  rw [h0]
  refine zW.astore_n (pc' := 12) dJ4_getFirst_11 rfl rfl (Nat.le_of_ble_eq_true rfl) zrf_ir (zsS (zs0)) ?_
  refine zW.aload_n (pc' := 13) dJ4_getFirst_12 rfl rfl (zgS (zg0)) zrf_ir ?_
  refine zW.ifnonnull (pc' := 16) 24 dJ4_getFirst_13 rfl (by decide) zrf_ir (fun b1 => ?_) (fun b1 => ?_)
  rotate_left
  · cases b1
  refine zW.aload_n (pc' := 25) dJ4_getFirst_24 rfl rfl (zgS (zg0)) zrf_ir ?_
  refine zW.aret dJ4_getFirst_25 rfl (Or.inl ⟨_, rfl⟩) rfl ?_
  exact ⟨rfl, rfl⟩
theorem w_dqPollFirst {x : Nat} (hQ : cDQ h a ar hd (x :: its)) : zK G mJ4_pollFirst 2 0 [.ref a] h (zO fun v h' => v = some (.ref x) ∧ cDQ h' a ar ((hd + 1) % 17) its ∧ zfr (cDf a ar) h h') := by
  obtain ⟨⟨h1, h2⟩, ha, f, har, hf⟩ := hQ
  rw [List.length_cons] at h2 ha
  have h0 := hf 0 x rfl
  rw [Nat.add_zero, Nat.mod_eq_of_lt h1] at h0
  have z := zfr.rf (A := cDf a ar) (h := h)
  show zW G mJ4_pollFirst 2 0 0 [.ref a, zho, zho, zho] [] h _
  refine zW.aload_n (pc' := 1) dJ4_pollFirst_0 rfl rfl zg0 rfl ?_
  refine zW.get (pc' := 4) dJ4_pollFirst_1 rfl f_J4_3_9 ha ⟨rfl, (Nat.le_of_ble_eq_true rfl)⟩ rfl ?_
  refine zW.dup (pc' := 5) dJ4_pollFirst_4 rfl rfl ?_
  refine zW.astore_n (pc' := 6) dJ4_pollFirst_5 rfl rfl (Nat.le_of_ble_eq_true rfl) rfl (zsS (zs0)) ?_
  refine zW.aload_n (pc' := 7) dJ4_pollFirst_6 rfl rfl zg0 rfl ?_
  refine zW.get (pc' := 10) dJ4_pollFirst_7 rfl f_J4_24_9 ha ⟨rfl, (Nat.le_of_ble_eq_true rfl)⟩ rfl ?_
  refine zW.dup (pc' := 11) dJ4_pollFirst_10 rfl rfl ?_
  refine zW.istore_n (pc' := 12) dJ4_pollFirst_11 rfl rfl (Nat.le_of_ble_eq_true rfl) (zsS (zsS (zs0))) ?_
  refine zW.callS (r' := 0) (pc' := 15) dJ4_pollFirst_12 rfl l_J4_103 rfl (w_dqAt har h1) (zcc rfl (zcc rfl zc0)) rfl (Nat.le_of_ble_eq_true rfl) (Nat.le_of_ble_eq_true rfl) (Nat.le_of_ble_eq_true rfl) (fun _ _ q9 => ?_) (fun _ _ q9 => by cases q9.1)
  obtain ⟨q8, e9⟩ := q9
  cases q8
  replace e9 := e9.symm
  subst e9
  rw [h0]
  refine zW.astore_n (pc' := 16) dJ4_pollFirst_15 rfl rfl (Nat.le_of_ble_eq_true rfl) zrf_ir (zsS (zsS (zsS (zs0)))) ?_
  refine zW.aload_n (pc' := 17) dJ4_pollFirst_16 rfl rfl (zgS (zgS (zgS (zg0)))) zrf_ir ?_
  refine zW.ifnull (pc' := 20) 34 dJ4_pollFirst_17 rfl (by decide) zrf_ir (fun b1 => ?_) (fun b1 => ?_)
  · cases b1
  refine zW.aload_n (pc' := 21) dJ4_pollFirst_20 rfl rfl (zgS (zg0)) rfl ?_
  refine zW.iload_n (pc' := 22) dJ4_pollFirst_21 rfl rfl (zgS (zgS (zg0))) ?_
  refine zW.null (pc' := 23) dJ4_pollFirst_22 rfl ?_
  refine zW.aastNK (pc' := 24) dJ4_pollFirst_23 rfl har (by omega) (fun _ e9 k9 => ?_)
  have ha := zpres e9 (zne ha har (by decide)) ha
  have z := z.put e9 har (by decide) (Or.inl (Or.inr rfl))
  replace har := k9
  clear e9 k9
  refine zW.aload_n (pc' := 25) dJ4_pollFirst_24 rfl rfl zg0 rfl ?_
  refine zW.iload_n (pc' := 26) dJ4_pollFirst_25 rfl rfl (zgS (zgS (zg0))) ?_
  refine zW.aload_n (pc' := 27) dJ4_pollFirst_26 rfl rfl (zgS (zg0)) rfl ?_
  refine zW.alen (pc' := 28) dJ4_pollFirst_27 rfl har (by decide) qtab_n ?_
  refine zW.callS (r' := 0) (pc' := 31) dJ4_pollFirst_28 rfl l_J4_74 rfl (w_dqInc h1) (zcc rfl (zcc rfl zc0)) rfl (Nat.le_of_ble_eq_true rfl) (Nat.le_of_ble_eq_true rfl) (Nat.le_of_ble_eq_true rfl) (fun _ _ q9 => ?_) (fun _ _ q9 => by cases q9.1)
  obtain ⟨q8, e9⟩ := q9
  cases q8
  replace e9 := e9.symm
  subst e9
  refine zW.putK (pc' := 34) dJ4_pollFirst_31 rfl f_J4_24_9 ha ⟨⟨rfl, (Nat.le_of_ble_eq_true rfl)⟩, (Nat.le_of_ble_eq_true rfl)⟩ (zFw.of ft_9_1 rfl rfl) (zsS (zs0)) (fun _ e9 k9 => ?_)
  have har := zpres e9 (zne har ha (by decide)) har
  have z := z.put e9 ha (by decide) (Or.inl (Or.inl rfl))
  replace ha := k9
  clear e9 k9
  refine zW.aload_n (pc' := 35) dJ4_pollFirst_34 rfl rfl (zgS (zgS (zgS (zg0)))) zrf_ir ?_
  refine zW.aret dJ4_pollFirst_35 rfl (Or.inl ⟨_, rfl⟩) rfl ?_
  refine ⟨_, rfl, rfl, ⟨⟨Nat.mod_lt _ (by decide), by omega⟩, ?_, _, har, fun i y e => ?_⟩, z⟩
  · rw [show ((hd + 1) % 17 + its.length) % 17 = (hd + (its.length + 1)) % 17 by omega]
    exact ha
  · have hi := (List.getElem?_eq_some_iff.mp e).1
    rw [zuo_n (by omega), show ((hd + 1) % 17 + i) % 17 = (hd + (i + 1)) % 17 by omega]
    exact hf (i + 1) y e
theorem w_dqRemFirst {x : Nat} (hQ : cDQ h a ar hd (x :: its)) : zK G mJ4_removeFirst 3 0 [.ref a] h (zO fun v h' => v = some (.ref x) ∧ cDQ h' a ar ((hd + 1) % 17) its ∧ zfr (cDf a ar) h h') := by
  have ha := hQ.2.1
  show zW G mJ4_removeFirst 3 0 0 [.ref a, zho] [] h _
  refine zW.aload_n (pc' := 1) dJ4_removeFirst_0 rfl rfl zg0 rfl ?_
  refine zW.callV (r' := 0) (pc' := 4) dJ4_removeFirst_1 rfl l_J4_93 rfl ha ⟨rfl, (Nat.le_of_ble_eq_true rfl)⟩ rfl (w_dqPollFirst hQ) zc0 rfl (Nat.le_of_ble_eq_true rfl) (Nat.le_of_ble_eq_true rfl) (Nat.le_of_ble_eq_true rfl) (fun _ _ q9 => ?_) (fun _ _ q9 => absurd q9 zO.no)
  obtain ⟨_, q8, e1, e2⟩ := q9
  cases q8
  subst e1
  refine zW.astore_n (pc' := 5) dJ4_removeFirst_4 rfl rfl (Nat.le_of_ble_eq_true rfl) rfl (zsS (zs0)) ?_
  refine zW.aload_n (pc' := 6) dJ4_removeFirst_5 rfl rfl (zgS (zg0)) rfl ?_
  refine zW.ifnonnull (pc' := 9) 17 dJ4_removeFirst_6 rfl (by decide) rfl (fun b1 => ?_) (fun b1 => ?_)
  rotate_left
  · cases b1
  refine zW.aload_n (pc' := 18) dJ4_removeFirst_17 rfl rfl (zgS (zg0)) rfl ?_
  refine zW.aret dJ4_removeFirst_18 rfl (Or.inl ⟨_, rfl⟩) rfl ?_
  exact ⟨_, rfl, rfl, e2⟩
theorem w_dqPollLast {x : Nat} (hQ : cDQ h a ar hd (its ++ [x])) : zK G mJ4_pollLast 2 0 [.ref a] h (zO fun v h' => v = some (.ref x) ∧ cDQ h' a ar hd its ∧ zfr (cDf a ar) h h') := by
  obtain ⟨⟨h1, h2⟩, ha, f, har, hf⟩ := hQ
  rw [List.length_append, List.length_singleton] at h2 ha
  have h0 := hf its.length x (by rw [List.getElem?_append_right (Nat.le_refl _), Nat.sub_self]; rfl)
  have hm : (hd + (its.length + 1)) % 17 < 17 := Nat.mod_lt _ (by decide)
  have em : ((hd + (its.length + 1)) % 17 + 16) % 17 = (hd + its.length) % 17 := by omega
  have hm2 : (hd + its.length) % 17 < 17 := Nat.mod_lt _ (by decide)
  have z := zfr.rf (A := cDf a ar) (h := h)
  show zW G mJ4_pollLast 2 0 0 [.ref a, zho, zho, zho] [] h _
  refine zW.aload_n (pc' := 1) dJ4_pollLast_0 rfl rfl zg0 rfl ?_
  refine zW.get (pc' := 4) dJ4_pollLast_1 rfl f_J4_3_9 ha ⟨rfl, (Nat.le_of_ble_eq_true rfl)⟩ rfl ?_
  refine zW.dup (pc' := 5) dJ4_pollLast_4 rfl rfl ?_
  refine zW.astore_n (pc' := 6) dJ4_pollLast_5 rfl rfl (Nat.le_of_ble_eq_true rfl) rfl (zsS (zs0)) ?_
  refine zW.aload_n (pc' := 7) dJ4_pollLast_6 rfl rfl zg0 rfl ?_
  refine zW.get (pc' := 10) dJ4_pollLast_7 rfl f_J4_20_9 ha ⟨rfl, (Nat.le_of_ble_eq_true rfl)⟩ rfl ?_
  refine zW.aload_n (pc' := 11) dJ4_pollLast_10 rfl rfl (zgS (zg0)) rfl ?_
  refine zW.alen (pc' := 12) dJ4_pollLast_11 rfl har (by decide) qtab_n ?_
  refine zW.callS (r' := 0) (pc' := 15) dJ4_pollLast_12 rfl l_J4_68 rfl (w_dqDec hm) (zcc rfl (zcc rfl zc0)) rfl (Nat.le_of_ble_eq_true rfl) (Nat.le_of_ble_eq_true rfl) (Nat.le_of_ble_eq_true rfl) (fun _ _ q9 => ?_) (fun _ _ q9 => by cases q9.1)
  obtain ⟨q8, e9⟩ := q9
  cases q8
  replace e9 := e9.symm
  subst e9
  rw [em]
  refine zW.dup (pc' := 16) dJ4_pollLast_15 rfl rfl ?_
  refine zW.istore_n (pc' := 17) dJ4_pollLast_16 rfl rfl (Nat.le_of_ble_eq_true rfl) (zsS (zsS (zs0))) ?_
  refine zW.callS (r' := 0) (pc' := 20) dJ4_pollLast_17 rfl l_J4_103 rfl (w_dqAt har hm2) (zcc rfl (zcc rfl zc0)) rfl (Nat.le_of_ble_eq_true rfl) (Nat.le_of_ble_eq_true rfl) (Nat.le_of_ble_eq_true rfl) (fun _ _ q9 => ?_) (fun _ _ q9 => by cases q9.1)
  obtain ⟨q8, e9⟩ := q9
  cases q8
  replace e9 := e9.symm
  subst e9
  rw [h0]
  refine zW.astore_n (pc' := 21) dJ4_pollLast_20 rfl rfl (Nat.le_of_ble_eq_true rfl) zrf_ir (zsS (zsS (zsS (zs0)))) ?_
  refine zW.aload_n (pc' := 22) dJ4_pollLast_21 rfl rfl (zgS (zgS (zgS (zg0)))) zrf_ir ?_
  refine zW.ifnull (pc' := 25) 34 dJ4_pollLast_22 rfl (by decide) zrf_ir (fun b1 => ?_) (fun b1 => ?_)
  · cases b1
  refine zW.aload_n (pc' := 26) dJ4_pollLast_25 rfl rfl (zgS (zg0)) rfl ?_
  refine zW.aload_n (pc' := 27) dJ4_pollLast_26 rfl rfl zg0 rfl ?_
  refine zW.iload_n (pc' := 28) dJ4_pollLast_27 rfl rfl (zgS (zgS (zg0))) ?_
  refine zW.dup_x1 (pc' := 29) dJ4_pollLast_28 rfl rfl rfl ?_
  refine zW.putK (pc' := 32) dJ4_pollLast_29 rfl f_J4_20_9 ha ⟨⟨rfl, (Nat.le_of_ble_eq_true rfl)⟩, (Nat.le_of_ble_eq_true rfl)⟩ (zFw.of ft_9_2 rfl rfl) (zsS (zsS (zs0))) (fun _ e9 k9 => ?_)
  have har := zpres e9 (zne har ha (by decide)) har
  have z := z.put e9 ha (by decide) (Or.inl (Or.inl rfl))
  replace ha := k9
  clear e9 k9
  refine zW.null (pc' := 33) dJ4_pollLast_32 rfl ?_
  refine zW.aastNK (pc' := 34) dJ4_pollLast_33 rfl har (by omega) (fun _ e9 k9 => ?_)
  have ha := zpres e9 (zne ha har (by decide)) ha
  have z := z.put e9 har (by decide) (Or.inl (Or.inr rfl))
  replace har := k9
  clear e9 k9
  refine zW.aload_n (pc' := 35) dJ4_pollLast_34 rfl rfl (zgS (zgS (zgS (zg0)))) zrf_ir ?_
  refine zW.aret dJ4_pollLast_35 rfl (Or.inl ⟨_, rfl⟩) rfl ?_
  refine ⟨_, rfl, rfl, ⟨⟨h1, by omega⟩, ha, _, har, fun i y e => ?_⟩, z⟩
  have hi := (List.getElem?_eq_some_iff.mp e).1
  rw [zuo_n (by omega)]
  exact hf i y (by rw [List.getElem?_append_left hi]; exact e)
theorem w_dqRemLast {x : Nat} (hQ : cDQ h a ar hd (its ++ [x])) : zK G mJ4_removeLast 3 0 [.ref a] h (zO fun v h' => v = some (.ref x) ∧ cDQ h' a ar hd its ∧ zfr (cDf a ar) h h') := by
  have ha := hQ.2.1
  show zW G mJ4_removeLast 3 0 0 [.ref a, zho] [] h _
  refine zW.aload_n (pc' := 1) dJ4_removeLast_0 rfl rfl zg0 rfl ?_
  refine zW.callV (r' := 0) (pc' := 4) dJ4_removeLast_1 rfl l_J4_100 rfl ha ⟨rfl, (Nat.le_of_ble_eq_true rfl)⟩ rfl (w_dqPollLast hQ) zc0 rfl (Nat.le_of_ble_eq_true rfl) (Nat.le_of_ble_eq_true rfl) (Nat.le_of_ble_eq_true rfl) (fun _ _ q9 => ?_) (fun _ _ q9 => absurd q9 zO.no)
  obtain ⟨_, q8, e1, e2⟩ := q9
  cases q8
  subst e1
  refine zW.astore_n (pc' := 5) dJ4_removeLast_4 rfl rfl (Nat.le_of_ble_eq_true rfl) rfl (zsS (zs0)) ?_
  refine zW.aload_n (pc' := 6) dJ4_removeLast_5 rfl rfl (zgS (zg0)) rfl ?_
  refine zW.ifnonnull (pc' := 9) 17 dJ4_removeLast_6 rfl (by decide) rfl (fun b1 => ?_) (fun b1 => ?_)
  rotate_left
  · cases b1
  refine zW.aload_n (pc' := 18) dJ4_removeLast_17 rfl rfl (zgS (zg0)) rfl ?_
  refine zW.aret dJ4_removeLast_18 rfl (Or.inl ⟨_, rfl⟩) rfl ?_
  exact ⟨_, rfl, rfl, e2⟩
end
