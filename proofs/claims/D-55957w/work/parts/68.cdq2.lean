/-! ArrayDeque: iterators, taking out of the middle -/
section
set_option maxRecDepth 100000
variable {G : zG} {M : zM} {d r pc pc' : Nat} {L st : List Value} {h h' h0 : zH} {Q : zR → zH → Prop} {a ar hd it : Nat} {its : List Nat}
/-- a deque's iterator at k of n -/
abbrev cDi (a hd n k : Nat) (lr : Int32) : zC := (10, [.int (nI ((hd + k) % 17)), .int (nI (n - k)), .int lr, .ref a])
theorem cDQ.nk (hQ : cDQ h a ar hd its) {k : Nat} {l : List Value} (hi : h it = some (k, l)) (hk : k ≠ 9 ∧ k ≠ 104) : a ≠ it ∧ ar ≠ it := by
  obtain ⟨-, h2, f, h3, -⟩ := hQ
  exact ⟨zne h2 hi hk.1.symm, zne h3 hi hk.2.symm⟩
theorem cDQ.nn (hQ : cDQ h a ar hd its) (hi : h it = none) : a ≠ it ∧ ar ≠ it := by
  obtain ⟨-, h2, f, h3, -⟩ := hQ
  exact ⟨zfresh hi h2, zfresh hi h3⟩
theorem w_diInit (hQ : cDQ h a ar hd its) (hi : h it = some (10, [.int 0, .int 0, .int 0, .null])) : zK G mJ30_init 3 0 [.ref it, .ref a] h (zPk h none it (cDi a hd its.length 0 (-1))) := by
  have hn := hQ.nk hi ⟨by decide, by decide⟩
  have ha := hQ.2.1
  have hz := zfr.rf (A := fun b => b = it) (h := h)
  show zW G mJ30_init 3 0 0 [.ref it, .ref a] [] h _
  refine zW.aload_n (pc' := 1) dJ30_init_0 rfl rfl zg0 rfl ?_
  refine zW.aload_n (pc' := 2) dJ30_init_1 rfl rfl (zgS (zg0)) rfl ?_
  refine zW.putK (pc' := 5) dJ30_init_2 rfl f_J30_1_10 hi ⟨⟨rfl, (Nat.le_of_ble_eq_true rfl)⟩, (Nat.le_of_ble_eq_true rfl)⟩ (zFw.fin ft_10_3 rfl rfl rfl rfl rfl) (zsS (zsS (zsS (zs0)))) (fun _ e9 k9 => ?_)
  have ha := zpres e9 (zne ha hi (by decide)) ha
  have hz := hz.put e9 hi (by decide) (Or.inl rfl)
  have hq := e9
  replace hi := k9
  clear e9 k9
  refine zW.aload_n (pc' := 6) dJ30_init_5 rfl rfl zg0 rfl ?_
  refine zW.objInit (pc' := 9) dJ30_init_6 rfl (lw_all_tbl q1117) (lw_all_tbl q151) (lw_all_tbl q152) (Nat.le_of_ble_eq_true rfl) (Nat.le_of_ble_eq_true rfl) ?_
  refine zW.aload_n (pc' := 10) dJ30_init_9 rfl rfl zg0 rfl ?_
  refine zW.aload_n (pc' := 11) dJ30_init_10 rfl rfl zg0 rfl ?_
  refine zW.get (pc' := 14) dJ30_init_11 rfl f_J30_1_10 hi ⟨rfl, (Nat.le_of_ble_eq_true rfl)⟩ rfl ?_
  refine zW.callV (r' := 0) (pc' := 17) dJ30_init_14 rfl l_J30_13 rfl ha ⟨rfl, (Nat.le_of_ble_eq_true rfl)⟩ rfl (w_dqSize (hQ.fr hz hn.1 hn.2)) zc0 rfl (Nat.le_of_ble_eq_true rfl) (Nat.le_of_ble_eq_true rfl) (Nat.le_of_ble_eq_true rfl) (fun _ _ q9 => ?_) (fun _ _ q9 => by cases q9.1)
  obtain ⟨q8, e9⟩ := q9
  cases q8
  replace e9 := e9.symm
  subst e9
  refine zW.putK (pc' := 20) dJ30_init_17 rfl f_J30_19_10 hi ⟨⟨rfl, (Nat.le_of_ble_eq_true rfl)⟩, (Nat.le_of_ble_eq_true rfl)⟩ (zFw.of ft_10_1 rfl rfl) (zsS (zs0)) (fun _ e9 k9 => ?_)
  have ha := zpres e9 (zne ha hi (by decide)) ha
  have hz := hz.put e9 hi (by decide) (Or.inl rfl)
  have hq := ztrk hq e9
  replace hi := k9
  clear e9 k9
  refine zW.aload_n (pc' := 21) dJ30_init_20 rfl rfl zg0 rfl ?_
  refine zW.iconst (pc' := 22) (-1) dJ30_init_21 rfl (by decide) ?_
  refine zW.putK (pc' := 25) dJ30_init_22 rfl f_J30_23_10 hi ⟨⟨rfl, (Nat.le_of_ble_eq_true rfl)⟩, (Nat.le_of_ble_eq_true rfl)⟩ (zFw.of ft_10_2 rfl rfl) (zsS (zsS (zs0))) (fun _ e9 k9 => ?_)
  have ha := zpres e9 (zne ha hi (by decide)) ha
  have hz := hz.put e9 hi (by decide) (Or.inl rfl)
  have hq := ztrk hq e9
  replace hi := k9
  clear e9 k9
  refine zW.aload_n (pc' := 26) dJ30_init_25 rfl rfl zg0 rfl ?_
  refine zW.aload_n (pc' := 27) dJ30_init_26 rfl rfl (zgS (zg0)) rfl ?_
  refine zW.get (pc' := 30) dJ30_init_27 rfl f_J30_26_9 ha ⟨rfl, (Nat.le_of_ble_eq_true rfl)⟩ rfl ?_
  refine zW.putK (pc' := 33) dJ30_init_30 rfl f_J30_29_10 hi ⟨⟨rfl, (Nat.le_of_ble_eq_true rfl)⟩, (Nat.le_of_ble_eq_true rfl)⟩ (zFw.of ft_10_0 rfl rfl) zs0 (fun _ e9 k9 => ?_)
  have ha := zpres e9 (zne ha hi (by decide)) ha
  have hz := hz.put e9 hi (by decide) (Or.inl rfl)
  have hq := ztrk hq e9
  replace hi := k9
  clear e9 k9
  refine zW.vret dJ30_init_33 rfl ?_
  have e1 : nI ((hd + 0) % 17) = nI hd := by rw [Nat.add_zero, Nat.mod_eq_of_lt hQ.1.1]
  show zPk h none it (10, [.int (nI ((hd + 0) % 17)), .int (nI (its.length - 0)), .int (-1), .ref a]) _ _
  rw [e1]
  exact ⟨_, rfl, rfl, hq, hi⟩
theorem w_dqIter (hQ : cDQ h a ar hd its) : zK G mJ4_iterator 4 1 [.ref a] h (zO fun v h' => ∃ it, v = some (.ref it) ∧ h it = none ∧ h' = zup h it (cDi a hd its.length 0 (-1)) ∧ h' it = some (cDi a hd its.length 0 (-1))) := by
  show zW G mJ4_iterator 4 1 0 [.ref a] [] h _
  refine zW.newK (u := 1) (pc' := 3) dJ4_iterator_0 rfl n_J4_131 zd_10 (fun it _ nit e9 k9 => ?_)
  have hit := k9
  clear k9
  have eit := e9
  have hn := hQ.nn nit
  have hQ2 := hQ.mv (h' := _) fun b k l hb e => zpres eit (hb.elim (fun q => by rw [q]; exact hn.1) fun q => by rw [q]; exact hn.2) e
  refine zW.dup (pc' := 4) dJ4_iterator_3 rfl rfl ?_
  refine zW.aload_n (pc' := 5) dJ4_iterator_4 rfl rfl zg0 rfl ?_
  refine zW.callI (r' := 0) (pc' := 8) dJ4_iterator_5 rfl l_J4_133 rfl (w_diInit hQ2 hit) (zcc rfl zc0) rfl (Nat.le_of_ble_eq_true rfl) (Nat.le_of_ble_eq_true rfl) (Nat.le_of_ble_eq_true rfl) (fun _ _ q9 => ?_) (fun _ _ q9 => absurd q9 zO.no)
  obtain ⟨_, q8, e1, e9, k9⟩ := q9
  cases q8
  subst e1
  have eit := ztrk eit e9
  replace hit := k9
  clear e9 k9
  refine zW.aret dJ4_iterator_8 rfl (Or.inl ⟨_, rfl⟩) rfl ?_
  exact ⟨_, rfl, it, rfl, nit, eit, hit⟩
theorem w_diHas {n k : Nat} {lr : Int32} (hi : h it = some (cDi a hd n k lr)) (hn : n ≤ 16) : zK G mJ30_hasNext 1 0 [.ref it] h (zPu h (some (.int (nI (if k < n then 1 else 0))))) := by
  show zW G mJ30_hasNext 1 0 0 [.ref it] [] h _
  refine zW.aload_n (pc' := 1) dJ30_hasNext_0 rfl rfl zg0 rfl ?_
  refine zW.get (pc' := 4) dJ30_hasNext_1 rfl f_J30_19_10 hi ⟨rfl, (Nat.le_of_ble_eq_true rfl)⟩ rfl ?_
  refine zW.if_leN (pc' := 7) 11 dJ30_hasNext_4 rfl (by decide) (by omega) (fun b1 => ?_) (fun b1 => ?_)
  · refine zW.iconst (pc' := 12) (nI 0) dJ30_hasNext_11 rfl (by decide) ?_
    refine zW.iret dJ30_hasNext_12 rfl (rfl) ?_
    rw [if_neg (by omega)]
    exact ⟨rfl, rfl⟩
  · refine zW.iconst (pc' := 8) (nI 1) dJ30_hasNext_7 rfl (by decide) ?_
    refine zW.goto 12 dJ30_hasNext_8 (by decide) ?_
    refine zW.iret dJ30_hasNext_12 rfl (rfl) ?_
    rw [if_pos (by omega)]
    exact ⟨rfl, rfl⟩
theorem w_diNext (hQ : cDQ h a ar hd its) {k x : Nat} {lr : Int32} (hi : h it = some (cDi a hd its.length k lr)) (hx : its[k]? = some x) : zK G mJ30_next 2 0 [.ref it] h (zPk h (some (.ref x)) it (cDi a hd its.length (k + 1) (nI ((hd + k) % 17)))) := by
  obtain ⟨⟨h1, h2⟩, ha, f, har, hf⟩ := hQ
  have hkl := (List.getElem?_eq_some_iff.mp hx).1
  have hfk := hf k x hx
  have hm : (hd + k) % 17 < 17 := Nat.mod_lt _ (by decide)
  show zW G mJ30_next 2 0 0 [.ref it, zho, zho] [] h _
  refine zW.aload_n (pc' := 1) dJ30_next_0 rfl rfl zg0 rfl ?_
  refine zW.get (pc' := 4) dJ30_next_1 rfl f_J30_19_10 hi ⟨rfl, (Nat.le_of_ble_eq_true rfl)⟩ rfl ?_
  refine zW.if_gtN (pc' := 7) 15 dJ30_next_4 rfl (by decide) (by omega) (fun b9 => ?_) (fun b9 => absurd b9 (by omega))
  refine zW.aload_n (pc' := 16) dJ30_next_15 rfl rfl zg0 rfl ?_
  refine zW.get (pc' := 19) dJ30_next_16 rfl f_J30_1_10 hi ⟨rfl, (Nat.le_of_ble_eq_true rfl)⟩ rfl ?_
  refine zW.get (pc' := 22) dJ30_next_19 rfl f_J30_35_9 ha ⟨rfl, (Nat.le_of_ble_eq_true rfl)⟩ rfl ?_
  refine zW.astore_n (pc' := 23) dJ30_next_22 rfl rfl (Nat.le_of_ble_eq_true rfl) rfl (zsS (zs0)) ?_
  refine zW.aload_n (pc' := 24) dJ30_next_23 rfl rfl (zgS (zg0)) rfl ?_
  refine zW.aload_n (pc' := 25) dJ30_next_24 rfl rfl zg0 rfl ?_
  refine zW.get (pc' := 28) dJ30_next_25 rfl f_J30_29_10 hi ⟨rfl, (Nat.le_of_ble_eq_true rfl)⟩ rfl ?_
  refine zW.callS (r' := 0) (pc' := 31) dJ30_next_28 rfl l_J30_39 rfl (w_dqAtN har hm hfk) (zcc rfl (zcc rfl zc0)) rfl (Nat.le_of_ble_eq_true rfl) (Nat.le_of_ble_eq_true rfl) (Nat.le_of_ble_eq_true rfl) (fun _ _ q9 => ?_) (fun _ _ q9 => by cases q9.1)
  obtain ⟨q8, e9⟩ := q9
  cases q8
  replace e9 := e9.symm
  subst e9
  refine zW.astore_n (pc' := 32) dJ30_next_31 rfl rfl (Nat.le_of_ble_eq_true rfl) rfl (zsS (zsS (zs0))) ?_
  refine zW.aload_n (pc' := 33) dJ30_next_32 rfl rfl zg0 rfl ?_
  refine zW.aload_n (pc' := 34) dJ30_next_33 rfl rfl zg0 rfl ?_
  refine zW.aload_n (pc' := 35) dJ30_next_34 rfl rfl zg0 rfl ?_
  refine zW.get (pc' := 38) dJ30_next_35 rfl f_J30_29_10 hi ⟨rfl, (Nat.le_of_ble_eq_true rfl)⟩ rfl ?_
  refine zW.dup_x1 (pc' := 39) dJ30_next_38 rfl rfl rfl ?_
  refine zW.putK (pc' := 42) dJ30_next_39 rfl f_J30_23_10 hi ⟨⟨rfl, (Nat.le_of_ble_eq_true rfl)⟩, (Nat.le_of_ble_eq_true rfl)⟩ (zFw.of ft_10_2 rfl rfl) (zsS (zsS (zs0))) (fun _ e9 k9 => ?_)
  have ha := zpres e9 (zne ha hi (by decide)) ha
  have har := zpres e9 (zne har hi (by decide)) har
  have hq := e9
  replace hi := k9
  clear e9 k9
  refine zW.aload_n (pc' := 43) dJ30_next_42 rfl rfl (zgS (zg0)) rfl ?_
  refine zW.alen (pc' := 44) dJ30_next_43 rfl har (by decide) qtab_n ?_
  refine zW.callS (r' := 0) (pc' := 47) dJ30_next_44 rfl l_J30_43 rfl (w_dqInc hm) (zcc rfl (zcc rfl zc0)) rfl (Nat.le_of_ble_eq_true rfl) (Nat.le_of_ble_eq_true rfl) (Nat.le_of_ble_eq_true rfl) (fun _ _ q9 => ?_) (fun _ _ q9 => by cases q9.1)
  obtain ⟨q8, e9⟩ := q9
  cases q8
  replace e9 := e9.symm
  subst e9
  refine zW.putK (pc' := 50) dJ30_next_47 rfl f_J30_29_10 hi ⟨⟨rfl, (Nat.le_of_ble_eq_true rfl)⟩, (Nat.le_of_ble_eq_true rfl)⟩ (zFw.of ft_10_0 rfl rfl) zs0 (fun _ e9 k9 => ?_)
  have ha := zpres e9 (zne ha hi (by decide)) ha
  have har := zpres e9 (zne har hi (by decide)) har
  have hq := ztrk hq e9
  replace hi := k9
  clear e9 k9
  refine zW.aload_n (pc' := 51) dJ30_next_50 rfl rfl zg0 rfl ?_
  refine zW.dup (pc' := 52) dJ30_next_51 rfl rfl ?_
  refine zW.get (pc' := 55) dJ30_next_52 rfl f_J30_19_10 hi ⟨rfl, (Nat.le_of_ble_eq_true rfl)⟩ rfl ?_
  refine zW.iconst (pc' := 56) (nI 1) dJ30_next_55 rfl (by decide) ?_
  refine zW.isubN (pc' := 57) dJ30_next_56 rfl (by omega) ?_
  refine zW.putK (pc' := 60) dJ30_next_57 rfl f_J30_19_10 hi ⟨⟨rfl, (Nat.le_of_ble_eq_true rfl)⟩, (Nat.le_of_ble_eq_true rfl)⟩ (zFw.of ft_10_1 rfl rfl) (zsS (zs0)) (fun _ e9 k9 => ?_)
  have ha := zpres e9 (zne ha hi (by decide)) ha
  have har := zpres e9 (zne har hi (by decide)) har
  have hq := ztrk hq e9
  replace hi := k9
  clear e9 k9
  refine zW.aload_n (pc' := 61) dJ30_next_60 rfl rfl (zgS (zgS (zg0))) rfl ?_
  refine zW.aret dJ30_next_61 rfl (Or.inl ⟨_, rfl⟩) rfl ?_
  have e1 : (hd + (k + 1)) % 17 = ((hd + k) % 17 + 1) % 17 := by omega
  show zPk h (some (.ref x)) it (10, [.int (nI ((hd + (k + 1)) % 17)), .int (nI (its.length - (k + 1))), .int (nI ((hd + k) % 17)), .ref a]) _ _
  rw [e1]
  exact ⟨_, rfl, rfl, hq, hi⟩
def qcp (f : Nat → Option Nat) (i j n : Nat) : Nat → Option Nat := fun k => if j ≤ k ∧ k < j + n then f (i + (k - j)) else f k
theorem zcp_q {f : Nat → Option Nat} {i j n : Nat} (hi : i + n ≤ 17) (hj : j + n ≤ 17) : zcp (qtab f) (qtab f) i j n = qtab (qcp f i j n) := by
  apply List.ext_getElem?
  intro k
  rw [zcp_get (by rw [qtab_len]; exact hi) (by rw [qtab_len]; exact hj)]
  by_cases hk : k < 17
  · rw [qtab_get hk, qtab_get hk]
    unfold qcp
    by_cases q : j ≤ k ∧ k < j + n
    · rw [if_pos q, if_pos q, qtab_get (by omega)]
    · rw [if_neg q, if_neg q]
  · rw [if_neg (by omega), List.getElem?_eq_none (by rw [qtab_len]; omega), List.getElem?_eq_none (by rw [qtab_len]; omega)]
theorem zW.acopyQ {idx i j n : Nat} {f : Nat → Option Nat} (hd' : decode (zm_c M) pc = .ok (.invokestatic idx, 3)) (hn : pc + 3 = pc') (hl1 : Cond.methodLink (zm_y M).cls idx Stand.acN ∈ lw_tbl) (ha : h a = some (104, qtab f)) (hi : i + n ≤ 17) (hj : j + n ≤ 17)
    (hv : ∀ t, t < n → ∃ x c, f (i + t) = some x ∧ h x = some c ∧ zObj c) (hdd : 1 ≤ d) (hW : (st.map fun v => v.category).sum ≤ 8)
    (kq : ∀ h', h' = zup h a (104, qtab (qcp f i j n)) → h' a = some (104, qtab (qcp f i j n)) → zW G M d r pc' L st h' Q) : zW G M d r pc L (.int (nI n) :: .int (nI j) :: .ref a :: .int (nI i) :: .ref a :: st) h Q := by
  refine zW.acopy hd' hn hl1 ha ha (by decide) (by rw [qtab_len]; exact hi) (by rw [qtab_len]; exact hj) (by rw [qtab_len]; decide) (fun _ t v ht e => ?_) (fun q => absurd rfl q) hdd hW (by rw [zcp_q hi hj]; exact kq)
  obtain ⟨x, c, e1, e2, e3⟩ := hv t ht
  rw [qtab_get (by omega), e1] at e
  cases e
  exact Or.inr ⟨x, c, rfl, e2, e3⟩
theorem dq_fin {f f' : Nat → Option Nat} {j hd' : Nat} (hf : ∀ i x, its[i]? = some x → f ((hd + i) % 17) = some x) (hh : ∀ t, t + 1 < its.length → f' ((hd' + t) % 17) = f ((hd + (if t < j then t else t + 1)) % 17)) (hj : j < its.length) : ∀ t y, (its.eraseIdx j)[t]? = some y → f' ((hd' + t) % 17) = some y := by
  intro t y e
  have ht := (List.getElem?_eq_some_iff.mp e).1
  rw [List.length_eraseIdx, if_pos hj] at ht
  rw [List.getElem?_eraseIdx] at e
  rw [hh t (by omega)]
  by_cases q : t < j
  · rw [if_pos q] at e ⊢; exact hf _ _ e
  · rw [if_neg q] at e ⊢; exact hf _ _ e
end
