/-! State.remove, settle, remember -/
section
set_option maxRecDepth 100000
variable {G : zG} {h h' h0 : zH} {O O' A : Nat → Prop} {st ll aq re rt ea ha er hr c it : Nat} {mc : Int32} {xs ys : List (Nat × Nat)} {qs rs : List Nat} {s : sS} {Q : zR → zH → Prop} {v1 : Value} {r : Nat}
/-- the numbers and the queue have changed -/
theorem cP.numq (hP : cP h O st ll aq re rt ea ha er hr mc xs qs rs s) (z : zfr (fun b => b = st ∨ cDf aq ea b) h h') {m' : Nat → Nat} {ha' : Nat} {qs' qu' : List Nat} (e : h' st = some (1, cSf ll aq re rt m')) (hm : ∀ i, i < 4 → m' (10 + i) = s.1 (10 + i)) (hQ' : cDQ h' aq ea ha' qs') (hI' : cIs h' O qs' qu') : cP h' O st ll aq re rt ea ha' er hr mc xs qs' rs (m', s.2.1, qu', s.2.2.2) := by
  obtain ⟨h1, ⟨h2, h3⟩, ⟨h4, h5⟩, ⟨h6, h7⟩, h8, h9, o⟩ := hP
  have mv : ∀ {b k : Nat} {l : List Value}, h b = some (k, l) → (k ≠ 1 ∧ k ≠ 9 ∧ k ≠ 104) → h' b = some (k, l) := fun e1 hk => z.at e1 fun q => by
    have hn := h4.nk e1 hk.2
    exact q.elim (fun q => zne e1 h1 hk.1 q) fun q => q.elim (fun q => hn.1 q.symm) fun q => hn.2 q.symm
  have mvI : ∀ b k l, (k = 15 ∨ k = 1015) → h b = some (k, l) → h' b = some (k, l) := fun b k l hk e => mv e (by rcases hk with q | q <;> subst q <;> decide)
  have hra : re ≠ ea ∧ re ≠ st := by
    obtain ⟨-, e1, -⟩ := h6
    obtain ⟨-, -, f, e2, -⟩ := h4
    exact ⟨zne e1 e2 (by decide), zne e1 h1 (by decide)⟩
  have hea : er ≠ aq ∧ er ≠ st := by
    obtain ⟨-, -, f, e1, -⟩ := h6
    obtain ⟨-, e2, -⟩ := h4
    exact ⟨zne e1 e2 (by decide), zne e1 h1 (by decide)⟩
  refine ⟨e, ⟨h2.mv fun b k l hk e => mv e (by rcases hk with q | q <;> subst q <;> decide), h3.mv fun b l e => mv e (by decide)⟩, ⟨hQ', hI'⟩, ⟨h6.fr z (fun q => q.elim hra.2 fun q => q.elim (fun q => h8.1 q.symm) hra.1) (fun q => q.elim hea.2 fun q => q.elim hea.1 fun q => h8.2 q.symm), h7.mv mvI⟩, h8, ?_, o⟩
  rw [mv h9 (by decide)]
  congr 2
  exact ztab_congr fun i hi => (hm i hi).symm
/-- the rest of the list holds none such -/
theorem w_rem2 (nit : h it = none) (hl : ys.length < 2 ^ 30) (fin : ∀ H : zH, cLL H ll mc ys → zfr A h H → zW G mX2_remove 6 r 36 [.ref st, .ref c, .ref it] [] H Q) : ∀ (n k : Nat) (H : zH) (lr : Value), k + n = ys.length → cLL H ll mc ys → H it = some (cIt ll mc ys k lr) → (∀ j q, k ≤ j → ys[j]? = some q → q.2 ≠ c) → zfr A h H → zW G mX2_remove 6 r 8 [.ref st, .ref c, .ref it] [] H Q := by
  intro n
  induction n with
  | zero =>
    intro k H lr hkn hL hit hno zf
    have hkn : k = ys.length := hkn
    have hl0 := hL.1
    refine zW.aload_n (pc' := 9) dX2_remove_8 rfl rfl (zgS (zgS (zg0))) rfl ?_
    refine zW.callF (r' := 0) (pc' := 14) dX2_remove_9 rfl l_X2_37_J25 rfl hit ⟨rfl, (Nat.le_of_ble_eq_true rfl)⟩ rfl (w_itHas hit hl0 hl (by omega)) zc0 rfl (Nat.le_of_ble_eq_true rfl) (Nat.le_of_ble_eq_true rfl) (Nat.le_of_ble_eq_true rfl) (fun _ _ q9 => ?_) (fun _ _ q9 => by cases q9.1)
    obtain ⟨q8, e9⟩ := q9
    cases q8
    replace e9 := e9.symm
    subst e9
    rw [if_neg (by omega)]
    refine zW.if_eqN (pc' := 17) 36 dX2_remove_14 rfl (by decide) (by omega) (fun b9 => ?_) (fun b9 => absurd b9 (by omega))
    exact fin H hL zf
  | succ n ih =>
    intro k H lr hkn hL hit hno zf
    have hl0 := hL.1
    obtain ⟨p, hp⟩ : ∃ p, ys[k]? = some p := ⟨_, List.getElem?_eq_getElem (by omega)⟩
    have hit0 := hit
    refine zW.aload_n (pc' := 9) dX2_remove_8 rfl rfl (zgS (zgS (zg0))) rfl ?_
    refine zW.callF (r' := 0) (pc' := 14) dX2_remove_9 rfl l_X2_37_J25 rfl hit ⟨rfl, (Nat.le_of_ble_eq_true rfl)⟩ rfl (w_itHas hit hl0 hl (by omega)) zc0 rfl (Nat.le_of_ble_eq_true rfl) (Nat.le_of_ble_eq_true rfl) (Nat.le_of_ble_eq_true rfl) (fun _ _ q9 => ?_) (fun _ _ q9 => by cases q9.1)
    obtain ⟨q8, e9⟩ := q9
    cases q8
    replace e9 := e9.symm
    subst e9
    rw [if_pos (by omega)]
    refine zW.if_eqN (pc' := 17) 36 dX2_remove_14 rfl (by decide) (by omega) (fun b9 => absurd b9 (by omega)) (fun b9 => ?_)
    refine zW.aload_n (pc' := 18) dX2_remove_17 rfl rfl (zgS (zgS (zg0))) rfl ?_
    refine zW.callF (r' := 0) (pc' := 23) dX2_remove_18 rfl l_X2_43_J25 rfl hit ⟨rfl, (Nat.le_of_ble_eq_true rfl)⟩ rfl (w_itNext hL hit hp hl) zc0 rfl (Nat.le_of_ble_eq_true rfl) (Nat.le_of_ble_eq_true rfl) (Nat.le_of_ble_eq_true rfl) (fun _ _ q9 => ?_) (fun _ _ q9 => absurd q9 zO.no)
    obtain ⟨_, q8, e1, e9, k9⟩ := q9
    cases q8
    subst e1
    have zf := zf.put e9 hit (by decide) (Or.inr nit)
    have hq := e9
    replace hit := k9
    clear e9 k9
    refine zW.aload_n (pc' := 24) dX2_remove_23 rfl rfl (zgS (zg0)) rfl ?_
    refine zW.acmp_ne (pc' := 27) 8 dX2_remove_24 rfl (by decide) rfl rfl (fun b1 => ?_) (fun b1 => ?_)
    rotate_left
    · exact absurd (Value.ref.inj b1) (hno k p (Nat.le_refl _) hp)
    have hL1 : cLL _ ll mc ys := hL.mv fun b k' l hk' hb => zpres hq (fun e => by rw [e, hit0] at hb; cases hb; exact absurd hk' (by decide)) hb
    exact ih (k + 1) _ _ (by omega) hL1 hit (fun j q hj => hno j q (by omega)) zf
theorem w_rem1 (nit : h it = none) (hl : xs.length < 2 ^ 30) {i : Nat} {p : Nat × Nat} (hp : xs[i]? = some p) (hno : ∀ (j : Nat) (q : Nat × Nat), j ≠ i → xs[j]? = some q → q.2 ≠ p.2) (fin : ∀ H : zH, cLL H ll (mc + nI 1) (xs.eraseIdx i) → zfr (cLf ll xs) h H → zW G mX2_remove 6 r 36 [.ref st, .ref p.2, .ref it] [] H Q) : ∀ (n k : Nat) (H : zH) (lr : Value), k + n = i → cLL H ll mc xs → H it = some (cIt ll mc xs k lr) → zfr (cLf ll xs) h H → zW G mX2_remove 6 r 8 [.ref st, .ref p.2, .ref it] [] H Q := by
  have hil := (List.getElem?_eq_some_iff.mp hp).1
  intro n
  induction n with
  | zero =>
    intro k H lr hkn hL hit zf
    have hkn : k = i := hkn
    subst hkn
    have hl0 := hL.1
    have hit0 := hit
    refine zW.aload_n (pc' := 9) dX2_remove_8 rfl rfl (zgS (zgS (zg0))) rfl ?_
    refine zW.callF (r' := 0) (pc' := 14) dX2_remove_9 rfl l_X2_37_J25 rfl hit ⟨rfl, (Nat.le_of_ble_eq_true rfl)⟩ rfl (w_itHas hit hl0 hl (by omega)) zc0 rfl (Nat.le_of_ble_eq_true rfl) (Nat.le_of_ble_eq_true rfl) (Nat.le_of_ble_eq_true rfl) (fun _ _ q9 => ?_) (fun _ _ q9 => by cases q9.1)
    obtain ⟨q8, e9⟩ := q9
    cases q8
    replace e9 := e9.symm
    subst e9
    rw [if_pos hil]
    refine zW.if_eqN (pc' := 17) 36 dX2_remove_14 rfl (by decide) (by omega) (fun b9 => absurd b9 (by omega)) (fun b9 => ?_)
    refine zW.aload_n (pc' := 18) dX2_remove_17 rfl rfl (zgS (zgS (zg0))) rfl ?_
    refine zW.callF (r' := 0) (pc' := 23) dX2_remove_18 rfl l_X2_43_J25 rfl hit ⟨rfl, (Nat.le_of_ble_eq_true rfl)⟩ rfl (w_itNext hL hit hp hl) zc0 rfl (Nat.le_of_ble_eq_true rfl) (Nat.le_of_ble_eq_true rfl) (Nat.le_of_ble_eq_true rfl) (fun _ _ q9 => ?_) (fun _ _ q9 => absurd q9 zO.no)
    obtain ⟨_, q8, e1, e9, k9⟩ := q9
    cases q8
    subst e1
    have zf := zf.put e9 hit (by decide) (Or.inr nit)
    have hq := e9
    replace hit := k9
    clear e9 k9
    refine zW.aload_n (pc' := 24) dX2_remove_23 rfl rfl (zgS (zg0)) rfl ?_
    refine zW.acmp_ne (pc' := 27) 8 dX2_remove_24 rfl (by decide) rfl rfl (fun b1 => ?_) (fun b1 => ?_)
    · exact absurd rfl b1
    have hL1 : cLL _ ll mc xs := hL.mv fun b k' l hk' hb => zpres hq (fun e => by rw [e, hit0] at hb; cases hb; exact absurd hk' (by decide)) hb
    refine zW.aload_n (pc' := 28) dX2_remove_27 rfl rfl (zgS (zgS (zg0))) rfl ?_
    refine zW.callF (r' := 0) (pc' := 33) dX2_remove_28 rfl l_X2_116_J25 rfl hit ⟨rfl, (Nat.le_of_ble_eq_true rfl)⟩ rfl (w_itRemove hL1 hp hit) zc0 rfl (Nat.le_of_ble_eq_true rfl) (Nat.le_of_ble_eq_true rfl) (Nat.le_of_ble_eq_true rfl) (fun _ _ q9 => ?_) (fun _ _ q9 => absurd q9 zO.no)
    obtain ⟨_, q8, e1, hL2, hit2, z2⟩ := q9
    cases q8
    subst e1
    refine zW.goto 8 dX2_remove_33 (by decide) ?_
    have hlen : (xs.eraseIdx k).length = xs.length - 1 := by rw [List.length_eraseIdx, if_pos hil]
    refine w_rem2 nit (by omega) fin (xs.length - 1 - k) k _ _ (by omega) hL2 hit2 (fun j q hj e => ?_) (zf.tr z2 fun b hb => hb.elim (fun q => Or.inr (by rw [q]; exact nit)) fun q => Or.inl q)
    rw [List.getElem?_eraseIdx, if_neg (by omega)] at e
    exact hno (j + 1) q (by omega) e
  | succ n ih =>
    intro k H lr hkn hL hit zf
    have hl0 := hL.1
    obtain ⟨p1, hp1⟩ : ∃ p, xs[k]? = some p := ⟨_, List.getElem?_eq_getElem (by omega)⟩
    have hit0 := hit
    refine zW.aload_n (pc' := 9) dX2_remove_8 rfl rfl (zgS (zgS (zg0))) rfl ?_
    refine zW.callF (r' := 0) (pc' := 14) dX2_remove_9 rfl l_X2_37_J25 rfl hit ⟨rfl, (Nat.le_of_ble_eq_true rfl)⟩ rfl (w_itHas hit hl0 hl (by omega)) zc0 rfl (Nat.le_of_ble_eq_true rfl) (Nat.le_of_ble_eq_true rfl) (Nat.le_of_ble_eq_true rfl) (fun _ _ q9 => ?_) (fun _ _ q9 => by cases q9.1)
    obtain ⟨q8, e9⟩ := q9
    cases q8
    replace e9 := e9.symm
    subst e9
    rw [if_pos (by omega)]
    refine zW.if_eqN (pc' := 17) 36 dX2_remove_14 rfl (by decide) (by omega) (fun b9 => absurd b9 (by omega)) (fun b9 => ?_)
    refine zW.aload_n (pc' := 18) dX2_remove_17 rfl rfl (zgS (zgS (zg0))) rfl ?_
    refine zW.callF (r' := 0) (pc' := 23) dX2_remove_18 rfl l_X2_43_J25 rfl hit ⟨rfl, (Nat.le_of_ble_eq_true rfl)⟩ rfl (w_itNext hL hit hp1 hl) zc0 rfl (Nat.le_of_ble_eq_true rfl) (Nat.le_of_ble_eq_true rfl) (Nat.le_of_ble_eq_true rfl) (fun _ _ q9 => ?_) (fun _ _ q9 => absurd q9 zO.no)
    obtain ⟨_, q8, e1, e9, k9⟩ := q9
    cases q8
    subst e1
    have zf := zf.put e9 hit (by decide) (Or.inr nit)
    have hq := e9
    replace hit := k9
    clear e9 k9
    refine zW.aload_n (pc' := 24) dX2_remove_23 rfl rfl (zgS (zg0)) rfl ?_
    refine zW.acmp_ne (pc' := 27) 8 dX2_remove_24 rfl (by decide) rfl rfl (fun b1 => ?_) (fun b1 => ?_)
    rotate_left
    · exact absurd (Value.ref.inj b1) (hno k p1 (by omega) hp1)
    have hL1 : cLL _ ll mc xs := hL.mv fun b k' l hk' hb => zpres hq (fun e => by rw [e, hit0] at hb; cases hb; exact absurd hk' (by decide)) hb
    exact ih (k + 1) _ _ (by omega) hL1 hit zf
theorem cCs.erase {cs : List sC} (hC : cCs h xs cs) (i : Nat) : cCs h (xs.eraseIdx i) (cs.eraseIdx i) := by
  refine ⟨by rw [List.length_eraseIdx, List.length_eraseIdx, hC.1], fun j p c e1 e2 => ?_, ?_⟩
  · rw [List.getElem?_eraseIdx] at e1 e2
    by_cases q : j < i
    · rw [if_pos q] at e1 e2; exact hC.2.1 _ _ _ e1 e2
    · rw [if_neg q] at e1 e2; exact hC.2.1 _ _ _ e1 e2
  · rw [map_er]
    exact hC.2.2.sublist (List.eraseIdx_sublist _ _)
theorem cLf_er {i b : Nat} (hb : cLf ll (xs.eraseIdx i) b) : cLf ll xs b := hb.elim Or.inl fun q => Or.inr (by
  rw [map_er] at q
  exact List.mem_of_mem_eraseIdx q)
/-- what the invariant says of a State's numbers -/
def cB (s : sS) : Prop := s.2.1.length ≤ 12 ∧ (∀ i, i < s.2.1.length → sAt s.2.1 i 0 < 2 ^ 30 ∧ sAt s.2.1 i 3 < 2 ^ 30) ∧ (∀ y ∈ s.2.2.1, y < 2 ^ 30) ∧ s.2.2.1.Nodup ∧ (s.2.2.2.length ≤ 8 ∧ ∀ y ∈ s.2.2.2, y < 2 ^ 30)
theorem w_stRemove (hP : cP h O st ll aq re rt ea ha er hr mc xs qs rs s) (hB : cB s) {i : Nat} {p : Nat × Nat} (hp : xs[i]? = some p) : zK G mX2_remove 6 3 [.ref st, .ref p.2] h (zO fun v h' => v = none ∧ cS h' O st (sClose s i) ∧ h' p.2 = some (2, cCl (sAt s.2.1 i)) ∧ zfr O h h') := by
  obtain ⟨b1, b2, b3, b4, -⟩ := hB
  have hil := (List.getElem?_eq_some_iff.mp hp).1
  have hxl := hP.2.1.2.1
  have hL := hP.2.1.1
  have hl0 := hL.1
  have hst := hP.1
  have hic : i < s.2.1.length := by omega
  have hc := hP.2.1.2.2.1 i p _ hp (sAt_get hic)
  have hO := hP.2.2.2.2.2.2
  have oL : ∀ b, cLf ll xs b → O b := hO.2.1
  have hno : ∀ (j : Nat) (q : Nat × Nat), j ≠ i → xs[j]? = some q → q.2 ≠ p.2 := fun j q hj e z => hj (by
    have g1 : (xs.map Prod.snd)[j]? = some p.2 := by rw [List.getElem?_map, e, ← z]; rfl
    have g2 : (xs.map Prod.snd)[i]? = some p.2 := by rw [List.getElem?_map, hp]; rfl
    exact (List.getElem?_inj (List.getElem?_eq_some_iff.mp g1).1 hP.2.1.2.2.2).mp (g1.trans g2.symm))
  have fin : ∀ (it : Nat) (H : zH), cLL H ll (mc + nI 1) (xs.eraseIdx i) → zfr (cLf ll xs) h H → zW G mX2_remove 6 1 36 [.ref st, .ref p.2, .ref it] [] H (zO fun v h' => v = none ∧ cS h' O st (sClose s i) ∧ h' p.2 = some (2, cCl (sAt s.2.1 i)) ∧ zfr O h h') := by
    intro it H hL2 zf
    have hC2 := (hP.2.1.2.mv (h' := H) (hL.outC zf)).erase i
    have hP2 := hP.list (O' := O) zf hL2 hC2 (fun b hb => oL b (cLf_er hb)) (fun q hq => hO.2.2.1 q (List.mem_of_mem_eraseIdx hq)) fun _ q => q
    have hst2 := hP2.1
    have hc2 := hL.outC zf _ _ hc
    refine zW.aload_n (pc' := 37) dX2_remove_36 rfl rfl zg0 rfl ?_
    refine zW.aload_n (pc' := 38) dX2_remove_37 rfl rfl (zgS (zg0)) rfl ?_
    refine zW.callV (r' := 1) (pc' := 41) dX2_remove_38 rfl l_X2_119 rfl hst2 ⟨rfl, (Nat.le_of_ble_eq_true rfl)⟩ rfl (w_stClose hst2 hc2 hP2.2.2.1.1 hP2.2.2.1.2 (b2 i hic).1 (b2 i hic).2 b3 b4) (zcc rfl zc0) rfl (Nat.le_of_ble_eq_true rfl) (Nat.le_of_ble_eq_true rfl) (Nat.le_of_ble_eq_true rfl) (fun _ _ q9 => ?_) (fun _ _ q9 => absurd q9 zO.no)
    obtain ⟨_, q8, e1, ha', qs', hst3, hQ3, hI3, z3⟩ := q9
    cases q8
    subst e1
    refine zW.vret dX2_remove_41 rfl ?_
    have hP3 := hP2.numq z3 hst3 (fun i hi => zu_n (by omega)) hQ3 hI3
    have hc3 := z3.at hc2 fun q => by
      have hn := hP2.2.2.1.1.nk hc2 ⟨by decide, by decide⟩
      exact q.elim (fun q => zne hc2 hst2 (by decide) q) fun q => q.elim (fun q => hn.1 q.symm) fun q => hn.2 q.symm
    exact ⟨_, rfl, rfl, ⟨ll, aq, re, rt, ea, ha', er, hr, _, _, qs', rs, hP3⟩, hc3, (zf.mono fun b hb => Or.inl (oL b hb)).tr z3 fun b hb => Or.inl (hb.elim (fun q => by rw [q]; exact hO.1) fun q => q.elim (fun q => by rw [q]; exact hO.2.2.2.1.1) fun q => by rw [q]; exact hO.2.2.2.1.2)⟩
  show zW G mX2_remove 6 3 0 [.ref st, .ref p.2, zho] [] h _
  refine zW.aload_n (pc' := 1) dX2_remove_0 rfl rfl zg0 rfl ?_
  refine zW.get (pc' := 4) dX2_remove_1 rfl f_X2_12_1 hst ⟨rfl, (Nat.le_of_ble_eq_true rfl)⟩ rfl ?_
  refine zW.callU (r' := 2) (pc' := 7) dX2_remove_4 rfl l_X2_33_J3 rfl hl0 ⟨rfl, (Nat.le_of_ble_eq_true rfl)⟩ rfl (w_llIter hL (by omega)) zc0 rfl (Nat.le_of_ble_eq_true rfl) (Nat.le_of_ble_eq_true rfl) (Nat.le_of_ble_eq_true rfl) (fun _ _ q9 => ?_) (fun _ _ q9 => absurd q9 zO.no)
  obtain ⟨_, q8, it, e1, nit, e9, hit⟩ := q9
  cases q8
  subst e1
  have zn := zfr.rf.new (A := cLf ll xs) e9 nit
  refine zW.astore_n (pc' := 8) dX2_remove_7 rfl rfl (Nat.le_of_ble_eq_true rfl) rfl (zsS (zsS (zs0))) ?_
  exact w_rem1 nit (by omega) hp hno (fin it) i 0 _ _ (Nat.zero_add _) (hL.mv fun b k l _ e => zpres e9 (zfresh nit e) e) hit zn
theorem w_stSettle (hP : cP h O st ll aq re rt ea ha er hr mc xs qs rs s) (hB : cB s) {i : Nat} {p : Nat × Nat} (hp : xs[i]? = some p) : zK G mX2_settle 7 3 [.ref st, .ref p.2] h (zO fun v h' => v = none ∧ cS h' O st (zu (sClose s i).1 6 ((sClose s i).1 6 + 1), (sClose s i).2) ∧ h' p.2 = some (2, cCl (sAt s.2.1 i)) ∧ zfr O h h') := by
  have hst := hP.1
  show zW G mX2_settle 7 3 0 [.ref st, .ref p.2] [] h _
  refine zW.aload_n (pc' := 1) dX2_settle_0 rfl rfl zg0 rfl ?_
  refine zW.aload_n (pc' := 2) dX2_settle_1 rfl rfl (zgS (zg0)) rfl ?_
  refine zW.callV (r' := 3) (pc' := 5) dX2_settle_2 rfl l_X2_123 rfl hst ⟨rfl, (Nat.le_of_ble_eq_true rfl)⟩ rfl (w_stRemove hP hB hp) (zcc rfl zc0) rfl (Nat.le_of_ble_eq_true rfl) (Nat.le_of_ble_eq_true rfl) (Nat.le_of_ble_eq_true rfl) (fun _ _ q9 => ?_) (fun _ _ q9 => absurd q9 zO.no)
  obtain ⟨_, q8, e1, hS, hc, zf⟩ := q9
  cases q8
  subst e1
  obtain ⟨ll, aq, re, rt, ea, ha, er, hr, mc, xs, qs, rs, hP2⟩ := hS
  have hst := hP2.1
  have nst : st ≠ p.2 := zne hst hc (by decide)
  refine zW.aload_n (pc' := 6) dX2_settle_5 rfl rfl zg0 rfl ?_
  refine zW.dup (pc' := 7) dX2_settle_6 rfl rfl ?_
  refine zW.get (pc' := 10) dX2_settle_7 rfl f_X2_79_1 hst ⟨rfl, (Nat.le_of_ble_eq_true rfl)⟩ rfl ?_
  refine zW.iconst (pc' := 11) (nI 1) dX2_settle_10 rfl (by decide) ?_
  refine zW.iaddN (pc' := 12) dX2_settle_11 rfl ?_
  refine zW.putK (pc' := 15) dX2_settle_12 rfl f_X2_79_1 hst ⟨⟨rfl, (Nat.le_of_ble_eq_true rfl)⟩, (Nat.le_of_ble_eq_true rfl)⟩ (zFw.of ft_1_7 rfl rfl) (zsS (zsS (zsS (zsS (zsS (zsS (zsS (zs0)))))))) (fun _ e9 k9 => ?_)
  have hc := zpres e9 (zne hc hst (by decide)) hc
  have zf := zf.put e9 hst (by decide) (Or.inl hP2.2.2.2.2.2.2.1)
  have hq := e9
  replace hst := k9
  clear e9 k9
  refine zW.vret dX2_settle_15 rfl ?_
  exact ⟨_, rfl, rfl, ⟨ll, aq, re, rt, ea, ha, er, hr, mc, xs, qs, rs, hP2.num (m' := zu (sClose s i).1 6 ((sClose s i).1 6 + 1)) hq fun i hi => zu_n (by omega)⟩, hc, zf⟩
end
