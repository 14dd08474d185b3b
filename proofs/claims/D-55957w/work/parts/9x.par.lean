/-! THE PARSER: its state; prefixes of keywords; letters and digits */ -/
section
set_option maxRecDepth 100000
variable {G : zG} {h h' H : zH} {a n kw ka it c w c2 w2 i p al x d : Nat} {l q : List Nat} {e : Nat × Nat}
theorem zle.of (z : zfr (fun _ => False) h H) : zle h H := fun _ _ e => z.at e fun q => q
/-- the parser's object; e: place, error's place + 1 -/
def cPo (h : zH) (p kw c al : Nat) (e : Nat × Nat) : Prop := h p = some (4, [.ref kw, .ref c, .ref al, .int (nI e.1), .int (nI (if e.2 = 0 then 0 else 1))])
theorem w_isKwPre (hk : zkn G h) (hS : zkS G) (hP : cPo h p kw c al e) (k : cKw G h kw ka) (ks : cStr h c2 w2 q) : zK G mX5_isKeywordPrefix 8 1 [.ref p, .ref c2] h (zPu h (some (.int (nI (if kPre q = true then 1 else 0))))) := by
  have hp := hP
  have hkw := k.1
  have kz : ∀ (H : zH), H kw = some (16, [.ref ka, .int (nI 0)]) → H ka = some (104, kTab G) → zK G mJ38_size 1 0 [.ref kw] H (zPu H (some (.int (nI 7)))) := fun H hkw hka => by
    show zW G mJ38_size 1 0 0 [.ref kw] [] H _
    refine zW.aload_n (pc' := 1) dJ38_size_0 rfl rfl zg0 rfl ?_
    refine zW.get (pc' := 4) dJ38_size_1 rfl f_J38_7_16 hkw ⟨rfl, (Nat.le_of_ble_eq_true rfl)⟩ rfl ?_
    refine zW.alen (pc' := 5) dJ38_size_4 rfl hka (by decide) (show Int32.ofNat (kTab G).length = nI 7 by rw [kTab_len]; rfl) ?_
    refine zW.iret dJ38_size_5 rfl (rfl) ?_
    exact ⟨rfl, rfl⟩
  have kg : ∀ (H : zH) (i : Nat), i < 7 → H kw = some (16, [.ref ka, .int (nI 0)]) → H ka = some (104, kTab G) → zK G mJ38_get 1 0 [.ref kw, .int (nI i)] H (zPu H (some (.ref (zg_a G (110 + i))))) := fun H i hi hkw hka => by
    show zW G mJ38_get 1 0 0 [.ref kw, .int (nI i)] [] H _
    refine zW.aload_n (pc' := 1) dJ38_get_0 rfl rfl zg0 rfl ?_
    refine zW.get (pc' := 4) dJ38_get_1 rfl f_J38_7_16 hkw ⟨rfl, (Nat.le_of_ble_eq_true rfl)⟩ rfl ?_
    refine zW.iload_n (pc' := 5) dJ38_get_4 rfl rfl (zgS (zg0)) ?_
    refine zW.aaldL (pc' := 6) dJ38_get_5 rfl hka (by decide) (kTab_get hi) (by omega) ?_
    refine zW.aret dJ38_get_6 rfl (Or.inl ⟨_, rfl⟩) rfl ?_
    exact ⟨rfl, rfl⟩
  have kin : ∀ (H : zH) (it : Nat), H it = some (17, [.null, .int 0, .int 0, .int 0]) → zK G mJ40_init 1 0 [.ref it, .ref kw, .int (nI 7)] H (zPk H none it (17, [.ref kw, .int (nI 7), .int (nI 0), .int (nI 0)])) := fun H it hi => by
    show zW G mJ40_init 1 0 0 [.ref it, .ref kw, .int (nI 7)] [] H _
    refine zW.aload_n (pc' := 1) dJ40_init_0 rfl rfl zg0 rfl ?_
    refine zW.objInit (pc' := 4) dJ40_init_1 rfl (lw_all_tbl q2276) (lw_all_tbl q151) (lw_all_tbl q152) (Nat.le_of_ble_eq_true rfl) (Nat.le_of_ble_eq_true rfl) ?_
    refine zW.aload_n (pc' := 5) dJ40_init_4 rfl rfl zg0 rfl ?_
    refine zW.aload_n (pc' := 6) dJ40_init_5 rfl rfl (zgS (zg0)) rfl ?_
    refine zW.putK (pc' := 9) dJ40_init_6 rfl f_J40_7_17 hi ⟨⟨rfl, (Nat.le_of_ble_eq_true rfl)⟩, (Nat.le_of_ble_eq_true rfl)⟩ (zFw.fin ft_17_0 rfl rfl rfl rfl rfl) zs0 (fun _ e9 k9 => ?_)
    have hq := e9
    replace hi := k9
    clear e9 k9
    refine zW.aload_n (pc' := 10) dJ40_init_9 rfl rfl zg0 rfl ?_
    refine zW.iload_n (pc' := 11) dJ40_init_10 rfl rfl (zgS (zgS (zg0))) ?_
    refine zW.putK (pc' := 14) dJ40_init_11 rfl f_J40_13_17 hi ⟨⟨rfl, (Nat.le_of_ble_eq_true rfl)⟩, (Nat.le_of_ble_eq_true rfl)⟩ (zFw.fin ft_17_1 rfl rfl rfl rfl rfl) (zsS (zs0)) (fun _ e9 k9 => ?_)
    have hq := ztrk hq e9
    replace hi := k9
    clear e9 k9
    refine zW.aload_n (pc' := 15) dJ40_init_14 rfl rfl zg0 rfl ?_
    refine zW.iconst (pc' := 16) (nI 0) dJ40_init_15 rfl (by decide) ?_
    refine zW.putK (pc' := 19) dJ40_init_16 rfl f_J40_17_17 hi ⟨⟨rfl, (Nat.le_of_ble_eq_true rfl)⟩, (Nat.le_of_ble_eq_true rfl)⟩ (zFw.of ft_17_3 rfl rfl) (zsS (zsS (zsS (zs0)))) (fun _ e9 k9 => ?_)
    have hq := ztrk hq e9
    replace hi := k9
    clear e9 k9
    refine zW.aload_n (pc' := 20) dJ40_init_19 rfl rfl zg0 rfl ?_
    refine zW.iconst (pc' := 21) (nI 0) dJ40_init_20 rfl (by decide) ?_
    refine zW.putK (pc' := 24) dJ40_init_21 rfl f_J40_20_17 hi ⟨⟨rfl, (Nat.le_of_ble_eq_true rfl)⟩, (Nat.le_of_ble_eq_true rfl)⟩ (zFw.fin ft_17_2 rfl rfl rfl rfl rfl) (zsS (zsS (zs0))) (fun _ e9 k9 => ?_)
    have hq := ztrk hq e9
    replace hi := k9
    clear e9 k9
    refine zW.vret dJ40_init_24 rfl ?_
    exact ⟨_, rfl, rfl, hq, hi⟩
  have kit : zK G mJ36_iterator 3 1 [.ref kw] h (zO fun o h' => ∃ it, o = some (.ref it) ∧ h it = none ∧ h' it = some (17, [.ref kw, .int (nI 7), .int (nI 0), .int (nI 0)]) ∧ zfr (fun _ => False) h h') := by
    have zf := zfr.rf (A := fun _ => False) (h := h)
    have hkw := k.1
    show zW G mJ36_iterator 3 1 0 [.ref kw] [] h _
    refine zW.newK (u := 1) (pc' := 3) dJ36_iterator_0 rfl n_J36_61 zd_17 (fun it _ nit e9 k9 => ?_)
    have hkw := zpres e9 (zfresh nit hkw) hkw
    have oit := zf.nn0 nit
    have zf := zf.new e9 nit
    have hit := k9
    clear k9
    clear e9
    refine zW.dup (pc' := 4) dJ36_iterator_3 rfl rfl ?_
    refine zW.aload_n (pc' := 5) dJ36_iterator_4 rfl rfl zg0 rfl ?_
    refine zW.aload_n (pc' := 6) dJ36_iterator_5 rfl rfl zg0 rfl ?_
    refine zW.callU (r' := 0) (pc' := 9) dJ36_iterator_6 rfl l_J36_13_J38 rfl hkw ⟨rfl, (Nat.le_of_ble_eq_true rfl)⟩ rfl (kz _ hkw (zf.at k.2 fun q ↦ q)) zc0 rfl (Nat.le_of_ble_eq_true rfl) (Nat.le_of_ble_eq_true rfl) (Nat.le_of_ble_eq_true rfl) (fun _ _ q9 => ?_) (fun _ _ q9 => by cases q9.1)
    obtain ⟨q8, e9⟩ := q9
    cases q8
    replace e9 := e9.symm
    subst e9
    refine zW.callI (r' := 0) (pc' := 12) dJ36_iterator_9 rfl l_J36_63 rfl (kin _ _ hit) (zcc rfl (zcc rfl zc0)) rfl (Nat.le_of_ble_eq_true rfl) (Nat.le_of_ble_eq_true rfl) (Nat.le_of_ble_eq_true rfl) (fun _ _ q9 => ?_) (fun _ _ q9 => absurd q9 zO.no)
    obtain ⟨_, q8, e1, e9, k9⟩ := q9
    cases q8
    subst e1
    have hkw := zpres e9 (zne hkw hit (by decide)) hkw
    have zf := zf.put e9 hit (by decide) (Or.inr oit)
    replace hit := k9
    clear e9 k9
    refine zW.aret dJ36_iterator_12 rfl (Or.inl ⟨_, rfl⟩) rfl ?_
    exact ⟨_, rfl, it, rfl, nit, hit, zf⟩
  have kh : ∀ (H : zH) (it i : Nat), i ≤ 7 → H it = some (17, [.ref kw, .int (nI 7), .int (nI 0), .int (nI i)]) → zK G mJ40_hasNext 1 0 [.ref it] H (zPu H (some (.int (nI (if i = 7 then 0 else 1))))) := fun H it i hi7 hi => by
    show zW G mJ40_hasNext 1 0 0 [.ref it] [] H _
    refine zW.aload_n (pc' := 1) dJ40_hasNext_0 rfl rfl zg0 rfl ?_
    refine zW.get (pc' := 4) dJ40_hasNext_1 rfl f_J40_17_17 hi ⟨rfl, (Nat.le_of_ble_eq_true rfl)⟩ rfl ?_
    refine zW.aload_n (pc' := 5) dJ40_hasNext_4 rfl rfl zg0 rfl ?_
    refine zW.get (pc' := 8) dJ40_hasNext_5 rfl f_J40_13_17 hi ⟨rfl, (Nat.le_of_ble_eq_true rfl)⟩ rfl ?_
    refine zW.icmp_eqN (pc' := 11) 15 dJ40_hasNext_8 rfl (by decide) (by omega) (by omega) (fun b1 => ?_) (fun b1 => ?_)
    · refine zW.iconst (pc' := 16) (nI 0) dJ40_hasNext_15 rfl (by decide) ?_
      refine zW.iret dJ40_hasNext_16 rfl (rfl) ?_
      rw [if_pos b1]
      exact ⟨rfl, rfl⟩
    · refine zW.iconst (pc' := 12) (nI 1) dJ40_hasNext_11 rfl (by decide) ?_
      refine zW.goto 16 dJ40_hasNext_12 (by decide) ?_
      refine zW.iret dJ40_hasNext_16 rfl (rfl) ?_
      rw [if_neg b1]
      exact ⟨rfl, rfl⟩
  have kn : ∀ (H : zH) (it i : Nat), i < 7 → H it = some (17, [.ref kw, .int (nI 7), .int (nI 0), .int (nI i)]) → H kw = some (16, [.ref ka, .int (nI 0)]) → H ka = some (104, kTab G) → zK G mJ40_next 2 0 [.ref it] H (zO fun o h' => o = some (.ref (zg_a G (110 + i))) ∧ h' it = some (17, [.ref kw, .int (nI 7), .int (nI 0), .int (nI (i + 1))]) ∧ zfr (fun b => b = it) H h') := fun H it i hi7 hi hkw hka => by
    have zf := zfr.rf (A := fun b => b = it) (h := H)
    show zW G mJ40_next 2 0 0 [.ref it, zho, zho] [] H _
    refine zW.aload_n (pc' := 1) dJ40_next_0 rfl rfl zg0 rfl ?_
    refine zW.get (pc' := 4) dJ40_next_1 rfl f_J40_17_17 hi ⟨rfl, (Nat.le_of_ble_eq_true rfl)⟩ rfl ?_
    refine zW.istore_n (pc' := 5) dJ40_next_4 rfl rfl (Nat.le_of_ble_eq_true rfl) (zsS (zs0)) ?_
    refine zW.aload_n (pc' := 6) dJ40_next_5 rfl rfl zg0 rfl ?_
    refine zW.get (pc' := 9) dJ40_next_6 rfl f_J40_7_17 hi ⟨rfl, (Nat.le_of_ble_eq_true rfl)⟩ rfl ?_
    refine zW.iload_n (pc' := 10) dJ40_next_9 rfl rfl (zgS (zg0)) ?_
    refine zW.callF (r' := 0) (pc' := 15) dJ40_next_10 rfl l_J40_24_J38 rfl hkw ⟨rfl, (Nat.le_of_ble_eq_true rfl)⟩ rfl (kg _ i hi7 hkw hka) (zcc rfl zc0) rfl (Nat.le_of_ble_eq_true rfl) (Nat.le_of_ble_eq_true rfl) (Nat.le_of_ble_eq_true rfl) (fun _ _ q9 => ?_) (fun _ _ q9 => by cases q9.1)
    obtain ⟨q8, e9⟩ := q9
    cases q8
    replace e9 := e9.symm
    subst e9
    refine zW.astore_n (pc' := 16) dJ40_next_15 rfl rfl (Nat.le_of_ble_eq_true rfl) rfl (zsS (zsS (zs0))) ?_
    refine zW.aload_n (pc' := 17) dJ40_next_16 rfl rfl zg0 rfl ?_
    refine zW.iload_n (pc' := 18) dJ40_next_17 rfl rfl (zgS (zg0)) ?_
    refine zW.iconst (pc' := 19) (nI 1) dJ40_next_18 rfl (by decide) ?_
    refine zW.iaddN (pc' := 20) dJ40_next_19 rfl ?_
    refine zW.putK (pc' := 23) dJ40_next_20 rfl f_J40_17_17 hi ⟨⟨rfl, (Nat.le_of_ble_eq_true rfl)⟩, (Nat.le_of_ble_eq_true rfl)⟩ (zFw.of ft_17_3 rfl rfl) (zsS (zsS (zsS (zs0)))) (fun _ e9 k9 => ?_)
    have zf := zf.put e9 hi (by decide) (Or.inl rfl)
    replace hi := k9
    clear e9 k9
    refine zW.aload_n (pc' := 24) dJ40_next_23 rfl rfl (zgS (zgS (zg0))) rfl ?_
    refine zW.aret dJ40_next_24 rfl (Or.inl ⟨_, rfl⟩) rfl ?_
    exact ⟨_, rfl, rfl, hi, zf⟩
  have loop : ∀ (m i it : Nat) (H : zH) (v3 : Value), i + m = 7 → (∀ j, j < i → ¬ q.isPrefixOf (kAt j) = true) → h it = none → H it = some (17, [.ref kw, .int (nI 7), .int (nI 0), .int (nI i)]) → zfr (fun _ => False) h H → zW G mX5_isKeywordPrefix 8 0 10 [.ref p, .ref c2, .ref it, v3] [] H (zPu h (some (.int (nI (if kPre q = true then 1 else 0))))) := by
    intro m
    induction m with
    | zero =>
      intro i it H v3 hm hn nit hi z
      obtain rfl : i = 7 := by omega
      refine zW.aload_n (pc' := 11) dX5_isKeywordPrefix_10 rfl rfl (zgS (zgS (zg0))) rfl ?_
      refine zW.callF (r' := 0) (pc' := 16) dX5_isKeywordPrefix_11 rfl l_X5_74_J40 rfl hi ⟨rfl, (Nat.le_of_ble_eq_true rfl)⟩ rfl (kh _ it 7 (by omega) hi) zc0 rfl (Nat.le_of_ble_eq_true rfl) (Nat.le_of_ble_eq_true rfl) (Nat.le_of_ble_eq_true rfl) (fun _ _ q9 => ?_) (fun _ _ q9 => by cases q9.1)
      obtain ⟨q8, e9⟩ := q9
      cases q8
      replace e9 := e9.symm
      subst e9
      rw [if_pos rfl]
      refine zW.if_eqN (pc' := 19) 42 dX5_isKeywordPrefix_16 rfl (by decide) (by omega) (fun b9 => ?_) (fun b9 => absurd b9 (by omega))
      refine zW.iconst (pc' := 43) (nI 0) dX5_isKeywordPrefix_42 rfl (by decide) ?_
      refine zW.drop (zle.of z) ?_
      refine zW.iret dX5_isKeywordPrefix_43 rfl (rfl) ?_
      rw [if_neg (fun q => by obtain ⟨i, h1, h2⟩ := kPre_iff.mp q; exact hn i h1 h2)]
      exact ⟨rfl, rfl⟩
    | succ m ih =>
      intro i it H v3 hm hn nit hi z
      refine zW.aload_n (pc' := 11) dX5_isKeywordPrefix_10 rfl rfl (zgS (zgS (zg0))) rfl ?_
      refine zW.callF (r' := 0) (pc' := 16) dX5_isKeywordPrefix_11 rfl l_X5_74_J40 rfl hi ⟨rfl, (Nat.le_of_ble_eq_true rfl)⟩ rfl (kh _ it i (by omega) hi) zc0 rfl (Nat.le_of_ble_eq_true rfl) (Nat.le_of_ble_eq_true rfl) (Nat.le_of_ble_eq_true rfl) (fun _ _ q9 => ?_) (fun _ _ q9 => by cases q9.1)
      obtain ⟨q8, e9⟩ := q9
      cases q8
      replace e9 := e9.symm
      subst e9
      rw [if_neg (by omega)]
      refine zW.if_eqN (pc' := 19) 42 dX5_isKeywordPrefix_16 rfl (by decide) (by omega) (fun b9 => absurd b9 (by omega)) (fun b9 => ?_)
      refine zW.aload_n (pc' := 20) dX5_isKeywordPrefix_19 rfl rfl (zgS (zgS (zg0))) rfl ?_
      refine zW.callFH (r' := 0) (pc' := 25) dX5_isKeywordPrefix_20 rfl l_X5_79_J40 rfl hi ⟨rfl, (Nat.le_of_ble_eq_true rfl)⟩ rfl (kn _ it i (by omega) hi (z.at k.1 fun q ↦ q) (z.at k.2 fun q ↦ q)) zc0 rfl (Nat.le_of_ble_eq_true rfl) (Nat.le_of_ble_eq_true rfl) (Nat.le_of_ble_eq_true rfl) (fun _ H1 q9 => ?_) (fun _ _ q9 => absurd q9 zO.no)
      obtain ⟨_, q8, e1, hi, z1⟩ := q9
      cases q8
      subst e1
      have z : zfr (fun _ => False) h H1 := z.tr z1 fun b hb => Or.inr (by rw [hb]; exact nit)
      have kk := hS.key (z.kn hk) (i := i) (by omega)
      obtain ⟨kc, fc, hc, hkc⟩ := kk.ob
      have hkc : kc % 1000 = 14 ∧ 14 < 50 := ⟨hkc, by decide⟩
      refine zW.castS (pc' := 28) dX5_isKeywordPrefix_25 rfl (lw_all_tbl q2299) hc hkc rfl ?_
      refine zW.astore_n (pc' := 29) dX5_isKeywordPrefix_28 rfl rfl (Nat.le_of_ble_eq_true rfl) rfl (zsS (zsS (zsS (zs0)))) ?_
      refine zW.aload_n (pc' := 30) dX5_isKeywordPrefix_29 rfl rfl (zgS (zgS (zgS (zg0)))) rfl ?_
      refine zW.aload_n (pc' := 31) dX5_isKeywordPrefix_30 rfl rfl (zgS (zg0)) rfl ?_
      refine zW.callS (r' := 0) (pc' := 34) dX5_isKeywordPrefix_31 rfl l_X5_83 rfl (w_hasPre kk (ks.fr z (fun q ↦ q) (fun q ↦ q))) (zcc rfl (zcc rfl zc0)) rfl (Nat.le_of_ble_eq_true rfl) (Nat.le_of_ble_eq_true rfl) (Nat.le_of_ble_eq_true rfl) (fun _ _ q9 => ?_) (fun _ _ q9 => by cases q9.1)
      obtain ⟨q8, e9⟩ := q9
      cases q8
      replace e9 := e9.symm
      subst e9
      by_cases t : q.isPrefixOf (kAt i) = true
      · rw [if_pos t]
        refine zW.if_eqN (pc' := 37) 39 dX5_isKeywordPrefix_34 rfl (by decide) (by omega) (fun b9 => absurd b9 (by omega)) (fun b9 => ?_)
        refine zW.iconst (pc' := 38) (nI 1) dX5_isKeywordPrefix_37 rfl (by decide) ?_
        refine zW.drop (zle.of z) ?_
        refine zW.iret dX5_isKeywordPrefix_38 rfl (rfl) ?_
        rw [if_pos (kPre_iff.mpr ⟨i, by omega, t⟩)]
        exact ⟨rfl, rfl⟩
      · rw [if_neg t]
        refine zW.if_eqN (pc' := 37) 39 dX5_isKeywordPrefix_34 rfl (by decide) (by omega) (fun b9 => ?_) (fun b9 => absurd b9 (by omega))
        refine zW.goto 10 dX5_isKeywordPrefix_39 (by decide) ?_
        refine ih (i + 1) it _ _ (by omega) (fun j hj => ?_) nit hi z
        by_cases e : j = i
        · rw [e]; exact t
        · exact hn j (by omega)
  show zW G mX5_isKeywordPrefix 8 1 0 [.ref p, .ref c2, zho, zho] [] h _
  refine zW.aload_n (pc' := 1) dX5_isKeywordPrefix_0 rfl rfl zg0 rfl ?_
  refine zW.get (pc' := 4) dX5_isKeywordPrefix_1 rfl f_X5_27_4 hp ⟨rfl, (Nat.le_of_ble_eq_true rfl)⟩ rfl ?_
  refine zW.callF (r' := 1) (pc' := 9) dX5_isKeywordPrefix_4 rfl l_X5_70_J38 rfl hkw ⟨rfl, (Nat.le_of_ble_eq_true rfl)⟩ rfl (kit) zc0 rfl (Nat.le_of_ble_eq_true rfl) (Nat.le_of_ble_eq_true rfl) (Nat.le_of_ble_eq_true rfl) (fun _ _ q9 => ?_) (fun _ _ q9 => absurd q9 zO.no)
  obtain ⟨_, q8, it, e1, nit, hi, z⟩ := q9
  cases q8
  cases e1
  refine zW.astore_n (pc' := 10) dX5_isKeywordPrefix_9 rfl rfl (Nat.le_of_ble_eq_true rfl) rfl (zsS (zsS (zs0))) ?_
  exact loop 7 0 it _ zho rfl (fun j hj => absurd hj (Nat.not_lt_zero j)) nit hi z
theorem w_atEnd (hP : cPo h p kw c al e) (ks : cStr h c w l) (hl : e.1 ≤ l.length) : zK G mX5_isAtEnd 6 0 [.ref p] h (zPu h (some (.int (nI (if e.1 = l.length then 1 else 0))))) := by
  have hp := hP
  obtain ⟨kc, fc, hc, hkc⟩ := ks.ob
  have hkc : kc % 1000 = 14 ∧ 14 < 50 := ⟨hkc, by decide⟩
  have b1 : l.length < 2 ^ 16 := by obtain ⟨k, k2, hz, hs, g1, g2, g3, g4, g5, g6⟩ := ks; exact g5
  show zW G mX5_isAtEnd 6 0 0 [.ref p] [] h _
  refine zW.aload_n (pc' := 1) dX5_isAtEnd_0 rfl rfl zg0 rfl ?_
  refine zW.get (pc' := 4) dX5_isAtEnd_1 rfl f_X5_44_4 hp ⟨rfl, (Nat.le_of_ble_eq_true rfl)⟩ rfl ?_
  refine zW.aload_n (pc' := 5) dX5_isAtEnd_4 rfl rfl zg0 rfl ?_
  refine zW.get (pc' := 8) dX5_isAtEnd_5 rfl f_X5_40_4 hp ⟨rfl, (Nat.le_of_ble_eq_true rfl)⟩ rfl ?_
  refine zW.callV (r' := 0) (pc' := 11) dX5_isAtEnd_8 rfl l_X5_48 rfl hc hkc rfl (w_strLen ks) zc0 rfl (Nat.le_of_ble_eq_true rfl) (Nat.le_of_ble_eq_true rfl) (Nat.le_of_ble_eq_true rfl) (fun _ _ q9 => ?_) (fun _ _ q9 => by cases q9.1)
  obtain ⟨q8, e9⟩ := q9
  cases q8
  replace e9 := e9.symm
  subst e9
  refine zW.icmp_neN (pc' := 14) 18 dX5_isAtEnd_11 rfl (by decide) (by omega) (by omega) (fun b2 => ?_) (fun b2 => ?_)
  · refine zW.iconst (pc' := 19) (nI 0) dX5_isAtEnd_18 rfl (by decide) ?_
    refine zW.iret dX5_isAtEnd_19 rfl (rfl) ?_
    rw [if_neg b2]
    exact ⟨rfl, rfl⟩
  · refine zW.iconst (pc' := 15) (nI 1) dX5_isAtEnd_14 rfl (by decide) ?_
    refine zW.goto 19 dX5_isAtEnd_15 (by decide) ?_
    refine zW.iret dX5_isAtEnd_19 rfl (rfl) ?_
    rw [if_pos b2]
    exact ⟨rfl, rfl⟩
theorem w_isNext (hP : cPo h p kw c al e) (ks : cStr h c w l) (hl : e.1 ≤ l.length) (hx : x < 128) : zK G mX5_isNext 8 0 [.ref p, .int (nI x)] h (zPu h (some (.int (nI (if l[e.1]? = some x then 1 else 0))))) := by
  have hp := hP
  obtain ⟨kc, fc, hc, hkc⟩ := ks.ob
  have hkc : kc % 1000 = 14 ∧ 14 < 50 := ⟨hkc, by decide⟩
  have d2 : ∀ x ∈ l, x < 128 := by obtain ⟨k, k2, hz, hs, g1, g2, g3, g4, g5, g6⟩ := ks; exact g6
  show zW G mX5_isNext 8 0 0 [.ref p, .int (nI x)] [] h _
  refine zW.aload_n (pc' := 1) dX5_isNext_0 rfl rfl zg0 rfl ?_
  refine zW.callV (r' := 0) (pc' := 4) dX5_isNext_1 rfl l_X5_54 rfl hp ⟨rfl, (Nat.le_of_ble_eq_true rfl)⟩ rfl (w_atEnd hP ks hl) zc0 rfl (Nat.le_of_ble_eq_true rfl) (Nat.le_of_ble_eq_true rfl) (Nat.le_of_ble_eq_true rfl) (fun _ _ q9 => ?_) (fun _ _ q9 => by cases q9.1)
  obtain ⟨q8, e9⟩ := q9
  cases q8
  replace e9 := e9.symm
  subst e9
  by_cases q : e.1 = l.length
  · rw [if_pos q]
    refine zW.if_neN (pc' := 7) 26 dX5_isNext_4 rfl (by decide) (by omega) (fun b9 => ?_) (fun b9 => absurd b9 (by omega))
    refine zW.iconst (pc' := 27) (nI 0) dX5_isNext_26 rfl (by decide) ?_
    refine zW.iret dX5_isNext_27 rfl (rfl) ?_
    rw [if_neg (by rw [q, List.getElem?_eq_none (Nat.le_refl _)]; exact fun z => by cases z)]
    exact ⟨rfl, rfl⟩
  · rw [if_neg q]
    refine zW.if_neN (pc' := 7) 26 dX5_isNext_4 rfl (by decide) (by omega) (fun b9 => absurd b9 (by omega)) (fun b9 => ?_)
    obtain ⟨y, hy⟩ : ∃ y, l[e.1]? = some y := ⟨_, List.getElem?_eq_getElem (by omega)⟩
    have hy1 := d2 y (List.mem_of_getElem? hy)
    refine zW.aload_n (pc' := 8) dX5_isNext_7 rfl rfl zg0 rfl ?_
    refine zW.get (pc' := 11) dX5_isNext_8 rfl f_X5_40_4 hp ⟨rfl, (Nat.le_of_ble_eq_true rfl)⟩ rfl ?_
    refine zW.aload_n (pc' := 12) dX5_isNext_11 rfl rfl zg0 rfl ?_
    refine zW.get (pc' := 15) dX5_isNext_12 rfl f_X5_44_4 hp ⟨rfl, (Nat.le_of_ble_eq_true rfl)⟩ rfl ?_
    refine zW.callV (r' := 0) (pc' := 18) dX5_isNext_15 rfl l_X5_58 rfl hc hkc rfl (w_strAt ks hy) (zcc rfl zc0) rfl (Nat.le_of_ble_eq_true rfl) (Nat.le_of_ble_eq_true rfl) (Nat.le_of_ble_eq_true rfl) (fun _ _ q9 => ?_) (fun _ _ q9 => by cases q9.1)
    obtain ⟨q8, e9⟩ := q9
    cases q8
    replace e9 := e9.symm
    subst e9
    refine zW.iload_n (pc' := 19) dX5_isNext_18 rfl rfl (zgS (zg0)) ?_
    refine zW.icmp_neN (pc' := 22) 26 dX5_isNext_19 rfl (by decide) (by omega) (by omega) (fun b2 => ?_) (fun b2 => ?_)
    · refine zW.iconst (pc' := 27) (nI 0) dX5_isNext_26 rfl (by decide) ?_
      refine zW.iret dX5_isNext_27 rfl (rfl) ?_
      rw [if_neg (by rw [hy]; exact fun z => b2 (Option.some.inj z))]
      exact ⟨rfl, rfl⟩
    · refine zW.iconst (pc' := 23) (nI 1) dX5_isNext_22 rfl (by decide) ?_
      refine zW.goto 27 dX5_isNext_23 (by decide) ?_
      refine zW.iret dX5_isNext_27 rfl (rfl) ?_
      rw [if_pos (by rw [hy, b2])]
      exact ⟨rfl, rfl⟩
theorem w_isDigit (hP : cPo h p kw c al e) (ks : cStr h c w l) (hl : e.1 ≤ l.length) : zK G mX5_isNextDigit 8 0 [.ref p] h (zPu h (some (.int (nI (if pDig l e.1 = true then 1 else 0))))) := by
  have hp := hP
  obtain ⟨kc, fc, hc, hkc⟩ := ks.ob
  have hkc : kc % 1000 = 14 ∧ 14 < 50 := ⟨hkc, by decide⟩
  have d2 : ∀ x ∈ l, x < 128 := by obtain ⟨k, k2, hz, hs, g1, g2, g3, g4, g5, g6⟩ := ks; exact g6
  unfold pDig
  show zW G mX5_isNextDigit 8 0 0 [.ref p] [] h _
  refine zW.aload_n (pc' := 1) dX5_isNextDigit_0 rfl rfl zg0 rfl ?_
  refine zW.callV (r' := 0) (pc' := 4) dX5_isNextDigit_1 rfl l_X5_54 rfl hp ⟨rfl, (Nat.le_of_ble_eq_true rfl)⟩ rfl (w_atEnd hP ks hl) zc0 rfl (Nat.le_of_ble_eq_true rfl) (Nat.le_of_ble_eq_true rfl) (Nat.le_of_ble_eq_true rfl) (fun _ _ q9 => ?_) (fun _ _ q9 => by cases q9.1)
  obtain ⟨q8, e9⟩ := q9
  cases q8
  replace e9 := e9.symm
  subst e9
  by_cases q : e.1 = l.length
  · rw [if_pos q]
    refine zW.if_neN (pc' := 7) 43 dX5_isNextDigit_4 rfl (by decide) (by omega) (fun b9 => ?_) (fun b9 => absurd b9 (by omega))
    refine zW.iconst (pc' := 44) (nI 0) dX5_isNextDigit_43 rfl (by decide) ?_
    refine zW.iret dX5_isNextDigit_44 rfl (rfl) ?_
    rw [q, List.getElem?_eq_none (Nat.le_refl _)]
    exact ⟨rfl, rfl⟩
  · rw [if_neg q]
    refine zW.if_neN (pc' := 7) 43 dX5_isNextDigit_4 rfl (by decide) (by omega) (fun b9 => absurd b9 (by omega)) (fun b9 => ?_)
    obtain ⟨y, hy⟩ : ∃ y, l[e.1]? = some y := ⟨_, List.getElem?_eq_getElem (by omega)⟩
    have hy1 := d2 y (List.mem_of_getElem? hy)
    refine zW.aload_n (pc' := 8) dX5_isNextDigit_7 rfl rfl zg0 rfl ?_
    refine zW.get (pc' := 11) dX5_isNextDigit_8 rfl f_X5_40_4 hp ⟨rfl, (Nat.le_of_ble_eq_true rfl)⟩ rfl ?_
    refine zW.aload_n (pc' := 12) dX5_isNextDigit_11 rfl rfl zg0 rfl ?_
    refine zW.get (pc' := 15) dX5_isNextDigit_12 rfl f_X5_44_4 hp ⟨rfl, (Nat.le_of_ble_eq_true rfl)⟩ rfl ?_
    refine zW.callV (r' := 0) (pc' := 18) dX5_isNextDigit_15 rfl l_X5_58 rfl hc hkc rfl (w_strAt ks hy) (zcc rfl zc0) rfl (Nat.le_of_ble_eq_true rfl) (Nat.le_of_ble_eq_true rfl) (Nat.le_of_ble_eq_true rfl) (fun _ _ q9 => ?_) (fun _ _ q9 => by cases q9.1)
    obtain ⟨q8, e9⟩ := q9
    cases q8
    replace e9 := e9.symm
    subst e9
    rw [hy]
    dsimp only
    refine zW.bipush (pc' := 20) (nI 48) dX5_isNextDigit_18 rfl (by decide) ?_
    refine zW.icmp_ltN (pc' := 23) 43 dX5_isNextDigit_20 rfl (by decide) (by omega) (by omega) (fun b2 => ?_) (fun b2 => ?_)
    · refine zW.iconst (pc' := 44) (nI 0) dX5_isNextDigit_43 rfl (by decide) ?_
      refine zW.iret dX5_isNextDigit_44 rfl (rfl) ?_
      rw [if_neg (by rw [decide_eq_true_eq]; omega)]
      exact ⟨rfl, rfl⟩
    · refine zW.aload_n (pc' := 24) dX5_isNextDigit_23 rfl rfl zg0 rfl ?_
      refine zW.get (pc' := 27) dX5_isNextDigit_24 rfl f_X5_40_4 hp ⟨rfl, (Nat.le_of_ble_eq_true rfl)⟩ rfl ?_
      refine zW.aload_n (pc' := 28) dX5_isNextDigit_27 rfl rfl zg0 rfl ?_
      refine zW.get (pc' := 31) dX5_isNextDigit_28 rfl f_X5_44_4 hp ⟨rfl, (Nat.le_of_ble_eq_true rfl)⟩ rfl ?_
      refine zW.callV (r' := 0) (pc' := 34) dX5_isNextDigit_31 rfl l_X5_58 rfl hc hkc rfl (w_strAt ks hy) (zcc rfl zc0) rfl (Nat.le_of_ble_eq_true rfl) (Nat.le_of_ble_eq_true rfl) (Nat.le_of_ble_eq_true rfl) (fun _ _ q9 => ?_) (fun _ _ q9 => by cases q9.1)
      obtain ⟨q8, e9⟩ := q9
      cases q8
      replace e9 := e9.symm
      subst e9
      refine zW.bipush (pc' := 36) (nI 57) dX5_isNextDigit_34 rfl (by decide) ?_
      refine zW.icmp_gtN (pc' := 39) 43 dX5_isNextDigit_36 rfl (by decide) (by omega) (by omega) (fun b3 => ?_) (fun b3 => ?_)
      · refine zW.iconst (pc' := 44) (nI 0) dX5_isNextDigit_43 rfl (by decide) ?_
        refine zW.iret dX5_isNextDigit_44 rfl (rfl) ?_
        rw [if_neg (by rw [decide_eq_true_eq]; omega)]
        exact ⟨rfl, rfl⟩
      · refine zW.iconst (pc' := 40) (nI 1) dX5_isNextDigit_39 rfl (by decide) ?_
        refine zW.goto 44 dX5_isNextDigit_40 (by decide) ?_
        refine zW.iret dX5_isNextDigit_44 rfl (rfl) ?_
        rw [if_pos (by rw [decide_eq_true_eq]; omega)]
        exact ⟨rfl, rfl⟩
end
