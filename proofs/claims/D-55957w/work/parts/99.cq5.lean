/-! THE CLASS's chains -/
section
set_option maxRecDepth 100000
variable {G : zG} {h : zH} {O : Nat → Prop} {x st ll aq re rt ea ha er hr tt nn n i : Nat} {mc : Int32} {xs : List (Nat × Nat)} {qs rs : List Nat} {s : sS} {fs : List Value} {id y z : Int32} {Q9 : zR → zH → Prop}
theorem cIs.nil {h : zH} : cIs h (fun _ => True) [] [] := ⟨rfl, fun i q9 y9 e1 => by cases e1⟩
theorem zfr.self {h : zH} {a : Nat} {c : zC} (_ : h a = some c) : zfr (fun b => b = a) h h := zfr.rf
theorem c_creditorsOf (hx : h x = some (0, .ref st :: fs)) (hP : cP h O st ll aq re rt ea ha er hr mc xs qs rs s) (hI : sI tt nn n s) {m : Nat} (hm : m < 256) : zK G mX1_creditorsOf 6 2 [.ref x, .int (nI m)] h (zPu h (some (.int (nI (sStep s m))))) := by
  obtain ⟨hst, ⟨hL, hC⟩, -⟩ := hP
  have hl := hL.1
  have hxs := hC.1
  have h12 := hI.len
  have loop : ∀ (it : Nat) (nit : h it = none) (m9 k : Nat) (lr v4 : Value), k + m9 = s.2.1.length → zW G mX1_creditorsOf 6 0 13 [.ref x, .int (nI m), .int (nI (sCr s m k)), .ref it, v4] [] (zup h it (cIt ll mc xs k lr)) (zPu h (some (.int (nI (sStep s m))))) := by
    intro it nit m9
    induction m9 with
    | zero =>
      intro k lr v4 hk
      have hi := zup_s (h := h) (a := it) (c := cIt ll mc xs k lr)
      have hl1 := (zup_n (c := cIt ll mc xs k lr) (zfresh nit hl)).trans hl
      refine zW.aload_n (pc' := 14) dX1_creditorsOf_13 rfl rfl (zgS (zgS (zgS (zg0)))) rfl ?_
      refine zW.callF (r' := 0) (pc' := 19) dX1_creditorsOf_14 rfl l_X1_247_J25 rfl hi ⟨rfl, (Nat.le_of_ble_eq_true rfl)⟩ rfl (w_itHas hi hl1 (by omega) (by omega)) zc0 rfl (Nat.le_of_ble_eq_true rfl) (Nat.le_of_ble_eq_true rfl) (Nat.le_of_ble_eq_true rfl) (fun _ _ q9 => ?_) (fun _ _ q9 => by cases q9.1)
      obtain ⟨q8, e9⟩ := q9
      cases q8
      replace e9 := e9.symm
      subst e9
      rw [if_neg (by omega)]
      refine zW.if_eqN (pc' := 22) 59 dX1_creditorsOf_19 rfl (by decide) (by omega) (fun b9 => ?_) (fun b9 => absurd b9 (by omega))
      refine zW.iload_n (pc' := 60) dX1_creditorsOf_59 rfl rfl (zgS (zgS (zg0))) ?_
      refine zW.drop (zle.up nit) ?_
      refine zW.iret dX1_creditorsOf_60 rfl (rfl) ?_
      rw [show k = s.2.1.length by omega]
      exact ⟨rfl, rfl⟩
    | succ m9 ih =>
      intro k lr v4 hk
      have hi := zup_s (h := h) (a := it) (c := cIt ll mc xs k lr)
      have hl1 := (zup_n (c := cIt ll mc xs k lr) (zfresh nit hl)).trans hl
      obtain ⟨p, hp, hc⟩ := hC.at (k := k) (by omega)
      have hd8 := (hI.at (i := k) (by omega)).2.1
      have hc8 := (hI.at (i := k) (by omega)).2.2.1
      refine zW.aload_n (pc' := 14) dX1_creditorsOf_13 rfl rfl (zgS (zgS (zgS (zg0)))) rfl ?_
      refine zW.callF (r' := 0) (pc' := 19) dX1_creditorsOf_14 rfl l_X1_247_J25 rfl hi ⟨rfl, (Nat.le_of_ble_eq_true rfl)⟩ rfl (w_itHas hi hl1 (by omega) (by omega)) zc0 rfl (Nat.le_of_ble_eq_true rfl) (Nat.le_of_ble_eq_true rfl) (Nat.le_of_ble_eq_true rfl) (fun _ _ q9 => ?_) (fun _ _ q9 => by cases q9.1)
      obtain ⟨q8, e9⟩ := q9
      cases q8
      replace e9 := e9.symm
      subst e9
      rw [if_pos (by omega)]
      refine zW.if_eqN (pc' := 22) 59 dX1_creditorsOf_19 rfl (by decide) (by omega) (fun b9 => absurd b9 (by omega)) (fun b9 => ?_)
      refine zW.aload_n (pc' := 23) dX1_creditorsOf_22 rfl rfl (zgS (zgS (zgS (zg0)))) rfl ?_
      refine zW.callF (r' := 0) (pc' := 28) dX1_creditorsOf_23 rfl l_X1_252_J25 rfl hi ⟨rfl, (Nat.le_of_ble_eq_true rfl)⟩ rfl (w_itNext (hL.it nit) hi hp (by omega)) zc0 rfl (Nat.le_of_ble_eq_true rfl) (Nat.le_of_ble_eq_true rfl) (Nat.le_of_ble_eq_true rfl) (fun _ _ q9 => ?_) (fun _ _ q9 => absurd q9 zO.no)
      obtain ⟨_, q8, e1, e9, -⟩ := q9
      cases q8
      subst e1
      rw [zup_up] at e9
      subst e9
      have hc1 := (zup_n (c := cIt ll mc xs (k + 1) (.ref p.1)) (zfresh nit hc)).trans hc
      have hc2 := cCl_l hc1
      refine zW.castS (pc' := 31) dX1_creditorsOf_28 rfl (lw_all_tbl q1398) hc2 ⟨rfl, (Nat.le_of_ble_eq_true rfl)⟩ rfl ?_
      refine zW.astore (pc' := 33) dX1_creditorsOf_31 rfl (Nat.le_of_ble_eq_true rfl) rfl (zsS (zsS (zsS (zsS (zs0))))) ?_
      refine zW.iload_n (pc' := 34) dX1_creditorsOf_33 rfl rfl (zgS (zg0)) ?_
      refine zW.aload (pc' := 36) dX1_creditorsOf_34 rfl (zgS (zgS (zgS (zgS (zg0))))) rfl ?_
      refine zW.get (pc' := 39) dX1_creditorsOf_36 rfl f_X1_197_2 hc2 ⟨rfl, (Nat.le_of_ble_eq_true rfl)⟩ rfl ?_
      refine zW.ishr (pc' := 40) dX1_creditorsOf_39 rfl ?_
      refine zW.iconst (pc' := 41) (nI 1) dX1_creditorsOf_40 rfl (by decide) ?_
      refine zW.iand (pc' := 42) dX1_creditorsOf_41 rfl ?_
      rw [bt hm hd8]
      refine zW.iconst (pc' := 43) (nI 1) dX1_creditorsOf_42 rfl (by decide) ?_
      have hs : sCr s m (k + 1) = if m.testBit (sAt s.2.1 k 1) = true then sCr s m k ||| 2 ^ sAt s.2.1 k 2 else sCr s m k := rfl
      by_cases q : m.testBit (sAt s.2.1 k 1) = true
      · rw [if_pos q] at hs ⊢
        refine zW.icmp_neN (pc' := 46) 56 dX1_creditorsOf_43 rfl (by decide) (by omega) (by omega) (fun b9 => absurd b9 (by omega)) (fun b9 => ?_)
        refine zW.iload_n (pc' := 47) dX1_creditorsOf_46 rfl rfl (zgS (zgS (zg0))) ?_
        refine zW.iconst (pc' := 48) (nI 1) dX1_creditorsOf_47 rfl (by decide) ?_
        refine zW.aload (pc' := 50) dX1_creditorsOf_48 rfl (zgS (zgS (zgS (zgS (zg0))))) rfl ?_
        refine zW.get (pc' := 53) dX1_creditorsOf_50 rfl f_X1_200_2 hc2 ⟨rfl, (Nat.le_of_ble_eq_true rfl)⟩ rfl ?_
        refine zW.ishl (pc' := 54) dX1_creditorsOf_53 rfl ?_
        rw [sh hc8]
        refine zW.ior (pc' := 55) dX1_creditorsOf_54 rfl ?_
        rw [nI_or, ← hs]
        refine zW.istore_n (pc' := 56) dX1_creditorsOf_55 rfl rfl (Nat.le_of_ble_eq_true rfl) (zsS (zsS (zs0))) ?_
        refine zW.goto 13 dX1_creditorsOf_56 (by decide) ?_
        exact ih (k + 1) _ _ (by omega)
      · rw [if_neg q] at hs ⊢
        refine zW.icmp_neN (pc' := 46) 56 dX1_creditorsOf_43 rfl (by decide) (by omega) (by omega) (fun b9 => ?_) (fun b9 => absurd b9 (by omega))
        refine zW.goto 13 dX1_creditorsOf_56 (by decide) ?_
        rw [← hs]
        exact ih (k + 1) _ _ (by omega)
  show zW G mX1_creditorsOf 6 2 0 [.ref x, .int (nI m), zho, zho, zho] [] h _
  refine zW.iconst (pc' := 1) (nI 0) dX1_creditorsOf_0 rfl (by decide) ?_
  refine zW.istore_n (pc' := 2) dX1_creditorsOf_1 rfl rfl (Nat.le_of_ble_eq_true rfl) (zsS (zsS (zs0))) ?_
  refine zW.aload_n (pc' := 3) dX1_creditorsOf_2 rfl rfl zg0 rfl ?_
  refine zW.get (pc' := 6) dX1_creditorsOf_3 rfl f_X1_10_0 hx ⟨rfl, (Nat.le_of_ble_eq_true rfl)⟩ rfl ?_
  refine zW.get (pc' := 9) dX1_creditorsOf_6 rfl f_X1_91_1 hst ⟨rfl, (Nat.le_of_ble_eq_true rfl)⟩ rfl ?_
  refine zW.callU (r' := 2) (pc' := 12) dX1_creditorsOf_9 rfl l_X1_274_J3 rfl hl ⟨rfl, (Nat.le_of_ble_eq_true rfl)⟩ rfl (w_llIter hL (by omega)) zc0 rfl (Nat.le_of_ble_eq_true rfl) (Nat.le_of_ble_eq_true rfl) (Nat.le_of_ble_eq_true rfl) (fun _ _ q9 => ?_) (fun _ _ q9 => absurd q9 zO.no)
  obtain ⟨_, q8, it, e1, nit, e9, -⟩ := q9
  cases q8
  subst e1
  subst e9
  refine zW.astore_n (pc' := 13) dX1_creditorsOf_12 rfl rfl (Nat.le_of_ble_eq_true rfl) rfl (zsS (zsS (zsS (zs0)))) ?_
  exact loop it nit s.2.1.length 0 .null zho (Nat.zero_add _)
/-- a chain's length as the class has it -/
def cLenV (s : sS) (a b : Nat) : Int32 := if bLen s a b = 0 then -1 else nI (bLen s a b)
theorem c_byRounds (hx : h x = some (0, .ref st :: fs)) (hP : cP h O st ll aq re rt ea ha er hr mc xs qs rs s) (hI : sI tt nn n s) {a b : Nat} (ha8 : a < 8) (hb8 : b < 8) : zK G mX1_shortestChainByRounds 26 16 [.ref x, .int (nI a), .int (nI b)] h (zPu h (some (.int (cLenV s a b)))) := by
  obtain ⟨l1, l2, l3⟩ := bLen_spec hI (x := a)
  have loop : ∀ (m k : Nat) (v5 : Value), k + m = 8 → (∀ j, j < k → ¬ (sNth s (2 ^ a) (j + 1)).testBit b = true) → zW G mX1_shortestChainByRounds 26 (2 * m) 7 [.ref x, .int (nI a), .int (nI b), .int (nI (rR s (2 ^ a) k)), .int (nI (k + 1)), v5] [] h (zPu h (some (.int (cLenV s a b)))) := by
    intro m
    induction m with
    | zero =>
      intro k v5 hk hno
      refine zW.iload (pc' := 9) dX1_shortestChainByRounds_7 rfl (zgS (zgS (zgS (zgS (zg0))))) ?_
      refine zW.bipush (pc' := 11) (nI 8) dX1_shortestChainByRounds_9 rfl (by decide) ?_
      refine zW.icmp_gtN (pc' := 14) 45 dX1_shortestChainByRounds_11 rfl (by decide) (by omega) (by omega) (fun b9 => ?_) (fun b9 => absurd b9 (by omega))
      refine zW.iconst (pc' := 46) (-1) dX1_shortestChainByRounds_45 rfl (by decide) ?_
      refine zW.iret dX1_shortestChainByRounds_46 rfl (rfl) ?_
      unfold cLenV
      rw [if_pos (Classical.byContradiction fun q => hno (bLen s a b - 1) (by have := l3 b; omega) (by rw [show bLen s a b - 1 + 1 = bLen s a b by omega]; exact l1 b q))]
      exact ⟨rfl, rfl⟩
    | succ m ih =>
      intro k v5 hk hno
      refine zW.pay (r1 := 2 * m + 2) ?_ (by omega)
      have hr := rR_lt hI (x := 2 ^ a) (pow8 ha8) (k := k)
      have hs8 : sStep s (rR s (2 ^ a) k) < 256 := sCr_lt hI (Nat.le_refl _)
      have e : (sStep s (rR s (2 ^ a) k)).testBit b = true ↔ (sNth s (2 ^ a) (k + 1)).testBit b = true := by
        rw [rR_step]
        constructor
        · rintro ⟨j, h1, h2⟩
          by_cases q : j = k
          · rw [q] at h2; exact h2
          · exact absurd h2 (hno j (by omega))
        · intro q; exact ⟨k, Nat.le_refl _, q⟩
      refine zW.iload (pc' := 9) dX1_shortestChainByRounds_7 rfl (zgS (zgS (zgS (zgS (zg0))))) ?_
      refine zW.bipush (pc' := 11) (nI 8) dX1_shortestChainByRounds_9 rfl (by decide) ?_
      refine zW.icmp_gtN (pc' := 14) 45 dX1_shortestChainByRounds_11 rfl (by decide) (by omega) (by omega) (fun b9 => absurd b9 (by omega)) (fun b9 => ?_)
      refine zW.aload_n (pc' := 15) dX1_shortestChainByRounds_14 rfl rfl zg0 rfl ?_
      refine zW.iload_n (pc' := 16) dX1_shortestChainByRounds_15 rfl rfl (zgS (zgS (zgS (zg0)))) ?_
      refine zW.callV (r' := 2) (pc' := 19) dX1_shortestChainByRounds_16 rfl l_X1_275 rfl hx ⟨rfl, (Nat.le_of_ble_eq_true rfl)⟩ rfl (c_creditorsOf hx hP hI hr) (zcc rfl zc0) rfl (Nat.le_of_ble_eq_true rfl) (Nat.le_of_ble_eq_true rfl) (Nat.le_of_ble_eq_true rfl) (fun _ _ q9 => ?_) (fun _ _ q9 => by cases q9.1)
      obtain ⟨q8, e9⟩ := q9
      cases q8
      replace e9 := e9.symm
      subst e9
      refine zW.istore (pc' := 21) dX1_shortestChainByRounds_19 rfl (Nat.le_of_ble_eq_true rfl) (zsS (zsS (zsS (zsS (zsS (zs0)))))) ?_
      refine zW.iload (pc' := 23) dX1_shortestChainByRounds_21 rfl (zgS (zgS (zgS (zgS (zgS (zg0)))))) ?_
      refine zW.iload_n (pc' := 24) dX1_shortestChainByRounds_23 rfl rfl (zgS (zgS (zg0))) ?_
      refine zW.ishr (pc' := 25) dX1_shortestChainByRounds_24 rfl ?_
      refine zW.iconst (pc' := 26) (nI 1) dX1_shortestChainByRounds_25 rfl (by decide) ?_
      refine zW.iand (pc' := 27) dX1_shortestChainByRounds_26 rfl ?_
      rw [bt hs8 hb8]
      refine zW.iconst (pc' := 28) (nI 1) dX1_shortestChainByRounds_27 rfl (by decide) ?_
      by_cases q : (sStep s (rR s (2 ^ a) k)).testBit b = true
      · rw [if_pos q]
        refine zW.icmp_neN (pc' := 31) 34 dX1_shortestChainByRounds_28 rfl (by decide) (by omega) (by omega) (fun b9 => absurd b9 (by omega)) (fun b9 => ?_)
        refine zW.iload (pc' := 33) dX1_shortestChainByRounds_31 rfl (zgS (zgS (zgS (zgS (zg0))))) ?_
        refine zW.iret dX1_shortestChainByRounds_33 rfl (rfl) ?_
        obtain ⟨a1, a2⟩ := l2 k b (e.mp q)
        have a3 : bLen s a b = k + 1 := by
          refine Nat.le_antisymm a2 (Nat.le_of_not_lt fun z => ?_)
          refine hno (bLen s a b - 1) (by omega) ?_
          rw [show bLen s a b - 1 + 1 = bLen s a b by omega]
          exact l1 b a1
        unfold cLenV
        rw [if_neg a1, a3]
        exact ⟨rfl, rfl⟩
      · rw [if_neg q]
        refine zW.icmp_neN (pc' := 31) 34 dX1_shortestChainByRounds_28 rfl (by decide) (by omega) (by omega) (fun b9 => ?_) (fun b9 => absurd b9 (by omega))
        refine zW.iload_n (pc' := 35) dX1_shortestChainByRounds_34 rfl rfl (zgS (zgS (zgS (zg0)))) ?_
        refine zW.iload (pc' := 37) dX1_shortestChainByRounds_35 rfl (zgS (zgS (zgS (zgS (zgS (zg0)))))) ?_
        refine zW.ior (pc' := 38) dX1_shortestChainByRounds_37 rfl ?_
        rw [nI_or]
        refine zW.istore_n (pc' := 39) dX1_shortestChainByRounds_38 rfl rfl (Nat.le_of_ble_eq_true rfl) (zsS (zsS (zsS (zs0)))) ?_
        refine zW.iincN (pc' := 42) (n := 1) dX1_shortestChainByRounds_39 rfl (Nat.le_of_ble_eq_true rfl) (zgS (zgS (zgS (zgS (zg0))))) (zsS (zsS (zsS (zsS (zs0))))) ?_
        refine zW.goto 7 dX1_shortestChainByRounds_42 (by decide) ?_
        refine ih (k + 1) _ (by omega) fun j hj => ?_
        by_cases z : j = k
        · rw [z]; exact fun w => q (e.mpr w)
        · exact hno j (by omega)
  show zW G mX1_shortestChainByRounds 26 16 0 [.ref x, .int (nI a), .int (nI b), zho, zho, zho] [] h _
  refine zW.iconst (pc' := 1) (nI 1) dX1_shortestChainByRounds_0 rfl (by decide) ?_
  refine zW.iload_n (pc' := 2) dX1_shortestChainByRounds_1 rfl rfl (zgS (zg0)) ?_
  refine zW.ishl (pc' := 3) dX1_shortestChainByRounds_2 rfl ?_
  rw [sh ha8]
  refine zW.istore_n (pc' := 4) dX1_shortestChainByRounds_3 rfl rfl (Nat.le_of_ble_eq_true rfl) (zsS (zsS (zsS (zs0)))) ?_
  refine zW.iconst (pc' := 5) (nI 1) dX1_shortestChainByRounds_4 rfl (by decide) ?_
  refine zW.istore (pc' := 7) dX1_shortestChainByRounds_5 rfl (Nat.le_of_ble_eq_true rfl) (zsS (zsS (zsS (zsS (zs0))))) ?_
  exact loop 8 0 zho rfl fun j hj => absurd hj (Nat.not_lt_zero j)
/-- a person's claims are looked through -/
theorem c_scIn (hk : zkn G h) (hZ : zkI G) (hx : h x = some (0, .ref st :: fs)) (hP : cP h O st ll aq re rt ea ha er hr mc xs qs rs s) (hI : sI tt nn n s) {a b p l : Nat} {f : Nat → Nat} {Q : List Nat} (hp8 : p < 8) (hV : bV f Q) (hl : l + Q.length + bUn f + 1 ≤ 9) {ar qd ed it r : Nat} (n1 : h ar = none) (n2 : h qd = none) (n3 : h ed = none) (n4 : h it = none)
    (fin : ∀ (H : zH) (hd : Nat) (its : List Nat) (v8 v9 : Value), zfr (fun _ => False) h H → H ar = some (100, ztab 8 (bIn s p l s.2.1.length (f, Q)).1) → cDQ H qd ed hd its → cIs H (fun _ => True) its (bIn s p l s.2.1.length (f, Q)).2 → zW G mX1_shortestChain 24 r 26 [.ref x, .int (nI a), .int (nI b), .ref ar, .ref qd, .int (nI 0), .int (nI p), .int (nI l), v8, v9] [] H Q9) :
    ∀ (m k : Nat) (H : zH) (hd : Nat) (its : List Nat) (lr v9 : Value), k + m = s.2.1.length → zfr (fun _ => False) h H → H ar = some (100, ztab 8 (bIn s p l k (f, Q)).1) → cDQ H qd ed hd its → cIs H (fun _ => True) its (bIn s p l k (f, Q)).2 → H it = some (cIt ll mc xs k lr) → zW G mX1_shortestChain 24 (r + m) 77 [.ref x, .int (nI a), .int (nI b), .ref ar, .ref qd, .int (nI 0), .int (nI p), .int (nI l), .ref it, v9] [] H Q9 := by
  have h12 := hI.len
  intro m
  induction m with
  | zero =>
    intro k H hd its lr v9 hkm zf har hQ hIs hit
    have hPo := hP.fr zf fun _ _ q => q
    obtain ⟨hst, ⟨hL, hC⟩, -⟩ := hPo
    have hl1 := hL.1
    have hxs := hC.1
    refine zW.aload (pc' := 79) dX1_shortestChain_77 rfl (zgS (zgS (zgS (zgS (zgS (zgS (zgS (zgS (zg0))))))))) rfl ?_
    refine zW.callF (r' := 0) (pc' := 84) dX1_shortestChain_79 rfl l_X1_247_J25 rfl hit ⟨rfl, (Nat.le_of_ble_eq_true rfl)⟩ rfl (w_itHas hit hl1 (by omega) (by omega)) zc0 rfl (Nat.le_of_ble_eq_true rfl) (Nat.le_of_ble_eq_true rfl) (Nat.le_of_ble_eq_true rfl) (fun _ _ q9 => ?_) (fun _ _ q9 => by cases q9.1)
    obtain ⟨q8, e9⟩ := q9
    cases q8
    replace e9 := e9.symm
    subst e9
    rw [if_neg (by omega)]
    refine zW.if_eqN (pc' := 87) 146 dX1_shortestChain_84 rfl (by decide) (by omega) (fun b9 => ?_) (fun b9 => absurd b9 (by omega))
    refine zW.goto 26 dX1_shortestChain_146 (by decide) ?_
    rw [show k = s.2.1.length by omega] at har hIs
    exact zW.pay (fin H hd its _ _ zf har hQ hIs) (by omega)
  | succ m ih =>
    intro k H hd its lr v9 hkm zf har hQ hIs hit
    have hPo := hP.fr zf fun _ _ q => q
    obtain ⟨hst, ⟨hL, hC⟩, -⟩ := hPo
    have hl1 := hL.1
    have hxs := hC.1
    obtain ⟨p9, hp, hc⟩ := hC.at (k := k) (by omega)
    have hd8 := (hI.at (i := k) (by omega)).2.1
    have hc8 := (hI.at (i := k) (by omega)).2.2.1
    obtain ⟨⟨v1, v2, v3⟩, v4⟩ := hV.in (p := p) hI hl (k := k) (by omega)
    have v2c := v2 (sAt s.2.1 k 2)
    have v3c := v3 (sAt s.2.1 k 2)
    refine zW.pay (r1 := r + m + 1) ?_ (by omega)
    have zi := zfr.rf (A := fun b => b = it) (h := H)
    refine zW.aload (pc' := 79) dX1_shortestChain_77 rfl (zgS (zgS (zgS (zgS (zgS (zgS (zgS (zgS (zg0))))))))) rfl ?_
    refine zW.callF (r' := 0) (pc' := 84) dX1_shortestChain_79 rfl l_X1_247_J25 rfl hit ⟨rfl, (Nat.le_of_ble_eq_true rfl)⟩ rfl (w_itHas hit hl1 (by omega) (by omega)) zc0 rfl (Nat.le_of_ble_eq_true rfl) (Nat.le_of_ble_eq_true rfl) (Nat.le_of_ble_eq_true rfl) (fun _ _ q9 => ?_) (fun _ _ q9 => by cases q9.1)
    obtain ⟨q8, e9⟩ := q9
    cases q8
    replace e9 := e9.symm
    subst e9
    rw [if_pos (by omega)]
    refine zW.if_eqN (pc' := 87) 146 dX1_shortestChain_84 rfl (by decide) (by omega) (fun b9 => absurd b9 (by omega)) (fun b9 => ?_)
    refine zW.aload (pc' := 89) dX1_shortestChain_87 rfl (zgS (zgS (zgS (zgS (zgS (zgS (zgS (zgS (zg0))))))))) rfl ?_
    have hit0 := hit
    refine zW.callF (r' := 0) (pc' := 94) dX1_shortestChain_89 rfl l_X1_252_J25 rfl hit ⟨rfl, (Nat.le_of_ble_eq_true rfl)⟩ rfl (w_itNext hL hit hp (by omega)) zc0 rfl (Nat.le_of_ble_eq_true rfl) (Nat.le_of_ble_eq_true rfl) (Nat.le_of_ble_eq_true rfl) (fun _ _ q9 => ?_) (fun _ _ q9 => absurd q9 zO.no)
    obtain ⟨_, q8, e1, e9, k9⟩ := q9
    cases q8
    subst e1
    have hc := zpres e9 (zne hc hit (by decide)) hc
    have har := zpres e9 (zne har hit (by decide)) har
    have zi := zi.put e9 hit (by decide) (Or.inl rfl)
    replace hit := k9
    clear e9 k9
    have hQ1 := hQ.mk (h' := _) fun b k' l' hk' e => zi.at e (zne e hit0 (by rcases hk' with q | q <;> subst q <;> decide))
    have hI1 := hIs.mv (h' := _) fun b k' l' hk' e => zi.at e (zne e hit0 (by rcases hk' with q | q <;> subst q <;> decide))
    have zf1 := zf.tr zi fun b hb => Or.inr (by rw [hb]; exact n4)
    have hc2 := cCl_l hc
    refine zW.castS (pc' := 97) dX1_shortestChain_94 rfl (lw_all_tbl q1398) hc2 ⟨rfl, (Nat.le_of_ble_eq_true rfl)⟩ rfl ?_
    refine zW.astore (pc' := 99) dX1_shortestChain_97 rfl (Nat.le_of_ble_eq_true rfl) rfl (zsS (zsS (zsS (zsS (zsS (zsS (zsS (zsS (zsS (zs0)))))))))) ?_
    refine zW.aload (pc' := 101) dX1_shortestChain_99 rfl (zgS (zgS (zgS (zgS (zgS (zgS (zgS (zgS (zgS (zg0)))))))))) rfl ?_
    refine zW.get (pc' := 104) dX1_shortestChain_101 rfl f_X1_197_2 hc2 ⟨rfl, (Nat.le_of_ble_eq_true rfl)⟩ rfl ?_
    refine zW.iload (pc' := 106) dX1_shortestChain_104 rfl (zgS (zgS (zgS (zgS (zgS (zgS (zg0))))))) ?_
    have hs : bIn s p l (k + 1) (f, Q) = if sAt s.2.1 k 1 = p ∧ (bIn s p l k (f, Q)).1 (sAt s.2.1 k 2) = 0 then (zu (bIn s p l k (f, Q)).1 (sAt s.2.1 k 2) (l + 1), (bIn s p l k (f, Q)).2 ++ [sAt s.2.1 k 2]) else bIn s p l k (f, Q) := rfl
    have skip : ¬ (sAt s.2.1 k 1 = p ∧ (bIn s p l k (f, Q)).1 (sAt s.2.1 k 2) = 0) → ∀ {H9 : zH}, zfr (fun _ => False) h H9 → H9 ar = some (100, ztab 8 (bIn s p l k (f, Q)).1) → cDQ H9 qd ed hd its → cIs H9 (fun _ => True) its (bIn s p l k (f, Q)).2 → H9 it = some (cIt ll mc xs (k + 1) (.ref p9.1)) → zW G mX1_shortestChain 24 (r + m) 143 [.ref x, .int (nI a), .int (nI b), .ref ar, .ref qd, .int (nI 0), .int (nI p), .int (nI l), .ref it, .ref p9.2] [] H9 Q9 := by
      intro q H9 z1 z2 z3 z4 z5
      refine zW.goto 77 dX1_shortestChain_143 (by decide) ?_
      rw [if_neg q] at hs
      rw [← hs] at z2 z4
      exact ih (k + 1) H9 hd its _ _ (by omega) z1 z2 z3 z4 z5
    by_cases q1 : sAt s.2.1 k 1 = p
    · refine zW.icmp_neN (pc' := 109) 143 dX1_shortestChain_106 rfl (by decide) (by omega) (by omega) (fun b9 => absurd b9 (by omega)) (fun b9 => ?_)
      refine zW.aload_n (pc' := 110) dX1_shortestChain_109 rfl rfl (zgS (zgS (zgS (zg0)))) rfl ?_
      refine zW.aload (pc' := 112) dX1_shortestChain_110 rfl (zgS (zgS (zgS (zgS (zgS (zgS (zgS (zgS (zgS (zg0)))))))))) rfl ?_
      refine zW.get (pc' := 115) dX1_shortestChain_112 rfl f_X1_200_2 hc2 ⟨rfl, (Nat.le_of_ble_eq_true rfl)⟩ rfl ?_
      refine zW.ialdN (pc' := 116) dX1_shortestChain_115 rfl har rfl (by omega) (Nat.le_of_ble_eq_true rfl) ?_
      by_cases q2 : (bIn s p l k (f, Q)).1 (sAt s.2.1 k 2) = 0
      · refine zW.if_neN (pc' := 119) 143 dX1_shortestChain_116 rfl (by decide) (by omega) (fun b9 => absurd b9 (by omega)) (fun b9 => ?_)
        rw [if_pos ⟨q1, q2⟩] at hs
        have zi := zfr.self har
        have har0 := har
        refine zW.aload_n (pc' := 120) dX1_shortestChain_119 rfl rfl (zgS (zgS (zgS (zg0)))) rfl ?_
        refine zW.aload (pc' := 122) dX1_shortestChain_120 rfl (zgS (zgS (zgS (zgS (zgS (zgS (zgS (zgS (zgS (zg0)))))))))) rfl ?_
        refine zW.get (pc' := 125) dX1_shortestChain_122 rfl f_X1_200_2 hc2 ⟨rfl, (Nat.le_of_ble_eq_true rfl)⟩ rfl ?_
        refine zW.iload (pc' := 127) dX1_shortestChain_125 rfl (zgS (zgS (zgS (zgS (zgS (zgS (zgS (zg0)))))))) ?_
        refine zW.iconst (pc' := 128) (nI 1) dX1_shortestChain_127 rfl (by decide) ?_
        refine zW.iaddN (pc' := 129) dX1_shortestChain_128 rfl ?_
        refine zW.iastNK (pc' := 130) dX1_shortestChain_129 rfl har (by omega) (Nat.le_of_ble_eq_true rfl) (fun _ e9 k9 => ?_)
        have hit := zpres e9 (zne hit har (by decide)) hit
        have hc2 := zpres e9 (zne hc2 har (by decide)) hc2
        have zi := zi.put e9 har (by decide) (Or.inl rfl)
        replace har := k9
        clear e9 k9
        refine zW.aload (pc' := 132) dX1_shortestChain_130 rfl (zgS (zgS (zgS (zgS (zg0))))) rfl ?_
        refine zW.aload (pc' := 134) dX1_shortestChain_132 rfl (zgS (zgS (zgS (zgS (zgS (zgS (zgS (zgS (zgS (zg0)))))))))) rfl ?_
        refine zW.get (pc' := 137) dX1_shortestChain_134 rfl f_X1_200_2 hc2 ⟨rfl, (Nat.le_of_ble_eq_true rfl)⟩ rfl ?_
        have hQ2 := hQ1.mk (h' := _) fun b k' l' hk' e => zi.at e (zne e har0 (by rcases hk' with q | q <;> subst q <;> decide))
        have hI2 := hI1.mv (h' := _) fun b k' l' hk' e => zi.at e (zne e har0 (by rcases hk' with q | q <;> subst q <;> decide))
        have zf2 := zf1.tr zi fun b hb => Or.inr (by rw [hb]; exact n1)
        refine zW.callS (r' := 1) (pc' := 140) dX1_shortestChain_137 rfl l_X1_270 rfl (w_valueOf2 (zf2.kn hk) hZ (x := sAt s.2.1 k 2) (by omega)) (zcc rfl zc0) rfl (Nat.le_of_ble_eq_true rfl) (Nat.le_of_ble_eq_true rfl) (Nat.le_of_ble_eq_true rfl) (fun _ _ q9 => ?_) (fun _ _ q9 => absurd q9 zO.no)
        obtain ⟨_, q8, q3, k3, e1, hc3, ho, zv⟩ := q9
        cases q8
        subst e1
        have hQ3 := hQ2.fr zv (fun q => q) (fun q => q)
        have hI3 := hI2.fr zv fun _ _ q => q
        have hqd := hQ3.2.1
        have hx3 := hc3.1
        have nq : q3 ≠ qd := zne hx3 hqd (by rcases hc3.2 with q | q <;> subst q <;> decide)
        have hln : its.length ≤ 15 := by rw [hI3.1]; omega
        refine zW.callV (r' := 0) (pc' := 143) dX1_shortestChain_140 rfl l_X1_64 rfl hqd ⟨rfl, (Nat.le_of_ble_eq_true rfl)⟩ rfl (w_dqAddLast hQ3 hln hx3 hc3.ob nq) (zcc rfl zc0) rfl (Nat.le_of_ble_eq_true rfl) (Nat.le_of_ble_eq_true rfl) (Nat.le_of_ble_eq_true rfl) (fun _ _ q9 => ?_) (fun _ _ q9 => absurd q9 zO.no)
        obtain ⟨_, q8, e1, hQ4, z4⟩ := q9
        cases q8
        subst e1
        have mvI := hQ3.outI z4
        have hc4 : cInt _ q3 k3 (sAt s.2.1 k 2) := ⟨mvI _ _ _ hc3.2 hc3.1, hc3.2⟩
        have hI4 := (hI3.mv mvI).push hc4 (fun _ => trivial)
        have har4 := hQ3.out z4 (zv.at har fun q => q) ⟨by decide, by decide⟩
        have hit4 := hQ3.out z4 (zv.at hit fun q => q) ⟨by decide, by decide⟩
        have zf4 := (zf2.tr zv fun _ q => q.elim).tr z4 fun b hb => Or.inr (hb.elim (fun q => by rw [q]; exact n2) fun q => by rw [q]; exact n3)
        refine zW.goto 77 dX1_shortestChain_143 (by decide) ?_
        refine ih (k + 1) _ hd _ _ _ (by omega) zf4 ?_ hQ4 ?_ hit4
        · rw [hs]; exact har4
        · rw [hs]; exact hI4
      · refine zW.if_neN (pc' := 119) 143 dX1_shortestChain_116 rfl (by decide) (by omega) (fun b9 => ?_) (fun b9 => absurd b9 (by omega))
        exact zW.pay (skip (fun q => q2 q.2) zf1 har hQ1 hI1 hit) (Nat.le_add_right _ _)
    · refine zW.icmp_neN (pc' := 109) 143 dX1_shortestChain_106 rfl (by decide) (by omega) (by omega) (fun b9 => ?_) (fun b9 => absurd b9 (by omega))
      exact zW.pay (skip (fun q => q1 q.1) zf1 har hQ1 hI1 hit) (Nat.le_add_right _ _)
/-- the search's loop -/
theorem c_scOut (hk : zkn G h) (hZ : zkI G) (hx : h x = some (0, .ref st :: fs)) (hP : cP h O st ll aq re rt ea ha er hr mc xs qs rs s) (hI : sI tt nn n s) {a b : Nat} (hb8 : b < 8) {ar qd ed : Nat} (n1 : h ar = none) (n2 : h qd = none) (n3 : h ed = none) :
    ∀ (m : Nat) (first : Bool) (H : zH) (hd : Nat) (its : List Nat) (f : Nat → Nat) (Q : List Nat) (v6 v7 v8 v9 : Value), Q.length + bUn f ≤ m → bV f Q → (first = true → ∀ c, f c = 0) → zfr (fun _ => False) h H → H ar = some (100, ztab 8 f) → cDQ H qd ed hd its → cIs H (fun _ => True) its Q → zW G mX1_shortestChain 24 (14 * m) 26 [.ref x, .int (nI a), .int (nI b), .ref ar, .ref qd, .int (nI (if first = true then 1 else 0)), v6, v7, v8, v9] [] H (zPu h (some (.int (if bOut s m first (f, Q) b = 0 then -1 else nI (bOut s m first (f, Q) b))))) := by
  have h12 := hI.len
  have endq : ∀ (r9 : Nat) (first : Bool) (H : zH) (hd : Nat) (f : Nat → Nat) (v6 v7 v8 v9 : Value), bV f [] → zfr (fun _ => False) h H → H ar = some (100, ztab 8 f) → cDQ H qd ed hd [] → zW G mX1_shortestChain 24 r9 26 [.ref x, .int (nI a), .int (nI b), .ref ar, .ref qd, .int (nI (if first = true then 1 else 0)), v6, v7, v8, v9] [] H (zPu h (some (.int (if f b = 0 then -1 else nI (f b))))) := by
    intro r9 first H hd f v6 v7 v8 v9 hV zf har hQ
    have hqd := hQ.2.1
    have hfb := hV.2.2 b
    have le9 : zle h H := zf.le fun _ q => q.elim
    refine zW.aload (pc' := 28) dX1_shortestChain_26 rfl (zgS (zgS (zgS (zgS (zg0))))) rfl ?_
    refine zW.callV (r' := 0) (pc' := 31) dX1_shortestChain_28 rfl l_X1_234 rfl hqd ⟨rfl, (Nat.le_of_ble_eq_true rfl)⟩ rfl (w_dqEmpty hQ) zc0 rfl (Nat.le_of_ble_eq_true rfl) (Nat.le_of_ble_eq_true rfl) (Nat.le_of_ble_eq_true rfl) (fun _ _ q9 => ?_) (fun _ _ q9 => by cases q9.1)
    obtain ⟨q8, e9⟩ := q9
    cases q8
    replace e9 := e9.symm
    subst e9
    rw [if_pos rfl]
    refine zW.if_neN (pc' := 34) 149 dX1_shortestChain_31 rfl (by decide) (by omega) (fun b9 => ?_) (fun b9 => absurd b9 (by omega))
    refine zW.aload_n (pc' := 150) dX1_shortestChain_149 rfl rfl (zgS (zgS (zgS (zg0)))) rfl ?_
    refine zW.iload_n (pc' := 151) dX1_shortestChain_150 rfl rfl (zgS (zgS (zg0))) ?_
    refine zW.ialdN (pc' := 152) dX1_shortestChain_151 rfl har rfl (by omega) (Nat.le_of_ble_eq_true rfl) ?_
    refine zW.if_neN (pc' := 155) 159 dX1_shortestChain_152 rfl (by decide) (by omega) (fun b1 => ?_) (fun b1 => ?_)
    · refine zW.aload_n (pc' := 160) dX1_shortestChain_159 rfl rfl (zgS (zgS (zgS (zg0)))) rfl ?_
      refine zW.iload_n (pc' := 161) dX1_shortestChain_160 rfl rfl (zgS (zgS (zg0))) ?_
      refine zW.ialdN (pc' := 162) dX1_shortestChain_161 rfl har rfl (by omega) (Nat.le_of_ble_eq_true rfl) ?_
      refine zW.drop le9 ?_
      refine zW.iret dX1_shortestChain_162 rfl (rfl) ?_
      rw [if_neg b1]
      exact ⟨rfl, rfl⟩
    · refine zW.iconst (pc' := 156) (-1) dX1_shortestChain_155 rfl (by decide) ?_
      refine zW.goto 162 dX1_shortestChain_156 (by decide) ?_
      refine zW.drop le9 ?_
      refine zW.iret dX1_shortestChain_162 rfl (rfl) ?_
      rw [if_pos b1]
      exact ⟨rfl, rfl⟩
  intro m
  induction m with
  | zero =>
    intro first H hd its f Q v6 v7 v8 v9 hm hV h0 zf har hQ hIs
    have e : Q = [] := List.length_eq_zero_iff.mp (by omega)
    subst e
    have e2 : its = [] := List.length_eq_zero_iff.mp (by rw [hIs.1]; rfl)
    subst e2
    exact endq _ first H hd f v6 v7 v8 v9 hV zf har hQ
  | succ m ih =>
    intro first H hd its f Q v6 v7 v8 v9 hm hV h0 zf har hQ hIs
    cases Q with
    | nil =>
      have e2 : its = [] := List.length_eq_zero_iff.mp (by rw [hIs.1]; rfl)
      subst e2
      exact endq _ first H hd f v6 v7 v8 v9 hV zf har hQ
    | cons p Q =>
      obtain ⟨q0, its, rfl⟩ : ∃ q0 l0, its = q0 :: l0 := by
        cases its with
        | nil => have := hIs.1; cases this
        | cons q0 l0 => exact ⟨q0, l0, rfl⟩
      obtain ⟨kq, hc0, -⟩ := hIs.2 0 q0 p rfl rfl
      have hk15 : kq % 1000 = 15 ∧ 15 < 50 := by rcases hc0.2 with q | q <;> subst q <;> decide
      have hqd := hQ.2.1
      have hp8 : p < 8 := hV.1 p List.mem_cons_self
      rw [List.length_cons] at hm
      have hV1 : bV f Q := ⟨fun q hq => hV.1 q (List.mem_cons_of_mem _ hq), fun c => by have := hV.2.1 c; rw [List.length_cons] at this; omega, hV.2.2⟩
      have hlp : f p + Q.length + bUn f + 1 ≤ 9 := by have := hV.2.1 p; rw [List.length_cons] at this; omega
      have hl0 : 0 + Q.length + bUn f + 1 ≤ 9 := by omega
      have hI9 : cIs H (fun _ => True) its Q := ⟨by have := hIs.1; simp only [List.length_cons] at this; omega, fun i q9 y9 e1 e2 => hIs.2 (i + 1) q9 y9 e1 e2⟩
      refine zW.pay (r1 := 14 * m + 12 + 2) ?_ (by omega)
      have main : ∀ (l : Nat) (H1 : zH) (hd1 : Nat) (v8 v9 : Value), l = (if first = true then 0 else f p) → zfr (fun _ => False) h H1 → H1 ar = some (100, ztab 8 f) → cDQ H1 qd ed hd1 its → cIs H1 (fun _ => True) its Q → zW G mX1_shortestChain 24 (14 * m + 12 + 2) 62 [.ref x, .int (nI a), .int (nI b), .ref ar, .ref qd, .int (nI (if first = true then 1 else 0)), .int (nI p), .int (nI l), v8, v9] [] H1 (zPu h (some (.int (if bOut s (m + 1) first (f, p :: Q) b = 0 then -1 else nI (bOut s (m + 1) first (f, p :: Q) b))))) := by
        intro l H1 hd1 v8 v9 hl zf1 har1 hQ1 hI1
        have hll : l + Q.length + bUn f + 1 ≤ 9 := by
          rw [hl]; split
          · exact hl0
          · exact hlp
        obtain ⟨hst, ⟨hL, hC⟩, -⟩ := hP.fr zf1 fun _ _ q => q
        have hx1 := zf1.at hx fun q => q
        have hl1 := hL.1
        have hxs := hC.1
        refine zW.iconst (pc' := 63) (nI 0) dX1_shortestChain_62 rfl (by decide) ?_
        refine zW.istore (pc' := 65) dX1_shortestChain_63 rfl (Nat.le_of_ble_eq_true rfl) (zsS (zsS (zsS (zsS (zsS (zs0)))))) ?_
        refine zW.aload_n (pc' := 66) dX1_shortestChain_65 rfl rfl zg0 rfl ?_
        refine zW.get (pc' := 69) dX1_shortestChain_66 rfl f_X1_10_0 hx1 ⟨rfl, (Nat.le_of_ble_eq_true rfl)⟩ rfl ?_
        refine zW.get (pc' := 72) dX1_shortestChain_69 rfl f_X1_91_1 hst ⟨rfl, (Nat.le_of_ble_eq_true rfl)⟩ rfl ?_
        refine zW.callU (r' := 2) (pc' := 75) dX1_shortestChain_72 rfl l_X1_274_J3 rfl hl1 ⟨rfl, (Nat.le_of_ble_eq_true rfl)⟩ rfl (w_llIter hL (by omega)) zc0 rfl (Nat.le_of_ble_eq_true rfl) (Nat.le_of_ble_eq_true rfl) (Nat.le_of_ble_eq_true rfl) (fun _ _ q9 => ?_) (fun _ _ q9 => absurd q9 zO.no)
        obtain ⟨_, q8, it, e1, nit, e9, hit⟩ := q9
        cases q8
        subst e1
        have zv := zfr.new (zfr.rf (A := fun _ => False) (h := H1)) e9 nit
        have n4 := zf1.nn0 nit
        refine zW.astore (pc' := 77) dX1_shortestChain_75 rfl (Nat.le_of_ble_eq_true rfl) rfl (zsS (zsS (zsS (zsS (zsS (zsS (zsS (zsS (zs0))))))))) ?_
        have hsp : bOut s (m + 1) first (f, p :: Q) = bOut s m false (bIn s p l s.2.1.length (f, Q)) := by rw [hl]; rfl
        rw [hsp]
        refine zW.pay (r1 := 14 * m + s.2.1.length) ?_ (by omega)
        refine c_scIn hk hZ hx hP hI hp8 hV1 hll n1 n2 n3 n4 (fun H9 hd9 its9 v8 v9 z1 z2 z3 z4 => ?_) s.2.1.length 0 _ hd1 its .null _ (Nat.zero_add _) (zf1.tr zv fun _ q => q.elim) (zv.at har1 fun q => q) (hQ1.fr zv (fun q => q) (fun q => q)) (hI1.fr zv fun _ _ q => q) hit
        obtain ⟨w1, w2⟩ := hV1.in (p := p) hI hll (k := s.2.1.length) (Nat.le_refl _)
        exact ih false H9 hd9 its9 _ _ _ _ v8 v9 (by omega) w1 (fun q => by cases q) z1 z2 z3 z4
      have ke := w_dqEmpty (G := G) hQ
      rw [if_neg (fun q => by cases q)] at ke
      refine zW.aload (pc' := 28) dX1_shortestChain_26 rfl (zgS (zgS (zgS (zgS (zg0))))) rfl ?_
      refine zW.callV (r' := 0) (pc' := 31) dX1_shortestChain_28 rfl l_X1_234 rfl hqd ⟨rfl, (Nat.le_of_ble_eq_true rfl)⟩ rfl (ke) zc0 rfl (Nat.le_of_ble_eq_true rfl) (Nat.le_of_ble_eq_true rfl) (Nat.le_of_ble_eq_true rfl) (fun _ _ q9 => ?_) (fun _ _ q9 => by cases q9.1)
      obtain ⟨q8, e9⟩ := q9
      cases q8
      replace e9 := e9.symm
      subst e9
      refine zW.if_neN (pc' := 34) 149 dX1_shortestChain_31 rfl (by decide) (by omega) (fun b9 => absurd b9 (by omega)) (fun b9 => ?_)
      refine zW.aload (pc' := 36) dX1_shortestChain_34 rfl (zgS (zgS (zgS (zgS (zg0))))) rfl ?_
      refine zW.callV (r' := 0) (pc' := 39) dX1_shortestChain_36 rfl l_X1_72 rfl hqd ⟨rfl, (Nat.le_of_ble_eq_true rfl)⟩ rfl (w_dqRemFirst hQ) zc0 rfl (Nat.le_of_ble_eq_true rfl) (Nat.le_of_ble_eq_true rfl) (Nat.le_of_ble_eq_true rfl) (fun _ _ q9 => ?_) (fun _ _ q9 => absurd q9 zO.no)
      obtain ⟨_, q8, e1, hQ2, z2⟩ := q9
      cases q8
      subst e1
      have mvI := hQ.outI z2
      have hc2 : cInt _ q0 kq p := ⟨mvI _ _ _ hc0.2 hc0.1, hc0.2⟩
      have hcc := hc2.1
      have har2 := hQ.out z2 har ⟨by decide, by decide⟩
      have hI2 := hI9.mv mvI
      have zf2 := zf.tr z2 fun b hb => Or.inr (hb.elim (fun q => by rw [q]; exact n2) fun q => by rw [q]; exact n3)
      refine zW.castS (pc' := 42) dX1_shortestChain_39 rfl (lw_all_tbl q1391) hcc hk15 rfl ?_
      refine zW.callV (r' := 0) (pc' := 45) dX1_shortestChain_42 rfl l_X1_240 rfl hcc hk15 rfl (w_intValue hc2) zc0 rfl (Nat.le_of_ble_eq_true rfl) (Nat.le_of_ble_eq_true rfl) (Nat.le_of_ble_eq_true rfl) (fun _ _ q9 => ?_) (fun _ _ q9 => by cases q9.1)
      obtain ⟨q8, e9⟩ := q9
      cases q8
      replace e9 := e9.symm
      subst e9
      refine zW.istore (pc' := 47) dX1_shortestChain_45 rfl (Nat.le_of_ble_eq_true rfl) (zsS (zsS (zsS (zsS (zsS (zsS (zs0))))))) ?_
      refine zW.iload (pc' := 49) dX1_shortestChain_47 rfl (zgS (zgS (zgS (zgS (zgS (zg0)))))) ?_
      cases first with
      | true =>
        rw [show (if true = true then (1 : Nat) else 0) = 1 from rfl]
        refine zW.if_eqN (pc' := 52) 56 dX1_shortestChain_49 rfl (by decide) (by omega) (fun b9 => absurd b9 (by omega)) (fun b9 => ?_)
        refine zW.iconst (pc' := 53) (nI 0) dX1_shortestChain_52 rfl (by decide) ?_
        refine zW.goto 60 dX1_shortestChain_53 (by decide) ?_
        refine zW.istore (pc' := 62) dX1_shortestChain_60 rfl (Nat.le_of_ble_eq_true rfl) (zsS (zsS (zsS (zsS (zsS (zsS (zsS (zs0)))))))) ?_
        exact main 0 _ _ _ _ rfl zf2 har2 hQ2 hI2
      | false =>
        rw [show (if false = true then (1 : Nat) else 0) = 0 from rfl]
        refine zW.if_eqN (pc' := 52) 56 dX1_shortestChain_49 rfl (by decide) (by omega) (fun b9 => ?_) (fun b9 => absurd b9 (by omega))
        refine zW.aload_n (pc' := 57) dX1_shortestChain_56 rfl rfl (zgS (zgS (zgS (zg0)))) rfl ?_
        refine zW.iload (pc' := 59) dX1_shortestChain_57 rfl (zgS (zgS (zgS (zgS (zgS (zgS (zg0))))))) ?_
        refine zW.ialdN (pc' := 60) dX1_shortestChain_59 rfl har2 rfl (by omega) (Nat.le_of_ble_eq_true rfl) ?_
        refine zW.istore (pc' := 62) dX1_shortestChain_60 rfl (Nat.le_of_ble_eq_true rfl) (zsS (zsS (zsS (zsS (zsS (zsS (zsS (zs0)))))))) ?_
        exact main (f p) _ _ _ _ rfl zf2 har2 hQ2 hI2
theorem c_shortestChain (hk : zkn G h) (hZ : zkI G) (hx : h x = some (0, .ref st :: fs)) (hP : cP h O st ll aq re rt ea ha er hr mc xs qs rs s) (hI : sI tt nn n s) {a b : Nat} (ha8 : a < 8) (hb8 : b < 8) : zK G mX1_shortestChain 24 135 [.ref x, .int (nI a), .int (nI b)] h (zPu h (some (.int (cLenV s a b)))) := by
  have hf := zfr.rf (A := fun _ => False) (h := h)
  show zW G mX1_shortestChain 24 135 0 [.ref x, .int (nI a), .int (nI b), zho, zho, zho, zho, zho, zho, zho] [] h _
  refine zW.bipush (pc' := 2) (nI 8) dX1_shortestChain_0 rfl (by decide) ?_
  refine zW.newaIK (u := 2) (N := 8) (pc' := 4) dX1_shortestChain_2 rfl (by decide) (by decide) (by decide) ⟨by decide, by decide⟩ (fun ar _ nar e9 k9 => ?_)
  have oar := hf.nn0 nar
  have hf := hf.new e9 nar
  have har := k9
  clear k9
  refine zW.astore_n (pc' := 5) dX1_shortestChain_4 rfl rfl (Nat.le_of_ble_eq_true rfl) rfl (zsS (zsS (zsS (zs0)))) ?_
  refine zW.newK (u := 1) (pc' := 8) dX1_shortestChain_5 rfl n_X1_16 zd_9 (fun qd _ nqd e9 k9 => ?_)
  have har := zpres e9 (zfresh nqd har) har
  have oqd := hf.nn0 nqd
  have hf := hf.new e9 nqd
  have hqd := k9
  clear k9
  refine zW.dup (pc' := 9) dX1_shortestChain_8 rfl rfl ?_
  refine zW.callI (r' := 5) (pc' := 12) dX1_shortestChain_9 rfl l_X1_18 rfl (w_dqInit hqd) zc0 rfl (Nat.le_of_ble_eq_true rfl) (Nat.le_of_ble_eq_true rfl) (Nat.le_of_ble_eq_true rfl) (fun _ _ q9 => ?_) (fun _ _ q9 => absurd q9 zO.no)
  obtain ⟨_, q8, e1, ed, ned, hQ, z1⟩ := q9
  cases q8
  subst e1
  have oed := hf.nn0 ned
  have har1 := z1.at har (zne har hqd (by decide))
  have hf1 := hf.tr z1 fun b hb => Or.inr (by rw [hb]; exact oqd)
  refine zW.astore (pc' := 14) dX1_shortestChain_12 rfl (Nat.le_of_ble_eq_true rfl) rfl (zsS (zsS (zsS (zsS (zs0))))) ?_
  refine zW.aload (pc' := 16) dX1_shortestChain_14 rfl (zgS (zgS (zgS (zgS (zg0))))) rfl ?_
  refine zW.iload_n (pc' := 17) dX1_shortestChain_16 rfl rfl (zgS (zg0)) ?_
  refine zW.callS (r' := 1) (pc' := 20) dX1_shortestChain_17 rfl l_X1_270 rfl (w_valueOf2 (hf1.kn hk) hZ (x := a) (by omega)) (zcc rfl zc0) rfl (Nat.le_of_ble_eq_true rfl) (Nat.le_of_ble_eq_true rfl) (Nat.le_of_ble_eq_true rfl) (fun _ _ q9 => ?_) (fun _ _ q9 => absurd q9 zO.no)
  obtain ⟨_, q8, q3, k3, e1, hc3, ho, zv⟩ := q9
  cases q8
  subst e1
  have hQ3 := hQ.fr zv (fun q => q) (fun q => q)
  have hqd3 := hQ3.2.1
  have hx3 := hc3.1
  have nq : q3 ≠ qd := zne hx3 hqd3 (by rcases hc3.2 with q | q <;> subst q <;> decide)
  refine zW.callV (r' := 0) (pc' := 23) dX1_shortestChain_20 rfl l_X1_64 rfl hqd3 ⟨rfl, (Nat.le_of_ble_eq_true rfl)⟩ rfl (w_dqAddLast hQ3 (Nat.zero_le _) hx3 hc3.ob nq) (zcc rfl zc0) rfl (Nat.le_of_ble_eq_true rfl) (Nat.le_of_ble_eq_true rfl) (Nat.le_of_ble_eq_true rfl) (fun _ _ q9 => ?_) (fun _ _ q9 => absurd q9 zO.no)
  obtain ⟨_, q8, e1, hQ4, z4⟩ := q9
  cases q8
  subst e1
  have mvI := hQ3.outI z4
  have hc4 : cInt _ q3 k3 a := ⟨mvI _ _ _ hc3.2 hc3.1, hc3.2⟩
  have hI4 := cIs.push (its := []) (ys := []) cIs.nil hc4 (fun _ => trivial)
  have har4 := hQ3.out z4 (zv.at har1 fun q => q) ⟨by decide, by decide⟩
  have zf4 := (hf1.tr zv fun _ q => q.elim).tr z4 fun b hb => Or.inr (hb.elim (fun q => by rw [q]; exact oqd) fun q => by rw [q]; exact oed)
  refine zW.iconst (pc' := 24) (nI 1) dX1_shortestChain_23 rfl (by decide) ?_
  refine zW.istore (pc' := 26) dX1_shortestChain_24 rfl (Nat.le_of_ble_eq_true rfl) (zsS (zsS (zsS (zsS (zsS (zs0)))))) ?_
  exact zW.pay (c_scOut hk hZ hx hP hI hb8 oar oqd oed 9 true _ 0 [q3] (fun _ => 0) [a] _ _ _ _ (by have := bUn_le (f := fun _ => 0); show 1 + _ ≤ 9; omega) (bV0 ha8) (fun _ _ => rfl) zf4 har4 hQ4 hI4) (by omega)
end
