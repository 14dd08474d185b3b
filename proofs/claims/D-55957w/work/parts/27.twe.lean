/-! THE REFERENCE: signs, countersigns, settles, setsRate -/
section
set_option maxRecDepth 100000
variable {G : zG} {h0 : zH} {a : tA} {T : tS}
theorem z10 {p : Prop} [Decidable p] (h : ¬ (if p then 1 else 0) = 0) : p := by
  by_cases q : p
  · exact q
  · rw [if_neg q] at h; exact absurd rfl h
theorem z00 {p : Prop} [Decidable p] (h : (if p then 1 else 0) = 0) : ¬ p := fun q => by
  rw [if_pos q] at h; exact absurd h (by decide)
theorem tR.n12 {A : Nat → Nat} {s : sS} (h : tR A 0 s) : A 2 ≤ 12 := by rw [h.act]; exact h.2.2.2.2.2.2.1
theorem w_cS (hD : tD a) {s : sS} (hR : tR T.2.1 0 s) {k f : Nat} (hk : k < s.2.1.length) (hf : f < 8) : zK G mX3_c 1 0 [.ref a.1, .int (nI k), .int (nI f)] (tH h0 a T) (tQ h0 a fun v T' => v = some (.int (nI (sAt s.2.1 k f))) ∧ T' = T) := by
  have h12 := hR.2.2.2.2.2.2.1
  have := w_c (G := G) (h0 := h0) (T := T) hD (k := k) (f := f) (by omega)
  rwa [hR.cl hk hf] at this
theorem w_findS (hD : tD a) {s : sS} (hR : tR T.2.1 0 s) {id : Int32} : zK G mX3_find 2 0 [.ref a.1, .int id] (tH h0 a T) (tQ h0 a fun v T' => ((∃ i, sFind s.2.1 id = some i ∧ i < s.2.1.length ∧ v = some (.int (nI i))) ∨ (sFind s.2.1 id = none ∧ v = some (.int (-1)))) ∧ T' = T) :=
  zW.post (w_find hD hR.n12) fun o h' ⟨v, T', e1, ⟨⟨x, e2, e3⟩, e4⟩, e5⟩ => by
    rcases tfd_find hR e3 with ⟨i, q1, q2, q3⟩ | ⟨q1, q2⟩
    · exact ⟨v, T', e1, ⟨Or.inl ⟨i, q1, q2, by rw [e2, q3]⟩, e4⟩, e5⟩
    · exact ⟨v, T', e1, ⟨Or.inr ⟨q1, by rw [e2, q2]⟩, e4⟩, e5⟩
theorem w_signedByS (hD : tD a) {s : sS} (hR : tR T.2.1 0 s) (hB : tB s) {f w : Nat} (hf : f < 8) (hw : w < 100) : zK G mX3_signedBy 2 0 [.ref a.1, .int (nI f), .int (nI w)] (tH h0 a T) (tQ h0 a fun v T' => v = some (.int (nI (sCount s.2.1 f w))) ∧ T' = T) := by
  have := w_signedBy (G := G) (h0 := h0) (T := T) hD hR.n12 (f := f) (w := w) hf hw (fun j hj => by
    rw [hR.act] at hj
    rw [hR.cl hj hf]
    exact Nat.lt_trans (hB.at hj hf) (by decide))
  rwa [tct_count hR hf] at this
theorem sCount_le {cs : List sC} {f w : Nat} : sCount cs f w ≤ cs.length := List.countP_le_length
theorem w_maySign (hD : tD a) {s : sS} (hR : tR T.2.1 0 s) (hB : tB s) {k w : Nat} (hk : k < s.2.1.length) (hw : w < 100) : zK G mX3_maySign 3 0 [.ref a.1, .int (nI k), .int (nI w)] (tH h0 a T) (tQ h0 a fun v T' => v = some (.int (nI (if sAt s.2.1 k 6 = 0 ∧ sCount s.2.1 6 w < 3 then 1 else 0))) ∧ T' = T) := by
  have hc := hB.at hk (f := 6) (by omega)
  have hl := hR.2.2.2.2.2.2.1
  have hcn := sCount_le (cs := s.2.1) (f := 6) (w := w)
  show zW G mX3_maySign 3 0 0 [.ref a.1, .int (nI k), .int (nI w)] [] (tH h0 a T) _
  refine zW.aload_n (pc' := 1) dX3_maySign_0 rfl rfl zg0 rfl ?_
  refine zW.iload_n (pc' := 2) dX3_maySign_1 rfl rfl (zgS (zg0)) ?_
  refine zW.bipush (pc' := 4) (nI 6) dX3_maySign_2 rfl (by decide) ?_
  refine zT.call (pc' := 7) dX3_maySign_4 rfl l_X3_43 rfl rfl (w_cS hD hR hk (by omega)) (zcc rfl (zcc rfl zc0)) rfl (Nat.le_of_ble_eq_true rfl) (Nat.le_of_ble_eq_true rfl) (Nat.le_of_ble_eq_true rfl) (fun _ _ ⟨e1, e2⟩ => ?_)
  subst e1; rw [e2]
  refine zW.if_neN (pc' := 10) 25 dX3_maySign_7 rfl (by decide) (by omega) (fun b1 => ?_) (fun b1 => ?_)
  · refine zW.iconst (pc' := 26) (nI 0) dX3_maySign_25 rfl (by decide) ?_
    refine zW.iret dX3_maySign_26 rfl (rfl) ?_
    exact ⟨_, _, rfl, ⟨by rw [if_neg (fun q => b1 q.1)], rfl⟩, rfl⟩
  · refine zW.aload_n (pc' := 11) dX3_maySign_10 rfl rfl zg0 rfl ?_
    refine zW.bipush (pc' := 13) (nI 6) dX3_maySign_11 rfl (by decide) ?_
    refine zW.iload_n (pc' := 14) dX3_maySign_13 rfl rfl (zgS (zgS (zg0))) ?_
    refine zT.call (pc' := 17) dX3_maySign_14 rfl l_X3_73 rfl rfl (w_signedByS hD hR hB (by omega) hw) (zcc rfl (zcc rfl zc0)) rfl (Nat.le_of_ble_eq_true rfl) (Nat.le_of_ble_eq_true rfl) (Nat.le_of_ble_eq_true rfl) (fun _ _ ⟨e1, e2⟩ => ?_)
    subst e1; rw [e2]
    refine zW.iconst (pc' := 18) (nI 3) dX3_maySign_17 rfl (by decide) ?_
    refine zW.icmp_geN (pc' := 21) 25 dX3_maySign_18 rfl (by decide) (by omega) (by omega) (fun b2 => ?_) (fun b2 => ?_)
    · refine zW.iconst (pc' := 26) (nI 0) dX3_maySign_25 rfl (by decide) ?_
      refine zW.iret dX3_maySign_26 rfl (rfl) ?_
      exact ⟨_, _, rfl, ⟨by rw [if_neg (fun q => absurd q.2 (by omega))], rfl⟩, rfl⟩
    · refine zW.iconst (pc' := 22) (nI 1) dX3_maySign_21 rfl (by decide) ?_
      refine zW.goto 26 dX3_maySign_22 (by decide) ?_
      refine zW.iret dX3_maySign_26 rfl (rfl) ?_
      exact ⟨_, _, rfl, ⟨by rw [if_pos ⟨by omega, by omega⟩], rfl⟩, rfl⟩
theorem w_mayCountersign (hD : tD a) {s : sS} (hR : tR T.2.1 0 s) (hB : tB s) {k w : Nat} (hk : k < s.2.1.length) (hw : w < 100) : zK G mX3_mayCountersign 3 0 [.ref a.1, .int (nI k), .int (nI w)] (tH h0 a T) (tQ h0 a fun v T' => v = some (.int (nI (if 0 < sAt s.2.1 k 6 ∧ sAt s.2.1 k 7 = 0 ∧ sCount s.2.1 7 w < 2 then 1 else 0))) ∧ T' = T) := by
  have hc := hB.at hk (f := 6) (by omega)
  have hc7 := hB.at hk (f := 7) (by omega)
  have hl := hR.2.2.2.2.2.2.1
  have hcn := sCount_le (cs := s.2.1) (f := 7) (w := w)
  show zW G mX3_mayCountersign 3 0 0 [.ref a.1, .int (nI k), .int (nI w)] [] (tH h0 a T) _
  refine zW.aload_n (pc' := 1) dX3_mayCountersign_0 rfl rfl zg0 rfl ?_
  refine zW.iload_n (pc' := 2) dX3_mayCountersign_1 rfl rfl (zgS (zg0)) ?_
  refine zW.bipush (pc' := 4) (nI 6) dX3_mayCountersign_2 rfl (by decide) ?_
  refine zT.call (pc' := 7) dX3_mayCountersign_4 rfl l_X3_43 rfl rfl (w_cS hD hR hk (by omega)) (zcc rfl (zcc rfl zc0)) rfl (Nat.le_of_ble_eq_true rfl) (Nat.le_of_ble_eq_true rfl) (Nat.le_of_ble_eq_true rfl) (fun _ _ ⟨e1, e2⟩ => ?_)
  subst e1; rw [e2]
  refine zW.if_leN (pc' := 10) 35 dX3_mayCountersign_7 rfl (by decide) (by omega) (fun b1 => ?_) (fun b1 => ?_)
  · refine zW.iconst (pc' := 36) (nI 0) dX3_mayCountersign_35 rfl (by decide) ?_
    refine zW.iret dX3_mayCountersign_36 rfl (rfl) ?_
    exact ⟨_, _, rfl, ⟨by rw [if_neg (fun q => absurd q.1 (by omega))], rfl⟩, rfl⟩
  · refine zW.aload_n (pc' := 11) dX3_mayCountersign_10 rfl rfl zg0 rfl ?_
    refine zW.iload_n (pc' := 12) dX3_mayCountersign_11 rfl rfl (zgS (zg0)) ?_
    refine zW.bipush (pc' := 14) (nI 7) dX3_mayCountersign_12 rfl (by decide) ?_
    refine zT.call (pc' := 17) dX3_mayCountersign_14 rfl l_X3_43 rfl rfl (w_cS hD hR hk (by omega)) (zcc rfl (zcc rfl zc0)) rfl (Nat.le_of_ble_eq_true rfl) (Nat.le_of_ble_eq_true rfl) (Nat.le_of_ble_eq_true rfl) (fun _ _ ⟨e1, e2⟩ => ?_)
    subst e1; rw [e2]
    refine zW.if_neN (pc' := 20) 35 dX3_mayCountersign_17 rfl (by decide) (by omega) (fun b3 => ?_) (fun b3 => ?_)
    · refine zW.iconst (pc' := 36) (nI 0) dX3_mayCountersign_35 rfl (by decide) ?_
      refine zW.iret dX3_mayCountersign_36 rfl (rfl) ?_
      exact ⟨_, _, rfl, ⟨by rw [if_neg (fun q => b3 q.2.1)], rfl⟩, rfl⟩
    · refine zW.aload_n (pc' := 21) dX3_mayCountersign_20 rfl rfl zg0 rfl ?_
      refine zW.bipush (pc' := 23) (nI 7) dX3_mayCountersign_21 rfl (by decide) ?_
      refine zW.iload_n (pc' := 24) dX3_mayCountersign_23 rfl rfl (zgS (zgS (zg0))) ?_
      refine zT.call (pc' := 27) dX3_mayCountersign_24 rfl l_X3_73 rfl rfl (w_signedByS hD hR hB (by omega) hw) (zcc rfl (zcc rfl zc0)) rfl (Nat.le_of_ble_eq_true rfl) (Nat.le_of_ble_eq_true rfl) (Nat.le_of_ble_eq_true rfl) (fun _ _ ⟨e1, e2⟩ => ?_)
      subst e1; rw [e2]
      refine zW.iconst (pc' := 28) (nI 2) dX3_mayCountersign_27 rfl (by decide) ?_
      refine zW.icmp_geN (pc' := 31) 35 dX3_mayCountersign_28 rfl (by decide) (by omega) (by omega) (fun b2 => ?_) (fun b2 => ?_)
      · refine zW.iconst (pc' := 36) (nI 0) dX3_mayCountersign_35 rfl (by decide) ?_
        refine zW.iret dX3_mayCountersign_36 rfl (rfl) ?_
        exact ⟨_, _, rfl, ⟨by rw [if_neg (fun q => absurd q.2.2 (by omega))], rfl⟩, rfl⟩
      · refine zW.iconst (pc' := 32) (nI 1) dX3_mayCountersign_31 rfl (by decide) ?_
        refine zW.goto 36 dX3_mayCountersign_32 (by decide) ?_
        refine zW.iret dX3_mayCountersign_36 rfl (rfl) ?_
        exact ⟨_, _, rfl, ⟨by rw [if_pos ⟨by omega, by omega, by omega⟩], rfl⟩, rfl⟩
/-- two numbers of one claim -/
theorem tR.set2 {A : Nat → Nat} {s : sS} (h : tR A 0 s) {k f g x y : Nat} (hk : k < s.2.1.length) (hf : f < 8) (hg : g < 8) (hfg : g ≠ f) : tR (zu (zu A (22 + 8 * k + f) x) (22 + 8 * k + g) y) 0 (s.1, s.2.1.set k (zu (zu (sAt s.2.1 k) f x) g y), s.2.2) := by
  have h1 := h.setc hk hf (x := x)
  have h2 := h1.setc (k := k) (by simpa using hk) hg (x := y)
  have e : sAt (s.2.1.set k (zu (sAt s.2.1 k) f x)) k = zu (sAt s.2.1 k) f x := sAt_of (List.getElem?_set_self hk)
  simp only at h2
  rw [e, List.set_set] at h2
  exact h2
theorem tC.ok {s s' : sS} {R : sR} {F A : Nat → Nat} {X : (Nat → Nat) × (Nat → Nat) × (Nat → Nat)} {r : Nat} (e : R = (0, r, s')) (h1 : tR A 0 s') (h2 : F 4 = r) (h3 : tF T (F, A, X)) : tC T s R (some (.int (nI 0))) (F, A, X) := by
  subst e
  exact ⟨rfl, h1, fun _ => h2, fun q => absurd rfl q, h3⟩
theorem w_signs (hD : tD a) {s : sS} (hR : tR T.2.1 0 s) (hB : tB s) {id w : Int32} : zK G mX3_signs 4 0 [.ref a.1, .int id, .int w] (tH h0 a T) (tQ h0 a (tC T s (sSign s id w))) := by
  have h12 := hR.2.2.2.2.2.2.1
  show zW G mX3_signs 4 0 0 [.ref a.1, .int id, .int w, zho] [] (tH h0 a T) _
  refine zW.aload_n (pc' := 1) dX3_signs_0 rfl rfl zg0 rfl ?_
  refine zW.iload_n (pc' := 2) dX3_signs_1 rfl rfl (zgS (zg0)) ?_
  refine zT.call (pc' := 5) dX3_signs_2 rfl l_X3_76 rfl rfl (w_findS hD hR) (zcc rfl zc0) rfl (Nat.le_of_ble_eq_true rfl) (Nat.le_of_ble_eq_true rfl) (Nat.le_of_ble_eq_true rfl) (fun _ _ ⟨e1, e2⟩ => ?_)
  rw [e2]
  rcases e1 with ⟨k, q1, hk, e1⟩ | ⟨q1, e1⟩
  rotate_left
  · subst e1
    refine zW.istore_n (pc' := 6) dX3_signs_5 rfl rfl (Nat.le_of_ble_eq_true rfl) (zsS (zsS (zsS (zs0)))) ?_
    refine zW.iload_n (pc' := 7) dX3_signs_6 rfl rfl (zgS (zgS (zgS (zg0)))) ?_
    refine zW.if_ge (pc' := 10) 12 dX3_signs_7 rfl (by decide) (fun b1 => ?_) (fun b1 => ?_)
    · exact absurd b1 (by decide)
    · refine zW.iconst (pc' := 11) (nI 1) dX3_signs_10 rfl (by decide) ?_
      refine zW.iret dX3_signs_11 rfl (rfl) ?_
      exact ⟨_, _, rfl, tC.bad hR (by unfold sSign; rw [q1]) (by decide), rfl⟩
  · subst e1
    refine zW.istore_n (pc' := 6) dX3_signs_5 rfl rfl (Nat.le_of_ble_eq_true rfl) (zsS (zsS (zsS (zs0)))) ?_
    refine zW.iload_n (pc' := 7) dX3_signs_6 rfl rfl (zgS (zgS (zgS (zg0)))) ?_
    refine zW.if_geN 12 dX3_signs_7 (by decide) (by omega) ?_
    refine zW.iload_n (pc' := 13) dX3_signs_12 rfl rfl (zgS (zgS (zg0))) ?_
    refine zW.iconst (pc' := 14) (nI 0) dX3_signs_13 rfl (by decide) ?_
    refine zW.iconst (pc' := 15) (nI 3) dX3_signs_14 rfl (by decide) ?_
    refine zW.callS (pc' := 18) dX3_signs_15 rfl l_X3_55 rfl (w_in) (zcc rfl (zcc rfl (zcc rfl zc0))) rfl (Nat.le_of_ble_eq_true rfl) (Nat.le_of_ble_eq_true rfl) (Nat.le_of_ble_eq_true rfl) (fun _ _ ⟨e1, e3⟩ => ?_) (fun _ _ q9 => by cases q9.1)
    cases e1; subst e3
    have hs : sSign s id w = (if sIn w (nI 0) (nI 3) = true then
      if sAt s.2.1 k 6 = 0 ∧ sCount s.2.1 6 (iN w) < 3 then
        (0, sAt s.2.1 k 4 + 5 + iN w, (s.1, s.2.1.set k (zu (zu (sAt s.2.1 k) 6 (iN w + 1)) 4 (sAt s.2.1 k 4 + 5 + iN w)), s.2.2))
      else (3, 0, s)
    else (2, 0, s)) := by unfold sSign; rw [q1]
    refine zW.if_neN (pc' := 21) 23 dX3_signs_18 rfl (by decide) (z01) (fun b2 => ?_) (fun b2 => ?_)
    rotate_left
    · refine zW.iconst (pc' := 22) (nI 2) dX3_signs_21 rfl (by decide) ?_
      refine zW.iret dX3_signs_22 rfl (rfl) ?_
      exact ⟨_, _, rfl, tC.bad hR (by rw [hs, if_neg (z00 b2)]) (by decide), rfl⟩
    have p1 := z10 b2
    rw [if_pos p1] at hs
    obtain ⟨n, en, -, hn, iw⟩ := sIn_nat p1 (by decide) (by decide)
    rw [iw] at hs
    clear b2 p1 iw
    subst en
    refine zW.aload_n (pc' := 24) dX3_signs_23 rfl rfl zg0 rfl ?_
    refine zW.iload_n (pc' := 25) dX3_signs_24 rfl rfl (zgS (zgS (zgS (zg0)))) ?_
    refine zW.iload_n (pc' := 26) dX3_signs_25 rfl rfl (zgS (zgS (zg0))) ?_
    refine zT.call (pc' := 29) dX3_signs_26 rfl l_X3_79 rfl rfl (w_maySign hD hR hB hk (by omega)) (zcc rfl (zcc rfl zc0)) rfl (Nat.le_of_ble_eq_true rfl) (Nat.le_of_ble_eq_true rfl) (Nat.le_of_ble_eq_true rfl) (fun _ _ ⟨e1, e2⟩ => ?_)
    subst e1; rw [e2]
    refine zW.if_neN (pc' := 32) 34 dX3_signs_29 rfl (by decide) (z01) (fun b3 => ?_) (fun b3 => ?_)
    rotate_left
    · refine zW.iconst (pc' := 33) (nI 3) dX3_signs_32 rfl (by decide) ?_
      refine zW.iret dX3_signs_33 rfl (rfl) ?_
      exact ⟨_, _, rfl, tC.bad hR (by rw [hs, if_neg (z00 b3)]) (by decide), rfl⟩
    rw [if_pos (z10 b3)] at hs
    refine zW.aload_n (pc' := 35) dX3_signs_34 rfl rfl zg0 rfl ?_
    refine zW.iload_n (pc' := 36) dX3_signs_35 rfl rfl (zgS (zgS (zgS (zg0)))) ?_
    refine zW.bipush (pc' := 38) (nI 6) dX3_signs_36 rfl (by decide) ?_
    refine zW.iload_n (pc' := 39) dX3_signs_38 rfl rfl (zgS (zgS (zg0))) ?_
    refine zW.iconst (pc' := 40) (nI 1) dX3_signs_39 rfl (by decide) ?_
    refine zW.iaddN (pc' := 41) dX3_signs_40 rfl ?_
    refine zT.call (pc' := 44) dX3_signs_41 rfl l_X3_51 rfl rfl (w_set hD (by omega)) (zcc rfl (zcc rfl (zcc rfl zc0))) rfl (Nat.le_of_ble_eq_true rfl) (Nat.le_of_ble_eq_true rfl) (Nat.le_of_ble_eq_true rfl) (fun _ _ ⟨e1, e2⟩ => ?_)
    subst e1; rw [e2]
    refine zW.aload_n (pc' := 45) dX3_signs_44 rfl rfl zg0 rfl ?_
    refine zW.aload_n (pc' := 46) dX3_signs_45 rfl rfl zg0 rfl ?_
    refine zW.iload_n (pc' := 47) dX3_signs_46 rfl rfl (zgS (zgS (zgS (zg0)))) ?_
    refine zW.iconst (pc' := 48) (nI 4) dX3_signs_47 rfl (by decide) ?_
    refine zT.call (pc' := 51) dX3_signs_48 rfl l_X3_43 rfl rfl (w_c hD (by omega)) (zcc rfl (zcc rfl zc0)) rfl (Nat.le_of_ble_eq_true rfl) (Nat.le_of_ble_eq_true rfl) (Nat.le_of_ble_eq_true rfl) (fun _ _ ⟨e1, e2⟩ => ?_)
    subst e1; rw [e2]
    dsimp only
    rw [zu_n (show 22 + 8 * k + 4 ≠ 22 + 8 * k + 6 by omega), hR.cl hk (by omega)]
    refine zW.iconst (pc' := 52) (nI 5) dX3_signs_51 rfl (by decide) ?_
    refine zW.iaddN (pc' := 53) dX3_signs_52 rfl ?_
    refine zW.iload_n (pc' := 54) dX3_signs_53 rfl rfl (zgS (zgS (zg0))) ?_
    refine zW.iaddN (pc' := 55) dX3_signs_54 rfl ?_
    refine zT.putN (pc' := 58) dX3_signs_55 rfl f_X3_40_3 (zFw.of ft_3_4 rfl rfl) rfl ?_
    try dsimp only
    refine zW.aload_n (pc' := 59) dX3_signs_58 rfl rfl zg0 rfl ?_
    refine zW.iload_n (pc' := 60) dX3_signs_59 rfl rfl (zgS (zgS (zgS (zg0)))) ?_
    refine zW.iconst (pc' := 61) (nI 4) dX3_signs_60 rfl (by decide) ?_
    refine zW.aload_n (pc' := 62) dX3_signs_61 rfl rfl zg0 rfl ?_
    refine zT.get (pc' := 65) dX3_signs_62 rfl f_X3_40_3 rfl ?_
    try dsimp only
    refine zT.call (pc' := 68) dX3_signs_65 rfl l_X3_51 rfl rfl (w_set hD (by omega)) (zcc rfl (zcc rfl (zcc rfl zc0))) rfl (Nat.le_of_ble_eq_true rfl) (Nat.le_of_ble_eq_true rfl) (Nat.le_of_ble_eq_true rfl) (fun _ _ ⟨e1, e2⟩ => ?_)
    subst e1; rw [e2]
    refine zW.iconst (pc' := 69) (nI 0) dX3_signs_68 rfl (by decide) ?_
    refine zW.iret dX3_signs_69 rfl (rfl) ?_
    refine ⟨_, (zu T.1 4 (sAt s.2.1 k 4 + 5 + n), zu (zu T.2.1 (22 + 8 * k + 6) (n + 1)) (22 + 8 * k + 4) (sAt s.2.1 k 4 + 5 + n), T.2.2), rfl, tC.ok hs (hR.set2 hk (by omega) (by omega) (by omega)) zu_s ⟨fun j hj => ?_, fun f hf => zu_n hf, rfl⟩, ?_⟩
    · show zu _ _ _ j = _
      rw [zu_n (by omega), zu_n (by omega)]
    · dsimp only
      rw [zu_s]
theorem w_countersigns (hD : tD a) {s : sS} (hR : tR T.2.1 0 s) (hB : tB s) {id w : Int32} : zK G mX3_countersigns 4 0 [.ref a.1, .int id, .int w] (tH h0 a T) (tQ h0 a (tC T s (sCosign s id w))) := by
  have h12 := hR.2.2.2.2.2.2.1
  show zW G mX3_countersigns 4 0 0 [.ref a.1, .int id, .int w, zho] [] (tH h0 a T) _
  refine zW.aload_n (pc' := 1) dX3_countersigns_0 rfl rfl zg0 rfl ?_
  refine zW.iload_n (pc' := 2) dX3_countersigns_1 rfl rfl (zgS (zg0)) ?_
  refine zT.call (pc' := 5) dX3_countersigns_2 rfl l_X3_76 rfl rfl (w_findS hD hR) (zcc rfl zc0) rfl (Nat.le_of_ble_eq_true rfl) (Nat.le_of_ble_eq_true rfl) (Nat.le_of_ble_eq_true rfl) (fun _ _ ⟨e1, e2⟩ => ?_)
  rw [e2]
  rcases e1 with ⟨k, q1, hk, e1⟩ | ⟨q1, e1⟩
  rotate_left
  · subst e1
    refine zW.istore_n (pc' := 6) dX3_countersigns_5 rfl rfl (Nat.le_of_ble_eq_true rfl) (zsS (zsS (zsS (zs0)))) ?_
    refine zW.iload_n (pc' := 7) dX3_countersigns_6 rfl rfl (zgS (zgS (zgS (zg0)))) ?_
    refine zW.if_ge (pc' := 10) 12 dX3_countersigns_7 rfl (by decide) (fun b1 => ?_) (fun b1 => ?_)
    · exact absurd b1 (by decide)
    · refine zW.iconst (pc' := 11) (nI 1) dX3_countersigns_10 rfl (by decide) ?_
      refine zW.iret dX3_countersigns_11 rfl (rfl) ?_
      exact ⟨_, _, rfl, tC.bad hR (by unfold sCosign; rw [q1]) (by decide), rfl⟩
  · subst e1
    refine zW.istore_n (pc' := 6) dX3_countersigns_5 rfl rfl (Nat.le_of_ble_eq_true rfl) (zsS (zsS (zsS (zs0)))) ?_
    refine zW.iload_n (pc' := 7) dX3_countersigns_6 rfl rfl (zgS (zgS (zgS (zg0)))) ?_
    refine zW.if_geN 12 dX3_countersigns_7 (by decide) (by omega) ?_
    refine zW.iload_n (pc' := 13) dX3_countersigns_12 rfl rfl (zgS (zgS (zg0))) ?_
    refine zW.iconst (pc' := 14) (nI 0) dX3_countersigns_13 rfl (by decide) ?_
    refine zW.iconst (pc' := 15) (nI 3) dX3_countersigns_14 rfl (by decide) ?_
    refine zW.callS (pc' := 18) dX3_countersigns_15 rfl l_X3_55 rfl (w_in) (zcc rfl (zcc rfl (zcc rfl zc0))) rfl (Nat.le_of_ble_eq_true rfl) (Nat.le_of_ble_eq_true rfl) (Nat.le_of_ble_eq_true rfl) (fun _ _ ⟨e1, e3⟩ => ?_) (fun _ _ q9 => by cases q9.1)
    cases e1; subst e3
    have hs : sCosign s id w = (if sIn w (nI 0) (nI 3) = true then
      if 0 < sAt s.2.1 k 6 ∧ sAt s.2.1 k 7 = 0 ∧ sCount s.2.1 7 (iN w) < 2 then
        (0, sAt s.2.1 k 4 + 10 + 2 * iN w, (s.1, s.2.1.set k (zu (zu (sAt s.2.1 k) 7 (iN w + 1)) 4 (sAt s.2.1 k 4 + 10 + 2 * iN w)), s.2.2))
      else (3, 0, s)
    else (2, 0, s)) := by unfold sCosign; rw [q1]
    refine zW.if_neN (pc' := 21) 23 dX3_countersigns_18 rfl (by decide) (z01) (fun b2 => ?_) (fun b2 => ?_)
    rotate_left
    · refine zW.iconst (pc' := 22) (nI 2) dX3_countersigns_21 rfl (by decide) ?_
      refine zW.iret dX3_countersigns_22 rfl (rfl) ?_
      exact ⟨_, _, rfl, tC.bad hR (by rw [hs, if_neg (z00 b2)]) (by decide), rfl⟩
    have p1 := z10 b2
    rw [if_pos p1] at hs
    obtain ⟨n, en, -, hn, iw⟩ := sIn_nat p1 (by decide) (by decide)
    rw [iw] at hs
    clear b2 p1 iw
    subst en
    refine zW.aload_n (pc' := 24) dX3_countersigns_23 rfl rfl zg0 rfl ?_
    refine zW.iload_n (pc' := 25) dX3_countersigns_24 rfl rfl (zgS (zgS (zgS (zg0)))) ?_
    refine zW.iload_n (pc' := 26) dX3_countersigns_25 rfl rfl (zgS (zgS (zg0))) ?_
    refine zT.call (pc' := 29) dX3_countersigns_26 rfl l_X3_86 rfl rfl (w_mayCountersign hD hR hB hk (by omega)) (zcc rfl (zcc rfl zc0)) rfl (Nat.le_of_ble_eq_true rfl) (Nat.le_of_ble_eq_true rfl) (Nat.le_of_ble_eq_true rfl) (fun _ _ ⟨e1, e2⟩ => ?_)
    subst e1; rw [e2]
    refine zW.if_neN (pc' := 32) 34 dX3_countersigns_29 rfl (by decide) (z01) (fun b3 => ?_) (fun b3 => ?_)
    rotate_left
    · refine zW.iconst (pc' := 33) (nI 3) dX3_countersigns_32 rfl (by decide) ?_
      refine zW.iret dX3_countersigns_33 rfl (rfl) ?_
      exact ⟨_, _, rfl, tC.bad hR (by rw [hs, if_neg (z00 b3)]) (by decide), rfl⟩
    rw [if_pos (z10 b3)] at hs
    refine zW.aload_n (pc' := 35) dX3_countersigns_34 rfl rfl zg0 rfl ?_
    refine zW.iload_n (pc' := 36) dX3_countersigns_35 rfl rfl (zgS (zgS (zgS (zg0)))) ?_
    refine zW.bipush (pc' := 38) (nI 7) dX3_countersigns_36 rfl (by decide) ?_
    refine zW.iload_n (pc' := 39) dX3_countersigns_38 rfl rfl (zgS (zgS (zg0))) ?_
    refine zW.iconst (pc' := 40) (nI 1) dX3_countersigns_39 rfl (by decide) ?_
    refine zW.iaddN (pc' := 41) dX3_countersigns_40 rfl ?_
    refine zT.call (pc' := 44) dX3_countersigns_41 rfl l_X3_51 rfl rfl (w_set hD (by omega)) (zcc rfl (zcc rfl (zcc rfl zc0))) rfl (Nat.le_of_ble_eq_true rfl) (Nat.le_of_ble_eq_true rfl) (Nat.le_of_ble_eq_true rfl) (fun _ _ ⟨e1, e2⟩ => ?_)
    subst e1; rw [e2]
    refine zW.aload_n (pc' := 45) dX3_countersigns_44 rfl rfl zg0 rfl ?_
    refine zW.aload_n (pc' := 46) dX3_countersigns_45 rfl rfl zg0 rfl ?_
    refine zW.iload_n (pc' := 47) dX3_countersigns_46 rfl rfl (zgS (zgS (zgS (zg0)))) ?_
    refine zW.iconst (pc' := 48) (nI 4) dX3_countersigns_47 rfl (by decide) ?_
    refine zT.call (pc' := 51) dX3_countersigns_48 rfl l_X3_43 rfl rfl (w_c hD (by omega)) (zcc rfl (zcc rfl zc0)) rfl (Nat.le_of_ble_eq_true rfl) (Nat.le_of_ble_eq_true rfl) (Nat.le_of_ble_eq_true rfl) (fun _ _ ⟨e1, e2⟩ => ?_)
    subst e1; rw [e2]
    dsimp only
    rw [zu_n (show 22 + 8 * k + 4 ≠ 22 + 8 * k + 7 by omega), hR.cl hk (by omega)]
    refine zW.bipush (pc' := 53) (nI 10) dX3_countersigns_51 rfl (by decide) ?_
    refine zW.iaddN (pc' := 54) dX3_countersigns_53 rfl ?_
    refine zW.iconst (pc' := 55) (nI 2) dX3_countersigns_54 rfl (by decide) ?_
    refine zW.iload_n (pc' := 56) dX3_countersigns_55 rfl rfl (zgS (zgS (zg0))) ?_
    refine zW.imulN (pc' := 57) dX3_countersigns_56 rfl ?_
    refine zW.iaddN (pc' := 58) dX3_countersigns_57 rfl ?_
    refine zT.putN (pc' := 61) dX3_countersigns_58 rfl f_X3_40_3 (zFw.of ft_3_4 rfl rfl) rfl ?_
    try dsimp only
    refine zW.aload_n (pc' := 62) dX3_countersigns_61 rfl rfl zg0 rfl ?_
    refine zW.iload_n (pc' := 63) dX3_countersigns_62 rfl rfl (zgS (zgS (zgS (zg0)))) ?_
    refine zW.iconst (pc' := 64) (nI 4) dX3_countersigns_63 rfl (by decide) ?_
    refine zW.aload_n (pc' := 65) dX3_countersigns_64 rfl rfl zg0 rfl ?_
    refine zT.get (pc' := 68) dX3_countersigns_65 rfl f_X3_40_3 rfl ?_
    try dsimp only
    refine zT.call (pc' := 71) dX3_countersigns_68 rfl l_X3_51 rfl rfl (w_set hD (by omega)) (zcc rfl (zcc rfl (zcc rfl zc0))) rfl (Nat.le_of_ble_eq_true rfl) (Nat.le_of_ble_eq_true rfl) (Nat.le_of_ble_eq_true rfl) (fun _ _ ⟨e1, e2⟩ => ?_)
    subst e1; rw [e2]
    refine zW.iconst (pc' := 72) (nI 0) dX3_countersigns_71 rfl (by decide) ?_
    refine zW.iret dX3_countersigns_72 rfl (rfl) ?_
    refine ⟨_, (zu T.1 4 (sAt s.2.1 k 4 + 10 + 2 * n), zu (zu T.2.1 (22 + 8 * k + 7) (n + 1)) (22 + 8 * k + 4) (sAt s.2.1 k 4 + 10 + 2 * n), T.2.2), rfl, tC.ok hs (hR.set2 hk (by omega) (by omega) (by omega)) zu_s ⟨fun j hj => ?_, fun f hf => zu_n hf, rfl⟩, ?_⟩
    · show zu _ _ _ j = _
      rw [zu_n (by omega), zu_n (by omega)]
    · dsimp only
      rw [zu_s]
theorem w_settles (hD : tD a) {s : sS} (hR : tR T.2.1 0 s) (hB : tB s) (hQ : ∀ i, i < s.2.1.length → sAt s.2.1 i 0 ∈ s.2.2.1) {id : Int32} : zK G mX3_settles 4 0 [.ref a.1, .int id] (tH h0 a T) (tQ h0 a (tC T s (sSettle s id))) := by
  show zW G mX3_settles 4 0 0 [.ref a.1, .int id, zho] [] (tH h0 a T) _
  refine zW.aload_n (pc' := 1) dX3_settles_0 rfl rfl zg0 rfl ?_
  refine zW.iload_n (pc' := 2) dX3_settles_1 rfl rfl (zgS (zg0)) ?_
  refine zT.call (pc' := 5) dX3_settles_2 rfl l_X3_76 rfl rfl (w_findS hD hR) (zcc rfl zc0) rfl (Nat.le_of_ble_eq_true rfl) (Nat.le_of_ble_eq_true rfl) (Nat.le_of_ble_eq_true rfl) (fun _ _ ⟨e1, e2⟩ => ?_)
  rw [e2]
  rcases e1 with ⟨k, q1, hk, e1⟩ | ⟨q1, e1⟩
  rotate_left
  · subst e1
    refine zW.istore_n (pc' := 6) dX3_settles_5 rfl rfl (Nat.le_of_ble_eq_true rfl) (zsS (zsS (zs0))) ?_
    refine zW.iload_n (pc' := 7) dX3_settles_6 rfl rfl (zgS (zgS (zg0))) ?_
    refine zW.if_ge (pc' := 10) 12 dX3_settles_7 rfl (by decide) (fun b1 => ?_) (fun b1 => ?_)
    · exact absurd b1 (by decide)
    · refine zW.iconst (pc' := 11) (nI 1) dX3_settles_10 rfl (by decide) ?_
      refine zW.iret dX3_settles_11 rfl (rfl) ?_
      exact ⟨_, _, rfl, tC.bad hR (by unfold sSettle; rw [q1]) (by decide), rfl⟩
  · subst e1
    have hl := hR.2.2.2.2.2.2.1
    refine zW.istore_n (pc' := 6) dX3_settles_5 rfl rfl (Nat.le_of_ble_eq_true rfl) (zsS (zsS (zs0))) ?_
    refine zW.iload_n (pc' := 7) dX3_settles_6 rfl rfl (zgS (zgS (zg0))) ?_
    refine zW.if_geN 12 dX3_settles_7 (by decide) (by omega) ?_
    have hs : sSettle s id = (if sAt s.2.1 k 6 = 0 then (3, 0, s) else (0, sAt s.2.1 k 3, (zu (sClose s k).1 6 ((sClose s k).1 6 + 1), (sClose s k).2))) := by unfold sSettle; rw [q1]
    have hc := hB.at hk (f := 6) (by omega)
    refine zW.aload_n (pc' := 13) dX3_settles_12 rfl rfl zg0 rfl ?_
    refine zW.iload_n (pc' := 14) dX3_settles_13 rfl rfl (zgS (zgS (zg0))) ?_
    refine zW.bipush (pc' := 16) (nI 6) dX3_settles_14 rfl (by decide) ?_
    refine zT.call (pc' := 19) dX3_settles_16 rfl l_X3_43 rfl rfl (w_cS hD hR hk (by omega)) (zcc rfl (zcc rfl zc0)) rfl (Nat.le_of_ble_eq_true rfl) (Nat.le_of_ble_eq_true rfl) (Nat.le_of_ble_eq_true rfl) (fun _ _ ⟨e1, e2⟩ => ?_)
    subst e1; rw [e2]
    refine zW.if_neN (pc' := 22) 24 dX3_settles_19 rfl (by decide) (by omega) (fun b2 => ?_) (fun b2 => ?_)
    rotate_left
    · refine zW.iconst (pc' := 23) (nI 3) dX3_settles_22 rfl (by decide) ?_
      refine zW.iret dX3_settles_23 rfl (rfl) ?_
      exact ⟨_, _, rfl, tC.bad hR (by rw [hs, if_pos b2]) (by decide), rfl⟩
    rw [if_neg b2] at hs
    refine zW.aload_n (pc' := 25) dX3_settles_24 rfl rfl zg0 rfl ?_
    refine zW.aload_n (pc' := 26) dX3_settles_25 rfl rfl zg0 rfl ?_
    refine zW.iload_n (pc' := 27) dX3_settles_26 rfl rfl (zgS (zgS (zg0))) ?_
    refine zW.iconst (pc' := 28) (nI 3) dX3_settles_27 rfl (by decide) ?_
    refine zT.call (pc' := 31) dX3_settles_28 rfl l_X3_43 rfl rfl (w_cS hD hR hk (by omega)) (zcc rfl (zcc rfl zc0)) rfl (Nat.le_of_ble_eq_true rfl) (Nat.le_of_ble_eq_true rfl) (Nat.le_of_ble_eq_true rfl) (fun _ _ ⟨e1, e2⟩ => ?_)
    subst e1; rw [e2]
    refine zT.putN (pc' := 34) dX3_settles_31 rfl f_X3_40_3 (zFw.of ft_3_4 rfl rfl) rfl ?_
    try dsimp only
    refine zW.aload_n (pc' := 35) dX3_settles_34 rfl rfl zg0 rfl ?_
    refine zW.iload_n (pc' := 36) dX3_settles_35 rfl rfl (zgS (zgS (zg0))) ?_
    refine zT.call (pc' := 39) dX3_settles_36 rfl l_X3_92 rfl rfl (w_closes (T := (zu T.1 4 (sAt s.2.1 k 3), T.2)) hD hR hB hk (hQ k hk)) (zcc rfl zc0) rfl (Nat.le_of_ble_eq_true rfl) (Nat.le_of_ble_eq_true rfl) (Nat.le_of_ble_eq_true rfl) (fun _ T1 ⟨e1, e2, e3, e4⟩ => ?_)
    subst e1
    refine zW.aload_n (pc' := 40) dX3_settles_39 rfl rfl zg0 rfl ?_
    refine zT.get (pc' := 43) dX3_settles_40 rfl f_X3_9_3 rfl ?_
    try dsimp only
    refine zW.bipush (pc' := 45) (nI 6) dX3_settles_43 rfl (by decide) ?_
    refine zW.dup2 (pc' := 46) dX3_settles_45 rfl rfl rfl ?_
    first | refine zT.ald1 (pc' := 47) dX3_settles_46 rfl hD (by omega) ?_ | refine zT.ald4 (pc' := 47) dX3_settles_46 rfl hD (by omega) ?_
    try dsimp only
    refine zW.iconst (pc' := 48) (nI 1) dX3_settles_47 rfl (by decide) ?_
    refine zW.iaddN (pc' := 49) dX3_settles_48 rfl ?_
    first | refine zT.ast1 (pc' := 50) dX3_settles_49 rfl hD (by omega) ?_ | refine zT.ast4 (pc' := 50) dX3_settles_49 rfl hD (by omega) ?_
    try dsimp only
    refine zW.iconst (pc' := 51) (nI 0) dX3_settles_50 rfl (by decide) ?_
    refine zW.iret dX3_settles_51 rfl (rfl) ?_
    rw [e2.sc (i := 6) (by omega) (by omega) (by omega)]
    refine ⟨_, (T1.1, zu T1.2.1 6 ((sClose s k).1 6 + 1), T1.2.2), rfl, tC.ok hs (e2.setsc (by omega) (by omega) (by omega)) (by rw [e3]; dsimp only; exact zu_s) ⟨fun j hj => ?_, fun f hf => ?_, e4.2.2⟩, rfl⟩
    · show zu _ _ _ j = _
      rw [zu_n (by omega)]
      exact e4.1 j hj
    · show T1.1 f = T.1 f
      rw [e3]
      exact zu_n hf
theorem w_setsRate (hD : tD a) {s : sS} (hR : tR T.2.1 0 s) {p v : Int32} : zK G mX3_setsRate 2 0 [.ref a.1, .int p, .int v] (tH h0 a T) (tQ h0 a (tC T s (sSetRate s p v))) := by
  have bad : ¬ (sIn p (nI 0) (nI 3) = true ∧ sIn v (nI 0) (nI 20) = true) → zW G mX3_setsRate 2 0 19 [.ref a.1, .int p, .int v] [] (tH h0 a T) (tQ h0 a (tC T s (sSetRate s p v))) := by
    intro hb
    refine zW.iconst (pc' := 20) (nI 2) dX3_setsRate_19 rfl (by decide) ?_
    refine zW.iret dX3_setsRate_20 rfl (rfl) ?_
    exact ⟨_, _, rfl, tC.bad hR (by unfold sSetRate; rw [if_neg hb]) (by decide), rfl⟩
  show zW G mX3_setsRate 2 0 0 [.ref a.1, .int p, .int v] [] (tH h0 a T) _
  refine zW.iload_n (pc' := 1) dX3_setsRate_0 rfl rfl (zgS (zg0)) ?_
  refine zW.iconst (pc' := 2) (nI 0) dX3_setsRate_1 rfl (by decide) ?_
  refine zW.iconst (pc' := 3) (nI 3) dX3_setsRate_2 rfl (by decide) ?_
  refine zW.callS (pc' := 6) dX3_setsRate_3 rfl l_X3_55 rfl (w_in) (zcc rfl (zcc rfl (zcc rfl zc0))) rfl (Nat.le_of_ble_eq_true rfl) (Nat.le_of_ble_eq_true rfl) (Nat.le_of_ble_eq_true rfl) (fun _ _ ⟨e1, e2⟩ => ?_) (fun _ _ q9 => by cases q9.1)
  cases e1; subst e2
  refine zW.if_eqN (pc' := 9) 19 dX3_setsRate_6 rfl (by decide) (z01) (fun b1 => ?_) (fun b1 => ?_)
  · exact bad fun q => z00 b1 q.1
  refine zW.iload_n (pc' := 10) dX3_setsRate_9 rfl rfl (zgS (zgS (zg0))) ?_
  refine zW.iconst (pc' := 11) (nI 0) dX3_setsRate_10 rfl (by decide) ?_
  refine zW.bipush (pc' := 13) (nI 20) dX3_setsRate_11 rfl (by decide) ?_
  refine zW.callS (pc' := 16) dX3_setsRate_13 rfl l_X3_55 rfl (w_in) (zcc rfl (zcc rfl (zcc rfl zc0))) rfl (Nat.le_of_ble_eq_true rfl) (Nat.le_of_ble_eq_true rfl) (Nat.le_of_ble_eq_true rfl) (fun _ _ ⟨e1, e2⟩ => ?_) (fun _ _ q9 => by cases q9.1)
  cases e1; subst e2
  refine zW.if_neN (pc' := 19) 21 dX3_setsRate_16 rfl (by decide) (z01) (fun b2 => ?_) (fun b2 => ?_)
  rotate_left
  · exact bad fun q => z00 b2 q.2
  have p1 := z10 b1
  have p2 := z10 b2
  have hs : sSetRate s p v = (0, s.1 (10 + iN p), (zu s.1 (10 + iN p) (iN v), s.2)) := by unfold sSetRate; rw [if_pos ⟨p1, p2⟩]
  obtain ⟨n, en, -, hn, iw⟩ := sIn_nat p1 (by decide) (by decide)
  obtain ⟨m, em, -, hm, iv⟩ := sIn_nat p2 (by decide) (by decide)
  rw [iw, iv] at hs
  clear b1 b2 p1 p2 iw iv bad
  subst en em
  refine zW.aload_n (pc' := 22) dX3_setsRate_21 rfl rfl zg0 rfl ?_
  refine zW.aload_n (pc' := 23) dX3_setsRate_22 rfl rfl zg0 rfl ?_
  refine zT.get (pc' := 26) dX3_setsRate_23 rfl f_X3_9_3 rfl ?_
  try dsimp only
  refine zW.bipush (pc' := 28) (nI 10) dX3_setsRate_26 rfl (by decide) ?_
  refine zW.iload_n (pc' := 29) dX3_setsRate_28 rfl rfl (zgS (zg0)) ?_
  refine zW.iaddN (pc' := 30) dX3_setsRate_29 rfl ?_
  first | refine zT.ald1 (pc' := 31) dX3_setsRate_30 rfl hD (by omega) ?_ | refine zT.ald4 (pc' := 31) dX3_setsRate_30 rfl hD (by omega) ?_
  try dsimp only
  refine zT.putN (pc' := 34) dX3_setsRate_31 rfl f_X3_40_3 (zFw.of ft_3_4 rfl rfl) rfl ?_
  try dsimp only
  refine zW.aload_n (pc' := 35) dX3_setsRate_34 rfl rfl zg0 rfl ?_
  refine zT.get (pc' := 38) dX3_setsRate_35 rfl f_X3_9_3 rfl ?_
  try dsimp only
  refine zW.bipush (pc' := 40) (nI 10) dX3_setsRate_38 rfl (by decide) ?_
  refine zW.iload_n (pc' := 41) dX3_setsRate_40 rfl rfl (zgS (zg0)) ?_
  refine zW.iaddN (pc' := 42) dX3_setsRate_41 rfl ?_
  refine zW.iload_n (pc' := 43) dX3_setsRate_42 rfl rfl (zgS (zgS (zg0))) ?_
  first | refine zT.ast1 (pc' := 44) dX3_setsRate_43 rfl hD (by omega) ?_ | refine zT.ast4 (pc' := 44) dX3_setsRate_43 rfl hD (by omega) ?_
  try dsimp only
  refine zW.iconst (pc' := 45) (nI 0) dX3_setsRate_44 rfl (by decide) ?_
  refine zW.iret dX3_setsRate_45 rfl (rfl) ?_
  rw [hR.sc (i := 10 + n) (by omega) (by omega) (by omega)]
  refine ⟨_, (zu T.1 4 (s.1 (10 + n)), zu T.2.1 (10 + n) m, T.2.2), rfl, tC.ok hs (hR.setsc (by omega) (by omega) (by omega)) zu_s ⟨fun j hj => ?_, fun f hf => zu_n hf, rfl⟩, rfl⟩
  show zu _ _ _ j = _
  rw [zu_n (by omega)]
end
