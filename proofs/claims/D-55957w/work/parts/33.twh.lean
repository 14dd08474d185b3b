/-! THE REFERENCE: passes, visits, audits -/
section
set_option maxRecDepth 100000
variable {G : zG} {h0 : zH} {a : tA} {T : tS} {tt nn n : Nat}
theorem sTicks_le {s : sS} (h : sI tt nn 0 s) (hE : sE s) {k : Nat} : (sTicks s k).1 ≤ 12 * k := by
  induction k with
  | zero => exact Nat.le_refl _
  | succ k ih =>
    have h1 := h.ticks hE (k := k)
    have h2 := h1.1.time h1.2
    have h3 : sI (tt + k + 1) nn 0 (sInt (sTime (sTicks s k).2)) := h2.intK (Nat.le_refl _)
    have h4 : (sTick (sTicks s k).2).1 ≤ (sInt (sTime (sTicks s k).2)).2.1.length := by
      have hh : ∀ (time : Nat) (todo kept : List sC) (sc : Nat → Nat) (qu re : List Nat) (m : Nat), (sExp time todo kept sc qu re m).1 ≤ m + todo.length := by
        intro time todo
        induction todo with
        | nil => intro kept sc qu re m; exact Nat.le_refl _
        | cons c todo ih =>
          intro kept sc qu re m
          unfold sExp
          rw [List.length_cons]
          by_cases q : time < c 4
          · rw [if_pos q]; have := ih (kept ++ [c]) sc qu re m; omega
          · rw [if_neg q]; have := ih kept (zu sc 8 (sc 8 + c 3)) (qu.erase (c 0)) ((c 0 :: re).take 8) (m + 1); omega
      have := hh ((sInt (sTime (sTicks s k).2)).1 0) (sInt (sTime (sTicks s k).2)).2.1 [] (sInt (sTime (sTicks s k).2)).1 (sInt (sTime (sTicks s k).2)).2.2.1 (sInt (sTime (sTicks s k).2)).2.2.2 0
      rw [Nat.zero_add] at this
      exact this
    have h5 := h3.len
    show (sTicks s k).1 + (sTick (sTicks s k).2).1 ≤ _
    omega
theorem zu_zu {f : Nat → Nat} {k x y : Nat} : zu (zu f k x) k y = zu f k y := by
  funext j
  unfold zu
  by_cases q : j = k
  · rw [if_pos q, if_pos q]
  · rw [if_neg q, if_neg q, if_neg q]
theorem w_passes (hD : tD a) {s : sS} (hR : tR T.2.1 0 s) (hI : sI tt nn 0 s) (hE : sE s) (hT : tt + 50 < 100000) (hN : nn ≤ 10000) {t : Int32} : zK G mX3_passes 5 0 [.ref a.1, .int t] (tH h0 a T) (tQ h0 a (tC T s (sAdvance s t))) := by
  show zW G mX3_passes 5 0 0 [.ref a.1, .int t, zho] [] (tH h0 a T) _
  refine zW.iload_n (pc' := 1) dX3_passes_0 rfl rfl (zgS (zg0)) ?_
  refine zW.iconst (pc' := 2) (nI 1) dX3_passes_1 rfl (by decide) ?_
  refine zW.bipush (pc' := 4) (nI 50) dX3_passes_2 rfl (by decide) ?_
  refine zW.callS (pc' := 7) dX3_passes_4 rfl l_X3_55 rfl (w_in) (zcc rfl (zcc rfl (zcc rfl zc0))) rfl (Nat.le_of_ble_eq_true rfl) (Nat.le_of_ble_eq_true rfl) (Nat.le_of_ble_eq_true rfl) (fun _ _ ⟨e1, e3⟩ => ?_) (fun _ _ q9 => by cases q9.1)
  cases e1; subst e3
  refine zW.if_neN (pc' := 10) 12 dX3_passes_7 rfl (by decide) (z01) (fun b2 => ?_) (fun b2 => ?_)
  rotate_left
  · refine zW.iconst (pc' := 11) (nI 2) dX3_passes_10 rfl (by decide) ?_
    refine zW.iret dX3_passes_11 rfl (rfl) ?_
    exact ⟨_, _, rfl, tC.bad hR (by unfold sAdvance; rw [if_neg (z00 b2)]) (by decide), rfl⟩
  have p1 := z10 b2
  have hs : sAdvance s t = (0, (sTicks s (iN t)).1, (sTicks s (iN t)).2) := by unfold sAdvance; rw [if_pos p1]
  obtain ⟨n, en, -, hn, iw⟩ := sIn_nat p1 (by decide) (by decide)
  rw [iw] at hs
  clear b2 p1 iw
  subst en
  refine zW.aload_n (pc' := 13) dX3_passes_12 rfl rfl zg0 rfl ?_
  refine zW.iconst (pc' := 14) (nI 0) dX3_passes_13 rfl (by decide) ?_
  refine zT.putN (pc' := 17) dX3_passes_14 rfl f_X3_40_3 (zFw.of ft_3_4 rfl rfl) rfl ?_
  try dsimp only
  refine zW.iconst (pc' := 18) (nI 0) dX3_passes_17 rfl (by decide) ?_
  refine zW.istore_n (pc' := 19) dX3_passes_18 rfl rfl (Nat.le_of_ble_eq_true rfl) (zsS (zsS (zs0))) ?_
  have loop : ∀ m k (T1 : tS), k + m = n → tR T1.2.1 0 (sTicks s k).2 → T1.1 = zu T.1 4 (sTicks s k).1 → tF T T1 → zW G mX3_passes 5 0 19 [.ref a.1, .int (nI n), .int (nI k)] [] (tH h0 a T1) (tQ h0 a (tC T s (sAdvance s (nI n)))) := by
    intro m
    induction m with
    | zero =>
      intro k T1 hk hR1 h1 hF
      have hk : k = n := by omega
      subst hk
      refine zW.iload_n (pc' := 20) dX3_passes_19 rfl rfl (zgS (zgS (zg0))) ?_
      refine zW.iload_n (pc' := 21) dX3_passes_20 rfl rfl (zgS (zg0)) ?_
      refine zW.icmp_geN (pc' := 24) 43 dX3_passes_21 rfl (by decide) (by omega) (by omega) (fun b1 => ?_) (fun b1 => ?_)
      rotate_left
      · exact absurd b1 (by omega)
      refine zW.iconst (pc' := 44) (nI 0) dX3_passes_43 rfl (by decide) ?_
      refine zW.iret dX3_passes_44 rfl (rfl) ?_
      exact ⟨_, (T1.1, T1.2.1, T1.2.2), rfl, tC.ok hs hR1 (by rw [h1]; exact zu_s) hF, rfl⟩
    | succ m ih =>
      intro k T1 hk hR1 h1 hF
      have hI1 := hI.ticks hE (k := k)
      have hle := sTicks_le hI hE (k := k)
      refine zW.iload_n (pc' := 20) dX3_passes_19 rfl rfl (zgS (zgS (zg0))) ?_
      refine zW.iload_n (pc' := 21) dX3_passes_20 rfl rfl (zgS (zg0)) ?_
      refine zW.icmp_geN (pc' := 24) 43 dX3_passes_21 rfl (by decide) (by omega) (by omega) (fun b1 => ?_) (fun b1 => ?_)
      · exact absurd b1 (by omega)
      refine zW.aload_n (pc' := 25) dX3_passes_24 rfl rfl zg0 rfl ?_
      refine zW.dup (pc' := 26) dX3_passes_25 rfl rfl ?_
      refine zT.get (pc' := 29) dX3_passes_26 rfl f_X3_40_3 rfl ?_
      try dsimp only
      refine zW.aload_n (pc' := 30) dX3_passes_29 rfl rfl zg0 rfl ?_
      refine zT.call (pc' := 33) dX3_passes_30 rfl l_X3_108 rfl rfl (w_ticksOnce hD hR1 hI1.1 hI1.2 (by omega) hN) zc0 rfl (Nat.le_of_ble_eq_true rfl) (Nat.le_of_ble_eq_true rfl) (Nat.le_of_ble_eq_true rfl) (fun _ T2 ⟨e1, e2, e3, e4⟩ => ?_)
      subst e1
      refine zW.iaddN (pc' := 34) dX3_passes_33 rfl ?_
      refine zT.putN (pc' := 37) dX3_passes_34 rfl f_X3_40_3 (zFw.of ft_3_4 rfl rfl) rfl ?_
      try dsimp only
      refine zW.iincN (pc' := 40) (n := 1) dX3_passes_37 rfl (Nat.le_of_ble_eq_true rfl) (zgS (zgS (zg0))) (zsS (zsS (zs0))) ?_
      refine zW.goto 19 dX3_passes_40 (by decide) ?_
      refine ih (k + 1) (zu T2.1 4 (T1.1 4 + (sTick (sTicks s k).2).1), T2.2) (by omega) e2 ?_ ⟨fun j hj => (e4.1 j hj).trans (hF.1 j hj), fun f hf => ?_, e4.2.2.trans hF.2.2⟩
      · rw [e3, h1, zu_s]
        dsimp only
        exact zu_zu
      · show zu _ _ _ f = _
        rw [zu_n hf, e4.2.1 f hf, hF.2.1 f hf]
  exact loop n 0 (zu T.1 4 0, T.2) (Nat.zero_add _) hR rfl ⟨fun _ _ => rfl, fun f hf => zu_n hf, rfl⟩
/-- the queue turned -/
theorem tR.turn {A : Nat → Nat} {s : sS} {q : Nat} {qs : List Nat} (h : tR A 0 s) (hq : s.2.2.1 = q :: qs) : tR (zu (tsh A 118 (118 + qs.length) 1) (118 + qs.length) q) 0 (s.1, s.2.1, qs ++ [q], s.2.2.2) := by
  obtain ⟨h1, h2, h3, h4, h5, h6, h7, h8, h9⟩ := h
  rw [hq, List.length_cons] at h8
  have lo : ∀ j, j < 118 → zu (tsh A 118 (118 + qs.length) 1) (118 + qs.length) q j = A j := fun j hj => by
    rw [zu_n (by omega)]
    unfold tsh
    rw [if_neg (by omega)]
  refine ⟨fun i hi a1 a2 => ?_, ?_, ?_, fun i c hc f hf => ?_, fun i x hx => ?_, fun i x hx => ?_, h7, by simp; omega, h9⟩
  · rw [lo _ (by omega)]; exact h1 i hi a1 a2
  · rw [lo _ (by omega)]; exact h2
  · rw [lo _ (by omega)]; exact h3
  · have hil := (List.getElem?_eq_some_iff.mp hc).1
    rw [lo _ (by dsimp only at hil; omega)]; exact h4 i c hc f hf
  · dsimp only at hx
    by_cases hil : i < qs.length
    · rw [List.getElem?_append_left hil] at hx
      rw [zu_n (by omega)]
      unfold tsh
      rw [if_pos (by omega), show 0 + 118 + i + 1 = 0 + 118 + (i + 1) by omega]
      exact h5 (i + 1) x (by rw [hq, List.getElem?_cons_succ]; exact hx)
    · rw [List.getElem?_append_right (by omega)] at hx
      have hi1 := (List.getElem?_eq_some_iff.mp hx).1
      rw [List.length_singleton] at hi1
      have hi2 : i = qs.length := by omega
      subst hi2
      rw [Nat.sub_self] at hx
      cases hx
      rw [show 0 + 118 + qs.length = 118 + qs.length by omega, zu_s]
  · have hil := (List.getElem?_eq_some_iff.mp hx).1
    rw [lo _ (by dsimp only at hil; omega)]; exact h6 i x hx
theorem w_visits (hD : tD a) {s : sS} (hR : tR T.2.1 0 s) (hI : sI tt nn n s) (hT : tt < 100000) (hN : nn ≤ 10000) (hl : 0 < s.2.1.length) : zK G mX3_visits 4 0 [.ref a.1] (tH h0 a T) (tQ h0 a fun v T' => v = some (.int (nI (sVisit s).1)) ∧ tR T'.2.1 0 (sVisit s).2 ∧ T'.1 = T.1 ∧ tF T T') := by
  have hql := hR.2.2.2.2.2.2.2.1
  have h12 := hR.2.2.2.2.2.2.1
  have hB := hI.tB (by omega) hN
  obtain ⟨q, qs, hq⟩ : ∃ q qs, s.2.2.1 = q :: qs := by
    cases e : s.2.2.1 with
    | nil => rw [e, List.length_nil] at hql; omega
    | cons q qs => exact ⟨q, qs, rfl⟩
  obtain ⟨i, ei, hi, eid⟩ := sFind_q hI hN (q := q) (by rw [hq]; exact List.mem_cons_self)
  have hs : sVisit s = sVisitAt s q qs i := by
    unfold sVisit
    rw [hq]
    dsimp only
    rw [ei]
  have h118 : T.2.1 118 = q := by
    have := hR.qu (i := 0) (by rw [hq]; simp)
    rw [Nat.add_zero] at this
    rw [this]
    simp only [hq, List.getElem_cons_zero]
  rw [hq, List.length_cons] at hql
  have h5 := hB.at hi (f := 5) (by omega)
  have h6 := hB.at hi (f := 6) (by omega)
  have h7 := hB.at hi (f := 7) (by omega)
  have h5' := (hI.at hi).2.2.2.2.2.2.1
  have hsl := sStrikes_le (hI.at hi)
  rw [hs]
  unfold sVisitAt
  have turn : ∀ m k (F A : Nat → Nat) (v0 v1 : Value), k + m = qs.length → A 2 = s.2.1.length → zW G mX3_visits 4 0 78 [.ref a.1, .int (nI q), v0, v1, .int (nI k)] [] (tH h0 a (F, tsh A 118 (118 + k) 1, T.2.2)) (tQ h0 a fun v T' => v = some (.int (nI 0)) ∧ T' = (F, zu (tsh A 118 (118 + qs.length) 1) (118 + qs.length) q, T.2.2)) := by
    intro m
    induction m with
    | zero =>
      intro k F A v0 v1 hk hA
      have hk : k = qs.length := by omega
      subst hk
      have hA2 : tsh A 118 (118 + qs.length) 1 2 = s.2.1.length := by
        unfold tsh; rw [if_neg (by omega), hA]
      refine zW.iload (pc' := 80) dX3_visits_78 rfl (zgS (zgS (zgS (zgS (zg0))))) ?_
      refine zW.aload_n (pc' := 81) dX3_visits_80 rfl rfl zg0 rfl ?_
      refine zT.get (pc' := 84) dX3_visits_81 rfl f_X3_9_3 rfl ?_
      try dsimp only
      refine zW.iconst (pc' := 85) (nI 2) dX3_visits_84 rfl (by decide) ?_
      first | refine zT.ald1 (pc' := 86) dX3_visits_85 rfl hD (by omega) ?_ | refine zT.ald4 (pc' := 86) dX3_visits_85 rfl hD (by omega) ?_
      try dsimp only
      rw [hA2]
      refine zW.iconst (pc' := 87) (nI 1) dX3_visits_86 rfl (by decide) ?_
      refine zW.isubN (pc' := 88) dX3_visits_87 rfl (by omega) ?_
      refine zW.icmp_geN (pc' := 91) 119 dX3_visits_88 rfl (by decide) (by omega) (by omega) (fun b1 => ?_) (fun b1 => ?_)
      rotate_left
      · exact absurd b1 (by omega)
      refine zW.aload_n (pc' := 120) dX3_visits_119 rfl rfl zg0 rfl ?_
      refine zT.get (pc' := 123) dX3_visits_120 rfl f_X3_9_3 rfl ?_
      try dsimp only
      refine zW.bipush (pc' := 125) (nI 118) dX3_visits_123 rfl (by decide) ?_
      refine zW.aload_n (pc' := 126) dX3_visits_125 rfl rfl zg0 rfl ?_
      refine zT.get (pc' := 129) dX3_visits_126 rfl f_X3_9_3 rfl ?_
      try dsimp only
      refine zW.iconst (pc' := 130) (nI 2) dX3_visits_129 rfl (by decide) ?_
      first | refine zT.ald1 (pc' := 131) dX3_visits_130 rfl hD (by omega) ?_ | refine zT.ald4 (pc' := 131) dX3_visits_130 rfl hD (by omega) ?_
      try dsimp only
      rw [hA2]
      refine zW.iaddN (pc' := 132) dX3_visits_131 rfl ?_
      refine zW.iconst (pc' := 133) (nI 1) dX3_visits_132 rfl (by decide) ?_
      refine zW.isubN (pc' := 134) dX3_visits_133 rfl (by omega) ?_
      refine zW.iload_n (pc' := 135) dX3_visits_134 rfl rfl (zgS (zg0)) ?_
      first | refine zT.ast1 (pc' := 136) dX3_visits_135 rfl hD (by omega) ?_ | refine zT.ast4 (pc' := 136) dX3_visits_135 rfl hD (by omega) ?_
      try dsimp only
      refine zW.iconst (pc' := 137) (nI 0) dX3_visits_136 rfl (by decide) ?_
      rw [show 118 + s.2.1.length - 1 = 118 + qs.length by omega]
      refine zW.iret dX3_visits_137 rfl (rfl) ?_
      exact ⟨_, _, rfl, ⟨rfl, rfl⟩, rfl⟩
    | succ m ih =>
      intro k F A v0 v1 hk hA
      have hA2 : tsh A 118 (118 + k) 1 2 = s.2.1.length := by
        unfold tsh; rw [if_neg (by omega), hA]
      refine zW.iload (pc' := 80) dX3_visits_78 rfl (zgS (zgS (zgS (zgS (zg0))))) ?_
      refine zW.aload_n (pc' := 81) dX3_visits_80 rfl rfl zg0 rfl ?_
      refine zT.get (pc' := 84) dX3_visits_81 rfl f_X3_9_3 rfl ?_
      try dsimp only
      refine zW.iconst (pc' := 85) (nI 2) dX3_visits_84 rfl (by decide) ?_
      first | refine zT.ald1 (pc' := 86) dX3_visits_85 rfl hD (by omega) ?_ | refine zT.ald4 (pc' := 86) dX3_visits_85 rfl hD (by omega) ?_
      try dsimp only
      rw [hA2]
      refine zW.iconst (pc' := 87) (nI 1) dX3_visits_86 rfl (by decide) ?_
      refine zW.isubN (pc' := 88) dX3_visits_87 rfl (by omega) ?_
      refine zW.icmp_geN (pc' := 91) 119 dX3_visits_88 rfl (by decide) (by omega) (by omega) (fun b1 => ?_) (fun b1 => ?_)
      · exact absurd b1 (by omega)
      refine zW.aload_n (pc' := 92) dX3_visits_91 rfl rfl zg0 rfl ?_
      refine zT.get (pc' := 95) dX3_visits_92 rfl f_X3_9_3 rfl ?_
      try dsimp only
      refine zW.bipush (pc' := 97) (nI 118) dX3_visits_95 rfl (by decide) ?_
      refine zW.iload (pc' := 99) dX3_visits_97 rfl (zgS (zgS (zgS (zgS (zg0))))) ?_
      refine zW.iaddN (pc' := 100) dX3_visits_99 rfl ?_
      refine zW.aload_n (pc' := 101) dX3_visits_100 rfl rfl zg0 rfl ?_
      refine zT.get (pc' := 104) dX3_visits_101 rfl f_X3_9_3 rfl ?_
      try dsimp only
      refine zW.bipush (pc' := 106) (nI 118) dX3_visits_104 rfl (by decide) ?_
      refine zW.iload (pc' := 108) dX3_visits_106 rfl (zgS (zgS (zgS (zgS (zg0))))) ?_
      refine zW.iaddN (pc' := 109) dX3_visits_108 rfl ?_
      refine zW.iconst (pc' := 110) (nI 1) dX3_visits_109 rfl (by decide) ?_
      refine zW.iaddN (pc' := 111) dX3_visits_110 rfl ?_
      first | refine zT.ald1 (pc' := 112) dX3_visits_111 rfl hD (by omega) ?_ | refine zT.ald4 (pc' := 112) dX3_visits_111 rfl hD (by omega) ?_
      try dsimp only
      first | refine zT.ast1 (pc' := 113) dX3_visits_112 rfl hD (by omega) ?_ | refine zT.ast4 (pc' := 113) dX3_visits_112 rfl hD (by omega) ?_
      try dsimp only
      refine zW.iincN (pc' := 116) (n := 1) dX3_visits_113 rfl (Nat.le_of_ble_eq_true rfl) (zgS (zgS (zgS (zgS (zg0))))) (zsS (zsS (zsS (zsS (zs0))))) ?_
      refine zW.goto 78 dX3_visits_116 (by decide) ?_
      refine zW.congr (ih (k + 1) F A v0 v1 (by omega) hA) rfl rfl ?_
      rw [tsh_S (by omega)]
      rfl
  have fin : zW G mX3_visits 4 0 55 [.ref a.1, .int (nI q), .int (nI i), zho, zho] [.int (nI (sStrikes (sAt s.2.1 i)))] (tH h0 a T) (tQ h0 a fun v T' => v = some (.int (nI (if sStrikes (sAt s.2.1 i) = 3 then (1, sClose (s.1, s.2.1.set i (zu (sAt s.2.1 i) 5 3), s.2.2) i) else (0, (s.1, s.2.1.set i (zu (sAt s.2.1 i) 5 (sStrikes (sAt s.2.1 i))), qs ++ [q], s.2.2.2))).1)) ∧ tR T'.2.1 0 (if sStrikes (sAt s.2.1 i) = 3 then (1, sClose (s.1, s.2.1.set i (zu (sAt s.2.1 i) 5 3), s.2.2) i) else (0, (s.1, s.2.1.set i (zu (sAt s.2.1 i) 5 (sStrikes (sAt s.2.1 i))), qs ++ [q], s.2.2.2))).2 ∧ T'.1 = T.1 ∧ tF T T') := by
    generalize sStrikes (sAt s.2.1 i) = x at *
    refine zW.istore_n (pc' := 56) dX3_visits_55 rfl rfl (Nat.le_of_ble_eq_true rfl) (zsS (zsS (zsS (zs0)))) ?_
    refine zW.aload_n (pc' := 57) dX3_visits_56 rfl rfl zg0 rfl ?_
    refine zW.iload_n (pc' := 58) dX3_visits_57 rfl rfl (zgS (zgS (zg0))) ?_
    refine zW.iconst (pc' := 59) (nI 5) dX3_visits_58 rfl (by decide) ?_
    refine zW.iload_n (pc' := 60) dX3_visits_59 rfl rfl (zgS (zgS (zgS (zg0)))) ?_
    refine zT.call (pc' := 63) dX3_visits_60 rfl l_X3_51 rfl rfl (w_set hD (by omega)) (zcc rfl (zcc rfl (zcc rfl zc0))) rfl (Nat.le_of_ble_eq_true rfl) (Nat.le_of_ble_eq_true rfl) (Nat.le_of_ble_eq_true rfl) (fun _ _ ⟨e1, e2⟩ => ?_)
    subst e1; rw [e2]
    have hR2 := hR.setc (k := i) (f := 5) (x := x) hi (by omega)
    refine zW.iload_n (pc' := 64) dX3_visits_63 rfl rfl (zgS (zgS (zgS (zg0)))) ?_
    refine zW.iconst (pc' := 65) (nI 3) dX3_visits_64 rfl (by decide) ?_
    refine zW.icmp_neN (pc' := 68) 75 dX3_visits_65 rfl (by decide) (by omega) (by omega) (fun b1 => ?_) (fun b1 => ?_)
    · rw [if_neg b1]
      refine zW.iconst (pc' := 76) (nI 0) dX3_visits_75 rfl (by decide) ?_
      refine zW.istore (pc' := 78) dX3_visits_76 rfl (Nat.le_of_ble_eq_true rfl) (zsS (zsS (zsS (zsS (zs0))))) ?_
      have hac := hR.ac
      refine zW.post (zW.congr (turn qs.length 0 T.1 (zu T.2.1 (22 + 8 * i + 5) x) _ _ (Nat.zero_add _) (by rw [zu_n (by omega), hac])) rfl rfl ?_) ?_
      · rw [show 118 + 0 = 118 from rfl, tsh_0]
      · rintro o h' ⟨v, T', q1, ⟨q2, q3⟩, q4⟩
        subst q3
        refine ⟨v, (T.1, zu (tsh (zu T.2.1 (22 + 8 * i + 5) x) 118 (118 + qs.length) 1) (118 + qs.length) q, T.2.2), q1, ⟨q2, hR2.turn hq, rfl, ⟨fun j hj => ?_, fun _ _ => rfl, rfl⟩⟩, q4⟩
        show zu (tsh _ _ _ _) _ _ j = _
        rw [zu_n (by omega)]
        unfold tsh
        rw [if_neg (by omega), zu_n (by omega)]
    · rw [if_pos b1]
      subst b1
      have hI2 : tB (s.1, s.2.1.set i (zu (sAt s.2.1 i) 5 3), s.2.2) := ⟨fun c hc f hf => by
        rcases List.mem_or_eq_of_mem_set hc with e | e
        · exact hB.1 c e f hf
        · subst e
          by_cases e5 : f = 5
          · subst e5; rw [zu_s]; decide
          · rw [zu_n e5]; exact hB.at hi hf, hB.2⟩
      have hl2 : i < (s.2.1.set i (zu (sAt s.2.1 i) 5 3)).length := by simpa using hi
      have hq0 := hI.qu hi
      have hq2 : sAt (s.2.1.set i (zu (sAt s.2.1 i) 5 3)) i 0 ∈ s.2.2.1 := by
        rw [sAt_of (List.getElem?_set_self hi), zu_n (by decide)]; exact hq0
      refine zW.aload_n (pc' := 69) dX3_visits_68 rfl rfl zg0 rfl ?_
      refine zW.iload_n (pc' := 70) dX3_visits_69 rfl rfl (zgS (zgS (zg0))) ?_
      refine zT.call (pc' := 73) dX3_visits_70 rfl l_X3_92 rfl rfl (w_closes (T := (T.1, zu T.2.1 (22 + 8 * i + 5) 3, T.2.2)) (s := (s.1, s.2.1.set i (zu (sAt s.2.1 i) 5 3), s.2.2)) hD hR2 hI2 hl2 hq2) (zcc rfl zc0) rfl (Nat.le_of_ble_eq_true rfl) (Nat.le_of_ble_eq_true rfl) (Nat.le_of_ble_eq_true rfl) (fun _ T2 ⟨e1, e2, e3, e4⟩ => ?_)
      subst e1
      refine zW.iconst (pc' := 74) (nI 1) dX3_visits_73 rfl (by decide) ?_
      refine zW.iret dX3_visits_74 rfl (rfl) ?_
      refine ⟨_, _, rfl, ⟨rfl, e2, e3, ⟨fun j hj => ?_, fun f hf => e4.2.1 f hf, e4.2.2⟩⟩, rfl⟩
      rw [e4.1 j hj]
      show zu _ _ _ j = _
      rw [zu_n (by omega)]
  show zW G mX3_visits 4 0 0 [.ref a.1, zho, zho, zho, zho] [] (tH h0 a T) _
  refine zW.aload_n (pc' := 1) dX3_visits_0 rfl rfl zg0 rfl ?_
  refine zT.get (pc' := 4) dX3_visits_1 rfl f_X3_9_3 rfl ?_
  try dsimp only
  refine zW.bipush (pc' := 6) (nI 118) dX3_visits_4 rfl (by decide) ?_
  first | refine zT.ald1 (pc' := 7) dX3_visits_6 rfl hD (by omega) ?_ | refine zT.ald4 (pc' := 7) dX3_visits_6 rfl hD (by omega) ?_
  try dsimp only
  rw [h118]
  refine zW.istore_n (pc' := 8) dX3_visits_7 rfl rfl (Nat.le_of_ble_eq_true rfl) (zsS (zs0)) ?_
  refine zW.aload_n (pc' := 9) dX3_visits_8 rfl rfl zg0 rfl ?_
  refine zW.iload_n (pc' := 10) dX3_visits_9 rfl rfl (zgS (zg0)) ?_
  refine zT.call (pc' := 13) dX3_visits_10 rfl l_X3_76 rfl rfl (w_findS hD hR) (zcc rfl zc0) rfl (Nat.le_of_ble_eq_true rfl) (Nat.le_of_ble_eq_true rfl) (Nat.le_of_ble_eq_true rfl) (fun _ _ ⟨e1, e2⟩ => ?_)
  rw [e2]
  rcases e1 with ⟨k, q1, -, e1⟩ | ⟨q1, e1⟩
  rotate_left
  · rw [ei] at q1; exact absurd q1 (by simp)
  rw [ei] at q1
  cases q1
  subst e1
  refine zW.istore_n (pc' := 14) dX3_visits_13 rfl rfl (Nat.le_of_ble_eq_true rfl) (zsS (zsS (zs0))) ?_
  refine zW.aload_n (pc' := 15) dX3_visits_14 rfl rfl zg0 rfl ?_
  refine zW.iload_n (pc' := 16) dX3_visits_15 rfl rfl (zgS (zgS (zg0))) ?_
  refine zW.bipush (pc' := 18) (nI 7) dX3_visits_16 rfl (by decide) ?_
  refine zT.call (pc' := 21) dX3_visits_18 rfl l_X3_43 rfl rfl (w_cS hD hR hi (by omega)) (zcc rfl (zcc rfl zc0)) rfl (Nat.le_of_ble_eq_true rfl) (Nat.le_of_ble_eq_true rfl) (Nat.le_of_ble_eq_true rfl) (fun _ _ ⟨e1, e2⟩ => ?_)
  subst e1; rw [e2]
  refine zW.if_leN (pc' := 24) 28 dX3_visits_21 rfl (by decide) (by omega) (fun b1 => ?_) (fun b1 => ?_)
  · refine zW.aload_n (pc' := 29) dX3_visits_28 rfl rfl zg0 rfl ?_
    refine zW.iload_n (pc' := 30) dX3_visits_29 rfl rfl (zgS (zgS (zg0))) ?_
    refine zW.bipush (pc' := 32) (nI 6) dX3_visits_30 rfl (by decide) ?_
    refine zT.call (pc' := 35) dX3_visits_32 rfl l_X3_43 rfl rfl (w_cS hD hR hi (by omega)) (zcc rfl (zcc rfl zc0)) rfl (Nat.le_of_ble_eq_true rfl) (Nat.le_of_ble_eq_true rfl) (Nat.le_of_ble_eq_true rfl) (fun _ _ ⟨e1, e2⟩ => ?_)
    subst e1; rw [e2]
    refine zW.if_leN (pc' := 38) 47 dX3_visits_35 rfl (by decide) (by omega) (fun b2 => ?_) (fun b2 => ?_)
    · refine zW.aload_n (pc' := 48) dX3_visits_47 rfl rfl zg0 rfl ?_
      refine zW.iload_n (pc' := 49) dX3_visits_48 rfl rfl (zgS (zgS (zg0))) ?_
      refine zW.iconst (pc' := 50) (nI 5) dX3_visits_49 rfl (by decide) ?_
      refine zT.call (pc' := 53) dX3_visits_50 rfl l_X3_43 rfl rfl (w_cS hD hR hi (by omega)) (zcc rfl (zcc rfl zc0)) rfl (Nat.le_of_ble_eq_true rfl) (Nat.le_of_ble_eq_true rfl) (Nat.le_of_ble_eq_true rfl) (fun _ _ ⟨e1, e2⟩ => ?_)
      subst e1; rw [e2]
      refine zW.iconst (pc' := 54) (nI 1) dX3_visits_53 rfl (by decide) ?_
      refine zW.iaddN (pc' := 55) dX3_visits_54 rfl ?_
      refine zW.congr fin rfl ?_ rfl
      unfold sStrikes
      rw [if_neg (by omega), if_neg (by omega)]
      rfl
    · refine zW.aload_n (pc' := 39) dX3_visits_38 rfl rfl zg0 rfl ?_
      refine zW.iload_n (pc' := 40) dX3_visits_39 rfl rfl (zgS (zgS (zg0))) ?_
      refine zW.iconst (pc' := 41) (nI 5) dX3_visits_40 rfl (by decide) ?_
      refine zT.call (pc' := 44) dX3_visits_41 rfl l_X3_43 rfl rfl (w_cS hD hR hi (by omega)) (zcc rfl (zcc rfl zc0)) rfl (Nat.le_of_ble_eq_true rfl) (Nat.le_of_ble_eq_true rfl) (Nat.le_of_ble_eq_true rfl) (fun _ _ ⟨e1, e2⟩ => ?_)
      subst e1; rw [e2]
      refine zW.goto 55 dX3_visits_44 (by decide) ?_
      refine zW.congr fin rfl ?_ rfl
      unfold sStrikes
      rw [if_neg (by omega), if_pos (by omega)]
      rfl
  · refine zW.iconst (pc' := 25) (nI 0) dX3_visits_24 rfl (by decide) ?_
    refine zW.goto 55 dX3_visits_25 (by decide) ?_
    refine zW.congr fin rfl ?_ rfl
    unfold sStrikes
    rw [if_pos (by omega)]
    rfl
theorem sVisits_len {s : sS} (h : sI tt nn n s) (hN : nn ≤ 10000) (hE : sE s) {k : Nat} : (sVisits s k).2.2.1.length + (sVisits s k).1 = s.2.1.length := by
  induction k with
  | zero => rfl
  | succ k ih =>
    have hk := h.visits hE hN (k := k)
    show (sVisit (sVisits s k).2).2.2.1.length + ((sVisits s k).1 + (sVisit (sVisits s k).2).1) = _
    rw [← ih]
    generalize (sVisits s k).2 = s2 at *
    generalize (sVisits s k).1 = n2 at *
    unfold sVisit
    cases e : s2.2.2.1 with
    | nil => simp only; omega
    | cons q qs =>
      simp only
      obtain ⟨i, ei, hi, eid⟩ := sFind_q hk.1 hN (q := q) (by rw [e]; exact List.mem_cons_self)
      rw [ei]
      simp only
      unfold sVisitAt
      by_cases q3 : sStrikes (sAt s2.2.1 i) = 3
      · rw [if_pos q3]
        have := sClose_set (s := s2) (i := i) (c := zu (sAt s2.2.1 i) 5 3) hi (zu_n (by decide)) (zu_n (by decide))
        simp only
        rw [this]
        show (s2.2.1.eraseIdx i).length + (n2 + 1) = _
        rw [List.length_eraseIdx_of_lt hi]; omega
      · rw [if_neg q3]
        simp only [List.length_set]
        omega
theorem w_audits (hD : tD a) {s : sS} (hR : tR T.2.1 0 s) (hI : sI tt nn 0 s) (hE : sE s) (hT : tt < 100000) (hN : nn ≤ 10000) {t : Int32} : zK G mX3_audits 5 0 [.ref a.1, .int t] (tH h0 a T) (tQ h0 a (tC T s (sAudit s t))) := by
  have hac := hR.ac
  have h12 := hR.n12
  show zW G mX3_audits 5 0 0 [.ref a.1, .int t, zho, zho] [] (tH h0 a T) _
  refine zW.iload_n (pc' := 1) dX3_audits_0 rfl rfl (zgS (zg0)) ?_
  refine zW.iconst (pc' := 2) (nI 1) dX3_audits_1 rfl (by decide) ?_
  refine zW.bipush (pc' := 4) (nI 12) dX3_audits_2 rfl (by decide) ?_
  refine zW.callS (pc' := 7) dX3_audits_4 rfl l_X3_55 rfl (w_in) (zcc rfl (zcc rfl (zcc rfl zc0))) rfl (Nat.le_of_ble_eq_true rfl) (Nat.le_of_ble_eq_true rfl) (Nat.le_of_ble_eq_true rfl) (fun _ _ ⟨e1, e3⟩ => ?_) (fun _ _ q9 => by cases q9.1)
  cases e1; subst e3
  refine zW.if_neN (pc' := 10) 12 dX3_audits_7 rfl (by decide) (z01) (fun b2 => ?_) (fun b2 => ?_)
  rotate_left
  · refine zW.iconst (pc' := 11) (nI 2) dX3_audits_10 rfl (by decide) ?_
    refine zW.iret dX3_audits_11 rfl (rfl) ?_
    exact ⟨_, _, rfl, tC.bad hR (by unfold sAudit; rw [if_neg (z00 b2)]) (by decide), rfl⟩
  have p1 := z10 b2
  have hs : sAudit s t = (0, (sVisits s (min (iN t) s.2.1.length)).1, (zu (sVisits s (min (iN t) s.2.1.length)).2.1 7 ((sVisits s (min (iN t) s.2.1.length)).2.1 7 + (sVisits s (min (iN t) s.2.1.length)).1), (sVisits s (min (iN t) s.2.1.length)).2.2)) := by unfold sAudit; rw [if_pos p1]
  obtain ⟨n, en, -, hn, iw⟩ := sIn_nat p1 (by decide) (by decide)
  rw [iw] at hs
  clear b2 p1 iw
  subst en
  have loop : ∀ m k (T1 : tS), k + m = min n s.2.1.length → tR T1.2.1 0 (sVisits s k).2 → T1.1 = zu T.1 4 (sVisits s k).1 → tF T T1 → zW G mX3_audits 5 0 40 [.ref a.1, .int (nI n), .int (nI (min n s.2.1.length)), .int (nI k)] [] (tH h0 a T1) (tQ h0 a (tC T s (sAudit s (nI n)))) := by
    intro m
    induction m with
    | zero =>
      intro k T1 hk hR1 h1 hF
      have hk : k = min n s.2.1.length := by omega
      subst hk
      refine zW.iload_n (pc' := 41) dX3_audits_40 rfl rfl (zgS (zgS (zgS (zg0)))) ?_
      refine zW.iload_n (pc' := 42) dX3_audits_41 rfl rfl (zgS (zgS (zg0))) ?_
      refine zW.icmp_geN (pc' := 45) 64 dX3_audits_42 rfl (by decide) (by omega) (by omega) (fun b1 => ?_) (fun b1 => ?_)
      rotate_left
      · exact absurd b1 (by omega)
      have h7 := hR1.sc (i := 7) (by omega) (by omega) (by omega)
      refine zW.aload_n (pc' := 65) dX3_audits_64 rfl rfl zg0 rfl ?_
      refine zT.get (pc' := 68) dX3_audits_65 rfl f_X3_9_3 rfl ?_
      try dsimp only
      refine zW.bipush (pc' := 70) (nI 7) dX3_audits_68 rfl (by decide) ?_
      refine zW.dup2 (pc' := 71) dX3_audits_70 rfl rfl rfl ?_
      first | refine zT.ald1 (pc' := 72) dX3_audits_71 rfl hD (by omega) ?_ | refine zT.ald4 (pc' := 72) dX3_audits_71 rfl hD (by omega) ?_
      try dsimp only
      rw [h7]
      refine zW.aload_n (pc' := 73) dX3_audits_72 rfl rfl zg0 rfl ?_
      refine zT.get (pc' := 76) dX3_audits_73 rfl f_X3_40_3 rfl ?_
      try dsimp only
      rw [h1, zu_s]
      refine zW.iaddN (pc' := 77) dX3_audits_76 rfl ?_
      first | refine zT.ast1 (pc' := 78) dX3_audits_77 rfl hD (by omega) ?_ | refine zT.ast4 (pc' := 78) dX3_audits_77 rfl hD (by omega) ?_
      try dsimp only
      refine zW.iconst (pc' := 79) (nI 0) dX3_audits_78 rfl (by decide) ?_
      refine zW.iret dX3_audits_79 rfl (rfl) ?_
      refine ⟨_, (zu T.1 4 (sVisits s (min n s.2.1.length)).1, zu T1.2.1 7 ((sVisits s (min n s.2.1.length)).2.1 7 + (sVisits s (min n s.2.1.length)).1), T1.2.2), rfl, tC.ok hs (hR1.setsc (by omega) (by omega) (by omega)) zu_s ⟨fun j hj => ?_, fun f hf => zu_n hf, hF.2.2⟩, by rw [h1]⟩
      show zu _ _ _ j = _
      rw [zu_n (by omega)]
      exact hF.1 j hj
    | succ m ih =>
      intro k T1 hk hR1 h1 hF
      have hI1 := hI.visits hE hN (k := k)
      have hln := sVisits_len hI hN hE (k := k)
      refine zW.iload_n (pc' := 41) dX3_audits_40 rfl rfl (zgS (zgS (zgS (zg0)))) ?_
      refine zW.iload_n (pc' := 42) dX3_audits_41 rfl rfl (zgS (zgS (zg0))) ?_
      refine zW.icmp_geN (pc' := 45) 64 dX3_audits_42 rfl (by decide) (by omega) (by omega) (fun b1 => ?_) (fun b1 => ?_)
      · exact absurd b1 (by omega)
      refine zW.aload_n (pc' := 46) dX3_audits_45 rfl rfl zg0 rfl ?_
      refine zW.dup (pc' := 47) dX3_audits_46 rfl rfl ?_
      refine zT.get (pc' := 50) dX3_audits_47 rfl f_X3_40_3 rfl ?_
      try dsimp only
      refine zW.aload_n (pc' := 51) dX3_audits_50 rfl rfl zg0 rfl ?_
      refine zT.call (pc' := 54) dX3_audits_51 rfl l_X3_115 rfl rfl (w_visits hD hR1 hI1.1 hT hN (by have := hI1.2.2; omega)) zc0 rfl (Nat.le_of_ble_eq_true rfl) (Nat.le_of_ble_eq_true rfl) (Nat.le_of_ble_eq_true rfl) (fun _ T2 ⟨e1, e2, e3, e4⟩ => ?_)
      subst e1
      refine zW.iaddN (pc' := 55) dX3_audits_54 rfl ?_
      refine zT.putN (pc' := 58) dX3_audits_55 rfl f_X3_40_3 (zFw.of ft_3_4 rfl rfl) rfl ?_
      try dsimp only
      refine zW.iincN (pc' := 61) (n := 1) dX3_audits_58 rfl (Nat.le_of_ble_eq_true rfl) (zgS (zgS (zgS (zg0)))) (zsS (zsS (zsS (zs0)))) ?_
      refine zW.goto 40 dX3_audits_61 (by decide) ?_
      refine ih (k + 1) (zu T2.1 4 (T1.1 4 + (sVisit (sVisits s k).2).1), T2.2) (by omega) e2 ?_ ⟨fun j hj => (e4.1 j hj).trans (hF.1 j hj), fun f hf => ?_, e4.2.2.trans hF.2.2⟩
      · rw [e3, h1, zu_s]
        dsimp only
        exact zu_zu
      · show zu _ _ _ f = _
        rw [zu_n hf, e4.2.1 f hf, hF.2.1 f hf]
  refine zW.iload_n (pc' := 13) dX3_audits_12 rfl rfl (zgS (zg0)) ?_
  refine zW.aload_n (pc' := 14) dX3_audits_13 rfl rfl zg0 rfl ?_
  refine zT.get (pc' := 17) dX3_audits_14 rfl f_X3_9_3 rfl ?_
  try dsimp only
  refine zW.iconst (pc' := 18) (nI 2) dX3_audits_17 rfl (by decide) ?_
  first | refine zT.ald1 (pc' := 19) dX3_audits_18 rfl hD (by omega) ?_ | refine zT.ald4 (pc' := 19) dX3_audits_18 rfl hD (by omega) ?_
  try dsimp only
  rw [hac]
  refine zW.icmp_geN (pc' := 22) 26 dX3_audits_19 rfl (by decide) (by omega) (by omega) (fun b1 => ?_) (fun b1 => ?_)
  · refine zW.aload_n (pc' := 27) dX3_audits_26 rfl rfl zg0 rfl ?_
    refine zT.get (pc' := 30) dX3_audits_27 rfl f_X3_9_3 rfl ?_
    try dsimp only
    refine zW.iconst (pc' := 31) (nI 2) dX3_audits_30 rfl (by decide) ?_
    first | refine zT.ald1 (pc' := 32) dX3_audits_31 rfl hD (by omega) ?_ | refine zT.ald4 (pc' := 32) dX3_audits_31 rfl hD (by omega) ?_
    try dsimp only
    rw [hac]
    refine zW.istore_n (pc' := 33) dX3_audits_32 rfl rfl (Nat.le_of_ble_eq_true rfl) (zsS (zsS (zs0))) ?_
    refine zW.aload_n (pc' := 34) dX3_audits_33 rfl rfl zg0 rfl ?_
    refine zW.iconst (pc' := 35) (nI 0) dX3_audits_34 rfl (by decide) ?_
    refine zT.putN (pc' := 38) dX3_audits_35 rfl f_X3_40_3 (zFw.of ft_3_4 rfl rfl) rfl ?_
    try dsimp only
    refine zW.iconst (pc' := 39) (nI 0) dX3_audits_38 rfl (by decide) ?_
    refine zW.istore_n (pc' := 40) dX3_audits_39 rfl rfl (Nat.le_of_ble_eq_true rfl) (zsS (zsS (zsS (zs0)))) ?_
    refine zW.congr (loop (min n s.2.1.length) 0 (zu T.1 4 0, T.2) (Nat.zero_add _) hR rfl ⟨fun _ _ => rfl, fun f hf => zu_n hf, rfl⟩) ?_ rfl rfl
    rw [show min n s.2.1.length = s.2.1.length by omega]
  · refine zW.iload_n (pc' := 23) dX3_audits_22 rfl rfl (zgS (zg0)) ?_
    refine zW.goto 32 dX3_audits_23 (by decide) ?_
    refine zW.istore_n (pc' := 33) dX3_audits_32 rfl rfl (Nat.le_of_ble_eq_true rfl) (zsS (zsS (zs0))) ?_
    refine zW.aload_n (pc' := 34) dX3_audits_33 rfl rfl zg0 rfl ?_
    refine zW.iconst (pc' := 35) (nI 0) dX3_audits_34 rfl (by decide) ?_
    refine zT.putN (pc' := 38) dX3_audits_35 rfl f_X3_40_3 (zFw.of ft_3_4 rfl rfl) rfl ?_
    try dsimp only
    refine zW.iconst (pc' := 39) (nI 0) dX3_audits_38 rfl (by decide) ?_
    refine zW.istore_n (pc' := 40) dX3_audits_39 rfl rfl (Nat.le_of_ble_eq_true rfl) (zsS (zsS (zsS (zs0)))) ?_
    refine zW.congr (loop (min n s.2.1.length) 0 (zu T.1 4 0, T.2) (Nat.zero_add _) hR rfl ⟨fun _ _ => rfl, fun f hf => zu_n hf, rfl⟩) ?_ rfl rfl
    rw [show min n s.2.1.length = n by omega]
end
