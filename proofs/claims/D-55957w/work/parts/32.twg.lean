/-! THE REFERENCE: a tick, passes -/
section
set_option maxRecDepth 100000
variable {G : zG} {h0 : zH} {a : tA} {T : tS} {tt nn : Nat}
theorem sIntK_k6 {p k j : Nat} {s : sS} : sAt (sIntK p s k).2.1 j 6 = sAt s.2.1 j 6 := by
  induction k with
  | zero => rfl
  | succ k ih =>
    show sAt (sInt1 p k (sIntK p s k)).2.1 j 6 = _
    unfold sInt1
    by_cases q : sAt (sIntK p s k).2.1 k 6 = 0
    · rw [if_pos q]
      show sAt ((sIntK p s k).2.1.set k _) j 6 = _
      by_cases e : k = j
      · subst e
        by_cases hl : k < (sIntK p s k).2.1.length
        · rw [sAt_of (List.getElem?_set_self hl), zu_n (by decide)]; exact ih
        · rw [List.set_eq_of_length_le (by omega)]; exact ih
      · rw [← ih]
        unfold sAt
        rw [List.getD_eq_getElem?_getD, List.getElem?_set_ne e, List.getD_eq_getElem?_getD]
    · rw [if_neg q]; exact ih
theorem sExp_in {time m : Nat} {c : sC} {todo kept : List sC} {sc : Nat → Nat} {qu re : List Nat} (h : time < c 4) : sExp time (c :: todo) kept sc qu re m = sExp time todo (kept ++ [c]) sc qu re m := by
  rw [sExp, if_pos h]
theorem sExp_out {time m : Nat} {c : sC} {todo kept : List sC} {sc : Nat → Nat} {qu re : List Nat} (h : ¬ time < c 4) : sExp time (c :: todo) kept sc qu re m = sExp time todo kept (zu sc 8 (sc 8 + c 3)) (qu.erase (c 0)) ((c 0 :: re).take 8) (m + 1) := by
  rw [sExp, if_neg h]
/-- the claims' number stands -/
theorem tR.ac {A : Nat → Nat} {s : sS} (h : tR A 0 s) : A 2 = s.2.1.length := h.2.1
theorem w_ticksOnce (hD : tD a) {s : sS} (hR : tR T.2.1 0 s) (hI : sI tt nn 0 s) (hE : sE s) (hT : tt < 100000) (hN : nn ≤ 10000) : zK G mX3_ticksOnce 4 0 [.ref a.1] (tH h0 a T) (tQ h0 a fun v T' => v = some (.int (nI (sTick s).1)) ∧ tR T'.2.1 0 (sTick s).2 ∧ T'.1 = T.1 ∧ tF T T') := by
  have hI1 := hI.time hE
  have hT1 : s.1 0 ≤ tt := hI.1.1
  have hp20 := hI.1.2.2.2.2 ((s.1 0 + 1) / 4 % 4) (Nat.mod_lt _ (by decide))
  have hpp : (sTime s).1 (10 + (sTime s).1 0 / 4 % 4) = s.1 (10 + (s.1 0 + 1) / 4 % 4) := by
    unfold sTime
    dsimp only
    rw [zu_s, zu_n (by omega)]
  have hint : sInt (sTime s) = sIntK (s.1 (10 + (s.1 0 + 1) / 4 % 4)) (sTime s) s.2.1.length := by
    unfold sInt
    rw [hpp]
    rfl
  have hK : ∀ k, k ≤ s.2.1.length → sI (tt + 1) nn 0 (sIntK (s.1 (10 + (s.1 0 + 1) / 4 % 4)) (sTime s) k) := fun k hk => hI1.intK hk
  generalize hp : s.1 (10 + (s.1 0 + 1) / 4 % 4) = p at *
  have hmod : (s.1 0 + 1) / 4 % 4 < 4 := Nat.mod_lt _ (by decide)
  have loop2 : ∀ (todo kept : List sC) (sc : Nat → Nat) (qu re : List Nat) (m n : Nat) (T1 : tS), tR T1.2.1 0 (sc, kept ++ todo, qu, re) → sI (tt + 1) nn n (sc, kept ++ todo, qu, re) → m + todo.length ≤ 12 → T1.1 = T.1 → tF T T1 → sExp (sc 0) todo kept sc qu re m = sExpire (sInt (sTime s)) →
      zW G mX3_ticksOnce 4 0 99 [.ref a.1, .int (nI p), .int (nI m), .int (nI kept.length)] [] (tH h0 a T1) (tQ h0 a fun v T' => v = some (.int (nI (sTick s).1)) ∧ tR T'.2.1 0 (sTick s).2 ∧ T'.1 = T.1 ∧ tF T T') := by
    intro todo
    induction todo with
    | nil =>
      intro kept sc qu re m n T1 hR hI hm h1 hF hx
      rw [List.append_nil] at hR hI
      have hac := hR.ac
      have h12 := hR.n12
      have h5 := hR.sc (i := 5) (by omega) (by omega) (by omega)
      dsimp only at hac
      refine zW.iload_n (pc' := 100) dX3_ticksOnce_99 rfl rfl (zgS (zgS (zgS (zg0)))) ?_
      refine zW.aload_n (pc' := 101) dX3_ticksOnce_100 rfl rfl zg0 rfl ?_
      refine zT.get (pc' := 104) dX3_ticksOnce_101 rfl f_X3_9_3 rfl ?_
      try dsimp only
      refine zW.iconst (pc' := 105) (nI 2) dX3_ticksOnce_104 rfl (by decide) ?_
      first | refine zT.ald1 (pc' := 106) dX3_ticksOnce_105 rfl hD (by omega) ?_ | refine zT.ald4 (pc' := 106) dX3_ticksOnce_105 rfl hD (by omega) ?_
      try dsimp only
      refine zW.icmp_geN (pc' := 109) 151 dX3_ticksOnce_106 rfl (by decide) (by omega) (by omega) (fun b1 => ?_) (fun b1 => ?_)
      rotate_left
      · exact absurd b1 (by omega)
      refine zW.aload_n (pc' := 152) dX3_ticksOnce_151 rfl rfl zg0 rfl ?_
      refine zT.get (pc' := 155) dX3_ticksOnce_152 rfl f_X3_9_3 rfl ?_
      try dsimp only
      refine zW.iconst (pc' := 156) (nI 5) dX3_ticksOnce_155 rfl (by decide) ?_
      refine zW.dup2 (pc' := 157) dX3_ticksOnce_156 rfl rfl rfl ?_
      first | refine zT.ald1 (pc' := 158) dX3_ticksOnce_157 rfl hD (by omega) ?_ | refine zT.ald4 (pc' := 158) dX3_ticksOnce_157 rfl hD (by omega) ?_
      try dsimp only
      refine zW.iload_n (pc' := 159) dX3_ticksOnce_158 rfl rfl (zgS (zgS (zg0))) ?_
      refine zW.iaddN (pc' := 160) dX3_ticksOnce_159 rfl ?_
      first | refine zT.ast1 (pc' := 161) dX3_ticksOnce_160 rfl hD (by omega) ?_ | refine zT.ast4 (pc' := 161) dX3_ticksOnce_160 rfl hD (by omega) ?_
      try dsimp only
      refine zW.iload_n (pc' := 162) dX3_ticksOnce_161 rfl rfl (zgS (zgS (zg0))) ?_
      rw [h5]
      dsimp only
      refine zW.iret dX3_ticksOnce_162 rfl (rfl) ?_
      have hx' : sExpire (sInt (sTime s)) = (m, sc, kept, qu, re) := hx.symm
      refine ⟨_, (T1.1, zu T1.2.1 5 (sc 5 + m), T1.2.2), rfl, ⟨?_, ?_, h1, ⟨fun j hj => ?_, hF.2.1, hF.2.2⟩⟩, rfl⟩
      · unfold sTick; rw [hx']
      · unfold sTick; rw [hx']
        exact hR.setsc (by omega) (by omega) (by omega)
      · show zu _ _ _ j = _
        rw [zu_n (by omega)]
        exact hF.1 j hj
    | cons c todo ih =>
      intro kept sc qu re m n T1 hR hI hm h1 hF hx
      have hac := hR.ac
      have h12 := hR.n12
      have hB := hI.tB (by omega) hN
      have hl : kept.length < (kept ++ c :: todo).length := by simp
      have hl2 : (kept ++ c :: todo).length = kept.length + todo.length + 1 := by simp; omega
      have e0 := hR.sc (i := 0) (by omega) (by omega) (by omega)
      have hca : sAt (kept ++ c :: todo) kept.length = c := app_at
      have hc4 : c 4 < 2 ^ 30 := hB.1 c (by simp) 4 (by omega)
      have ht0 : sc 0 < 2 ^ 30 := hB.2.2 0 (by omega)
      have hcI : sCI (sc 0) (sc 1) c := hI.2.2.1.2.1 c (by simp)
      dsimp only at hac e0
      rw [List.length_cons] at hm
      refine zW.iload_n (pc' := 100) dX3_ticksOnce_99 rfl rfl (zgS (zgS (zgS (zg0)))) ?_
      refine zW.aload_n (pc' := 101) dX3_ticksOnce_100 rfl rfl zg0 rfl ?_
      refine zT.get (pc' := 104) dX3_ticksOnce_101 rfl f_X3_9_3 rfl ?_
      try dsimp only
      refine zW.iconst (pc' := 105) (nI 2) dX3_ticksOnce_104 rfl (by decide) ?_
      first | refine zT.ald1 (pc' := 106) dX3_ticksOnce_105 rfl hD (by omega) ?_ | refine zT.ald4 (pc' := 106) dX3_ticksOnce_105 rfl hD (by omega) ?_
      try dsimp only
      refine zW.icmp_geN (pc' := 109) 151 dX3_ticksOnce_106 rfl (by decide) (by omega) (by omega) (fun b1 => ?_) (fun b1 => ?_)
      · exact absurd b1 (by omega)
      refine zW.aload_n (pc' := 110) dX3_ticksOnce_109 rfl rfl zg0 rfl ?_
      refine zW.iload_n (pc' := 111) dX3_ticksOnce_110 rfl rfl (zgS (zgS (zgS (zg0)))) ?_
      refine zW.iconst (pc' := 112) (nI 4) dX3_ticksOnce_111 rfl (by decide) ?_
      refine zT.call (pc' := 115) dX3_ticksOnce_112 rfl l_X3_43 rfl rfl (w_cS hD hR (k := kept.length) (f := 4) hl (by omega)) (zcc rfl (zcc rfl zc0)) rfl (Nat.le_of_ble_eq_true rfl) (Nat.le_of_ble_eq_true rfl) (Nat.le_of_ble_eq_true rfl) (fun _ _ ⟨e1, e2⟩ => ?_)
      subst e1; rw [e2]
      dsimp only
      rw [hca]
      refine zW.aload_n (pc' := 116) dX3_ticksOnce_115 rfl rfl zg0 rfl ?_
      refine zT.get (pc' := 119) dX3_ticksOnce_116 rfl f_X3_9_3 rfl ?_
      try dsimp only
      refine zW.iconst (pc' := 120) (nI 0) dX3_ticksOnce_119 rfl (by decide) ?_
      first | refine zT.ald1 (pc' := 121) dX3_ticksOnce_120 rfl hD (by omega) ?_ | refine zT.ald4 (pc' := 121) dX3_ticksOnce_120 rfl hD (by omega) ?_
      try dsimp only
      rw [e0]
      refine zW.icmp_leN (pc' := 124) 130 dX3_ticksOnce_121 rfl (by decide) (by omega) (by omega) (fun b2 => ?_) (fun b2 => ?_)
      · rw [sExp_out (by omega)] at hx
        refine zW.aload_n (pc' := 131) dX3_ticksOnce_130 rfl rfl zg0 rfl ?_
        refine zW.aload_n (pc' := 132) dX3_ticksOnce_131 rfl rfl zg0 rfl ?_
        refine zW.iload_n (pc' := 133) dX3_ticksOnce_132 rfl rfl (zgS (zgS (zgS (zg0)))) ?_
        refine zW.iconst (pc' := 134) (nI 0) dX3_ticksOnce_133 rfl (by decide) ?_
        refine zT.call (pc' := 137) dX3_ticksOnce_134 rfl l_X3_43 rfl rfl (w_cS hD hR (k := kept.length) (f := 0) hl (by omega)) (zcc rfl (zcc rfl zc0)) rfl (Nat.le_of_ble_eq_true rfl) (Nat.le_of_ble_eq_true rfl) (Nat.le_of_ble_eq_true rfl) (fun _ _ ⟨e1, e2⟩ => ?_)
        subst e1; rw [e2]
        dsimp only
        rw [hca]
        refine zT.call (pc' := 140) dX3_ticksOnce_137 rfl l_X3_105 rfl rfl (w_remembers hD (by rw [hR.kept]; exact hR.2.2.2.2.2.2.2.2)) (zcc rfl zc0) rfl (Nat.le_of_ble_eq_true rfl) (Nat.le_of_ble_eq_true rfl) (Nat.le_of_ble_eq_true rfl) (fun _ _ ⟨e1, e2⟩ => ?_)
        subst e1; rw [e2]
        have hR2 := hR.rem (id := c 0)
        have hI2 : sI (tt + 1) nn n (sc, kept ++ c :: todo, qu, (c 0 :: re).take 8) := hI.rem (x := c 0) hcI.1
        have hB2 := hI2.tB (by omega) hN
        have hq2 := hI2.qu (i := kept.length) hl
        refine zW.aload_n (pc' := 141) dX3_ticksOnce_140 rfl rfl zg0 rfl ?_
        refine zW.iload_n (pc' := 142) dX3_ticksOnce_141 rfl rfl (zgS (zgS (zgS (zg0)))) ?_
        refine zT.call (pc' := 145) dX3_ticksOnce_142 rfl l_X3_92 rfl rfl (w_closes (T := (T1.1, trm T1.2.1 (c 0), T1.2.2)) (s := (sc, kept ++ c :: todo, qu, (c 0 :: re).take 8)) hD hR2 hB2 hl hq2) (zcc rfl zc0) rfl (Nat.le_of_ble_eq_true rfl) (Nat.le_of_ble_eq_true rfl) (Nat.le_of_ble_eq_true rfl) (fun _ T2 ⟨e1, e2, e3, e4⟩ => ?_)
        subst e1
        have hI3 := hI2.close (i := kept.length) hl
        rw [sClose_app] at e2 hI3
        refine zW.iincN (pc' := 148) (n := 1) dX3_ticksOnce_145 rfl (Nat.le_of_ble_eq_true rfl) (zgS (zgS (zg0))) (zsS (zsS (zs0))) ?_
        refine zW.goto 99 dX3_ticksOnce_148 (by decide) ?_
        refine ih kept _ _ _ (m + 1) (n + 1) T2 e2 hI3 (by omega) (by rw [e3]; exact h1) ⟨fun j hj => ?_, fun f hf => ?_, ?_⟩ ?_
        · rw [e4.1 j hj]
          show trm _ _ j = _
          rw [trm_hi (by omega)]
          exact hF.1 j hj
        · rw [e3]; exact hF.2.1 f hf
        · rw [e4.2.2]; exact hF.2.2
        · rw [zu_n (by decide)]; exact hx
      · rw [sExp_in (by omega)] at hx
        refine zW.iincN (pc' := 127) (n := 1) dX3_ticksOnce_124 rfl (Nat.le_of_ble_eq_true rfl) (zgS (zgS (zgS (zg0)))) (zsS (zsS (zsS (zs0)))) ?_
        refine zW.goto 99 dX3_ticksOnce_127 (by decide) ?_
        refine zW.congr (ih (kept ++ [c]) sc qu re m n T1 (by rw [List.append_assoc]; exact hR) (by rw [List.append_assoc]; exact hI) (by omega) h1 hF hx) ?_ rfl rfl
        rw [List.length_append]; rfl
  have loop1 : ∀ n k (x : Value) (T1 : tS), k + n = s.2.1.length → tR T1.2.1 0 (sIntK p (sTime s) k) → T1.1 = T.1 → tF T T1 → zW G mX3_ticksOnce 4 0 31 [.ref a.1, .int (nI p), .int (nI k), x] [] (tH h0 a T1) (tQ h0 a fun v T' => v = some (.int (nI (sTick s).1)) ∧ tR T'.2.1 0 (sTick s).2 ∧ T'.1 = T.1 ∧ tF T T') := by
    intro n
    induction n with
    | zero =>
      intro k x T1 hk hR h1 hF
      have hk : k = s.2.1.length := by omega
      have hac := hR.ac
      have h12 := hR.n12
      rw [sIntK_len] at hac
      have hac : T1.2.1 2 = s.2.1.length := hac
      refine zW.iload_n (pc' := 32) dX3_ticksOnce_31 rfl rfl (zgS (zgS (zg0))) ?_
      refine zW.aload_n (pc' := 33) dX3_ticksOnce_32 rfl rfl zg0 rfl ?_
      refine zT.get (pc' := 36) dX3_ticksOnce_33 rfl f_X3_9_3 rfl ?_
      try dsimp only
      refine zW.iconst (pc' := 37) (nI 2) dX3_ticksOnce_36 rfl (by decide) ?_
      first | refine zT.ald1 (pc' := 38) dX3_ticksOnce_37 rfl hD (by omega) ?_ | refine zT.ald4 (pc' := 38) dX3_ticksOnce_37 rfl hD (by omega) ?_
      try dsimp only
      refine zW.icmp_geN (pc' := 41) 95 dX3_ticksOnce_38 rfl (by decide) (by omega) (by omega) (fun b1 => ?_) (fun b1 => ?_)
      rotate_left
      · exact absurd b1 (by omega)
      refine zW.iconst (pc' := 96) (nI 0) dX3_ticksOnce_95 rfl (by decide) ?_
      refine zW.istore_n (pc' := 97) dX3_ticksOnce_96 rfl rfl (Nat.le_of_ble_eq_true rfl) (zsS (zsS (zs0))) ?_
      refine zW.iconst (pc' := 98) (nI 0) dX3_ticksOnce_97 rfl (by decide) ?_
      refine zW.istore_n (pc' := 99) dX3_ticksOnce_98 rfl rfl (Nat.le_of_ble_eq_true rfl) (zsS (zsS (zsS (zs0)))) ?_
      subst hk
      rw [← hint] at hR
      have hI2 := hK _ (Nat.le_refl s.2.1.length)
      rw [← hint] at hI2
      exact loop2 (sInt (sTime s)).2.1 [] (sInt (sTime s)).1 (sInt (sTime s)).2.2.1 (sInt (sTime s)).2.2.2 0 0 T1 hR hI2 (by rw [Nat.zero_add]; exact hI2.len) h1 hF rfl
    | succ n ih =>
      intro k x T1 hk hR h1 hF
      have hac := hR.ac
      have h12 := hR.n12
      rw [sIntK_len] at hac
      have hac : T1.2.1 2 = s.2.1.length := hac
      have hIk := hK k (by omega)
      have hBk := hIk.tB (by omega) hN
      have hkl : k < (sIntK p (sTime s) k).2.1.length := by
        rw [sIntK_len]
        show k < s.2.1.length
        omega
      have h6 := hBk.at hkl (f := 6) (by omega)
      have hcI := hIk.at hkl
      have hw := hcI.2.2.2.2.1
      refine zW.iload_n (pc' := 32) dX3_ticksOnce_31 rfl rfl (zgS (zgS (zg0))) ?_
      refine zW.aload_n (pc' := 33) dX3_ticksOnce_32 rfl rfl zg0 rfl ?_
      refine zT.get (pc' := 36) dX3_ticksOnce_33 rfl f_X3_9_3 rfl ?_
      try dsimp only
      refine zW.iconst (pc' := 37) (nI 2) dX3_ticksOnce_36 rfl (by decide) ?_
      first | refine zT.ald1 (pc' := 38) dX3_ticksOnce_37 rfl hD (by omega) ?_ | refine zT.ald4 (pc' := 38) dX3_ticksOnce_37 rfl hD (by omega) ?_
      try dsimp only
      refine zW.icmp_geN (pc' := 41) 95 dX3_ticksOnce_38 rfl (by decide) (by omega) (by omega) (fun b1 => ?_) (fun b1 => ?_)
      · exact absurd b1 (by omega)
      refine zW.aload_n (pc' := 42) dX3_ticksOnce_41 rfl rfl zg0 rfl ?_
      refine zW.iload_n (pc' := 43) dX3_ticksOnce_42 rfl rfl (zgS (zgS (zg0))) ?_
      refine zW.bipush (pc' := 45) (nI 6) dX3_ticksOnce_43 rfl (by decide) ?_
      refine zT.call (pc' := 48) dX3_ticksOnce_45 rfl l_X3_43 rfl rfl (w_cS hD hR hkl (by omega)) (zcc rfl (zcc rfl zc0)) rfl (Nat.le_of_ble_eq_true rfl) (Nat.le_of_ble_eq_true rfl) (Nat.le_of_ble_eq_true rfl) (fun _ _ ⟨e1, e2⟩ => ?_)
      subst e1; rw [e2]
      refine zW.if_leN (pc' := 51) 54 dX3_ticksOnce_48 rfl (by decide) (by omega) (fun b2 => ?_) (fun b2 => ?_)
      · refine zW.aload_n (pc' := 55) dX3_ticksOnce_54 rfl rfl zg0 rfl ?_
        refine zW.iload_n (pc' := 56) dX3_ticksOnce_55 rfl rfl (zgS (zgS (zg0))) ?_
        refine zW.iconst (pc' := 57) (nI 3) dX3_ticksOnce_56 rfl (by decide) ?_
        refine zT.call (pc' := 60) dX3_ticksOnce_57 rfl l_X3_43 rfl rfl (w_cS hD hR hkl (by omega)) (zcc rfl (zcc rfl zc0)) rfl (Nat.le_of_ble_eq_true rfl) (Nat.le_of_ble_eq_true rfl) (Nat.le_of_ble_eq_true rfl) (fun _ _ ⟨e1, e2⟩ => ?_)
        subst e1; rw [e2]
        refine zW.iload_n (pc' := 61) dX3_ticksOnce_60 rfl rfl (zgS (zg0)) ?_
        refine zW.callS (pc' := 64) dX3_ticksOnce_61 rfl l_X3_102 rfl (w_grown hw.2 hp20) (zcc rfl (zcc rfl zc0)) rfl (Nat.le_of_ble_eq_true rfl) (Nat.le_of_ble_eq_true rfl) (Nat.le_of_ble_eq_true rfl) (fun _ _ ⟨e1, e3⟩ => ?_) (fun _ _ q9 => by cases q9.1)
        cases e1; subst e3
        have hg := sGrow_le (p := p) hw.2
        refine zW.istore_n (pc' := 65) dX3_ticksOnce_64 rfl rfl (Nat.le_of_ble_eq_true rfl) (zsS (zsS (zsS (zs0)))) ?_
        refine zW.aload_n (pc' := 66) dX3_ticksOnce_65 rfl rfl zg0 rfl ?_
        refine zT.get (pc' := 69) dX3_ticksOnce_66 rfl f_X3_9_3 rfl ?_
        try dsimp only
        refine zW.iconst (pc' := 70) (nI 3) dX3_ticksOnce_69 rfl (by decide) ?_
        refine zW.dup2 (pc' := 71) dX3_ticksOnce_70 rfl rfl rfl ?_
        first | refine zT.ald1 (pc' := 72) dX3_ticksOnce_71 rfl hD (by omega) ?_ | refine zT.ald4 (pc' := 72) dX3_ticksOnce_71 rfl hD (by omega) ?_
        try dsimp only
        refine zW.iload_n (pc' := 73) dX3_ticksOnce_72 rfl rfl (zgS (zgS (zgS (zg0)))) ?_
        refine zW.aload_n (pc' := 74) dX3_ticksOnce_73 rfl rfl zg0 rfl ?_
        refine zW.iload_n (pc' := 75) dX3_ticksOnce_74 rfl rfl (zgS (zgS (zg0))) ?_
        refine zW.iconst (pc' := 76) (nI 3) dX3_ticksOnce_75 rfl (by decide) ?_
        refine zT.call (pc' := 79) dX3_ticksOnce_76 rfl l_X3_43 rfl rfl (w_cS hD hR hkl (by omega)) (zcc rfl (zcc rfl zc0)) rfl (Nat.le_of_ble_eq_true rfl) (Nat.le_of_ble_eq_true rfl) (Nat.le_of_ble_eq_true rfl) (fun _ _ ⟨e1, e2⟩ => ?_)
        subst e1; rw [e2]
        refine zW.isubN (pc' := 80) dX3_ticksOnce_79 rfl (hg.1) ?_
        refine zW.iaddN (pc' := 81) dX3_ticksOnce_80 rfl ?_
        first | refine zT.ast1 (pc' := 82) dX3_ticksOnce_81 rfl hD (by omega) ?_ | refine zT.ast4 (pc' := 82) dX3_ticksOnce_81 rfl hD (by omega) ?_
        try dsimp only
        refine zW.aload_n (pc' := 83) dX3_ticksOnce_82 rfl rfl zg0 rfl ?_
        refine zW.iload_n (pc' := 84) dX3_ticksOnce_83 rfl rfl (zgS (zgS (zg0))) ?_
        refine zW.iconst (pc' := 85) (nI 3) dX3_ticksOnce_84 rfl (by decide) ?_
        refine zW.iload_n (pc' := 86) dX3_ticksOnce_85 rfl rfl (zgS (zgS (zgS (zg0)))) ?_
        refine zT.call (pc' := 89) dX3_ticksOnce_86 rfl l_X3_51 rfl rfl (w_set hD (by omega)) (zcc rfl (zcc rfl (zcc rfl zc0))) rfl (Nat.le_of_ble_eq_true rfl) (Nat.le_of_ble_eq_true rfl) (Nat.le_of_ble_eq_true rfl) (fun _ _ ⟨e1, e2⟩ => ?_)
        subst e1; rw [e2]
        refine zW.iincN (pc' := 92) (n := 1) dX3_ticksOnce_89 rfl (Nat.le_of_ble_eq_true rfl) (zgS (zgS (zg0))) (zsS (zsS (zs0))) ?_
        refine zW.goto 31 dX3_ticksOnce_92 (by decide) ?_
        have e3 : T1.2.1 3 = (sIntK p (sTime s) k).1 3 := hR.sc (by omega) (by omega) (by omega)
        have hS : sIntK p (sTime s) (k + 1) = (zu (sIntK p (sTime s) k).1 3 ((sIntK p (sTime s) k).1 3 + (sGrow (sAt (sIntK p (sTime s) k).2.1 k 3) p - sAt (sIntK p (sTime s) k).2.1 k 3)), (sIntK p (sTime s) k).2.1.set k (zu (sAt (sIntK p (sTime s) k).2.1 k) 3 (sGrow (sAt (sIntK p (sTime s) k).2.1 k 3) p)), (sIntK p (sTime s) k).2.2) := by
          show sInt1 p k (sIntK p (sTime s) k) = _
          unfold sInt1
          rw [if_pos b2]
        refine ih (k + 1) _ (T1.1, zu (zu T1.2.1 3 (T1.2.1 3 + (sGrow (sAt (sIntK p (sTime s) k).2.1 k 3) p - sAt (sIntK p (sTime s) k).2.1 k 3))) (22 + 8 * k + 3) (sGrow (sAt (sIntK p (sTime s) k).2.1 k 3) p), T1.2.2) (by omega) ?_ h1 ⟨fun j hj => ?_, hF.2.1, hF.2.2⟩
        · rw [hS, e3]
          have q := (hR.setsc (i := 3) (x := (sIntK p (sTime s) k).1 3 + (sGrow (sAt (sIntK p (sTime s) k).2.1 k 3) p - sAt (sIntK p (sTime s) k).2.1 k 3)) (by omega) (by omega) (by omega)).setc (k := k) (f := 3) (x := sGrow (sAt (sIntK p (sTime s) k).2.1 k 3) p) hkl (by omega)
          exact q
        · show zu (zu _ _ _) _ _ j = _
          rw [zu_n (by omega), zu_n (by omega)]
          exact hF.1 j hj
      · refine zW.goto 89 dX3_ticksOnce_51 (by decide) ?_
        refine zW.iincN (pc' := 92) (n := 1) dX3_ticksOnce_89 rfl (Nat.le_of_ble_eq_true rfl) (zgS (zgS (zg0))) (zsS (zsS (zs0))) ?_
        refine zW.goto 31 dX3_ticksOnce_92 (by decide) ?_
        refine ih (k + 1) x T1 (by omega) ?_ h1 hF
        have hS : sIntK p (sTime s) (k + 1) = sIntK p (sTime s) k := by
          show sInt1 p k (sIntK p (sTime s) k) = _
          unfold sInt1
          rw [if_neg b2]
        rw [hS]
        exact hR
  show zW G mX3_ticksOnce 4 0 0 [.ref a.1, zho, zho, zho] [] (tH h0 a T) _
  refine zW.aload_n (pc' := 1) dX3_ticksOnce_0 rfl rfl zg0 rfl ?_
  refine zT.get (pc' := 4) dX3_ticksOnce_1 rfl f_X3_9_3 rfl ?_
  try dsimp only
  refine zW.iconst (pc' := 5) (nI 0) dX3_ticksOnce_4 rfl (by decide) ?_
  refine zW.dup2 (pc' := 6) dX3_ticksOnce_5 rfl rfl rfl ?_
  have e0 : T.2.1 0 = s.1 0 := hR.sc (by omega) (by omega) (by omega)
  have ep : T.2.1 (10 + (s.1 0 + 1) / 4 % 4) = p := (hR.sc (by omega) (by omega) (by omega)).trans hp
  first | refine zT.ald1 (pc' := 7) dX3_ticksOnce_6 rfl hD (by omega) ?_ | refine zT.ald4 (pc' := 7) dX3_ticksOnce_6 rfl hD (by omega) ?_
  try dsimp only
  rw [e0]
  refine zW.iconst (pc' := 8) (nI 1) dX3_ticksOnce_7 rfl (by decide) ?_
  refine zW.iaddN (pc' := 9) dX3_ticksOnce_8 rfl ?_
  first | refine zT.ast1 (pc' := 10) dX3_ticksOnce_9 rfl hD (by omega) ?_ | refine zT.ast4 (pc' := 10) dX3_ticksOnce_9 rfl hD (by omega) ?_
  try dsimp only
  refine zW.aload_n (pc' := 11) dX3_ticksOnce_10 rfl rfl zg0 rfl ?_
  refine zT.get (pc' := 14) dX3_ticksOnce_11 rfl f_X3_9_3 rfl ?_
  try dsimp only
  refine zW.bipush (pc' := 16) (nI 10) dX3_ticksOnce_14 rfl (by decide) ?_
  refine zW.aload_n (pc' := 17) dX3_ticksOnce_16 rfl rfl zg0 rfl ?_
  refine zW.aload_n (pc' := 18) dX3_ticksOnce_17 rfl rfl zg0 rfl ?_
  refine zT.get (pc' := 21) dX3_ticksOnce_18 rfl f_X3_9_3 rfl ?_
  try dsimp only
  refine zW.iconst (pc' := 22) (nI 0) dX3_ticksOnce_21 rfl (by decide) ?_
  first | refine zT.ald1 (pc' := 23) dX3_ticksOnce_22 rfl hD (by omega) ?_ | refine zT.ald4 (pc' := 23) dX3_ticksOnce_22 rfl hD (by omega) ?_
  try dsimp only
  rw [zu_s]
  refine zT.call (pc' := 26) dX3_ticksOnce_23 rfl l_X3_99 rfl rfl (w_phaseAt (by omega)) (zcc rfl zc0) rfl (Nat.le_of_ble_eq_true rfl) (Nat.le_of_ble_eq_true rfl) (Nat.le_of_ble_eq_true rfl) (fun _ _ ⟨e1, e2⟩ => ?_)
  subst e1; rw [e2]
  refine zW.iaddN (pc' := 27) dX3_ticksOnce_26 rfl ?_
  first | refine zT.ald1 (pc' := 28) dX3_ticksOnce_27 rfl hD (by omega) ?_ | refine zT.ald4 (pc' := 28) dX3_ticksOnce_27 rfl hD (by omega) ?_
  try dsimp only
  rw [zu_n (show 10 + (s.1 0 + 1) / 4 % 4 ≠ 0 by omega), ep]
  refine zW.istore_n (pc' := 29) dX3_ticksOnce_28 rfl rfl (Nat.le_of_ble_eq_true rfl) (zsS (zs0)) ?_
  refine zW.iconst (pc' := 30) (nI 0) dX3_ticksOnce_29 rfl (by decide) ?_
  refine zW.istore_n (pc' := 31) dX3_ticksOnce_30 rfl rfl (Nat.le_of_ble_eq_true rfl) (zsS (zsS (zs0))) ?_
  refine loop1 s.2.1.length 0 _ (T.1, zu T.2.1 0 (s.1 0 + 1), T.2.2) (Nat.zero_add _) (hR.setsc (by omega) (by omega) (by omega)) rfl ⟨fun j hj => ?_, fun _ _ => rfl, rfl⟩
  show zu _ _ _ j = _
  rw [zu_n (by omega)]
end
