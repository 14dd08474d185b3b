/-! THE REFERENCE's world: the state, those behind (oldest first), the saved one, line, input, error's and failure's place + 1 -/
section
set_option maxRecDepth 100000
variable {G : zG} {h0 : zH} {a : tA} {T : tS} {tt nn n : Nat}
abbrev sW : Type := sS × List sS × Option sS × List Nat × List Nat × Nat × Nat
def tX (T : tS) (w : sW) : Prop := (T.1 2 = w.2.1.length ∧ w.2.1.length ≤ 8 ∧ ∀ i S, w.2.1[i]? = some S → tR T.2.1 (130 * (i + 1)) S) ∧ ((T.1 3 = if w.2.2.1.isSome then 1 else 0) ∧ ∀ S, w.2.2.1 = some S → tR T.2.1 (130 * 9) S) ∧
  (T.1 6 = w.2.2.2.1.length ∧ w.2.2.2.1.length ≤ 40 ∧ ∀ i x, w.2.2.2.1[i]? = some x → T.2.2.1 i = x) ∧ (T.1 8 = w.2.2.2.2.1.length ∧ w.2.2.2.2.1.length ≤ 60 ∧ ∀ i x, w.2.2.2.2.1[i]? = some x → T.2.2.2.1 i = x) ∧ T.1 11 = w.2.2.2.2.2.1 ∧ T.1 12 = w.2.2.2.2.2.2
def tW (T : tS) (w : sW) : Prop := tR T.2.1 0 w.1 ∧ tX T w
theorem tX.cg {T T' : tS} {w : sW} (h : tX T w) (hA : ∀ j, 130 ≤ j → j < 1300 → T'.2.1 j = T.2.1 j) (hF : ∀ f, f ≠ 0 → f ≠ 4 → T'.1 f = T.1 f) (hX : T'.2.2 = T.2.2) : tX T' w := by
  obtain ⟨⟨h1, h2, h3⟩, ⟨h4, h5⟩, ⟨h6, h7, h8⟩, ⟨h9, h10, h11⟩, h12, h13⟩ := h
  refine ⟨⟨(hF 2 (by decide) (by decide)).trans h1, h2, fun i S hS => (h3 i S hS).cg fun j hj => hA _ (by omega) ?_⟩, ⟨(hF 3 (by decide) (by decide)).trans h4, fun S hS => (h5 S hS).cg fun j hj => hA _ (by omega) (by omega)⟩, ⟨(hF 6 (by decide) (by decide)).trans h6, h7, fun i x hx => by rw [hX]; exact h8 i x hx⟩, ⟨(hF 8 (by decide) (by decide)).trans h9, h10, fun i x hx => by rw [hX]; exact h11 i x hx⟩, (hF 11 (by decide) (by decide)).trans h12, (hF 12 (by decide) (by decide)).trans h13⟩
  have := (List.getElem?_eq_some_iff.mp hS).1
  omega
theorem tX.tF {T T' : tS} {w : sW} (h : tX T w) (hF : tF T T') : tX T' w := h.cg (fun j h1 h2 => hF.1 j h1) (fun f _ h4 => hF.2.1 f h4) hF.2.2
theorem tX.of {T : tS} {w w' : sW} (h : tX T w) (e : w'.2 = w.2) : tX T w' := by
  unfold tX; rw [e]; exact h
def sPush (H : List sS) (s : sS) : List sS := if H.length = 8 then H.tail ++ [s] else H ++ [s]
/-- what a call leaves: its number of a throw, its answer, the world -/
abbrev tO (h0 : zH) (a : tA) (th : Nat) (v : Value) (w : sW) : zR → zH → Prop := tQ h0 a fun ov T' => ov = some v ∧ T'.1 0 = th ∧ tW T' w
/-- the number of a throw -/
def sTh (by' n1 n2 n3 : Nat) : Nat := if by' = 1 then n1 else if by' = 2 then n2 else if by' = 3 then n3 else 0
theorem w_ends (hD : tD a) {w : sW} {s : sS} (hX : tX T w) (h10 : tR T.2.1 (130 * 10) w.1) {by' n1 n2 n3 : Nat} (hb : by' < 4) (h1 : n1 < 4) (h2 : n2 < 4) (h3 : n3 < 4) (hR : sTh by' n1 n2 n3 = 0 → tR T.2.1 0 s) : zK G mX3_ends 2 0 [.ref a.1, .int (nI by'), .int (nI n1), .int (nI n2), .int (nI n3)] (tH h0 a T) (tQ h0 a fun v T' => v = some (.int (nI (if sTh by' n1 n2 n3 = 0 then T.1 4 else 0))) ∧ T'.1 0 = sTh by' n1 n2 n3 ∧ tW T' (if sTh by' n1 n2 n3 = 0 then (s, sPush w.2.1 w.1, w.2.2) else w)) := by
  have hth : sTh by' n1 n2 n3 < 4 := by
    unfold sTh
    split
    · exact h1
    · split
      · exact h2
      · split
        · exact h3
        · decide
  have fin2 : ∀ (F A : Nat → Nat) (k : Nat) (v0 : Value), k < 8 → A 2 = A 2 → sTh by' n1 n2 n3 = 0 → F 2 = k → F 4 = T.1 4 → (∀ f, f ≠ 0 → f ≠ 4 → f ≠ 2 → F f = T.1 f) → F 0 = 0 → (∀ j, j < 130 ∨ 1170 ≤ j → A j = T.2.1 j) → (sPush w.2.1 w.1).length = k + 1 → (∀ i S, i < k → (sPush w.2.1 w.1)[i]? = some S → tR A (130 * (i + 1)) S) → (sPush w.2.1 w.1)[k]? = some w.1 →
      zW G mX3_ends 2 0 94 [.ref a.1, .int (nI by'), .int (nI n1), .int (nI n2), .int (nI n3), v0] [] (tH h0 a (F, A, T.2.2)) (tQ h0 a fun v T' => v = some (.int (nI (if sTh by' n1 n2 n3 = 0 then T.1 4 else 0))) ∧ T'.1 0 = sTh by' n1 n2 n3 ∧ tW T' (if sTh by' n1 n2 n3 = 0 then (s, sPush w.2.1 w.1, w.2.2) else w)) := by
    intro F A k v0 hk _ ht e2 e4 eF e0 eA hl hH hHk
    refine zW.aload_n (pc' := 95) dX3_ends_94 rfl rfl zg0 rfl ?_
    refine zW.dup (pc' := 96) dX3_ends_95 rfl rfl ?_
    refine zT.get (pc' := 99) dX3_ends_96 rfl f_X3_37_3 rfl ?_
    try dsimp only
    refine zW.iconst (pc' := 100) (nI 1) dX3_ends_99 rfl (by decide) ?_
    refine zW.iaddN (pc' := 101) dX3_ends_100 rfl ?_
    rw [e2]
    refine zT.putN (pc' := 104) dX3_ends_101 rfl f_X3_37_3 (zFw.of ft_3_2 rfl rfl) rfl ?_
    try dsimp only
    refine zW.aload_n (pc' := 105) dX3_ends_104 rfl rfl zg0 rfl ?_
    refine zW.bipush (pc' := 107) (nI 10) dX3_ends_105 rfl (by decide) ?_
    refine zW.aload_n (pc' := 108) dX3_ends_107 rfl rfl zg0 rfl ?_
    refine zT.get (pc' := 111) dX3_ends_108 rfl f_X3_37_3 rfl ?_
    try dsimp only
    rw [zu_s]
    refine zT.call (pc' := 114) dX3_ends_111 rfl l_X3_33 rfl rfl (w_copies hD (f := 10) (t := k + 1) (by omega) (by omega) (by omega)) (zcc rfl (zcc rfl zc0)) rfl (Nat.le_of_ble_eq_true rfl) (Nat.le_of_ble_eq_true rfl) (Nat.le_of_ble_eq_true rfl) (fun _ _ ⟨e5, e6⟩ => ?_)
    subst e5; rw [e6]
    refine zW.aload_n (pc' := 115) dX3_ends_114 rfl rfl zg0 rfl ?_
    refine zT.get (pc' := 118) dX3_ends_115 rfl f_X3_40_3 rfl ?_
    try dsimp only
    rw [zu_n (show (4 : Nat) ≠ 2 by decide), e4]
    refine zW.iret dX3_ends_118 rfl (rfl) ?_
    rw [if_pos ht, if_pos ht]
    have hz2 : zu F 2 (k + 1) 2 = k + 1 := zu_s
    have hz : ∀ f, f ≠ 2 → zu F 2 (k + 1) f = F f := fun f h => zu_n h
    refine ⟨_, _, rfl, ⟨rfl, ?_, ?_⟩, rfl⟩
    · rw [ht]; exact (hz 0 (by decide)).trans e0
    obtain ⟨⟨a1, a2, a3⟩, ⟨a4, a5⟩, ⟨a6, a7, a8⟩, ⟨a9, a10, a11⟩, a12, a13⟩ := hX
    have ec : ∀ j, (j < 130 * (k + 1) ∨ 130 * (k + 1) + 130 ≤ j) → tcp A 10 (k + 1) 130 j = A j := fun j hj => by
      unfold tcp; rw [if_neg (by omega)]
    have h10' : tR A (130 * 10) w.1 := h10.cg fun j hj => eA _ (Or.inr (by omega))
    refine ⟨(hR ht).cg fun j hj => ?_, ⟨hz2.trans hl.symm, by rw [hl]; omega, fun i S hS => ?_⟩, ⟨(hz 3 (by decide)).trans ((eF 3 (by decide) (by decide) (by decide)).trans a4), fun S hS => (a5 S hS).cg fun j hj => ?_⟩, ⟨(hz 6 (by decide)).trans ((eF 6 (by decide) (by decide) (by decide)).trans a6), a7, a8⟩, ⟨(hz 8 (by decide)).trans ((eF 8 (by decide) (by decide) (by decide)).trans a9), a10, a11⟩, (hz 11 (by decide)).trans ((eF 11 (by decide) (by decide) (by decide)).trans a12), (hz 12 (by decide)).trans ((eF 12 (by decide) (by decide) (by decide)).trans a13)⟩
    · show tcp _ _ _ _ _ = _
      rw [ec _ (by omega), eA _ (by omega)]
    · have hil := (List.getElem?_eq_some_iff.mp hS).1
      rw [hl] at hil
      by_cases q : i = k
      · subst q
        rw [hHk] at hS
        cases hS
        exact h10'.cp
      · exact (hH i S (by omega) hS).cg fun j hj => by
          show tcp _ _ _ _ _ = _
          rw [ec _ (by omega)]
    · show tcp _ _ _ _ _ = _
      rw [ec _ (by omega), eA _ (by omega)]
  have fin : zW G mX3_ends 2 0 30 [.ref a.1, .int (nI by'), .int (nI n1), .int (nI n2), .int (nI n3), zho] [.int (nI (sTh by' n1 n2 n3)), .ref a.1] (tH h0 a T) (tQ h0 a fun v T' => v = some (.int (nI (if sTh by' n1 n2 n3 = 0 then T.1 4 else 0))) ∧ T'.1 0 = sTh by' n1 n2 n3 ∧ tW T' (if sTh by' n1 n2 n3 = 0 then (s, sPush w.2.1 w.1, w.2.2) else w)) := by
    have h2 := hX.1
    refine zT.putN (pc' := 33) dX3_ends_30 rfl f_X3_30_3 (zFw.of ft_3_0 rfl rfl) rfl ?_
    try dsimp only
    refine zW.aload_n (pc' := 34) dX3_ends_33 rfl rfl zg0 rfl ?_
    refine zT.get (pc' := 37) dX3_ends_34 rfl f_X3_30_3 rfl ?_
    try dsimp only
    rw [zu_s]
    refine zW.if_eqN (pc' := 40) 49 dX3_ends_37 rfl (by decide) (by omega) (fun b1 => ?_) (fun b1 => ?_)
    · refine zW.aload_n (pc' := 50) dX3_ends_49 rfl rfl zg0 rfl ?_
      refine zT.get (pc' := 53) dX3_ends_50 rfl f_X3_37_3 rfl ?_
      try dsimp only
      rw [zu_n (show (2 : Nat) ≠ 0 by decide), h2.1]
      refine zW.bipush (pc' := 55) (nI 8) dX3_ends_53 rfl (by decide) ?_
      have eF : ∀ f, f ≠ 0 → zu T.1 0 (sTh by' n1 n2 n3) f = T.1 f := fun f hf => zu_n hf
      have h28 := h2.2.1
      refine zW.icmp_neN (pc' := 58) 94 dX3_ends_55 rfl (by decide) (by omega) (by omega) (fun b2 => ?_) (fun b2 => ?_)
      · have hp : sPush w.2.1 w.1 = w.2.1 ++ [w.1] := by unfold sPush; rw [if_neg b2]
        refine fin2 _ T.2.1 w.2.1.length zho (by omega) rfl b1 ((eF 2 (by decide)).trans h2.1) (eF 4 (by decide)) (fun f a b c => eF f a) (zu_s.trans b1) (fun _ _ => rfl) ?_ (fun i S hi hS => ?_) ?_
        · rw [hp, List.length_append]; rfl
        · rw [hp, List.getElem?_append_left hi] at hS
          exact h2.2.2 i S hS
        · rw [hp, List.getElem?_append_right (Nat.le_refl _), Nat.sub_self]; rfl
      · refine zW.iconst (pc' := 59) (nI 1) dX3_ends_58 rfl (by decide) ?_
        refine zW.istore (pc' := 61) dX3_ends_59 rfl (Nat.le_of_ble_eq_true rfl) (zsS (zsS (zsS (zsS (zsS (zs0)))))) ?_
        have loop : ∀ m k (A : Nat → Nat), k + m = 8 → 1 ≤ k → (∀ j, j < 130 ∨ 1170 ≤ j → A j = T.2.1 j) → (∀ i S, i + 1 < k → w.2.1[i + 1]? = some S → tR A (130 * (i + 1)) S) → (∀ i S, k ≤ i + 1 → w.2.1[i]? = some S → tR A (130 * (i + 1)) S) → zW G mX3_ends 2 0 61 [.ref a.1, .int (nI by'), .int (nI n1), .int (nI n2), .int (nI n3), .int (nI k)] [] (tH h0 a (zu T.1 0 (sTh by' n1 n2 n3), A, T.2.2)) (tQ h0 a fun v T' => v = some (.int (nI (if sTh by' n1 n2 n3 = 0 then T.1 4 else 0))) ∧ T'.1 0 = sTh by' n1 n2 n3 ∧ tW T' (if sTh by' n1 n2 n3 = 0 then (s, sPush w.2.1 w.1, w.2.2) else w)) := by
          intro m
          induction m with
          | zero =>
            intro k A hk hk1 eA hlo hhi
            have hk : k = 8 := by omega
            subst hk
            refine zW.iload (pc' := 63) dX3_ends_61 rfl (zgS (zgS (zgS (zgS (zgS (zg0)))))) ?_
            refine zW.bipush (pc' := 65) (nI 8) dX3_ends_63 rfl (by decide) ?_
            refine zW.icmp_geN (pc' := 68) 84 dX3_ends_65 rfl (by decide) (by omega) (by omega) (fun b9 => ?_) (fun b9 => absurd b9 (by omega))
            refine zW.aload_n (pc' := 85) dX3_ends_84 rfl rfl zg0 rfl ?_
            refine zW.dup (pc' := 86) dX3_ends_85 rfl rfl ?_
            refine zT.get (pc' := 89) dX3_ends_86 rfl f_X3_37_3 rfl ?_
            try dsimp only
            rw [eF 2 (by decide), h2.1, b2]
            refine zW.iconst (pc' := 90) (nI 1) dX3_ends_89 rfl (by decide) ?_
            refine zW.isubN (pc' := 91) dX3_ends_90 rfl (by omega) ?_
            refine zT.putN (pc' := 94) dX3_ends_91 rfl f_X3_37_3 (zFw.of ft_3_2 rfl rfl) rfl ?_
            try dsimp only
            have hp : sPush w.2.1 w.1 = w.2.1.tail ++ [w.1] := by unfold sPush; rw [if_pos b2]
            have htl : w.2.1.tail.length = 7 := by rw [List.length_tail]; omega
            refine fin2 _ A 7 _ (by omega) rfl b1 zu_s ((zu_n (by decide)).trans (eF 4 (by decide))) (fun f a b c => (zu_n c).trans (eF f a)) ((zu_n (by decide)).trans (zu_s.trans b1)) eA ?_ (fun i S hi hS => ?_) ?_
            · rw [hp, List.length_append, htl]; rfl
            · rw [hp, List.getElem?_append_left (by omega), List.getElem?_tail] at hS
              exact hlo i S (by omega) hS
            · rw [hp, List.getElem?_append_right (by omega), htl]; rfl
          | succ m ih =>
            intro k A hk hk1 eA hlo hhi
            refine zW.iload (pc' := 63) dX3_ends_61 rfl (zgS (zgS (zgS (zgS (zgS (zg0)))))) ?_
            refine zW.bipush (pc' := 65) (nI 8) dX3_ends_63 rfl (by decide) ?_
            refine zW.icmp_geN (pc' := 68) 84 dX3_ends_65 rfl (by decide) (by omega) (by omega) (fun b9 => absurd b9 (by omega)) (fun b9 => ?_)
            refine zW.aload_n (pc' := 69) dX3_ends_68 rfl rfl zg0 rfl ?_
            refine zW.iload (pc' := 71) dX3_ends_69 rfl (zgS (zgS (zgS (zgS (zgS (zg0)))))) ?_
            refine zW.iconst (pc' := 72) (nI 1) dX3_ends_71 rfl (by decide) ?_
            refine zW.iaddN (pc' := 73) dX3_ends_72 rfl ?_
            refine zW.iload (pc' := 75) dX3_ends_73 rfl (zgS (zgS (zgS (zgS (zgS (zg0)))))) ?_
            refine zT.call (pc' := 78) dX3_ends_75 rfl l_X3_33 rfl rfl (w_copies hD (f := k + 1) (t := k) (by omega) (by omega) (by omega)) (zcc rfl (zcc rfl zc0)) rfl (Nat.le_of_ble_eq_true rfl) (Nat.le_of_ble_eq_true rfl) (Nat.le_of_ble_eq_true rfl) (fun _ _ ⟨e5, e6⟩ => ?_)
            subst e5; rw [e6]
            refine zW.iincN (pc' := 81) (n := 1) dX3_ends_78 rfl (Nat.le_of_ble_eq_true rfl) (zgS (zgS (zgS (zgS (zgS (zg0)))))) (zsS (zsS (zsS (zsS (zsS (zs0)))))) ?_
            refine zW.goto 61 dX3_ends_81 (by decide) ?_
            have ec : ∀ j, (j < 130 * k ∨ 130 * k + 130 ≤ j) → tcp A (k + 1) k 130 j = A j := fun j hj => by
              unfold tcp; rw [if_neg (by omega)]
            refine ih (k + 1) _ (by omega) (by omega) (fun j hj => (ec j (by omega)).trans (eA j hj)) (fun i S hi hS => ?_) (fun i S hi hS => (hhi i S (by omega) hS).cg fun j hj => ec _ (by omega))
            by_cases q : i + 1 = k
            · subst q
              exact (hhi (i + 1) S (by omega) hS).cp
            · exact (hlo i S (by omega) hS).cg fun j hj => ec _ (by omega)
        exact loop 7 1 T.2.1 (by omega) (by omega) (fun _ _ => rfl) (fun i S hi _ => absurd hi (by omega)) (fun i S _ hS => h2.2.2 i S hS)
    · refine zW.aload_n (pc' := 41) dX3_ends_40 rfl rfl zg0 rfl ?_
      refine zW.bipush (pc' := 43) (nI 10) dX3_ends_41 rfl (by decide) ?_
      refine zW.iconst (pc' := 44) (nI 0) dX3_ends_43 rfl (by decide) ?_
      refine zT.call (pc' := 47) dX3_ends_44 rfl l_X3_33 rfl rfl (w_copies hD (f := 10) (t := 0) (by omega) (by omega) (by omega)) (zcc rfl (zcc rfl zc0)) rfl (Nat.le_of_ble_eq_true rfl) (Nat.le_of_ble_eq_true rfl) (Nat.le_of_ble_eq_true rfl) (fun _ _ ⟨e5, e6⟩ => ?_)
      subst e5; rw [e6]
      refine zW.iconst (pc' := 48) (nI 0) dX3_ends_47 rfl (by decide) ?_
      refine zW.iret dX3_ends_48 rfl (rfl) ?_
      rw [if_neg b1, if_neg b1]
      have hs0 : zu T.1 0 (sTh by' n1 n2 n3) 0 = sTh by' n1 n2 n3 := zu_s
      refine ⟨_, (zu T.1 0 (sTh by' n1 n2 n3), tcp T.2.1 10 0 130, T.2.2), rfl, ⟨rfl, hs0, h10.cp, hX.cg (fun j a1 a2 => ?_) (fun f a _ => zu_n a) rfl⟩, rfl⟩
      show tcp _ _ _ _ _ = _
      unfold tcp
      rw [if_neg (by omega)]
  show zW G mX3_ends 2 0 0 [.ref a.1, .int (nI by'), .int (nI n1), .int (nI n2), .int (nI n3), zho] [] (tH h0 a T) _
  refine zW.aload_n (pc' := 1) dX3_ends_0 rfl rfl zg0 rfl ?_
  refine zW.iload_n (pc' := 2) dX3_ends_1 rfl rfl (zgS (zg0)) ?_
  refine zW.iconst (pc' := 3) (nI 1) dX3_ends_2 rfl (by decide) ?_
  refine zW.icmp_neN (pc' := 6) 10 dX3_ends_3 rfl (by decide) (by omega) (by omega) (fun c1 => ?_) (fun c1 => ?_)
  · refine zW.iload_n (pc' := 11) dX3_ends_10 rfl rfl (zgS (zg0)) ?_
    refine zW.iconst (pc' := 12) (nI 2) dX3_ends_11 rfl (by decide) ?_
    refine zW.icmp_neN (pc' := 15) 19 dX3_ends_12 rfl (by decide) (by omega) (by omega) (fun c2 => ?_) (fun c2 => ?_)
    · refine zW.iload_n (pc' := 20) dX3_ends_19 rfl rfl (zgS (zg0)) ?_
      refine zW.iconst (pc' := 21) (nI 3) dX3_ends_20 rfl (by decide) ?_
      refine zW.icmp_neN (pc' := 24) 29 dX3_ends_21 rfl (by decide) (by omega) (by omega) (fun c3 => ?_) (fun c3 => ?_)
      · refine zW.iconst (pc' := 30) (nI 0) dX3_ends_29 rfl (by decide) ?_
        refine zW.congr fin rfl ?_ rfl
        unfold sTh
        rw [if_neg c1, if_neg c2, if_neg c3]
      · refine zW.iload (pc' := 26) dX3_ends_24 rfl (zgS (zgS (zgS (zgS (zg0))))) ?_
        refine zW.goto 30 dX3_ends_26 (by decide) ?_
        refine zW.congr fin rfl ?_ rfl
        unfold sTh
        rw [if_neg c1, if_neg c2, if_pos c3]
    · refine zW.iload_n (pc' := 16) dX3_ends_15 rfl rfl (zgS (zgS (zgS (zg0)))) ?_
      refine zW.goto 30 dX3_ends_16 (by decide) ?_
      refine zW.congr fin rfl ?_ rfl
      unfold sTh
      rw [if_neg c1, if_pos c2]
  · refine zW.iload_n (pc' := 7) dX3_ends_6 rfl rfl (zgS (zgS (zg0))) ?_
    refine zW.goto 30 dX3_ends_7 (by decide) ?_
    refine zW.congr fin rfl ?_ rfl
    unfold sTh
    rw [if_pos c1]
end
