/-! THE REFERENCE's questions: ranks, forecasts, totals -/
section
set_option maxRecDepth 100000
variable {G : zG} {h0 : zH} {a : tA} {T : tS} {tt nn n : Nat}
theorem nI_subneg {x y : Nat} (hx : x < 2 ^ 31) (hy : y < 2 ^ 31) (h : x < y) : nI x - nI y < 0 := by
  have e : nI x - nI y = -(nI (y - x)) := by rw [← nI_sub (by omega), Int32.neg_sub]
  rw [e, Int32.lt_iff_toInt_lt, Int32.toInt_neg]
  have h1 : (nI (y - x)).toInt = (y - x : Nat) := by
    show (Int32.ofNat (y - x)).toInt = _
    exact Int32.toInt_ofNat_of_lt (by omega)
  rw [h1, Int.bmod_def]
  show _ < (0 : Int)
  split <;> omega
theorem nI_subpos {x y : Nat} (hx : x < 2 ^ 31) (hy : y < 2 ^ 31) : 0 < nI x - nI y ↔ y < x := by
  constructor
  · intro h
    by_cases q : y < x
    · exact q
    · rcases Nat.lt_or_eq_of_le (Nat.not_lt.mp q) with q | q
      · exact absurd (Int32.lt_trans h (nI_subneg hx hy q)) (by decide)
      · subst q; rw [Int32.sub_self] at h; exact absurd h (by decide)
  · intro h
    rw [nI_sub (by omega)]
    exact Int32.lt_of_le_of_ne (nI_pos' (by omega)) fun e => by
      have := (nI_eq0 (a := x - y) (by omega)).mp e.symm
      omega
theorem nI_subz {x y : Nat} (hx : x < 2 ^ 31) (hy : y < 2 ^ 31) : nI x - nI y = 0 ↔ x = y := by
  constructor
  · intro h
    rcases Nat.lt_trichotomy x y with q | q | q
    · have := nI_subneg hx hy q; rw [h] at this; exact absurd this (by decide)
    · exact q
    · have := (nI_subpos hx hy).mpr q; rw [h] at this; exact absurd this (by decide)
  · intro h; subst h; exact Int32.sub_self _
/-- j stands ahead of i in the order by expiry -/
def sBefore (s : sS) (j i : Nat) : Bool := decide (sAt s.2.1 j 4 < sAt s.2.1 i 4 ∨ sAt s.2.1 j 4 = sAt s.2.1 i 4 ∧ (sAt s.2.1 i 3 < sAt s.2.1 j 3 ∨ sAt s.2.1 i 3 = sAt s.2.1 j 3 ∧ j < i))
def sRank (s : sS) (i : Nat) : Nat := sUp (fun j => if sBefore s j i = true then 1 else 0) s.2.1.length
theorem sUp_le {g : Nat → Nat} (h : ∀ k, g k ≤ 1) {k : Nat} : sUp g k ≤ k := by
  induction k with
  | zero => exact Nat.le_refl _
  | succ k ih => have := h k; show sUp g k + g k ≤ _; omega
theorem sRank_le {s : sS} {i : Nat} : sRank s i ≤ s.2.1.length := sUp_le fun k => by split <;> omega
theorem w_rankAt (hD : tD a) {s : sS} (hR : tR T.2.1 0 s) (hB : tB s) {i : Nat} (hi : i < s.2.1.length) : zK G mX3_rankAt 2 0 [.ref a.1, .int (nI i)] (tH h0 a T) (tQ h0 a fun v T' => v = some (.int (nI (sRank s i))) ∧ T' = T) := by
  have hac := hR.ac
  have h12 := hR.n12
  have a4 := hB.at hi (f := 4) (by omega)
  have a3 := hB.at hi (f := 3) (by omega)
  unfold sRank
  generalize hg : (fun j => if sBefore s j i = true then 1 else 0) = g
  have loop : ∀ n k (v1 v2 : Value), k + n = s.2.1.length → zW G mX3_rankAt 2 0 4 [.ref a.1, .int (nI i), .int (nI (sUp g k)), .int (nI k), v1, v2] [] (tH h0 a T) (tQ h0 a fun v T' => v = some (.int (nI (sUp g s.2.1.length))) ∧ T' = T) := by
    intro n
    induction n with
    | zero =>
      intro k v1 v2 hk
      have hk : k = s.2.1.length := by omega
      subst hk
      refine zW.iload_n (pc' := 5) dX3_rankAt_4 rfl rfl (zgS (zgS (zgS (zg0)))) ?_
      refine zW.aload_n (pc' := 6) dX3_rankAt_5 rfl rfl zg0 rfl ?_
      refine zT.get (pc' := 9) dX3_rankAt_6 rfl f_X3_9_3 rfl ?_
      try dsimp only
      refine zW.iconst (pc' := 10) (nI 2) dX3_rankAt_9 rfl (by decide) ?_
      first | refine zT.ald1 (pc' := 11) dX3_rankAt_10 rfl hD (by omega) ?_ | refine zT.ald4 (pc' := 11) dX3_rankAt_10 rfl hD (by omega) ?_
      try dsimp only
      refine zW.icmp_geN (pc' := 14) 83 dX3_rankAt_11 rfl (by decide) (by omega) (by omega) (fun b9 => ?_) (fun b9 => absurd b9 (by omega))
      refine zW.iload_n (pc' := 84) dX3_rankAt_83 rfl rfl (zgS (zgS (zg0))) ?_
      refine zW.iret dX3_rankAt_84 rfl (rfl) ?_
      exact ⟨_, _, rfl, ⟨rfl, rfl⟩, rfl⟩
    | succ n ih =>
      intro k v1 v2 hk
      have hkl : k < s.2.1.length := by omega
      have b4 := hB.at hkl (f := 4) (by omega)
      have b3 := hB.at hkl (f := 3) (by omega)
      have hgk : g k = if sBefore s k i = true then 1 else 0 := by rw [← hg]
      have yes : sBefore s k i = true → zW G mX3_rankAt 2 0 70 [.ref a.1, .int (nI i), .int (nI (sUp g k)), .int (nI k), .int (nI (sAt s.2.1 i 4) - nI (sAt s.2.1 k 4)), .int (nI (sAt s.2.1 k 3) - nI (sAt s.2.1 i 3))] [.int (nI (sUp g k))] (tH h0 a T) (tQ h0 a fun v T' => v = some (.int (nI (sUp g s.2.1.length))) ∧ T' = T) := by
        intro q
        refine zW.iconst (pc' := 71) (nI 1) dX3_rankAt_70 rfl (by decide) ?_
        refine zW.goto 75 dX3_rankAt_71 (by decide) ?_
        refine zW.iaddN (pc' := 76) dX3_rankAt_75 rfl ?_
        refine zW.istore_n (pc' := 77) dX3_rankAt_76 rfl rfl (Nat.le_of_ble_eq_true rfl) (zsS (zsS (zs0))) ?_
        refine zW.iincN (pc' := 80) (n := 1) dX3_rankAt_77 rfl (Nat.le_of_ble_eq_true rfl) (zgS (zgS (zgS (zg0)))) (zsS (zsS (zsS (zs0)))) ?_
        refine zW.goto 4 dX3_rankAt_80 (by decide) ?_
        refine zW.congr (ih (k + 1) (Value.int (nI (sAt s.2.1 i 4) - nI (sAt s.2.1 k 4))) (Value.int (nI (sAt s.2.1 k 3) - nI (sAt s.2.1 i 3))) (by omega)) ?_ rfl rfl
        show _ = [_, _, Value.int (nI (sUp g k + g k)), _, _, _]
        rw [hgk, if_pos q]
      have no : ¬ sBefore s k i = true → zW G mX3_rankAt 2 0 74 [.ref a.1, .int (nI i), .int (nI (sUp g k)), .int (nI k), .int (nI (sAt s.2.1 i 4) - nI (sAt s.2.1 k 4)), .int (nI (sAt s.2.1 k 3) - nI (sAt s.2.1 i 3))] [.int (nI (sUp g k))] (tH h0 a T) (tQ h0 a fun v T' => v = some (.int (nI (sUp g s.2.1.length))) ∧ T' = T) := by
        intro q
        refine zW.iconst (pc' := 75) (nI 0) dX3_rankAt_74 rfl (by decide) ?_
        refine zW.iaddN (pc' := 76) dX3_rankAt_75 rfl ?_
        refine zW.istore_n (pc' := 77) dX3_rankAt_76 rfl rfl (Nat.le_of_ble_eq_true rfl) (zsS (zsS (zs0))) ?_
        refine zW.iincN (pc' := 80) (n := 1) dX3_rankAt_77 rfl (Nat.le_of_ble_eq_true rfl) (zgS (zgS (zgS (zg0)))) (zsS (zsS (zsS (zs0)))) ?_
        refine zW.goto 4 dX3_rankAt_80 (by decide) ?_
        refine zW.congr (ih (k + 1) (Value.int (nI (sAt s.2.1 i 4) - nI (sAt s.2.1 k 4))) (Value.int (nI (sAt s.2.1 k 3) - nI (sAt s.2.1 i 3))) (by omega)) ?_ rfl rfl
        show _ = [_, _, Value.int (nI (sUp g k + g k)), _, _, _]
        rw [hgk, if_neg q]
      refine zW.iload_n (pc' := 5) dX3_rankAt_4 rfl rfl (zgS (zgS (zgS (zg0)))) ?_
      refine zW.aload_n (pc' := 6) dX3_rankAt_5 rfl rfl zg0 rfl ?_
      refine zT.get (pc' := 9) dX3_rankAt_6 rfl f_X3_9_3 rfl ?_
      try dsimp only
      refine zW.iconst (pc' := 10) (nI 2) dX3_rankAt_9 rfl (by decide) ?_
      first | refine zT.ald1 (pc' := 11) dX3_rankAt_10 rfl hD (by omega) ?_ | refine zT.ald4 (pc' := 11) dX3_rankAt_10 rfl hD (by omega) ?_
      try dsimp only
      refine zW.icmp_geN (pc' := 14) 83 dX3_rankAt_11 rfl (by decide) (by omega) (by omega) (fun b9 => absurd b9 (by omega)) (fun b9 => ?_)
      refine zW.aload_n (pc' := 15) dX3_rankAt_14 rfl rfl zg0 rfl ?_
      refine zW.iload_n (pc' := 16) dX3_rankAt_15 rfl rfl (zgS (zg0)) ?_
      refine zW.iconst (pc' := 17) (nI 4) dX3_rankAt_16 rfl (by decide) ?_
      refine zT.call (pc' := 20) dX3_rankAt_17 rfl l_X3_43 rfl rfl (w_cS hD hR hi (by omega)) (zcc rfl (zcc rfl zc0)) rfl (Nat.le_of_ble_eq_true rfl) (Nat.le_of_ble_eq_true rfl) (Nat.le_of_ble_eq_true rfl) (fun _ _ ⟨e1, e2⟩ => ?_)
      subst e1; rw [e2]
      refine zW.aload_n (pc' := 21) dX3_rankAt_20 rfl rfl zg0 rfl ?_
      refine zW.iload_n (pc' := 22) dX3_rankAt_21 rfl rfl (zgS (zgS (zgS (zg0)))) ?_
      refine zW.iconst (pc' := 23) (nI 4) dX3_rankAt_22 rfl (by decide) ?_
      refine zT.call (pc' := 26) dX3_rankAt_23 rfl l_X3_43 rfl rfl (w_cS hD hR hkl (by omega)) (zcc rfl (zcc rfl zc0)) rfl (Nat.le_of_ble_eq_true rfl) (Nat.le_of_ble_eq_true rfl) (Nat.le_of_ble_eq_true rfl) (fun _ _ ⟨e1, e2⟩ => ?_)
      subst e1; rw [e2]
      refine zW.isub (pc' := 27) dX3_rankAt_26 rfl ?_
      refine zW.istore (pc' := 29) dX3_rankAt_27 rfl (Nat.le_of_ble_eq_true rfl) (zsS (zsS (zsS (zsS (zs0))))) ?_
      refine zW.aload_n (pc' := 30) dX3_rankAt_29 rfl rfl zg0 rfl ?_
      refine zW.iload_n (pc' := 31) dX3_rankAt_30 rfl rfl (zgS (zgS (zgS (zg0)))) ?_
      refine zW.iconst (pc' := 32) (nI 3) dX3_rankAt_31 rfl (by decide) ?_
      refine zT.call (pc' := 35) dX3_rankAt_32 rfl l_X3_43 rfl rfl (w_cS hD hR hkl (by omega)) (zcc rfl (zcc rfl zc0)) rfl (Nat.le_of_ble_eq_true rfl) (Nat.le_of_ble_eq_true rfl) (Nat.le_of_ble_eq_true rfl) (fun _ _ ⟨e1, e2⟩ => ?_)
      subst e1; rw [e2]
      refine zW.aload_n (pc' := 36) dX3_rankAt_35 rfl rfl zg0 rfl ?_
      refine zW.iload_n (pc' := 37) dX3_rankAt_36 rfl rfl (zgS (zg0)) ?_
      refine zW.iconst (pc' := 38) (nI 3) dX3_rankAt_37 rfl (by decide) ?_
      refine zT.call (pc' := 41) dX3_rankAt_38 rfl l_X3_43 rfl rfl (w_cS hD hR hi (by omega)) (zcc rfl (zcc rfl zc0)) rfl (Nat.le_of_ble_eq_true rfl) (Nat.le_of_ble_eq_true rfl) (Nat.le_of_ble_eq_true rfl) (fun _ _ ⟨e1, e2⟩ => ?_)
      subst e1; rw [e2]
      refine zW.isub (pc' := 42) dX3_rankAt_41 rfl ?_
      refine zW.istore (pc' := 44) dX3_rankAt_42 rfl (Nat.le_of_ble_eq_true rfl) (zsS (zsS (zsS (zsS (zsS (zs0)))))) ?_
      refine zW.iload_n (pc' := 45) dX3_rankAt_44 rfl rfl (zgS (zgS (zg0))) ?_
      refine zW.iload (pc' := 47) dX3_rankAt_45 rfl (zgS (zgS (zgS (zgS (zg0))))) ?_
      refine zW.if_gt (pc' := 50) 70 dX3_rankAt_47 rfl (by decide) (fun c1 => ?_) (fun c1 => ?_)
      · have q := (nI_subpos (by omega) (by omega)).mp c1
        exact yes (decide_eq_true (Or.inl q))
      have q1 : ¬ sAt s.2.1 k 4 < sAt s.2.1 i 4 := fun q => c1 ((nI_subpos (by omega) (by omega)).mpr q)
      refine zW.iload (pc' := 52) dX3_rankAt_50 rfl (zgS (zgS (zgS (zgS (zg0))))) ?_
      refine zW.if_ne (pc' := 55) 74 dX3_rankAt_52 rfl (by decide) (fun c2 => ?_) (fun c2 => ?_)
      · have q2 : ¬ sAt s.2.1 i 4 = sAt s.2.1 k 4 := fun q => c2 ((nI_subz (by omega) (by omega)).mpr q)
        exact no fun q => by have := of_decide_eq_true q; omega
      have q2 := (nI_subz (by omega) (by omega)).mp c2
      refine zW.iload (pc' := 57) dX3_rankAt_55 rfl (zgS (zgS (zgS (zgS (zgS (zg0)))))) ?_
      refine zW.if_gt (pc' := 60) 70 dX3_rankAt_57 rfl (by decide) (fun c3 => ?_) (fun c3 => ?_)
      · have q := (nI_subpos (by omega) (by omega)).mp c3
        exact yes (decide_eq_true (Or.inr ⟨q2.symm, Or.inl q⟩))
      have q3 : ¬ sAt s.2.1 i 3 < sAt s.2.1 k 3 := fun q => c3 ((nI_subpos (by omega) (by omega)).mpr q)
      refine zW.iload (pc' := 62) dX3_rankAt_60 rfl (zgS (zgS (zgS (zgS (zgS (zg0)))))) ?_
      refine zW.if_ne (pc' := 65) 74 dX3_rankAt_62 rfl (by decide) (fun c4 => ?_) (fun c4 => ?_)
      · have q4 : ¬ sAt s.2.1 k 3 = sAt s.2.1 i 3 := fun q => c4 ((nI_subz (by omega) (by omega)).mpr q)
        exact no fun q => by have := of_decide_eq_true q; omega
      have q4 := (nI_subz (by omega) (by omega)).mp c4
      refine zW.iload_n (pc' := 66) dX3_rankAt_65 rfl rfl (zgS (zgS (zgS (zg0)))) ?_
      refine zW.iload_n (pc' := 67) dX3_rankAt_66 rfl rfl (zgS (zg0)) ?_
      refine zW.icmp_geN (pc' := 70) 74 dX3_rankAt_67 rfl (by decide) (by omega) (by omega) (fun c5 => ?_) (fun c5 => ?_)
      · exact no fun q => by have := of_decide_eq_true q; omega
      · exact yes (decide_eq_true (Or.inr ⟨q2.symm, Or.inr ⟨q4.symm, c5⟩⟩))
  show zW G mX3_rankAt 2 0 0 [.ref a.1, .int (nI i), zho, zho, zho, zho] [] (tH h0 a T) _
  refine zW.iconst (pc' := 1) (nI 0) dX3_rankAt_0 rfl (by decide) ?_
  refine zW.istore_n (pc' := 2) dX3_rankAt_1 rfl rfl (Nat.le_of_ble_eq_true rfl) (zsS (zsS (zs0))) ?_
  refine zW.iconst (pc' := 3) (nI 0) dX3_rankAt_2 rfl (by decide) ?_
  refine zW.istore_n (pc' := 4) dX3_rankAt_3 rfl rfl (Nat.le_of_ble_eq_true rfl) (zsS (zsS (zsS (zs0)))) ?_
  exact loop _ 0 _ _ (Nat.zero_add _)
def qRank (s : sS) (id : Int32) : Nat × Int32 := match sFind s.2.1 id with | none => (1, nI 0) | some i => (0, nI (sRank s i))
theorem w_expiryRank (hD : tD a) {w : sW} (hW : tW T w) (hB : tB w.1) {id : Int32} : zK G mX3_expiryRank 4 0 [.ref a.1, .int id] (tH h0 a T) (tAns h0 a w (qRank w.1 id)) := by
  unfold qRank
  show zW G mX3_expiryRank 4 0 0 [.ref a.1, .int id, zho] [] (tH h0 a T) _
  rcases sFind_c hW.1 (id := id) with q | ⟨k, q, hk, hk2⟩
  · rw [q]
    refine zW.aload_n (pc' := 1) dX3_expiryRank_0 rfl rfl zg0 rfl ?_
    refine zW.iload_n (pc' := 2) dX3_expiryRank_1 rfl rfl (zgS (zg0)) ?_
    refine zT.call (pc' := 5) dX3_expiryRank_2 rfl l_X3_76 rfl rfl (w_find0 hD hW.1 q) (zcc rfl zc0) rfl (Nat.le_of_ble_eq_true rfl) (Nat.le_of_ble_eq_true rfl) (Nat.le_of_ble_eq_true rfl) (fun _ _ ⟨e1, e2⟩ => ?_)
    subst e1; rw [e2]
    refine zW.istore_n (pc' := 6) dX3_expiryRank_5 rfl rfl (Nat.le_of_ble_eq_true rfl) (zsS (zsS (zs0))) ?_
    refine zW.aload_n (pc' := 7) dX3_expiryRank_6 rfl rfl zg0 rfl ?_
    refine zW.iload_n (pc' := 8) dX3_expiryRank_7 rfl rfl (zgS (zgS (zg0))) ?_
    refine zW.if_lt (pc' := 11) 15 dX3_expiryRank_8 rfl (by decide) (fun b1 => ?_) (fun b1 => ?_)
    rotate_left
    · exact absurd b1 (by decide)
    refine zW.iconst (pc' := 16) (nI 0) dX3_expiryRank_15 rfl (by decide) ?_
    refine zT.call (pc' := 19) dX3_expiryRank_16 rfl l_X3_124 rfl rfl (w_fine0) (zcc rfl zc0) rfl (Nat.le_of_ble_eq_true rfl) (Nat.le_of_ble_eq_true rfl) (Nat.le_of_ble_eq_true rfl) (fun _ _ ⟨e1, e2⟩ => ?_)
    subst e1; rw [e2]
    refine zW.if_eqN (pc' := 22) 30 dX3_expiryRank_19 rfl (by decide) (by omega) (fun b9 => ?_) (fun b9 => absurd b9 (by omega))
    refine zW.iconst (pc' := 31) (nI 0) dX3_expiryRank_30 rfl (by decide) ?_
    refine zW.iret dX3_expiryRank_31 rfl (rfl) ?_
    exact tO.q hW
  · rw [q]
    refine zW.aload_n (pc' := 1) dX3_expiryRank_0 rfl rfl zg0 rfl ?_
    refine zW.iload_n (pc' := 2) dX3_expiryRank_1 rfl rfl (zgS (zg0)) ?_
    refine zT.call (pc' := 5) dX3_expiryRank_2 rfl l_X3_76 rfl rfl (w_find1 hD hW.1 q) (zcc rfl zc0) rfl (Nat.le_of_ble_eq_true rfl) (Nat.le_of_ble_eq_true rfl) (Nat.le_of_ble_eq_true rfl) (fun _ _ ⟨e1, e2⟩ => ?_)
    subst e1; rw [e2]
    refine zW.istore_n (pc' := 6) dX3_expiryRank_5 rfl rfl (Nat.le_of_ble_eq_true rfl) (zsS (zsS (zs0))) ?_
    refine zW.aload_n (pc' := 7) dX3_expiryRank_6 rfl rfl zg0 rfl ?_
    refine zW.iload_n (pc' := 8) dX3_expiryRank_7 rfl rfl (zgS (zgS (zg0))) ?_
    refine zW.if_ltN (pc' := 11) (tg := 15) dX3_expiryRank_8 rfl (by decide) (by omega) ?_
    refine zW.iconst (pc' := 12) (nI 1) dX3_expiryRank_11 rfl (by decide) ?_
    refine zW.goto 16 dX3_expiryRank_12 (by decide) ?_
    refine zT.call (pc' := 19) dX3_expiryRank_16 rfl l_X3_124 rfl rfl (w_fine1) (zcc rfl zc0) rfl (Nat.le_of_ble_eq_true rfl) (Nat.le_of_ble_eq_true rfl) (Nat.le_of_ble_eq_true rfl) (fun _ _ ⟨e1, e2⟩ => ?_)
    subst e1; rw [e2]
    refine zW.if_eqN (pc' := 22) 30 dX3_expiryRank_19 rfl (by decide) (by omega) (fun b9 => absurd b9 (by omega)) (fun b9 => ?_)
    refine zW.aload_n (pc' := 23) dX3_expiryRank_22 rfl rfl zg0 rfl ?_
    refine zW.iload_n (pc' := 24) dX3_expiryRank_23 rfl rfl (zgS (zgS (zg0))) ?_
    refine zT.call (pc' := 27) dX3_expiryRank_24 rfl l_X3_155 rfl rfl (w_rankAt (T := (zu T.1 0 0, T.2)) hD hW.1 hB hk) (zcc rfl zc0) rfl (Nat.le_of_ble_eq_true rfl) (Nat.le_of_ble_eq_true rfl) (Nat.le_of_ble_eq_true rfl) (fun _ _ ⟨e1, e2⟩ => ?_)
    subst e1; rw [e2]
    refine zW.goto 31 dX3_expiryRank_27 (by decide) ?_
    refine zW.iret dX3_expiryRank_31 rfl (rfl) ?_
    exact tO.q hW
def sByExp (s : sS) (p : Int32) : Nat → Nat → Nat × Int32
  | 0, _ => (1, nI 0)
  | m + 1, k => if nI (sRank s k) = p then (0, nI (sAt s.2.1 k 0)) else sByExp s p m (k + 1)
def qByExp (s : sS) (p : Int32) : Nat × Int32 := sByExp s p s.2.1.length 0
theorem w_idByExpiry (hD : tD a) {w : sW} (hW : tW T w) (hB : tB w.1) {p : Int32} : zK G mX3_idByExpiry 4 0 [.ref a.1, .int p] (tH h0 a T) (tAns h0 a w (qByExp w.1 p)) := by
  unfold qByExp
  have hac := hW.1.ac
  have h12 := hW.1.n12
  have loop : ∀ m k (F : Nat → Nat), k + m = w.1.2.1.length → tW (F, T.2) w → zW G mX3_idByExpiry 4 0 2 [.ref a.1, .int p, .int (nI k)] [] (tH h0 a (F, T.2)) (tAns h0 a w (sByExp w.1 p m k)) := by
    intro m
    induction m with
    | zero =>
      intro k F hk hW
      have hk : k = w.1.2.1.length := by omega
      subst hk
      refine zW.iload_n (pc' := 3) dX3_idByExpiry_2 rfl rfl (zgS (zgS (zg0))) ?_
      refine zW.aload_n (pc' := 4) dX3_idByExpiry_3 rfl rfl zg0 rfl ?_
      refine zT.get (pc' := 7) dX3_idByExpiry_4 rfl f_X3_9_3 rfl ?_
      try dsimp only
      refine zW.iconst (pc' := 8) (nI 2) dX3_idByExpiry_7 rfl (by decide) ?_
      first | refine zT.ald1 (pc' := 9) dX3_idByExpiry_8 rfl hD (by omega) ?_ | refine zT.ald4 (pc' := 9) dX3_idByExpiry_8 rfl hD (by omega) ?_
      try dsimp only
      refine zW.icmp_geN (pc' := 12) 46 dX3_idByExpiry_9 rfl (by decide) (by omega) (by omega) (fun b9 => ?_) (fun b9 => absurd b9 (by omega))
      refine zW.aload_n (pc' := 47) dX3_idByExpiry_46 rfl rfl zg0 rfl ?_
      refine zW.iconst (pc' := 48) (nI 1) dX3_idByExpiry_47 rfl (by decide) ?_
      refine zT.putN (pc' := 51) dX3_idByExpiry_48 rfl f_X3_30_3 (zFw.of ft_3_0 rfl rfl) rfl ?_
      try dsimp only
      refine zW.iconst (pc' := 52) (nI 0) dX3_idByExpiry_51 rfl (by decide) ?_
      refine zW.iret dX3_idByExpiry_52 rfl (rfl) ?_
      exact tO.q hW
    | succ m ih =>
      intro k F hk hW
      have hkl : k < w.1.2.1.length := by omega
      refine zW.iload_n (pc' := 3) dX3_idByExpiry_2 rfl rfl (zgS (zgS (zg0))) ?_
      refine zW.aload_n (pc' := 4) dX3_idByExpiry_3 rfl rfl zg0 rfl ?_
      refine zT.get (pc' := 7) dX3_idByExpiry_4 rfl f_X3_9_3 rfl ?_
      try dsimp only
      refine zW.iconst (pc' := 8) (nI 2) dX3_idByExpiry_7 rfl (by decide) ?_
      first | refine zT.ald1 (pc' := 9) dX3_idByExpiry_8 rfl hD (by omega) ?_ | refine zT.ald4 (pc' := 9) dX3_idByExpiry_8 rfl hD (by omega) ?_
      try dsimp only
      refine zW.icmp_geN (pc' := 12) 46 dX3_idByExpiry_9 rfl (by decide) (by omega) (by omega) (fun b9 => absurd b9 (by omega)) (fun b9 => ?_)
      refine zW.aload_n (pc' := 13) dX3_idByExpiry_12 rfl rfl zg0 rfl ?_
      refine zW.aload_n (pc' := 14) dX3_idByExpiry_13 rfl rfl zg0 rfl ?_
      refine zW.iload_n (pc' := 15) dX3_idByExpiry_14 rfl rfl (zgS (zgS (zg0))) ?_
      refine zT.call (pc' := 18) dX3_idByExpiry_15 rfl l_X3_155 rfl rfl (w_rankAt (T := (F, T.2)) hD hW.1 hB hkl) (zcc rfl zc0) rfl (Nat.le_of_ble_eq_true rfl) (Nat.le_of_ble_eq_true rfl) (Nat.le_of_ble_eq_true rfl) (fun _ _ ⟨e1, e2⟩ => ?_)
      subst e1; rw [e2]
      refine zW.iload_n (pc' := 19) dX3_idByExpiry_18 rfl rfl (zgS (zg0)) ?_
      refine zW.icmp_ne (pc' := 22) 26 dX3_idByExpiry_19 rfl (by decide) (fun b1 => ?_) (fun b1 => ?_)
      · have hs : sByExp w.1 p (m + 1) k = sByExp w.1 p m (k + 1) := by rw [sByExp, if_neg b1]
        rw [hs]
        refine zW.iconst (pc' := 27) (nI 0) dX3_idByExpiry_26 rfl (by decide) ?_
        refine zT.call (pc' := 30) dX3_idByExpiry_27 rfl l_X3_124 rfl rfl (w_fine0) (zcc rfl zc0) rfl (Nat.le_of_ble_eq_true rfl) (Nat.le_of_ble_eq_true rfl) (Nat.le_of_ble_eq_true rfl) (fun _ _ ⟨e1, e2⟩ => ?_)
        subst e1; rw [e2]
        refine zW.if_eqN (pc' := 33) 40 dX3_idByExpiry_30 rfl (by decide) (by omega) (fun b9 => ?_) (fun b9 => absurd b9 (by omega))
        refine zW.iincN (pc' := 43) (n := 1) dX3_idByExpiry_40 rfl (Nat.le_of_ble_eq_true rfl) (zgS (zgS (zg0))) (zsS (zsS (zs0))) ?_
        refine zW.goto 2 dX3_idByExpiry_43 (by decide) ?_
        exact ih (k + 1) _ (by omega) hW.th
      · have hs : sByExp w.1 p (m + 1) k = (0, nI (sAt w.1.2.1 k 0)) := by rw [sByExp, if_pos b1]
        rw [hs]
        refine zW.iconst (pc' := 23) (nI 1) dX3_idByExpiry_22 rfl (by decide) ?_
        refine zW.goto 27 dX3_idByExpiry_23 (by decide) ?_
        refine zT.call (pc' := 30) dX3_idByExpiry_27 rfl l_X3_124 rfl rfl (w_fine1) (zcc rfl zc0) rfl (Nat.le_of_ble_eq_true rfl) (Nat.le_of_ble_eq_true rfl) (Nat.le_of_ble_eq_true rfl) (fun _ _ ⟨e1, e2⟩ => ?_)
        subst e1; rw [e2]
        refine zW.if_eqN (pc' := 33) 40 dX3_idByExpiry_30 rfl (by decide) (by omega) (fun b9 => absurd b9 (by omega)) (fun b9 => ?_)
        refine zW.aload_n (pc' := 34) dX3_idByExpiry_33 rfl rfl zg0 rfl ?_
        refine zW.iload_n (pc' := 35) dX3_idByExpiry_34 rfl rfl (zgS (zgS (zg0))) ?_
        refine zW.iconst (pc' := 36) (nI 0) dX3_idByExpiry_35 rfl (by decide) ?_
        refine zT.call (pc' := 39) dX3_idByExpiry_36 rfl l_X3_43 rfl rfl (w_cS (T := (zu F 0 0, T.2)) hD hW.1 hkl (f := 0) (by omega)) (zcc rfl (zcc rfl zc0)) rfl (Nat.le_of_ble_eq_true rfl) (Nat.le_of_ble_eq_true rfl) (Nat.le_of_ble_eq_true rfl) (fun _ _ ⟨e1, e2⟩ => ?_)
        subst e1; rw [e2]
        refine zW.iret dX3_idByExpiry_39 rfl (rfl) ?_
        exact tO.q hW
  show zW G mX3_idByExpiry 4 0 0 [.ref a.1, .int p, zho] [] (tH h0 a T) _
  refine zW.iconst (pc' := 1) (nI 0) dX3_idByExpiry_0 rfl (by decide) ?_
  refine zW.istore_n (pc' := 2) dX3_idByExpiry_1 rfl rfl (Nat.le_of_ble_eq_true rfl) (zsS (zsS (zs0))) ?_
  exact loop _ 0 T.1 (Nat.zero_add _) hW
end
