/-! THE REFERENCE: copies, find, counts -/
section
set_option maxRecDepth 100000
variable {G : zG} {h0 : zH} {a : tA} {T : tS}
/-- the first k places of row f copied to row t -/
def tcp (A : Nat → Nat) (f t k : Nat) : Nat → Nat := fun j => if 130 * t ≤ j ∧ j < 130 * t + k then A (j - 130 * t + 130 * f) else A j
theorem tcp_0 {A : Nat → Nat} {f t : Nat} : tcp A f t 0 = A := by
  funext j; unfold tcp; rw [if_neg (by omega)]
theorem tcp_S {A : Nat → Nat} {f t k : Nat} (hft : f ≠ t) (hk : k < 130) : zu (tcp A f t k) (130 * t + k) (tcp A f t k (130 * f + k)) = tcp A f t (k + 1) := by
  funext j
  unfold zu tcp
  by_cases h1 : j = 130 * t + k
  · subst h1
    rw [if_pos rfl, if_neg (by omega), if_pos (by omega)]
    congr 1; omega
  · rw [if_neg h1]
    by_cases h2 : 130 * t ≤ j ∧ j < 130 * t + k
    · rw [if_pos h2, if_pos (by omega)]
    · rw [if_neg h2, if_neg (by omega)]
theorem w_copies (hD : tD a) {f t : Nat} (hf : f < 12) (ht : t < 12) (hft : f ≠ t) : zK G mX3_copies 1 0 [.ref a.1, .int (nI f), .int (nI t)] (tH h0 a T) (tQ h0 a fun v T' => v = none ∧ T' = (T.1, tcp T.2.1 f t 130, T.2.2)) := by
  have loop : ∀ n k, k + n = 130 → zW G mX3_copies 1 0 2 [.ref a.1, .int (nI f), .int (nI t), .int (nI k)] [] (tH h0 a (T.1, tcp T.2.1 f t k, T.2.2)) (tQ h0 a fun v T' => v = none ∧ T' = (T.1, tcp T.2.1 f t 130, T.2.2)) := by
    intro n
    induction n with
    | zero =>
      intro k hk
      have hk : k = 130 := by omega
      subst hk
      refine zW.iload_n (pc' := 3) dX3_copies_2 rfl rfl (zgS (zgS (zgS (zg0)))) ?_
      refine zW.sipush (pc' := 6) (nI 130) dX3_copies_3 rfl (by decide) ?_
      refine zW.icmp_geN (pc' := 9) 39 dX3_copies_6 rfl (by decide) (by omega) (by omega) (fun h1 => ?_) (fun h1 => ?_)
      · refine zW.vret dX3_copies_39 rfl ?_
        exact ⟨_, _, rfl, ⟨rfl, rfl⟩, rfl⟩
      · exact absurd h1 (by omega)
    | succ n ih =>
      intro k hk
      refine zW.iload_n (pc' := 3) dX3_copies_2 rfl rfl (zgS (zgS (zgS (zg0)))) ?_
      refine zW.sipush (pc' := 6) (nI 130) dX3_copies_3 rfl (by decide) ?_
      refine zW.icmp_geN (pc' := 9) 39 dX3_copies_6 rfl (by decide) (by omega) (by omega) (fun h1 => ?_) (fun h1 => ?_)
      · exact absurd h1 (by omega)
      · refine zW.aload_n (pc' := 10) dX3_copies_9 rfl rfl zg0 rfl ?_
        refine zT.get (pc' := 13) dX3_copies_10 rfl f_X3_9_3 rfl ?_
        refine zW.sipush (pc' := 16) (nI 130) dX3_copies_13 rfl (by decide) ?_
        refine zW.iload_n (pc' := 17) dX3_copies_16 rfl rfl (zgS (zgS (zg0))) ?_
        refine zW.imulN (pc' := 18) dX3_copies_17 rfl ?_
        refine zW.iload_n (pc' := 19) dX3_copies_18 rfl rfl (zgS (zgS (zgS (zg0)))) ?_
        refine zW.iaddN (pc' := 20) dX3_copies_19 rfl ?_
        refine zW.aload_n (pc' := 21) dX3_copies_20 rfl rfl zg0 rfl ?_
        refine zT.get (pc' := 24) dX3_copies_21 rfl f_X3_9_3 rfl ?_
        refine zW.sipush (pc' := 27) (nI 130) dX3_copies_24 rfl (by decide) ?_
        refine zW.iload_n (pc' := 28) dX3_copies_27 rfl rfl (zgS (zg0)) ?_
        refine zW.imulN (pc' := 29) dX3_copies_28 rfl ?_
        refine zW.iload_n (pc' := 30) dX3_copies_29 rfl rfl (zgS (zgS (zgS (zg0)))) ?_
        refine zW.iaddN (pc' := 31) dX3_copies_30 rfl ?_
        first | refine zT.ald1 (pc' := 32) dX3_copies_31 rfl hD (by omega) ?_ | refine zT.ald4 (pc' := 32) dX3_copies_31 rfl hD (by omega) ?_
        first | refine zT.ast1 (pc' := 33) dX3_copies_32 rfl hD (by omega) ?_ | refine zT.ast4 (pc' := 33) dX3_copies_32 rfl hD (by omega) ?_
        refine zW.iincN (pc' := 36) (n := 1) dX3_copies_33 rfl (Nat.le_of_ble_eq_true rfl) (zgS (zgS (zgS (zg0)))) (zsS (zsS (zsS (zs0)))) ?_
        refine zW.goto 2 dX3_copies_36 (by decide) ?_
        refine zW.congr (ih (k + 1) (by omega)) rfl rfl ?_
        rw [← tcp_S hft h1]
  show zW G mX3_copies 1 0 0 [.ref a.1, .int (nI f), .int (nI t), zho] [] (tH h0 a T) _
  refine zW.iconst (pc' := 1) (nI 0) dX3_copies_0 rfl (by decide) ?_
  refine zW.istore_n (pc' := 2) dX3_copies_1 rfl rfl (Nat.le_of_ble_eq_true rfl) (zsS (zsS (zsS (zs0)))) ?_
  refine zW.congr (loop 130 0 rfl) rfl rfl ?_
  rw [tcp_0]
theorem w_begins (hD : tD a) : zK G mX3_begins 2 0 [.ref a.1] (tH h0 a T) (tQ h0 a fun v T' => v = none ∧ T' = (T.1, tcp T.2.1 0 10 130, T.2.2)) := by
  show zW G mX3_begins 2 0 0 [.ref a.1] [] (tH h0 a T) _
  refine zW.aload_n (pc' := 1) dX3_begins_0 rfl rfl zg0 rfl ?_
  refine zW.iconst (pc' := 2) (nI 0) dX3_begins_1 rfl (by decide) ?_
  refine zW.bipush (pc' := 4) (nI 10) dX3_begins_2 rfl (by decide) ?_
  refine zT.call (pc' := 7) dX3_begins_4 rfl l_X3_33 rfl rfl (w_copies hD (by decide) (by decide) (by decide)) (zcc rfl (zcc rfl zc0)) rfl (Nat.le_of_ble_eq_true rfl) (Nat.le_of_ble_eq_true rfl) (Nat.le_of_ble_eq_true rfl) (fun _ _ ⟨e1, e2⟩ => ?_)
  subst e1; subst e2
  refine zW.vret dX3_begins_7 rfl ?_
  exact ⟨_, _, rfl, ⟨rfl, rfl⟩, rfl⟩
theorem w_phaseAt {w : Nat} (hw : w < 2 ^ 31) : zK G mX3_phaseAt 1 0 [.ref a.1, .int (nI w)] (tH h0 a T) (tQ h0 a fun v T' => v = some (.int (nI (w / 4 % 4))) ∧ T' = T) := by
  show zW G mX3_phaseAt 1 0 0 [.ref a.1, .int (nI w)] [] (tH h0 a T) _
  refine zW.iload_n (pc' := 1) dX3_phaseAt_0 rfl rfl (zgS (zg0)) ?_
  refine zW.iconst (pc' := 2) (nI 4) dX3_phaseAt_1 rfl (by decide) ?_
  refine zW.idivN (pc' := 3) dX3_phaseAt_2 rfl (by omega) (by decide) (by decide) ?_
  refine zW.iconst (pc' := 4) (nI 4) dX3_phaseAt_3 rfl (by decide) ?_
  refine zW.iremN (pc' := 5) dX3_phaseAt_4 rfl (by omega) (by decide) (by decide) ?_
  refine zW.iret dX3_phaseAt_5 rfl (rfl) ?_
  exact ⟨_, _, rfl, ⟨rfl, rfl⟩, rfl⟩
/-- find: the first place of an id -/
def tfd (A : Nat → Nat) (n : Nat) (id : Int32) (v : Int32) : Prop := (∃ k, k < n ∧ nI (A (22 + 8 * k)) = id ∧ (∀ j, j < k → nI (A (22 + 8 * j)) ≠ id) ∧ v = nI k) ∨ ((∀ j, j < n → nI (A (22 + 8 * j)) ≠ id) ∧ v = -1)
theorem w_find (hD : tD a) (hn : T.2.1 2 ≤ 12) {id : Int32} : zK G mX3_find 2 0 [.ref a.1, .int id] (tH h0 a T) (tQ h0 a fun v T' => (∃ x, v = some (.int x) ∧ tfd T.2.1 (T.2.1 2) id x) ∧ T' = T) := by
  have loop : ∀ n k, k + n = T.2.1 2 → (∀ j, j < k → nI (T.2.1 (22 + 8 * j)) ≠ id) → zW G mX3_find 2 0 2 [.ref a.1, .int id, .int (nI k)] [] (tH h0 a T) (tQ h0 a fun v T' => (∃ x, v = some (.int x) ∧ tfd T.2.1 (T.2.1 2) id x) ∧ T' = T) := by
    intro n
    induction n with
    | zero =>
      intro k hk hj
      have hk : k = T.2.1 2 := by omega
      refine zW.iload_n (pc' := 3) dX3_find_2 rfl rfl (zgS (zgS (zg0))) ?_
      refine zW.aload_n (pc' := 4) dX3_find_3 rfl rfl zg0 rfl ?_
      refine zT.get (pc' := 7) dX3_find_4 rfl f_X3_9_3 rfl ?_
      refine zW.iconst (pc' := 8) (nI 2) dX3_find_7 rfl (by decide) ?_
      first | refine zT.ald1 (pc' := 9) dX3_find_8 rfl hD (by omega) ?_ | refine zT.ald4 (pc' := 9) dX3_find_8 rfl hD (by omega) ?_
      refine zW.icmp_geN (pc' := 12) 30 dX3_find_9 rfl (by decide) (by omega) (by omega) (fun h1 => ?_) (fun h1 => ?_)
      · refine zW.iconst (pc' := 31) (-1) dX3_find_30 rfl (by decide) ?_
        refine zW.iret dX3_find_31 rfl (rfl) ?_
        exact ⟨_, _, rfl, ⟨⟨_, rfl, Or.inr ⟨by rw [← hk]; exact hj, rfl⟩⟩, rfl⟩, rfl⟩
      · exact absurd h1 (by omega)
    | succ n ih =>
      intro k hk hj
      refine zW.iload_n (pc' := 3) dX3_find_2 rfl rfl (zgS (zgS (zg0))) ?_
      refine zW.aload_n (pc' := 4) dX3_find_3 rfl rfl zg0 rfl ?_
      refine zT.get (pc' := 7) dX3_find_4 rfl f_X3_9_3 rfl ?_
      refine zW.iconst (pc' := 8) (nI 2) dX3_find_7 rfl (by decide) ?_
      first | refine zT.ald1 (pc' := 9) dX3_find_8 rfl hD (by omega) ?_ | refine zT.ald4 (pc' := 9) dX3_find_8 rfl hD (by omega) ?_
      refine zW.icmp_geN (pc' := 12) 30 dX3_find_9 rfl (by decide) (by omega) (by omega) (fun h1 => ?_) (fun h1 => ?_)
      · exact absurd h1 (by omega)
      · refine zW.aload_n (pc' := 13) dX3_find_12 rfl rfl zg0 rfl ?_
        refine zW.iload_n (pc' := 14) dX3_find_13 rfl rfl (zgS (zgS (zg0))) ?_
        refine zW.iconst (pc' := 15) (nI 0) dX3_find_14 rfl (by decide) ?_
        refine zT.call (pc' := 18) dX3_find_15 rfl l_X3_43 rfl rfl (w_c hD (by omega)) (zcc rfl (zcc rfl zc0)) rfl (Nat.le_of_ble_eq_true rfl) (Nat.le_of_ble_eq_true rfl) (Nat.le_of_ble_eq_true rfl) (fun _ _ ⟨e1, e2⟩ => ?_)
        subst e1; subst e2
        refine zW.iload_n (pc' := 19) dX3_find_18 rfl rfl (zgS (zg0)) ?_
        refine zW.icmp_ne (pc' := 22) 24 dX3_find_19 rfl (by decide) (fun h2 => ?_) (fun h2 => ?_)
        · refine zW.iincN (pc' := 27) (n := 1) dX3_find_24 rfl (Nat.le_of_ble_eq_true rfl) (zgS (zgS (zg0))) (zsS (zsS (zs0))) ?_
          refine zW.goto 2 dX3_find_27 (by decide) ?_
          exact ih (k + 1) (by omega) (fun j hj' => by
            rcases Nat.lt_succ_iff_lt_or_eq.mp hj' with q | q
            · exact hj j q
            · subst q; exact h2)
        · refine zW.iload_n (pc' := 23) dX3_find_22 rfl rfl (zgS (zgS (zg0))) ?_
          refine zW.iret dX3_find_23 rfl (rfl) ?_
          exact ⟨_, _, rfl, ⟨⟨_, rfl, Or.inl ⟨k, by omega, h2, hj, rfl⟩⟩, rfl⟩, rfl⟩
  show zW G mX3_find 2 0 0 [.ref a.1, .int id, zho] [] (tH h0 a T) _
  refine zW.iconst (pc' := 1) (nI 0) dX3_find_0 rfl (by decide) ?_
  refine zW.istore_n (pc' := 2) dX3_find_1 rfl rfl (Nat.le_of_ble_eq_true rfl) (zsS (zsS (zs0))) ?_
  exact loop _ 0 (Nat.zero_add _) (fun j hj => absurd hj (Nat.not_lt_zero j))
/-- how many of the first n places hold f -/
def tct (p : Nat → Bool) (n : Nat) : Nat := (List.range n).countP p
theorem tct_0 {p : Nat → Bool} : tct p 0 = 0 := rfl
theorem tct_S {p : Nat → Bool} {n : Nat} : tct p (n + 1) = tct p n + if p n = true then 1 else 0 := by
  unfold tct
  rw [List.range_succ, List.countP_append, List.countP_singleton]
theorem tct_le {p : Nat → Bool} {n : Nat} : tct p n ≤ n := by
  unfold tct
  exact Nat.le_trans List.countP_le_length (by rw [List.length_range]; exact Nat.le_refl n)
theorem w_signedBy (hD : tD a) (hn : T.2.1 2 ≤ 12) {f w : Nat} (hf : f < 8) (hw : w < 100) (hb : ∀ j, j < T.2.1 2 → T.2.1 (22 + 8 * j + f) < 2 ^ 31) : zK G mX3_signedBy 2 0 [.ref a.1, .int (nI f), .int (nI w)] (tH h0 a T) (tQ h0 a fun v T' => v = some (.int (nI (tct (fun k => T.2.1 (22 + 8 * k + f) = w + 1) (T.2.1 2)))) ∧ T' = T) := by
  have loop : ∀ n k, k + n = T.2.1 2 → zW G mX3_signedBy 2 0 5 [.ref a.1, .int (nI f), .int (nI w), .int (nI (tct (fun k => T.2.1 (22 + 8 * k + f) = w + 1) k)), .int (nI k)] [] (tH h0 a T) (tQ h0 a fun v T' => v = some (.int (nI (tct (fun k => T.2.1 (22 + 8 * k + f) = w + 1) (T.2.1 2)))) ∧ T' = T) := by
    intro n
    induction n with
    | zero =>
      intro k hk
      have hk : k = T.2.1 2 := by omega
      refine zW.iload (pc' := 7) dX3_signedBy_5 rfl (zgS (zgS (zgS (zgS (zg0))))) ?_
      refine zW.aload_n (pc' := 8) dX3_signedBy_7 rfl rfl zg0 rfl ?_
      refine zT.get (pc' := 11) dX3_signedBy_8 rfl f_X3_9_3 rfl ?_
      refine zW.iconst (pc' := 12) (nI 2) dX3_signedBy_11 rfl (by decide) ?_
      first | refine zT.ald1 (pc' := 13) dX3_signedBy_12 rfl hD (by omega) ?_ | refine zT.ald4 (pc' := 13) dX3_signedBy_12 rfl hD (by omega) ?_
      refine zW.icmp_geN (pc' := 16) 43 dX3_signedBy_13 rfl (by decide) (by omega) (by omega) (fun h1 => ?_) (fun h1 => ?_)
      · refine zW.iload_n (pc' := 44) dX3_signedBy_43 rfl rfl (zgS (zgS (zgS (zg0)))) ?_
        refine zW.iret dX3_signedBy_44 rfl (rfl) ?_
        exact ⟨_, _, rfl, ⟨by rw [hk], rfl⟩, rfl⟩
      · exact absurd h1 (by omega)
    | succ n ih =>
      intro k hk
      refine zW.iload (pc' := 7) dX3_signedBy_5 rfl (zgS (zgS (zgS (zgS (zg0))))) ?_
      refine zW.aload_n (pc' := 8) dX3_signedBy_7 rfl rfl zg0 rfl ?_
      refine zT.get (pc' := 11) dX3_signedBy_8 rfl f_X3_9_3 rfl ?_
      refine zW.iconst (pc' := 12) (nI 2) dX3_signedBy_11 rfl (by decide) ?_
      first | refine zT.ald1 (pc' := 13) dX3_signedBy_12 rfl hD (by omega) ?_ | refine zT.ald4 (pc' := 13) dX3_signedBy_12 rfl hD (by omega) ?_
      refine zW.icmp_geN (pc' := 16) 43 dX3_signedBy_13 rfl (by decide) (by omega) (by omega) (fun h1 => ?_) (fun h1 => ?_)
      · exact absurd h1 (by omega)
      · refine zW.iload_n (pc' := 17) dX3_signedBy_16 rfl rfl (zgS (zgS (zgS (zg0)))) ?_
        refine zW.aload_n (pc' := 18) dX3_signedBy_17 rfl rfl zg0 rfl ?_
        refine zW.iload (pc' := 20) dX3_signedBy_18 rfl (zgS (zgS (zgS (zgS (zg0))))) ?_
        refine zW.iload_n (pc' := 21) dX3_signedBy_20 rfl rfl (zgS (zg0)) ?_
        refine zT.call (pc' := 24) dX3_signedBy_21 rfl l_X3_43 rfl rfl (w_c hD (by omega)) (zcc rfl (zcc rfl zc0)) rfl (Nat.le_of_ble_eq_true rfl) (Nat.le_of_ble_eq_true rfl) (Nat.le_of_ble_eq_true rfl) (fun _ _ ⟨e1, e2⟩ => ?_)
        subst e1; subst e2
        have hbk := hb k (by omega)
        refine zW.iload_n (pc' := 25) dX3_signedBy_24 rfl rfl (zgS (zgS (zg0))) ?_
        refine zW.iconst (pc' := 26) (nI 1) dX3_signedBy_25 rfl (by decide) ?_
        refine zW.iaddN (pc' := 27) dX3_signedBy_26 rfl ?_
        refine zW.icmp_neN (pc' := 30) 34 dX3_signedBy_27 rfl (by decide) (by omega) (by omega) (fun h2 => ?_) (fun h2 => ?_)
        · refine zW.iconst (pc' := 35) (nI 0) dX3_signedBy_34 rfl (by decide) ?_
          refine zW.iaddN (pc' := 36) dX3_signedBy_35 rfl ?_
          refine zW.istore_n (pc' := 37) dX3_signedBy_36 rfl rfl (Nat.le_of_ble_eq_true rfl) (zsS (zsS (zsS (zs0)))) ?_
          refine zW.iincN (pc' := 40) (n := 1) dX3_signedBy_37 rfl (Nat.le_of_ble_eq_true rfl) (zgS (zgS (zgS (zgS (zg0))))) (zsS (zsS (zsS (zsS (zs0))))) ?_
          refine zW.goto 5 dX3_signedBy_40 (by decide) ?_
          refine zW.congr (ih (k + 1) (by omega)) ?_ rfl rfl
          rw [tct_S, if_neg (by simpa using h2)]
        · refine zW.iconst (pc' := 31) (nI 1) dX3_signedBy_30 rfl (by decide) ?_
          refine zW.goto 35 dX3_signedBy_31 (by decide) ?_
          refine zW.iaddN (pc' := 36) dX3_signedBy_35 rfl ?_
          refine zW.istore_n (pc' := 37) dX3_signedBy_36 rfl rfl (Nat.le_of_ble_eq_true rfl) (zsS (zsS (zsS (zs0)))) ?_
          refine zW.iincN (pc' := 40) (n := 1) dX3_signedBy_37 rfl (Nat.le_of_ble_eq_true rfl) (zgS (zgS (zgS (zgS (zg0))))) (zsS (zsS (zsS (zsS (zs0))))) ?_
          refine zW.goto 5 dX3_signedBy_40 (by decide) ?_
          refine zW.congr (ih (k + 1) (by omega)) ?_ rfl rfl
          rw [tct_S, if_pos (by simpa using h2)]
  show zW G mX3_signedBy 2 0 0 [.ref a.1, .int (nI f), .int (nI w), zho, zho] [] (tH h0 a T) _
  refine zW.iconst (pc' := 1) (nI 0) dX3_signedBy_0 rfl (by decide) ?_
  refine zW.istore_n (pc' := 2) dX3_signedBy_1 rfl rfl (Nat.le_of_ble_eq_true rfl) (zsS (zsS (zsS (zs0)))) ?_
  refine zW.iconst (pc' := 3) (nI 0) dX3_signedBy_2 rfl (by decide) ?_
  refine zW.istore (pc' := 5) dX3_signedBy_3 rfl (Nat.le_of_ble_eq_true rfl) (zsS (zsS (zsS (zsS (zs0))))) ?_
  exact loop _ 0 (Nat.zero_add _)
/-- the place of an id in the queue -/
def tpq (A : Nat → Nat) (n : Nat) (id : Nat) (v : Int32) : Prop := (∃ k, k < n ∧ A (118 + k) = id ∧ (∀ j, j < k → A (118 + j) ≠ id) ∧ v = nI k) ∨ ((∀ j, j < n → A (118 + j) ≠ id) ∧ v = -1)
theorem w_placeInQueue (hD : tD a) (hn : T.2.1 2 ≤ 12) {id : Nat} (hid : id < 2 ^ 31) (hb : ∀ j, j < T.2.1 2 → T.2.1 (118 + j) < 2 ^ 31) : zK G mX3_placeInQueue 2 0 [.ref a.1, .int (nI id)] (tH h0 a T) (tQ h0 a fun v T' => (∃ x, v = some (.int x) ∧ tpq T.2.1 (T.2.1 2) id x) ∧ T' = T) := by
  have loop : ∀ n k, k + n = T.2.1 2 → (∀ j, j < k → T.2.1 (118 + j) ≠ id) → zW G mX3_placeInQueue 2 0 2 [.ref a.1, .int (nI id), .int (nI k)] [] (tH h0 a T) (tQ h0 a fun v T' => (∃ x, v = some (.int x) ∧ tpq T.2.1 (T.2.1 2) id x) ∧ T' = T) := by
    intro n
    induction n with
    | zero =>
      intro k hk hj
      have hk : k = T.2.1 2 := by omega
      refine zW.iload_n (pc' := 3) dX3_placeInQueue_2 rfl rfl (zgS (zgS (zg0))) ?_
      refine zW.aload_n (pc' := 4) dX3_placeInQueue_3 rfl rfl zg0 rfl ?_
      refine zT.get (pc' := 7) dX3_placeInQueue_4 rfl f_X3_9_3 rfl ?_
      refine zW.iconst (pc' := 8) (nI 2) dX3_placeInQueue_7 rfl (by decide) ?_
      first | refine zT.ald1 (pc' := 9) dX3_placeInQueue_8 rfl hD (by omega) ?_ | refine zT.ald4 (pc' := 9) dX3_placeInQueue_8 rfl hD (by omega) ?_
      refine zW.icmp_geN (pc' := 12) 33 dX3_placeInQueue_9 rfl (by decide) (by omega) (by omega) (fun h1 => ?_) (fun h1 => ?_)
      · refine zW.iconst (pc' := 34) (-1) dX3_placeInQueue_33 rfl (by decide) ?_
        refine zW.iret dX3_placeInQueue_34 rfl (rfl) ?_
        exact ⟨_, _, rfl, ⟨⟨_, rfl, Or.inr ⟨by rw [← hk]; exact hj, rfl⟩⟩, rfl⟩, rfl⟩
      · exact absurd h1 (by omega)
    | succ n ih =>
      intro k hk hj
      refine zW.iload_n (pc' := 3) dX3_placeInQueue_2 rfl rfl (zgS (zgS (zg0))) ?_
      refine zW.aload_n (pc' := 4) dX3_placeInQueue_3 rfl rfl zg0 rfl ?_
      refine zT.get (pc' := 7) dX3_placeInQueue_4 rfl f_X3_9_3 rfl ?_
      refine zW.iconst (pc' := 8) (nI 2) dX3_placeInQueue_7 rfl (by decide) ?_
      first | refine zT.ald1 (pc' := 9) dX3_placeInQueue_8 rfl hD (by omega) ?_ | refine zT.ald4 (pc' := 9) dX3_placeInQueue_8 rfl hD (by omega) ?_
      refine zW.icmp_geN (pc' := 12) 33 dX3_placeInQueue_9 rfl (by decide) (by omega) (by omega) (fun h1 => ?_) (fun h1 => ?_)
      · exact absurd h1 (by omega)
      · have hbk := hb k (by omega)
        refine zW.aload_n (pc' := 13) dX3_placeInQueue_12 rfl rfl zg0 rfl ?_
        refine zT.get (pc' := 16) dX3_placeInQueue_13 rfl f_X3_9_3 rfl ?_
        refine zW.bipush (pc' := 18) (nI 118) dX3_placeInQueue_16 rfl (by decide) ?_
        refine zW.iload_n (pc' := 19) dX3_placeInQueue_18 rfl rfl (zgS (zgS (zg0))) ?_
        refine zW.iaddN (pc' := 20) dX3_placeInQueue_19 rfl ?_
        first | refine zT.ald1 (pc' := 21) dX3_placeInQueue_20 rfl hD (by omega) ?_ | refine zT.ald4 (pc' := 21) dX3_placeInQueue_20 rfl hD (by omega) ?_
        refine zW.iload_n (pc' := 22) dX3_placeInQueue_21 rfl rfl (zgS (zg0)) ?_
        refine zW.icmp_neN (pc' := 25) 27 dX3_placeInQueue_22 rfl (by decide) (by omega) (by omega) (fun h2 => ?_) (fun h2 => ?_)
        · refine zW.iincN (pc' := 30) (n := 1) dX3_placeInQueue_27 rfl (Nat.le_of_ble_eq_true rfl) (zgS (zgS (zg0))) (zsS (zsS (zs0))) ?_
          refine zW.goto 2 dX3_placeInQueue_30 (by decide) ?_
          exact ih (k + 1) (by omega) (fun j hj' => by
            rcases Nat.lt_succ_iff_lt_or_eq.mp hj' with q | q
            · exact hj j q
            · subst q; exact h2)
        · refine zW.iload_n (pc' := 26) dX3_placeInQueue_25 rfl rfl (zgS (zgS (zg0))) ?_
          refine zW.iret dX3_placeInQueue_26 rfl (rfl) ?_
          exact ⟨_, _, rfl, ⟨⟨_, rfl, Or.inl ⟨k, by omega, h2, hj, rfl⟩⟩, rfl⟩, rfl⟩
  show zW G mX3_placeInQueue 2 0 0 [.ref a.1, .int (nI id), zho] [] (tH h0 a T) _
  refine zW.iconst (pc' := 1) (nI 0) dX3_placeInQueue_0 rfl (by decide) ?_
  refine zW.istore_n (pc' := 2) dX3_placeInQueue_1 rfl rfl (Nat.le_of_ble_eq_true rfl) (zsS (zsS (zs0))) ?_
  exact loop _ 0 (Nat.zero_add _) (fun j hj => absurd hj (Nat.not_lt_zero j))
end
