/-! THE REFERENCE's questions: next expiry, the queue, pairs -/
section
set_option maxRecDepth 100000
variable {G : zG} {h0 : zH} {a : tA} {T : tS} {tt nn n : Nat}
def sSoon (s : sS) : Nat → Nat
  | 0 => sAt s.2.1 0 4
  | k + 1 => if sAt s.2.1 (k + 1) 4 < sSoon s k then sAt s.2.1 (k + 1) 4 else sSoon s k
theorem sSoon_lt {s : sS} (hB : tB s) {k : Nat} (hk : k < s.2.1.length) : sSoon s k < 2 ^ 30 := by
  induction k with
  | zero => exact hB.at hk (by decide)
  | succ k ih =>
    unfold sSoon
    split
    · exact hB.at hk (by decide)
    · exact ih (by omega)
def qNext (s : sS) : Nat × Int32 := if s.2.1.length = 0 then (1, nI 0) else (0, nI (sSoon s (s.2.1.length - 1)))
theorem w_nextExpiry (hD : tD a) {w : sW} (hW : tW T w) (hB : tB w.1) : zK G mX3_nextExpiry 4 0 [.ref a.1] (tH h0 a T) (tAns h0 a w (qNext w.1)) := by
  have hac := hW.1.ac
  have h12 := hW.1.n12
  have loop : ∀ n k, k + n + 1 = w.1.2.1.length → zW G mX3_nextExpiry 4 0 32 [.ref a.1, .int (nI (sSoon w.1 k)), .int (nI (k + 1))] [] (tH h0 a (zu T.1 0 0, T.2)) (tAns h0 a w (0, nI (sSoon w.1 (w.1.2.1.length - 1)))) := by
    intro n
    induction n with
    | zero =>
      intro k hk
      have hk : k = w.1.2.1.length - 1 := by omega
      subst hk
      refine zW.iload_n (pc' := 33) dX3_nextExpiry_32 rfl rfl (zgS (zgS (zg0))) ?_
      refine zW.aload_n (pc' := 34) dX3_nextExpiry_33 rfl rfl zg0 rfl ?_
      refine zT.get (pc' := 37) dX3_nextExpiry_34 rfl f_X3_9_3 rfl ?_
      try dsimp only
      refine zW.iconst (pc' := 38) (nI 2) dX3_nextExpiry_37 rfl (by decide) ?_
      first | refine zT.ald1 (pc' := 39) dX3_nextExpiry_38 rfl hD (by omega) ?_ | refine zT.ald4 (pc' := 39) dX3_nextExpiry_38 rfl hD (by omega) ?_
      try dsimp only
      refine zW.icmp_geN (pc' := 42) 69 dX3_nextExpiry_39 rfl (by decide) (by omega) (by omega) (fun b9 => ?_) (fun b9 => absurd b9 (by omega))
      refine zW.iload_n (pc' := 70) dX3_nextExpiry_69 rfl rfl (zgS (zg0)) ?_
      refine zW.iret dX3_nextExpiry_70 rfl (rfl) ?_
      exact tO.q hW
    | succ n ih =>
      intro k hk
      have c1 := hB.at (i := k + 1) (f := 4) (by omega) (by omega)
      have c2 := sSoon_lt hB (k := k) (by omega)
      refine zW.iload_n (pc' := 33) dX3_nextExpiry_32 rfl rfl (zgS (zgS (zg0))) ?_
      refine zW.aload_n (pc' := 34) dX3_nextExpiry_33 rfl rfl zg0 rfl ?_
      refine zT.get (pc' := 37) dX3_nextExpiry_34 rfl f_X3_9_3 rfl ?_
      try dsimp only
      refine zW.iconst (pc' := 38) (nI 2) dX3_nextExpiry_37 rfl (by decide) ?_
      first | refine zT.ald1 (pc' := 39) dX3_nextExpiry_38 rfl hD (by omega) ?_ | refine zT.ald4 (pc' := 39) dX3_nextExpiry_38 rfl hD (by omega) ?_
      try dsimp only
      refine zW.icmp_geN (pc' := 42) 69 dX3_nextExpiry_39 rfl (by decide) (by omega) (by omega) (fun b9 => absurd b9 (by omega)) (fun b9 => ?_)
      refine zW.aload_n (pc' := 43) dX3_nextExpiry_42 rfl rfl zg0 rfl ?_
      refine zW.iload_n (pc' := 44) dX3_nextExpiry_43 rfl rfl (zgS (zgS (zg0))) ?_
      refine zW.iconst (pc' := 45) (nI 4) dX3_nextExpiry_44 rfl (by decide) ?_
      refine zT.call (pc' := 48) dX3_nextExpiry_45 rfl l_X3_43 rfl rfl (w_cS (T := (zu T.1 0 0, T.2)) hD hW.1 (k := k + 1) (f := 4) (by omega) (by omega)) (zcc rfl (zcc rfl zc0)) rfl (Nat.le_of_ble_eq_true rfl) (Nat.le_of_ble_eq_true rfl) (Nat.le_of_ble_eq_true rfl) (fun _ _ ⟨e1, e2⟩ => ?_)
      subst e1; rw [e2]
      refine zW.iload_n (pc' := 49) dX3_nextExpiry_48 rfl rfl (zgS (zg0)) ?_
      refine zW.icmp_geN (pc' := 52) 61 dX3_nextExpiry_49 rfl (by decide) (by omega) (by omega) (fun b1 => ?_) (fun b1 => ?_)
      · refine zW.iload_n (pc' := 62) dX3_nextExpiry_61 rfl rfl (zgS (zg0)) ?_
        refine zW.istore_n (pc' := 63) dX3_nextExpiry_62 rfl rfl (Nat.le_of_ble_eq_true rfl) (zsS (zs0)) ?_
        refine zW.iincN (pc' := 66) (n := 1) dX3_nextExpiry_63 rfl (Nat.le_of_ble_eq_true rfl) (zgS (zgS (zg0))) (zsS (zsS (zs0))) ?_
        refine zW.goto 32 dX3_nextExpiry_66 (by decide) ?_
        refine zW.congr (ih (k + 1) (by omega)) ?_ rfl rfl
        show _ = [_, Value.int (nI (sSoon w.1 (k + 1))), _]
        rw [sSoon, if_neg (by omega)]
      · refine zW.aload_n (pc' := 53) dX3_nextExpiry_52 rfl rfl zg0 rfl ?_
        refine zW.iload_n (pc' := 54) dX3_nextExpiry_53 rfl rfl (zgS (zgS (zg0))) ?_
        refine zW.iconst (pc' := 55) (nI 4) dX3_nextExpiry_54 rfl (by decide) ?_
        refine zT.call (pc' := 58) dX3_nextExpiry_55 rfl l_X3_43 rfl rfl (w_cS (T := (zu T.1 0 0, T.2)) hD hW.1 (k := k + 1) (f := 4) (by omega) (by omega)) (zcc rfl (zcc rfl zc0)) rfl (Nat.le_of_ble_eq_true rfl) (Nat.le_of_ble_eq_true rfl) (Nat.le_of_ble_eq_true rfl) (fun _ _ ⟨e1, e2⟩ => ?_)
        subst e1; rw [e2]
        refine zW.goto 62 dX3_nextExpiry_58 (by decide) ?_
        refine zW.istore_n (pc' := 63) dX3_nextExpiry_62 rfl rfl (Nat.le_of_ble_eq_true rfl) (zsS (zs0)) ?_
        refine zW.iincN (pc' := 66) (n := 1) dX3_nextExpiry_63 rfl (Nat.le_of_ble_eq_true rfl) (zgS (zgS (zg0))) (zsS (zsS (zs0))) ?_
        refine zW.goto 32 dX3_nextExpiry_66 (by decide) ?_
        refine zW.congr (ih (k + 1) (by omega)) ?_ rfl rfl
        show _ = [_, Value.int (nI (sSoon w.1 (k + 1))), _]
        rw [sSoon, if_pos (by omega)]
  show zW G mX3_nextExpiry 4 0 0 [.ref a.1, zho, zho] [] (tH h0 a T) _
  unfold qNext
  refine zW.aload_n (pc' := 1) dX3_nextExpiry_0 rfl rfl zg0 rfl ?_
  refine zW.aload_n (pc' := 2) dX3_nextExpiry_1 rfl rfl zg0 rfl ?_
  refine zT.get (pc' := 5) dX3_nextExpiry_2 rfl f_X3_9_3 rfl ?_
  try dsimp only
  refine zW.iconst (pc' := 6) (nI 2) dX3_nextExpiry_5 rfl (by decide) ?_
  first | refine zT.ald1 (pc' := 7) dX3_nextExpiry_6 rfl hD (by omega) ?_ | refine zT.ald4 (pc' := 7) dX3_nextExpiry_6 rfl hD (by omega) ?_
  try dsimp only
  rw [hac]
  refine zW.if_leN (pc' := 10) 14 dX3_nextExpiry_7 rfl (by decide) (by omega) (fun b1 => ?_) (fun b1 => ?_)
  · rw [if_pos b1]
    refine zW.iconst (pc' := 15) (nI 0) dX3_nextExpiry_14 rfl (by decide) ?_
    refine zT.call (pc' := 18) dX3_nextExpiry_15 rfl l_X3_124 rfl rfl (w_fine0) (zcc rfl zc0) rfl (Nat.le_of_ble_eq_true rfl) (Nat.le_of_ble_eq_true rfl) (Nat.le_of_ble_eq_true rfl) (fun _ _ ⟨e1, e2⟩ => ?_)
    subst e1; rw [e2]
    refine zW.if_neN (pc' := 21) 23 dX3_nextExpiry_18 rfl (by decide) (by omega) (fun b9 => absurd b9 (by omega)) (fun b9 => ?_)
    refine zW.iconst (pc' := 22) (nI 0) dX3_nextExpiry_21 rfl (by decide) ?_
    refine zW.iret dX3_nextExpiry_22 rfl (rfl) ?_
    exact tO.q hW
  · rw [if_neg b1]
    refine zW.iconst (pc' := 11) (nI 1) dX3_nextExpiry_10 rfl (by decide) ?_
    refine zW.goto 15 dX3_nextExpiry_11 (by decide) ?_
    refine zT.call (pc' := 18) dX3_nextExpiry_15 rfl l_X3_124 rfl rfl (w_fine1) (zcc rfl zc0) rfl (Nat.le_of_ble_eq_true rfl) (Nat.le_of_ble_eq_true rfl) (Nat.le_of_ble_eq_true rfl) (fun _ _ ⟨e1, e2⟩ => ?_)
    subst e1; rw [e2]
    refine zW.if_neN (pc' := 21) 23 dX3_nextExpiry_18 rfl (by decide) (by omega) (fun b9 => ?_) (fun b9 => absurd b9 (by omega))
    refine zW.aload_n (pc' := 24) dX3_nextExpiry_23 rfl rfl zg0 rfl ?_
    refine zW.iconst (pc' := 25) (nI 0) dX3_nextExpiry_24 rfl (by decide) ?_
    refine zW.iconst (pc' := 26) (nI 4) dX3_nextExpiry_25 rfl (by decide) ?_
    refine zT.call (pc' := 29) dX3_nextExpiry_26 rfl l_X3_43 rfl rfl (w_cS (T := (zu T.1 0 0, T.2)) hD hW.1 (k := 0) (f := 4) (by omega) (by omega)) (zcc rfl (zcc rfl zc0)) rfl (Nat.le_of_ble_eq_true rfl) (Nat.le_of_ble_eq_true rfl) (Nat.le_of_ble_eq_true rfl) (fun _ _ ⟨e1, e2⟩ => ?_)
    subst e1; rw [e2]
    refine zW.istore_n (pc' := 30) dX3_nextExpiry_29 rfl rfl (Nat.le_of_ble_eq_true rfl) (zsS (zs0)) ?_
    refine zW.iconst (pc' := 31) (nI 1) dX3_nextExpiry_30 rfl (by decide) ?_
    refine zW.istore_n (pc' := 32) dX3_nextExpiry_31 rfl rfl (Nat.le_of_ble_eq_true rfl) (zsS (zsS (zs0))) ?_
    exact loop (w.1.2.1.length - 1) 0 (by omega)
def qNextAudit (s : sS) : Nat × Int32 := match s.2.2.1 with | [] => (1, nI 0) | q :: _ => (0, nI q)
theorem w_nextToAudit (hD : tD a) {w : sW} (hW : tW T w) : zK G mX3_nextToAudit 4 0 [.ref a.1] (tH h0 a T) (tAns h0 a w (qNextAudit w.1)) := by
  have hac := hW.1.ac
  have h12 := hW.1.n12
  have hql := hW.1.2.2.2.2.2.2.2.1
  have hq0 : ∀ i (h : i < w.1.2.2.1.length), T.2.1 (118 + i) = w.1.2.2.1[i] := fun i h => hW.1.qu h
  unfold qNextAudit
  generalize w.1.2.2.1 = q at *
  show zW G mX3_nextToAudit 4 0 0 [.ref a.1] [] (tH h0 a T) _
  refine zW.aload_n (pc' := 1) dX3_nextToAudit_0 rfl rfl zg0 rfl ?_
  refine zW.aload_n (pc' := 2) dX3_nextToAudit_1 rfl rfl zg0 rfl ?_
  refine zT.get (pc' := 5) dX3_nextToAudit_2 rfl f_X3_9_3 rfl ?_
  try dsimp only
  refine zW.iconst (pc' := 6) (nI 2) dX3_nextToAudit_5 rfl (by decide) ?_
  first | refine zT.ald1 (pc' := 7) dX3_nextToAudit_6 rfl hD (by omega) ?_ | refine zT.ald4 (pc' := 7) dX3_nextToAudit_6 rfl hD (by omega) ?_
  try dsimp only
  rw [hac]
  cases q with
  | nil =>
    rw [List.length_nil] at hql
    refine zW.if_leN (pc' := 10) 14 dX3_nextToAudit_7 rfl (by decide) (by omega) (fun b9 => ?_) (fun b9 => absurd b9 (by omega))
    refine zW.iconst (pc' := 15) (nI 0) dX3_nextToAudit_14 rfl (by decide) ?_
    refine zT.call (pc' := 18) dX3_nextToAudit_15 rfl l_X3_124 rfl rfl (w_fine0) (zcc rfl zc0) rfl (Nat.le_of_ble_eq_true rfl) (Nat.le_of_ble_eq_true rfl) (Nat.le_of_ble_eq_true rfl) (fun _ _ ⟨e1, e2⟩ => ?_)
    subst e1; rw [e2]
    refine zW.if_eqN (pc' := 21) 31 dX3_nextToAudit_18 rfl (by decide) (by omega) (fun b9 => ?_) (fun b9 => absurd b9 (by omega))
    refine zW.iconst (pc' := 32) (nI 0) dX3_nextToAudit_31 rfl (by decide) ?_
    refine zW.iret dX3_nextToAudit_32 rfl (rfl) ?_
    exact tO.q hW
  | cons q qs =>
    rw [List.length_cons] at hql
    have h118 : T.2.1 118 = q := hq0 0 (by simp)
    refine zW.if_leN (pc' := 10) 14 dX3_nextToAudit_7 rfl (by decide) (by omega) (fun b9 => absurd b9 (by omega)) (fun b9 => ?_)
    refine zW.iconst (pc' := 11) (nI 1) dX3_nextToAudit_10 rfl (by decide) ?_
    refine zW.goto 15 dX3_nextToAudit_11 (by decide) ?_
    refine zT.call (pc' := 18) dX3_nextToAudit_15 rfl l_X3_124 rfl rfl (w_fine1) (zcc rfl zc0) rfl (Nat.le_of_ble_eq_true rfl) (Nat.le_of_ble_eq_true rfl) (Nat.le_of_ble_eq_true rfl) (fun _ _ ⟨e1, e2⟩ => ?_)
    subst e1; rw [e2]
    refine zW.if_eqN (pc' := 21) 31 dX3_nextToAudit_18 rfl (by decide) (by omega) (fun b9 => absurd b9 (by omega)) (fun b9 => ?_)
    refine zW.aload_n (pc' := 22) dX3_nextToAudit_21 rfl rfl zg0 rfl ?_
    refine zT.get (pc' := 25) dX3_nextToAudit_22 rfl f_X3_9_3 rfl ?_
    try dsimp only
    refine zW.bipush (pc' := 27) (nI 118) dX3_nextToAudit_25 rfl (by decide) ?_
    first | refine zT.ald1 (pc' := 28) dX3_nextToAudit_27 rfl hD (by omega) ?_ | refine zT.ald4 (pc' := 28) dX3_nextToAudit_27 rfl hD (by omega) ?_
    try dsimp only
    rw [h118]
    refine zW.goto 32 dX3_nextToAudit_28 (by decide) ?_
    refine zW.iret dX3_nextToAudit_32 rfl (rfl) ?_
    exact tO.q hW
def qAuditPos (s : sS) (id : Int32) : Nat × Int32 := match sFind s.2.1 id with | none => (1, nI 0) | some i => (0, nI (s.2.2.1.idxOf (sAt s.2.1 i 0)))
theorem idxOf_at {q : Nat} : ∀ {l : List Nat} {k : Nat}, l[k]? = some q → (∀ j, j < k → l[j]? ≠ some q) → l.idxOf q = k
  | [], k, h, _ => by simp at h
  | x :: l, 0, h, _ => by
    have e : x = q := by simpa using h
    subst e
    simp
  | x :: l, k + 1, h, hj => by
    have hx : x ≠ q := fun e => hj 0 (by omega) (by simp [e])
    rw [List.idxOf_cons, show (x == q) = false by simpa using hx]
    show List.idxOf q l + 1 = k + 1
    rw [idxOf_at (k := k) (by simpa using h) (fun j hj' => by simpa using hj (j + 1) (by omega))]
theorem w_placeS (hD : tD a) {s : sS} (hR : tR T.2.1 0 s) (hB : tB s) {id : Nat} (hq : id ∈ s.2.2.1) : zK G mX3_placeInQueue 2 0 [.ref a.1, .int (nI id)] (tH h0 a T) (tQ h0 a fun v T' => v = some (.int (nI (s.2.2.1.idxOf id))) ∧ T' = T) := by
  have hac := hR.ac
  have hql := hR.2.2.2.2.2.2.2.1
  have hA : ∀ j, j < s.2.2.1.length → s.2.2.1[j]? = some (T.2.1 (118 + j)) := fun j hj => by rw [hR.qu hj, List.getElem?_eq_getElem hj]
  refine zW.post (w_placeInQueue hD hR.n12 (id := id) (Nat.lt_trans (hB.2.1 id hq) (by decide)) (fun j hj => ?_)) fun o h' ⟨v, T', e1, ⟨⟨x, e2, e3⟩, e4⟩, e5⟩ => ⟨v, T', e1, ⟨?_, e4⟩, e5⟩
  · rw [hR.qu (by omega)]
    exact Nat.lt_trans (hB.2.1 _ (List.getElem_mem _)) (by decide)
  · rw [e2]
    rcases e3 with ⟨k, q1, q2, q3, q4⟩ | ⟨q1, -⟩
    · rw [q4, idxOf_at (k := k) (by rw [hA k (by omega), q2]) (fun j hj => by rw [hA j (by omega)]; exact fun e => q3 j hj (Option.some.inj e))]
    · obtain ⟨j, hj, e⟩ := List.getElem_of_mem hq
      exact absurd (by rw [hR.qu hj, e]) (q1 j (by omega))
theorem sFind_id {s : sS} {id : Int32} {i : Nat} (h : sFind s.2.1 id = some i) : nI (sAt s.2.1 i 0) = id := by
  unfold sFind at h
  obtain ⟨h1, h2, -⟩ := List.findIdx?_eq_some_iff_getElem.mp h
  rw [sAt_of (List.getElem?_eq_getElem h1)]
  exact of_decide_eq_true h2
theorem w_auditPosition (hD : tD a) {w : sW} (hW : tW T w) (hB : tB w.1) (hQ : ∀ i, i < w.1.2.1.length → sAt w.1.2.1 i 0 ∈ w.1.2.2.1) {id : Int32} : zK G mX3_auditPosition 4 0 [.ref a.1, .int id] (tH h0 a T) (tAns h0 a w (qAuditPos w.1 id)) := by
  unfold qAuditPos
  show zW G mX3_auditPosition 4 0 0 [.ref a.1, .int id] [] (tH h0 a T) _
  rcases sFind_c hW.1 (id := id) with q | ⟨k, q, hk, hk2⟩
  · rw [q]
    refine zW.aload_n (pc' := 1) dX3_auditPosition_0 rfl rfl zg0 rfl ?_
    refine zW.aload_n (pc' := 2) dX3_auditPosition_1 rfl rfl zg0 rfl ?_
    refine zW.iload_n (pc' := 3) dX3_auditPosition_2 rfl rfl (zgS (zg0)) ?_
    refine zT.call (pc' := 6) dX3_auditPosition_3 rfl l_X3_76 rfl rfl (w_find0 hD hW.1 q) (zcc rfl zc0) rfl (Nat.le_of_ble_eq_true rfl) (Nat.le_of_ble_eq_true rfl) (Nat.le_of_ble_eq_true rfl) (fun _ _ ⟨e1, e2⟩ => ?_)
    subst e1; rw [e2]
    refine zW.if_lt (pc' := 9) 13 dX3_auditPosition_6 rfl (by decide) (fun b1 => ?_) (fun b1 => ?_)
    rotate_left
    · exact absurd b1 (by decide)
    refine zW.iconst (pc' := 14) (nI 0) dX3_auditPosition_13 rfl (by decide) ?_
    refine zT.call (pc' := 17) dX3_auditPosition_14 rfl l_X3_124 rfl rfl (w_fine0) (zcc rfl zc0) rfl (Nat.le_of_ble_eq_true rfl) (Nat.le_of_ble_eq_true rfl) (Nat.le_of_ble_eq_true rfl) (fun _ _ ⟨e1, e2⟩ => ?_)
    subst e1; rw [e2]
    refine zW.if_eqN (pc' := 20) 28 dX3_auditPosition_17 rfl (by decide) (by omega) (fun b9 => ?_) (fun b9 => absurd b9 (by omega))
    refine zW.iconst (pc' := 29) (nI 0) dX3_auditPosition_28 rfl (by decide) ?_
    refine zW.iret dX3_auditPosition_29 rfl (rfl) ?_
    exact tO.q hW
  · rw [q]
    refine zW.aload_n (pc' := 1) dX3_auditPosition_0 rfl rfl zg0 rfl ?_
    refine zW.aload_n (pc' := 2) dX3_auditPosition_1 rfl rfl zg0 rfl ?_
    refine zW.iload_n (pc' := 3) dX3_auditPosition_2 rfl rfl (zgS (zg0)) ?_
    refine zT.call (pc' := 6) dX3_auditPosition_3 rfl l_X3_76 rfl rfl (w_find1 hD hW.1 q) (zcc rfl zc0) rfl (Nat.le_of_ble_eq_true rfl) (Nat.le_of_ble_eq_true rfl) (Nat.le_of_ble_eq_true rfl) (fun _ _ ⟨e1, e2⟩ => ?_)
    subst e1; rw [e2]
    refine zW.if_ltN (pc' := 9) (tg := 13) dX3_auditPosition_6 rfl (by decide) (by omega) ?_
    refine zW.iconst (pc' := 10) (nI 1) dX3_auditPosition_9 rfl (by decide) ?_
    refine zW.goto 14 dX3_auditPosition_10 (by decide) ?_
    refine zT.call (pc' := 17) dX3_auditPosition_14 rfl l_X3_124 rfl rfl (w_fine1) (zcc rfl zc0) rfl (Nat.le_of_ble_eq_true rfl) (Nat.le_of_ble_eq_true rfl) (Nat.le_of_ble_eq_true rfl) (fun _ _ ⟨e1, e2⟩ => ?_)
    subst e1; rw [e2]
    refine zW.if_eqN (pc' := 20) 28 dX3_auditPosition_17 rfl (by decide) (by omega) (fun b9 => absurd b9 (by omega)) (fun b9 => ?_)
    refine zW.aload_n (pc' := 21) dX3_auditPosition_20 rfl rfl zg0 rfl ?_
    refine zW.iload_n (pc' := 22) dX3_auditPosition_21 rfl rfl (zgS (zg0)) ?_
    rw [← sFind_id q]
    refine zT.call (pc' := 25) dX3_auditPosition_22 rfl l_X3_47 rfl rfl (w_placeS (T := (zu T.1 0 0, T.2)) hD hW.1 hB (hQ k hk)) (zcc rfl zc0) rfl (Nat.le_of_ble_eq_true rfl) (Nat.le_of_ble_eq_true rfl) (Nat.le_of_ble_eq_true rfl) (fun _ _ ⟨e1, e2⟩ => ?_)
    subst e1; rw [e2]
    refine zW.goto 29 dX3_auditPosition_25 (by decide) ?_
    refine zW.iret dX3_auditPosition_29 rfl (rfl) ?_
    exact tO.q hW
end
