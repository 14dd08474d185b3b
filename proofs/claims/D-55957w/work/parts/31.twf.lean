/-! THE REFERENCE: a tick -/
section
set_option maxRecDepth 100000
variable {G : zG} {h0 : zH} {a : tA} {T : tS}
theorem nI_dec {k : Nat} : nI (k + 1) + Int32.ofInt (-1) = nI k := by
  rw [← nI_add, Int32.add_assoc, show nI 1 + Int32.ofInt (-1) = 0 by decide, Int32.add_zero]
theorem w_grown {h : zH} {w p : Nat} (hw : w ≤ 9999) (hp : p ≤ 20) : zK G mX3_grown 1 0 [.int (nI w), .int (nI p)] h (fun o h' => o = .inl (some (.int (nI (sGrow w p)))) ∧ h' = h) := by
  have hm : w * p ≤ 9999 * 20 := Nat.mul_le_mul hw hp
  have hd : w * p / 100 ≤ 2000 := by omega
  unfold sGrow
  show zW G mX3_grown 1 0 0 [.int (nI w), .int (nI p), zho] [] h _
  refine zW.iload_n (pc' := 1) dX3_grown_0 rfl rfl zg0 ?_
  refine zW.iload_n (pc' := 2) dX3_grown_1 rfl rfl zg0 ?_
  refine zW.iload_n (pc' := 3) dX3_grown_2 rfl rfl (zgS (zg0)) ?_
  refine zW.imulN (pc' := 4) dX3_grown_3 rfl ?_
  refine zW.bipush (pc' := 6) (nI 100) dX3_grown_4 rfl (by decide) ?_
  refine zW.idivN (pc' := 7) dX3_grown_6 rfl (by omega) (by decide) (by decide) ?_
  refine zW.iaddN (pc' := 8) dX3_grown_7 rfl ?_
  refine zW.istore_n (pc' := 9) dX3_grown_8 rfl rfl (Nat.le_of_ble_eq_true rfl) (zsS (zsS (zs0))) ?_
  refine zW.iload_n (pc' := 10) dX3_grown_9 rfl rfl (zgS (zgS (zg0))) ?_
  refine zW.sipush (pc' := 13) (nI 9999) dX3_grown_10 rfl (by decide) ?_
  refine zW.icmp_leN (pc' := 16) 22 dX3_grown_13 rfl (by decide) (by omega) (by omega) (fun h1 => ?_) (fun h1 => ?_)
  · refine zW.iload_n (pc' := 23) dX3_grown_22 rfl rfl (zgS (zgS (zg0))) ?_
    refine zW.iret dX3_grown_23 rfl (rfl) ?_
    exact ⟨by rw [if_neg (by omega)], rfl⟩
  · refine zW.sipush (pc' := 19) (nI 9999) dX3_grown_16 rfl (by decide) ?_
    refine zW.goto 23 dX3_grown_19 (by decide) ?_
    refine zW.iret dX3_grown_23 rfl (rfl) ?_
    exact ⟨by rw [if_pos h1], rfl⟩
/-- the recent ones, moved on from k -/
def tsr (A : Nat → Nat) (k : Nat) : Nat → Nat := fun j => if 14 + k < j ∧ j ≤ 21 then A (j - 1) else A j
theorem tsr_7 {A : Nat → Nat} : tsr A 7 = A := by funext j; unfold tsr; rw [if_neg (by omega)]
theorem tsr_S {A : Nat → Nat} {k : Nat} (hk : k < 7) : zu (tsr A (k + 1)) (14 + (k + 1)) (tsr A (k + 1) (14 + (k + 1) - 1)) = tsr A k := by
  funext j
  unfold zu tsr
  by_cases h1 : j = 14 + (k + 1)
  · subst h1; rw [if_pos rfl, if_neg (by omega), if_pos (by omega)]
  · rw [if_neg h1]
    by_cases h2 : 14 + (k + 1) < j ∧ j ≤ 21
    · rw [if_pos h2, if_pos (by omega)]
    · rw [if_neg h2, if_neg (by omega)]
def trm (A : Nat → Nat) (id : Nat) : Nat → Nat := zu (zu (tsr A 0) 14 id) 9 (if A 9 < 8 then A 9 + 1 else 8)
theorem tR.rem {A : Nat → Nat} {s : sS} (h : tR A 0 s) {id : Nat} : tR (trm A id) 0 (s.1, s.2.1, s.2.2.1, (id :: s.2.2.2).take 8) := by
  obtain ⟨h1, h2, h3, h4, h5, h6, h7, h8, h9⟩ := h
  have lo : ∀ j, j < 14 → j ≠ 9 → trm A id j = A j := fun j hj h9 => by
    unfold trm
    rw [zu_n h9, zu_n (by omega)]
    unfold tsr
    rw [if_neg (by omega)]
  have hi : ∀ j, 22 ≤ j → trm A id j = A j := fun j hj => by
    unfold trm
    rw [zu_n (by omega), zu_n (by omega)]
    unfold tsr
    rw [if_neg (by omega)]
  refine ⟨fun i hi a1 a2 => ?_, ?_, ?_, fun i c hc f hf => ?_, fun i x hx => ?_, fun i x hx => ?_, h7, h8, by rw [List.length_take]; omega⟩
  · rw [Nat.zero_add, lo i hi a2, ← Nat.zero_add i]; rw [Nat.zero_add]; have := h1 i hi a1 a2; rwa [Nat.zero_add] at this
  · rw [Nat.zero_add, lo 2 (by omega) (by omega)]; rwa [Nat.zero_add] at h2
  · rw [Nat.zero_add] at h3 ⊢
    unfold trm
    rw [zu_s, List.length_take, List.length_cons, h3]
    by_cases q : s.2.2.2.length < 8
    · rw [if_pos q]; omega
    · rw [if_neg q]; omega
  · rw [hi _ (by omega)]; exact h4 i c hc f hf
  · rw [hi _ (by omega)]; exact h5 i x hx
  · have hil := (List.getElem?_eq_some_iff.mp hx).1
    rw [List.length_take, List.length_cons] at hil
    rw [List.getElem?_take_of_lt (by omega)] at hx
    unfold trm
    rw [zu_n (by omega)]
    cases i with
    | zero =>
      rw [List.getElem?_cons_zero] at hx
      cases hx
      rw [show 0 + 14 + 0 = 14 by omega, zu_s]
    | succ i =>
      rw [List.getElem?_cons_succ] at hx
      rw [zu_n (by omega)]
      unfold tsr
      rw [if_pos (by omega), show 0 + 14 + (i + 1) - 1 = 0 + 14 + i by omega]
      exact h6 i x hx
theorem trm_hi {A : Nat → Nat} {id j : Nat} (hj : 22 ≤ j) : trm A id j = A j := by
  unfold trm
  rw [zu_n (by omega), zu_n (by omega)]
  unfold tsr
  rw [if_neg (by omega)]
theorem w_remembers (hD : tD a) {id : Nat} (h9 : T.2.1 9 ≤ 8) : zK G mX3_remembers 1 0 [.ref a.1, .int (nI id)] (tH h0 a T) (tQ h0 a fun v T' => v = none ∧ T' = (T.1, trm T.2.1 id, T.2.2)) := by
  have loop : ∀ k, k ≤ 7 → zW G mX3_remembers 1 0 3 [.ref a.1, .int (nI id), .int (nI k)] [] (tH h0 a (T.1, tsr T.2.1 k, T.2.2)) (tQ h0 a fun v T' => v = none ∧ T' = (T.1, trm T.2.1 id, T.2.2)) := by
    intro k
    induction k with
    | zero =>
      intro hk
      refine zW.iload_n (pc' := 4) dX3_remembers_3 rfl rfl (zgS (zgS (zg0))) ?_
      refine zW.if_leN (pc' := 7) 33 dX3_remembers_4 rfl (by decide) (by omega) (fun h1 => ?_) (fun h1 => ?_)
      · have e9 : zu (tsr T.2.1 0) 14 id 9 = T.2.1 9 := by
          rw [zu_n (by omega)]
          unfold tsr
          rw [if_neg (by omega)]
        refine zW.aload_n (pc' := 34) dX3_remembers_33 rfl rfl zg0 rfl ?_
        refine zT.get (pc' := 37) dX3_remembers_34 rfl f_X3_9_3 rfl ?_
        try dsimp only
        refine zW.bipush (pc' := 39) (nI 14) dX3_remembers_37 rfl (by decide) ?_
        refine zW.iload_n (pc' := 40) dX3_remembers_39 rfl rfl (zgS (zg0)) ?_
        first | refine zT.ast1 (pc' := 41) dX3_remembers_40 rfl hD (by omega) ?_ | refine zT.ast4 (pc' := 41) dX3_remembers_40 rfl hD (by omega) ?_
        try dsimp only
        refine zW.aload_n (pc' := 42) dX3_remembers_41 rfl rfl zg0 rfl ?_
        refine zT.get (pc' := 45) dX3_remembers_42 rfl f_X3_9_3 rfl ?_
        try dsimp only
        refine zW.bipush (pc' := 47) (nI 9) dX3_remembers_45 rfl (by decide) ?_
        refine zW.aload_n (pc' := 48) dX3_remembers_47 rfl rfl zg0 rfl ?_
        refine zT.get (pc' := 51) dX3_remembers_48 rfl f_X3_9_3 rfl ?_
        try dsimp only
        refine zW.bipush (pc' := 53) (nI 9) dX3_remembers_51 rfl (by decide) ?_
        first | refine zT.ald1 (pc' := 54) dX3_remembers_53 rfl hD (by omega) ?_ | refine zT.ald4 (pc' := 54) dX3_remembers_53 rfl hD (by omega) ?_
        try dsimp only
        rw [e9]
        refine zW.bipush (pc' := 56) (nI 8) dX3_remembers_54 rfl (by decide) ?_
        refine zW.icmp_geN (pc' := 59) 71 dX3_remembers_56 rfl (by decide) (by omega) (by omega) (fun h2 => ?_) (fun h2 => ?_)
        · refine zW.bipush (pc' := 73) (nI 8) dX3_remembers_71 rfl (by decide) ?_
          first | refine zT.ast1 (pc' := 74) dX3_remembers_73 rfl hD (by omega) ?_ | refine zT.ast4 (pc' := 74) dX3_remembers_73 rfl hD (by omega) ?_
          try dsimp only
          refine zW.vret dX3_remembers_74 rfl ?_
          exact ⟨_, _, rfl, ⟨rfl, by unfold trm; rw [if_neg (by omega)]⟩, rfl⟩
        · refine zW.aload_n (pc' := 60) dX3_remembers_59 rfl rfl zg0 rfl ?_
          refine zT.get (pc' := 63) dX3_remembers_60 rfl f_X3_9_3 rfl ?_
          try dsimp only
          refine zW.bipush (pc' := 65) (nI 9) dX3_remembers_63 rfl (by decide) ?_
          first | refine zT.ald1 (pc' := 66) dX3_remembers_65 rfl hD (by omega) ?_ | refine zT.ald4 (pc' := 66) dX3_remembers_65 rfl hD (by omega) ?_
          try dsimp only
          rw [e9]
          refine zW.iconst (pc' := 67) (nI 1) dX3_remembers_66 rfl (by decide) ?_
          refine zW.iaddN (pc' := 68) dX3_remembers_67 rfl ?_
          refine zW.goto 73 dX3_remembers_68 (by decide) ?_
          first | refine zT.ast1 (pc' := 74) dX3_remembers_73 rfl hD (by omega) ?_ | refine zT.ast4 (pc' := 74) dX3_remembers_73 rfl hD (by omega) ?_
          try dsimp only
          refine zW.vret dX3_remembers_74 rfl ?_
          exact ⟨_, _, rfl, ⟨rfl, by unfold trm; rw [if_pos (by omega)]⟩, rfl⟩
      · exact absurd rfl h1
    | succ k ih =>
      intro hk
      refine zW.iload_n (pc' := 4) dX3_remembers_3 rfl rfl (zgS (zgS (zg0))) ?_
      refine zW.if_leN (pc' := 7) 33 dX3_remembers_4 rfl (by decide) (by omega) (fun h1 => ?_) (fun h1 => ?_)
      · exact absurd h1 (by omega)
      · refine zW.aload_n (pc' := 8) dX3_remembers_7 rfl rfl zg0 rfl ?_
        refine zT.get (pc' := 11) dX3_remembers_8 rfl f_X3_9_3 rfl ?_
        try dsimp only
        refine zW.bipush (pc' := 13) (nI 14) dX3_remembers_11 rfl (by decide) ?_
        refine zW.iload_n (pc' := 14) dX3_remembers_13 rfl rfl (zgS (zgS (zg0))) ?_
        refine zW.iaddN (pc' := 15) dX3_remembers_14 rfl ?_
        refine zW.aload_n (pc' := 16) dX3_remembers_15 rfl rfl zg0 rfl ?_
        refine zT.get (pc' := 19) dX3_remembers_16 rfl f_X3_9_3 rfl ?_
        try dsimp only
        refine zW.bipush (pc' := 21) (nI 14) dX3_remembers_19 rfl (by decide) ?_
        refine zW.iload_n (pc' := 22) dX3_remembers_21 rfl rfl (zgS (zgS (zg0))) ?_
        refine zW.iaddN (pc' := 23) dX3_remembers_22 rfl ?_
        refine zW.iconst (pc' := 24) (nI 1) dX3_remembers_23 rfl (by decide) ?_
        refine zW.isubN (pc' := 25) dX3_remembers_24 rfl (by omega) ?_
        first | refine zT.ald1 (pc' := 26) dX3_remembers_25 rfl hD (by omega) ?_ | refine zT.ald4 (pc' := 26) dX3_remembers_25 rfl hD (by omega) ?_
        try dsimp only
        first | refine zT.ast1 (pc' := 27) dX3_remembers_26 rfl hD (by omega) ?_ | refine zT.ast4 (pc' := 27) dX3_remembers_26 rfl hD (by omega) ?_
        try dsimp only
        refine zW.iinc (pc' := 30) (nI k) dX3_remembers_27 rfl (Nat.le_of_ble_eq_true rfl) (zgS (zgS (zg0))) nI_dec (zsS (zsS (zs0))) ?_
        refine zW.goto 3 dX3_remembers_30 (by decide) ?_
        refine zW.congr (ih (by omega)) rfl rfl ?_
        rw [tsr_S (by omega)]
  show zW G mX3_remembers 1 0 0 [.ref a.1, .int (nI id), zho] [] (tH h0 a T) _
  refine zW.bipush (pc' := 2) (nI 7) dX3_remembers_0 rfl (by decide) ?_
  refine zW.istore_n (pc' := 3) dX3_remembers_2 rfl rfl (Nat.le_of_ble_eq_true rfl) (zsS (zsS (zs0))) ?_
  refine zW.congr (loop 7 (Nat.le_refl _)) rfl rfl ?_
  rw [tsr_7]
end
