/-! THE REFERENCE: errors, the line's chars, append, pairs, may one sign, weights to come -/
section
set_option maxRecDepth 100000
variable {G : zG} {h0 : zH} {a : tA} {T : tS} {tt nn n : Nat}
/-- a place that stands one more, 0: none -/
def qPlace (e : Nat) : Nat × Int32 := if e = 0 then (1, nI 0) else (0, nI (e - 1))
theorem nI_m1 {e : Nat} (he : e < 2 ^ 30) : nI e - 1 = -1 ↔ e = 0 := by
  constructor
  · intro h
    have : nI e = 0 := by
      have h2 := congrArg (fun x => x + 1) h
      simp only [Int32.sub_add_cancel] at h2
      rw [h2]; decide
    exact (nI_eq0 (by omega)).mp this
  · intro h; subst h; decide
theorem w_errorPosition (hD : tD a) {w : sW} (hW : tW T w) (he : w.2.2.2.2.2.1 < 2 ^ 30) : zK G mX3_errorPosition 3 0 [.ref a.1] (tH h0 a T) (tAns h0 a w (qPlace w.2.2.2.2.2.1)) := by
  have h11 := hW.2.2.2.2.2.1
  generalize he' : w.2.2.2.2.2.1 = e at *
  unfold qPlace
  show zW G mX3_errorPosition 3 0 0 [.ref a.1] [] (tH h0 a T) _
  by_cases q : e = 0
  · rw [if_pos q]
    refine zW.aload_n (pc' := 1) dX3_errorPosition_0 rfl rfl zg0 rfl ?_
    refine zW.aload_n (pc' := 2) dX3_errorPosition_1 rfl rfl zg0 rfl ?_
    refine zT.get (pc' := 5) dX3_errorPosition_2 rfl f_X3_20_3 rfl ?_
    try dsimp only
    rw [h11]
    refine zW.iconst (pc' := 6) (-1) dX3_errorPosition_5 rfl (by decide) ?_
    refine zW.icmp_eq (pc' := 9) 13 dX3_errorPosition_6 rfl (by decide) (fun b1 => ?_) (fun b1 => ?_)
    rotate_left
    · exact absurd ((nI_m1 he).mpr q) b1
    refine zW.iconst (pc' := 14) (nI 0) dX3_errorPosition_13 rfl (by decide) ?_
    refine zT.call (pc' := 17) dX3_errorPosition_14 rfl l_X3_124 rfl rfl (w_fine0) (zcc rfl zc0) rfl (Nat.le_of_ble_eq_true rfl) (Nat.le_of_ble_eq_true rfl) (Nat.le_of_ble_eq_true rfl) (fun _ _ ⟨e1, e2⟩ => ?_)
    subst e1; rw [e2]
    refine zW.if_eqN (pc' := 20) 27 dX3_errorPosition_17 rfl (by decide) (by omega) (fun b9 => ?_) (fun b9 => absurd b9 (by omega))
    refine zW.iconst (pc' := 28) (nI 0) dX3_errorPosition_27 rfl (by decide) ?_
    refine zW.iret dX3_errorPosition_28 rfl (rfl) ?_
    exact tO.q hW
  · rw [if_neg q]
    refine zW.aload_n (pc' := 1) dX3_errorPosition_0 rfl rfl zg0 rfl ?_
    refine zW.aload_n (pc' := 2) dX3_errorPosition_1 rfl rfl zg0 rfl ?_
    refine zT.get (pc' := 5) dX3_errorPosition_2 rfl f_X3_20_3 rfl ?_
    try dsimp only
    rw [h11]
    refine zW.iconst (pc' := 6) (-1) dX3_errorPosition_5 rfl (by decide) ?_
    refine zW.icmp_eq (pc' := 9) 13 dX3_errorPosition_6 rfl (by decide) (fun b1 => ?_) (fun b1 => ?_)
    · exact absurd ((nI_m1 he).mp b1) q
    refine zW.iconst (pc' := 10) (nI 1) dX3_errorPosition_9 rfl (by decide) ?_
    refine zW.goto 14 dX3_errorPosition_10 (by decide) ?_
    refine zT.call (pc' := 17) dX3_errorPosition_14 rfl l_X3_124 rfl rfl (w_fine1) (zcc rfl zc0) rfl (Nat.le_of_ble_eq_true rfl) (Nat.le_of_ble_eq_true rfl) (Nat.le_of_ble_eq_true rfl) (fun _ _ ⟨e1, e2⟩ => ?_)
    subst e1; rw [e2]
    refine zW.if_eqN (pc' := 20) 27 dX3_errorPosition_17 rfl (by decide) (by omega) (fun b9 => absurd b9 (by omega)) (fun b9 => ?_)
    refine zW.aload_n (pc' := 21) dX3_errorPosition_20 rfl rfl zg0 rfl ?_
    refine zT.get (pc' := 24) dX3_errorPosition_21 rfl f_X3_20_3 rfl ?_
    try dsimp only
    rw [zu_n (show (11 : Nat) ≠ 0 by decide), h11]
    refine zW.goto 28 dX3_errorPosition_24 (by decide) ?_
    have e9 : nI e - 1 = nI (e - 1) := nI_sub (a := e) (b := 1) (by omega)
    rw [e9]
    refine zW.iret dX3_errorPosition_28 rfl (rfl) ?_
    exact tO.q hW
theorem w_failedCommand (hD : tD a) {w : sW} (hW : tW T w) (he : w.2.2.2.2.2.2 < 2 ^ 30) : zK G mX3_failedCommand 3 0 [.ref a.1] (tH h0 a T) (tAns h0 a w (qPlace w.2.2.2.2.2.2)) := by
  have h12 := hW.2.2.2.2.2.2
  generalize he' : w.2.2.2.2.2.2 = e at *
  unfold qPlace
  show zW G mX3_failedCommand 3 0 0 [.ref a.1] [] (tH h0 a T) _
  by_cases q : e = 0
  · rw [if_pos q]
    refine zW.aload_n (pc' := 1) dX3_failedCommand_0 rfl rfl zg0 rfl ?_
    refine zW.aload_n (pc' := 2) dX3_failedCommand_1 rfl rfl zg0 rfl ?_
    refine zT.get (pc' := 5) dX3_failedCommand_2 rfl f_X3_24_3 rfl ?_
    try dsimp only
    rw [h12]
    refine zW.iconst (pc' := 6) (-1) dX3_failedCommand_5 rfl (by decide) ?_
    refine zW.icmp_eq (pc' := 9) 13 dX3_failedCommand_6 rfl (by decide) (fun b1 => ?_) (fun b1 => ?_)
    rotate_left
    · exact absurd ((nI_m1 he).mpr q) b1
    refine zW.iconst (pc' := 14) (nI 0) dX3_failedCommand_13 rfl (by decide) ?_
    refine zT.call (pc' := 17) dX3_failedCommand_14 rfl l_X3_124 rfl rfl (w_fine0) (zcc rfl zc0) rfl (Nat.le_of_ble_eq_true rfl) (Nat.le_of_ble_eq_true rfl) (Nat.le_of_ble_eq_true rfl) (fun _ _ ⟨e1, e2⟩ => ?_)
    subst e1; rw [e2]
    refine zW.if_eqN (pc' := 20) 27 dX3_failedCommand_17 rfl (by decide) (by omega) (fun b9 => ?_) (fun b9 => absurd b9 (by omega))
    refine zW.iconst (pc' := 28) (nI 0) dX3_failedCommand_27 rfl (by decide) ?_
    refine zW.iret dX3_failedCommand_28 rfl (rfl) ?_
    exact tO.q hW
  · rw [if_neg q]
    refine zW.aload_n (pc' := 1) dX3_failedCommand_0 rfl rfl zg0 rfl ?_
    refine zW.aload_n (pc' := 2) dX3_failedCommand_1 rfl rfl zg0 rfl ?_
    refine zT.get (pc' := 5) dX3_failedCommand_2 rfl f_X3_24_3 rfl ?_
    try dsimp only
    rw [h12]
    refine zW.iconst (pc' := 6) (-1) dX3_failedCommand_5 rfl (by decide) ?_
    refine zW.icmp_eq (pc' := 9) 13 dX3_failedCommand_6 rfl (by decide) (fun b1 => ?_) (fun b1 => ?_)
    · exact absurd ((nI_m1 he).mp b1) q
    refine zW.iconst (pc' := 10) (nI 1) dX3_failedCommand_9 rfl (by decide) ?_
    refine zW.goto 14 dX3_failedCommand_10 (by decide) ?_
    refine zT.call (pc' := 17) dX3_failedCommand_14 rfl l_X3_124 rfl rfl (w_fine1) (zcc rfl zc0) rfl (Nat.le_of_ble_eq_true rfl) (Nat.le_of_ble_eq_true rfl) (Nat.le_of_ble_eq_true rfl) (fun _ _ ⟨e1, e2⟩ => ?_)
    subst e1; rw [e2]
    refine zW.if_eqN (pc' := 20) 27 dX3_failedCommand_17 rfl (by decide) (by omega) (fun b9 => absurd b9 (by omega)) (fun b9 => ?_)
    refine zW.aload_n (pc' := 21) dX3_failedCommand_20 rfl rfl zg0 rfl ?_
    refine zT.get (pc' := 24) dX3_failedCommand_21 rfl f_X3_24_3 rfl ?_
    try dsimp only
    rw [zu_n (show (12 : Nat) ≠ 0 by decide), h12]
    refine zW.goto 28 dX3_failedCommand_24 (by decide) ?_
    have e9 : nI e - 1 = nI (e - 1) := nI_sub (a := e) (b := 1) (by omega)
    rw [e9]
    refine zW.iret dX3_failedCommand_28 rfl (rfl) ?_
    exact tO.q hW
def qLine (l : List Nat) (p : Int32) : Nat × Int32 := if sPos p l.length = true then (0, nI (l.getD (iN p) 0)) else (1, nI 0)
theorem w_lineChar (hD : tD a) {w : sW} (hW : tW T w) (hc : ∀ x ∈ w.2.2.2.1, x < 65536) {p : Int32} : zK G mX3_lineChar 3 0 [.ref a.1, .int p] (tH h0 a T) (tAns h0 a w (qLine w.2.2.2.1 p)) := by
  have h6 := hW.2.2.2.1.1
  have h40 := hW.2.2.2.1.2.1
  have hL := hW.2.2.2.1.2.2
  generalize hl : w.2.2.2.1 = l at *
  have hin := sIn_pos (p := p) (n := l.length) (by omega)
  unfold qLine
  show zW G mX3_lineChar 3 0 0 [.ref a.1, .int p] [] (tH h0 a T) _
  by_cases q : sPos p l.length = true
  rotate_left
  · rw [if_neg q]
    rw [← hin] at q
    refine zW.aload_n (pc' := 1) dX3_lineChar_0 rfl rfl zg0 rfl ?_
    refine zW.iload_n (pc' := 2) dX3_lineChar_1 rfl rfl (zgS (zg0)) ?_
    refine zW.iconst (pc' := 3) (nI 0) dX3_lineChar_2 rfl (by decide) ?_
    refine zW.aload_n (pc' := 4) dX3_lineChar_3 rfl rfl zg0 rfl ?_
    refine zT.get (pc' := 7) dX3_lineChar_4 rfl f_X3_158_3 rfl ?_
    try dsimp only
    rw [h6]
    refine zW.iconst (pc' := 8) (nI 1) dX3_lineChar_7 rfl (by decide) ?_
    refine zW.isub (pc' := 9) dX3_lineChar_8 rfl ?_
    refine zW.callS (pc' := 12) dX3_lineChar_9 rfl l_X3_55 rfl (w_in0 q) (zcc rfl (zcc rfl (zcc rfl zc0))) rfl (Nat.le_of_ble_eq_true rfl) (Nat.le_of_ble_eq_true rfl) (Nat.le_of_ble_eq_true rfl) (fun _ _ ⟨e1, e3⟩ => ?_) (fun _ _ q9 => by cases q9.1)
    cases e1; subst e3
    refine zT.call (pc' := 15) dX3_lineChar_12 rfl l_X3_124 rfl rfl (w_fine0) (zcc rfl zc0) rfl (Nat.le_of_ble_eq_true rfl) (Nat.le_of_ble_eq_true rfl) (Nat.le_of_ble_eq_true rfl) (fun _ _ ⟨e1, e2⟩ => ?_)
    subst e1; rw [e2]
    refine zW.if_eqN (pc' := 18) 27 dX3_lineChar_15 rfl (by decide) (by omega) (fun b9 => ?_) (fun b9 => absurd b9 (by omega))
    refine zW.iconst (pc' := 28) (nI 0) dX3_lineChar_27 rfl (by decide) ?_
    refine zW.iret dX3_lineChar_28 rfl (rfl) ?_
    exact tO.q hW
  · rw [if_pos q]
    obtain ⟨k, ek, hk, ik⟩ := sPos_nat q
    rw [ik]
    rw [← hin] at q
    have hLk := hL k _ (List.getElem?_eq_getElem hk)
    have hck := hc _ (List.getElem_mem hk)
    refine zW.aload_n (pc' := 1) dX3_lineChar_0 rfl rfl zg0 rfl ?_
    refine zW.iload_n (pc' := 2) dX3_lineChar_1 rfl rfl (zgS (zg0)) ?_
    refine zW.iconst (pc' := 3) (nI 0) dX3_lineChar_2 rfl (by decide) ?_
    refine zW.aload_n (pc' := 4) dX3_lineChar_3 rfl rfl zg0 rfl ?_
    refine zT.get (pc' := 7) dX3_lineChar_4 rfl f_X3_158_3 rfl ?_
    try dsimp only
    rw [h6]
    refine zW.iconst (pc' := 8) (nI 1) dX3_lineChar_7 rfl (by decide) ?_
    refine zW.isub (pc' := 9) dX3_lineChar_8 rfl ?_
    refine zW.callS (pc' := 12) dX3_lineChar_9 rfl l_X3_55 rfl (w_in1 q) (zcc rfl (zcc rfl (zcc rfl zc0))) rfl (Nat.le_of_ble_eq_true rfl) (Nat.le_of_ble_eq_true rfl) (Nat.le_of_ble_eq_true rfl) (fun _ _ ⟨e1, e3⟩ => ?_) (fun _ _ q9 => by cases q9.1)
    cases e1; subst e3
    refine zT.call (pc' := 15) dX3_lineChar_12 rfl l_X3_124 rfl rfl (w_fine1) (zcc rfl zc0) rfl (Nat.le_of_ble_eq_true rfl) (Nat.le_of_ble_eq_true rfl) (Nat.le_of_ble_eq_true rfl) (fun _ _ ⟨e1, e2⟩ => ?_)
    subst e1; rw [e2]
    refine zW.if_eqN (pc' := 18) 27 dX3_lineChar_15 rfl (by decide) (by omega) (fun b9 => absurd b9 (by omega)) (fun b9 => ?_)
    subst ek
    refine zW.aload_n (pc' := 19) dX3_lineChar_18 rfl rfl zg0 rfl ?_
    refine zT.get (pc' := 22) dX3_lineChar_19 rfl f_X3_13_3 rfl ?_
    try dsimp only
    refine zW.iload_n (pc' := 23) dX3_lineChar_22 rfl rfl (zgS (zg0)) ?_
    first | refine zT.ald2 (pc' := 24) dX3_lineChar_23 rfl hD (by omega) ?_ | refine zT.ald3 (pc' := 24) dX3_lineChar_23 rfl hD (by omega) ?_
    try dsimp only
    rw [hLk]
    refine zW.goto 28 dX3_lineChar_24 (by decide) ?_
    refine zW.iret dX3_lineChar_28 rfl (nI_char hck) ?_
    rw [List.getD_eq_getElem?_getD, List.getElem?_eq_getElem hk, Option.getD_some]
    exact tO.q hW
end
