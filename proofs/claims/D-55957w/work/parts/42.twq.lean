/-! THE REFERENCE: undo, the saved copy, errors, the line's chars, append -/
section
set_option maxRecDepth 100000
variable {G : zG} {h0 : zH} {a : tA} {T : tS} {tt nn n : Nat}
def sUndo (w : sW) : Nat × Int32 × sW := match w.2.1.reverse with | [] => (1, nI 0, w) | s :: H => (0, nI H.length, (s, H.reverse, w.2.2))
theorem tX.hist {T : tS} {w : sW} (h : tX T w) : T.1 2 = w.2.1.length := h.1.1
theorem w_undo (hD : tD a) {w : sW} (hW : tW T w) : zK G mX3_undo 3 0 [.ref a.1] (tH h0 a T) (tO h0 a (sUndo w).1 (.int (sUndo w).2.1) (sUndo w).2.2) := by
  obtain ⟨s0, H, x⟩ := w
  have h2 := hW.2.1.1
  have h8 := hW.2.1.2.1
  have h3 := hW.2.1.2.2
  dsimp only at h2 h8 h3
  unfold sUndo
  dsimp only
  show zW G mX3_undo 3 0 0 [.ref a.1] [] (tH h0 a T) _
  rcases List.eq_nil_or_concat H with e | ⟨H', s, e⟩
  · subst e
    rw [List.reverse_nil]
    dsimp only
    refine zW.aload_n (pc' := 1) dX3_undo_0 rfl rfl zg0 rfl ?_
    refine zW.aload_n (pc' := 2) dX3_undo_1 rfl rfl zg0 rfl ?_
    refine zT.get (pc' := 5) dX3_undo_2 rfl f_X3_37_3 rfl ?_
    try dsimp only
    rw [h2]
    dsimp only [List.length_nil]
    refine zW.if_leN (pc' := 8) 12 dX3_undo_5 rfl (by decide) (by decide) (fun b9 => ?_) (fun b9 => absurd b9 (by omega))
    refine zW.iconst (pc' := 13) (nI 0) dX3_undo_12 rfl (by decide) ?_
    refine zT.call (pc' := 16) dX3_undo_13 rfl l_X3_124 rfl rfl (w_fine0) (zcc rfl zc0) rfl (Nat.le_of_ble_eq_true rfl) (Nat.le_of_ble_eq_true rfl) (Nat.le_of_ble_eq_true rfl) (fun _ _ ⟨e1, e2⟩ => ?_)
    subst e1; rw [e2]
    refine zW.if_neN (pc' := 19) 21 dX3_undo_16 rfl (by decide) (by omega) (fun b9 => absurd b9 (by omega)) (fun b9 => ?_)
    refine zW.iconst (pc' := 20) (nI 0) dX3_undo_19 rfl (by decide) ?_
    refine zW.iret dX3_undo_20 rfl (rfl) ?_
    exact tO.q hW
  · rw [List.concat_eq_append] at e
    subst e
    rw [List.reverse_append, List.reverse_singleton, List.singleton_append]
    dsimp only
    rw [List.reverse_reverse, List.length_reverse]
    rw [List.length_append, List.length_singleton] at h2 h8
    refine zW.aload_n (pc' := 1) dX3_undo_0 rfl rfl zg0 rfl ?_
    refine zW.aload_n (pc' := 2) dX3_undo_1 rfl rfl zg0 rfl ?_
    refine zT.get (pc' := 5) dX3_undo_2 rfl f_X3_37_3 rfl ?_
    try dsimp only
    rw [h2]
    refine zW.if_leN (pc' := 8) 12 dX3_undo_5 rfl (by decide) (by omega) (fun b9 => absurd b9 (by omega)) (fun b9 => ?_)
    refine zW.iconst (pc' := 9) (nI 1) dX3_undo_8 rfl (by decide) ?_
    refine zW.goto 13 dX3_undo_9 (by decide) ?_
    refine zT.call (pc' := 16) dX3_undo_13 rfl l_X3_124 rfl rfl (w_fine1) (zcc rfl zc0) rfl (Nat.le_of_ble_eq_true rfl) (Nat.le_of_ble_eq_true rfl) (Nat.le_of_ble_eq_true rfl) (fun _ _ ⟨e1, e2⟩ => ?_)
    subst e1; rw [e2]
    refine zW.if_neN (pc' := 19) 21 dX3_undo_16 rfl (by decide) (by omega) (fun b9 => ?_) (fun b9 => absurd b9 (by omega))
    refine zW.aload_n (pc' := 22) dX3_undo_21 rfl rfl zg0 rfl ?_
    refine zW.aload_n (pc' := 23) dX3_undo_22 rfl rfl zg0 rfl ?_
    refine zT.get (pc' := 26) dX3_undo_23 rfl f_X3_37_3 rfl ?_
    try dsimp only
    rw [zu_n (show (2 : Nat) ≠ 0 by decide), h2]
    refine zW.iconst (pc' := 27) (nI 0) dX3_undo_26 rfl (by decide) ?_
    refine zT.call (pc' := 30) dX3_undo_27 rfl l_X3_33 rfl rfl (w_copies (T := (zu T.1 0 0, T.2)) hD (f := H'.length + 1) (t := 0) (by omega) (by omega) (by omega)) (zcc rfl (zcc rfl zc0)) rfl (Nat.le_of_ble_eq_true rfl) (Nat.le_of_ble_eq_true rfl) (Nat.le_of_ble_eq_true rfl) (fun _ _ ⟨e1, e2⟩ => ?_)
    subst e1; rw [e2]
    refine zW.aload_n (pc' := 31) dX3_undo_30 rfl rfl zg0 rfl ?_
    refine zW.dup (pc' := 32) dX3_undo_31 rfl rfl ?_
    refine zT.get (pc' := 35) dX3_undo_32 rfl f_X3_37_3 rfl ?_
    try dsimp only
    rw [zu_n (show (2 : Nat) ≠ 0 by decide), h2]
    refine zW.iconst (pc' := 36) (nI 1) dX3_undo_35 rfl (by decide) ?_
    refine zW.isubN (pc' := 37) dX3_undo_36 rfl (by omega) ?_
    refine zT.putN (pc' := 40) dX3_undo_37 rfl f_X3_37_3 (zFw.of ft_3_2 rfl rfl) rfl ?_
    try dsimp only
    refine zW.aload_n (pc' := 41) dX3_undo_40 rfl rfl zg0 rfl ?_
    refine zT.get (pc' := 44) dX3_undo_41 rfl f_X3_37_3 rfl ?_
    try dsimp only
    rw [zu_s]
    refine zW.iret dX3_undo_44 rfl (rfl) ?_
    have hs : tR T.2.1 (130 * (H'.length + 1)) s := h3 H'.length s (by rw [List.getElem?_append_right (Nat.le_refl _), Nat.sub_self]; rfl)
    obtain ⟨hR0, ⟨⟨a1, a2, a3⟩, ⟨a4, a5⟩, ⟨a6, a7, a8⟩, ⟨a9, a10, a11⟩, a12, a13⟩⟩ := hW
    have ec : ∀ j, 130 ≤ j → tcp T.2.1 (H'.length + 1) 0 130 j = T.2.1 j := fun j hj => by
      unfold tcp; rw [if_neg (by omega)]
    have hz : ∀ f, f ≠ 0 → f ≠ 2 → zu (zu T.1 0 0) 2 H'.length f = T.1 f := fun f h h' => (zu_n h').trans (zu_n h)
    have hz0 : zu (zu T.1 0 0) 2 H'.length 0 = 0 := (zu_n (by decide)).trans zu_s
    have hz2 : zu (zu T.1 0 0) 2 H'.length 2 = H'.length := zu_s
    have h8' : H'.length ≤ 8 := by omega
    refine ⟨_, (zu (zu T.1 0 0) 2 H'.length, tcp T.2.1 (H'.length + 1) 0 130, T.2.2), rfl, ⟨rfl, hz0, tR.cp (t := 0) hs, ⟨hz2, h8', fun i S hS => ?_⟩, ⟨(hz 3 (by decide) (by decide)).trans a4, fun S hS => (a5 S hS).cg fun j hj => ec _ (by omega)⟩, ⟨(hz 6 (by decide) (by decide)).trans a6, a7, a8⟩, ⟨(hz 8 (by decide) (by decide)).trans a9, a10, a11⟩, (hz 11 (by decide) (by decide)).trans a12, (hz 12 (by decide) (by decide)).trans a13⟩, rfl⟩
    have hil := (List.getElem?_eq_some_iff.mp hS).1
    exact (h3 i S (by rw [List.getElem?_append_left hil]; exact hS)).cg fun j hj => ec _ (by omega)
def sUndoable (w : sW) : Nat × Int32 := (0, nI w.2.1.length)
theorem w_undoableCount (hD : tD a) {w : sW} (hW : tW T w) : zK G mX3_undoableCount 3 0 [.ref a.1] (tH h0 a T) (tAns h0 a w (sUndoable w)) := by
  have h2 := hW.2.1.1
  show zW G mX3_undoableCount 3 0 0 [.ref a.1] [] (tH h0 a T) _
  refine zW.aload_n (pc' := 1) dX3_undoableCount_0 rfl rfl zg0 rfl ?_
  refine zW.iconst (pc' := 2) (nI 0) dX3_undoableCount_1 rfl (by decide) ?_
  refine zT.putN (pc' := 5) dX3_undoableCount_2 rfl f_X3_30_3 (zFw.of ft_3_0 rfl rfl) rfl ?_
  try dsimp only
  refine zW.aload_n (pc' := 6) dX3_undoableCount_5 rfl rfl zg0 rfl ?_
  refine zT.get (pc' := 9) dX3_undoableCount_6 rfl f_X3_37_3 rfl ?_
  try dsimp only
  rw [zu_n (show (2 : Nat) ≠ 0 by decide), h2]
  refine zW.iret dX3_undoableCount_9 rfl (rfl) ?_
  exact tO.q hW
def sSave (w : sW) : sW := (w.1, w.2.1, some w.1, w.2.2.2)
theorem w_save (hD : tD a) {w : sW} (hW : tW T w) : zK G mX3_save 3 0 [.ref a.1] (tH h0 a T) (tO h0 a 0 (.int (nI w.1.2.1.length)) (sSave w)) := by
  have hac := hW.1.ac
  show zW G mX3_save 3 0 0 [.ref a.1] [] (tH h0 a T) _
  refine zW.aload_n (pc' := 1) dX3_save_0 rfl rfl zg0 rfl ?_
  refine zW.iconst (pc' := 2) (nI 0) dX3_save_1 rfl (by decide) ?_
  refine zT.putN (pc' := 5) dX3_save_2 rfl f_X3_30_3 (zFw.of ft_3_0 rfl rfl) rfl ?_
  try dsimp only
  refine zW.aload_n (pc' := 6) dX3_save_5 rfl rfl zg0 rfl ?_
  refine zW.iconst (pc' := 7) (nI 1) dX3_save_6 rfl (by decide) ?_
  refine zT.putN (pc' := 10) dX3_save_7 rfl f_X3_209_3 (zFw.of ft_3_3 rfl rfl) rfl ?_
  try dsimp only
  refine zW.aload_n (pc' := 11) dX3_save_10 rfl rfl zg0 rfl ?_
  refine zW.iconst (pc' := 12) (nI 0) dX3_save_11 rfl (by decide) ?_
  refine zW.bipush (pc' := 14) (nI 9) dX3_save_12 rfl (by decide) ?_
  refine zT.call (pc' := 17) dX3_save_14 rfl l_X3_33 rfl rfl (w_copies (T := (zu (zu T.1 0 0) 3 1, T.2)) hD (f := 0) (t := 9) (by omega) (by omega) (by omega)) (zcc rfl (zcc rfl zc0)) rfl (Nat.le_of_ble_eq_true rfl) (Nat.le_of_ble_eq_true rfl) (Nat.le_of_ble_eq_true rfl) (fun _ _ ⟨e1, e2⟩ => ?_)
  subst e1; rw [e2]
  have ec : ∀ j, j < 1170 → tcp T.2.1 0 9 130 j = T.2.1 j := fun j hj => by
    unfold tcp; rw [if_neg (by omega)]
  refine zW.aload_n (pc' := 18) dX3_save_17 rfl rfl zg0 rfl ?_
  refine zT.get (pc' := 21) dX3_save_18 rfl f_X3_9_3 rfl ?_
  try dsimp only
  refine zW.iconst (pc' := 22) (nI 2) dX3_save_21 rfl (by decide) ?_
  first | refine zT.ald1 (pc' := 23) dX3_save_22 rfl hD (by omega) ?_ | refine zT.ald4 (pc' := 23) dX3_save_22 rfl hD (by omega) ?_
  try dsimp only
  rw [ec 2 (by decide), hac]
  refine zW.iret dX3_save_23 rfl (rfl) ?_
  obtain ⟨hR0, ⟨⟨a1, a2, a3⟩, ⟨a4, a5⟩, ⟨a6, a7, a8⟩, ⟨a9, a10, a11⟩, a12, a13⟩⟩ := hW
  have hz : ∀ f, f ≠ 0 → f ≠ 3 → zu (zu T.1 0 0) 3 1 f = T.1 f := fun f h h' => (zu_n h').trans (zu_n h)
  have hz0 : zu (zu T.1 0 0) 3 1 0 = 0 := (zu_n (by decide)).trans zu_s
  have hz3 : zu (zu T.1 0 0) 3 1 3 = 1 := zu_s
  refine ⟨_, (zu (zu T.1 0 0) 3 1, tcp T.2.1 0 9 130, T.2.2), rfl, ⟨rfl, hz0, hR0.cg fun j hj => ec _ (by omega), ⟨(hz 2 (by decide) (by decide)).trans a1, a2, fun i S hS => ?_⟩, ⟨hz3, fun S hS => ?_⟩, ⟨(hz 6 (by decide) (by decide)).trans a6, a7, a8⟩, ⟨(hz 8 (by decide) (by decide)).trans a9, a10, a11⟩, (hz 11 (by decide) (by decide)).trans a12, (hz 12 (by decide) (by decide)).trans a13⟩, rfl⟩
  · have hil := (List.getElem?_eq_some_iff.mp hS).1
    have hil2 : i < w.2.1.length := hil
    exact (a3 i S hS).cg fun j hj => ec _ (by omega)
  · have e : w.1 = S := Option.some.inj hS
    subst e
    exact tR.cp (f := 0) hR0
def sRestore (w : sW) : Nat × Int32 × sW := match w.2.2.1 with | none => (1, nI 0, w) | some s => (0, nI s.2.1.length, (s, [], w.2.2))
theorem w_restore (hD : tD a) {w : sW} (hW : tW T w) : zK G mX3_restore 3 0 [.ref a.1] (tH h0 a T) (tO h0 a (sRestore w).1 (.int (sRestore w).2.1) (sRestore w).2.2) := by
  obtain ⟨s0, H, sv, x⟩ := w
  have h3 := hW.2.2.1.1
  dsimp only at h3
  unfold sRestore
  dsimp only
  show zW G mX3_restore 3 0 0 [.ref a.1] [] (tH h0 a T) _
  cases sv with
  | none =>
    rw [show (none : Option sS).isSome = false from rfl, if_neg (by decide)] at h3
    refine zW.aload_n (pc' := 1) dX3_restore_0 rfl rfl zg0 rfl ?_
    refine zW.aload_n (pc' := 2) dX3_restore_1 rfl rfl zg0 rfl ?_
    refine zT.get (pc' := 5) dX3_restore_2 rfl f_X3_209_3 rfl ?_
    try dsimp only
    rw [h3]
    refine zT.call (pc' := 8) dX3_restore_5 rfl l_X3_124 rfl rfl (w_fine0) (zcc rfl zc0) rfl (Nat.le_of_ble_eq_true rfl) (Nat.le_of_ble_eq_true rfl) (Nat.le_of_ble_eq_true rfl) (fun _ _ ⟨e1, e2⟩ => ?_)
    subst e1; rw [e2]
    refine zW.if_neN (pc' := 11) 13 dX3_restore_8 rfl (by decide) (by omega) (fun b9 => absurd b9 (by omega)) (fun b9 => ?_)
    refine zW.iconst (pc' := 12) (nI 0) dX3_restore_11 rfl (by decide) ?_
    refine zW.iret dX3_restore_12 rfl (rfl) ?_
    exact tO.q hW
  | some s =>
    rw [show (some s).isSome = true from rfl, if_pos rfl] at h3
    have hs : tR T.2.1 (130 * 9) s := hW.2.2.1.2 s rfl
    refine zW.aload_n (pc' := 1) dX3_restore_0 rfl rfl zg0 rfl ?_
    refine zW.aload_n (pc' := 2) dX3_restore_1 rfl rfl zg0 rfl ?_
    refine zT.get (pc' := 5) dX3_restore_2 rfl f_X3_209_3 rfl ?_
    try dsimp only
    rw [h3]
    refine zT.call (pc' := 8) dX3_restore_5 rfl l_X3_124 rfl rfl (w_fine1) (zcc rfl zc0) rfl (Nat.le_of_ble_eq_true rfl) (Nat.le_of_ble_eq_true rfl) (Nat.le_of_ble_eq_true rfl) (fun _ _ ⟨e1, e2⟩ => ?_)
    subst e1; rw [e2]
    refine zW.if_neN (pc' := 11) 13 dX3_restore_8 rfl (by decide) (by omega) (fun b9 => ?_) (fun b9 => absurd b9 (by omega))
    refine zW.aload_n (pc' := 14) dX3_restore_13 rfl rfl zg0 rfl ?_
    refine zW.bipush (pc' := 16) (nI 9) dX3_restore_14 rfl (by decide) ?_
    refine zW.iconst (pc' := 17) (nI 0) dX3_restore_16 rfl (by decide) ?_
    refine zT.call (pc' := 20) dX3_restore_17 rfl l_X3_33 rfl rfl (w_copies (T := (zu T.1 0 0, T.2)) hD (f := 9) (t := 0) (by omega) (by omega) (by omega)) (zcc rfl (zcc rfl zc0)) rfl (Nat.le_of_ble_eq_true rfl) (Nat.le_of_ble_eq_true rfl) (Nat.le_of_ble_eq_true rfl) (fun _ _ ⟨e1, e2⟩ => ?_)
    subst e1; rw [e2]
    have hR' : tR (tcp T.2.1 9 0 130) 0 s := tR.cp (t := 0) hs
    refine zW.aload_n (pc' := 21) dX3_restore_20 rfl rfl zg0 rfl ?_
    refine zW.iconst (pc' := 22) (nI 0) dX3_restore_21 rfl (by decide) ?_
    refine zT.putN (pc' := 25) dX3_restore_22 rfl f_X3_37_3 (zFw.of ft_3_2 rfl rfl) rfl ?_
    try dsimp only
    refine zW.aload_n (pc' := 26) dX3_restore_25 rfl rfl zg0 rfl ?_
    refine zT.get (pc' := 29) dX3_restore_26 rfl f_X3_9_3 rfl ?_
    try dsimp only
    refine zW.iconst (pc' := 30) (nI 2) dX3_restore_29 rfl (by decide) ?_
    first | refine zT.ald1 (pc' := 31) dX3_restore_30 rfl hD (by omega) ?_ | refine zT.ald4 (pc' := 31) dX3_restore_30 rfl hD (by omega) ?_
    try dsimp only
    rw [hR'.ac]
    refine zW.iret dX3_restore_31 rfl (rfl) ?_
    obtain ⟨hR0, ⟨⟨a1, a2, a3⟩, ⟨a4, a5⟩, ⟨a6, a7, a8⟩, ⟨a9, a10, a11⟩, a12, a13⟩⟩ := hW
    have ec : ∀ j, 130 ≤ j → tcp T.2.1 9 0 130 j = T.2.1 j := fun j hj => by
      unfold tcp; rw [if_neg (by omega)]
    have hz : ∀ f, f ≠ 0 → f ≠ 2 → zu (zu T.1 0 0) 2 0 f = T.1 f := fun f h h' => (zu_n h').trans (zu_n h)
    have hz0 : zu (zu T.1 0 0) 2 0 0 = 0 := (zu_n (by decide)).trans zu_s
    have hz2 : zu (zu T.1 0 0) 2 0 2 = 0 := zu_s
    exact ⟨_, (zu (zu T.1 0 0) 2 0, tcp T.2.1 9 0 130, T.2.2), rfl, ⟨rfl, hz0, hR', ⟨hz2, Nat.zero_le _, fun i S hS => absurd hS (by simp)⟩, ⟨(hz 3 (by decide) (by decide)).trans a4, fun S hS => (a5 S hS).cg fun j hj => ec _ (by omega)⟩, ⟨(hz 6 (by decide) (by decide)).trans a6, a7, a8⟩, ⟨(hz 8 (by decide) (by decide)).trans a9, a10, a11⟩, (hz 11 (by decide) (by decide)).trans a12, (hz 12 (by decide) (by decide)).trans a13⟩, rfl⟩
end
