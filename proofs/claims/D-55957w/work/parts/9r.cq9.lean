/-! THE CLASS's lineChar, append, places, undoableCount -/
section
set_option maxRecDepth 100000
variable {G : zG} {h h' h1 : zH} {O U V : Nat → Prop} {x st tt nn e : Nat} {X : List zA} {w : sW} {y : Int32}
theorem c_lineChar (hG : cReg x 0 [] w h U) (hl : w.2.2.2.1.length < 2 ^ 20) : zK G mX1_lineChar 40 2 [.ref x, .int y] h (cOut x U h [eIdx] ((qLine w.2.2.2.1 y).1, (qLine w.2.2.2.1 y).2, w)) := by
  refine zW.post (Q1 := cAns [eIdx] h (qLine w.2.2.2.1 y)) ?_ fun o h' k => cOut.ans hG k
  obtain ⟨st, O, hS, l, k⟩ := hG
  obtain ⟨sv, hq, ib, lb, v, Ob, hx, nx, kS, -, -, -⟩ := k.line
  obtain ⟨ml, t, hlb, -⟩ := id kS
  show zW G mX1_lineChar 40 2 0 [.ref x, .int y] [] h _
  refine zW.iload_n (pc' := 1) dX1_lineChar_0 rfl rfl (zgS (zg0)) ?_
  refine zW.iconst (pc' := 2) (nI 0) dX1_lineChar_1 rfl (by decide) ?_
  refine zW.aload_n (pc' := 3) dX1_lineChar_2 rfl rfl zg0 rfl ?_
  refine zW.get (pc' := 6) dX1_lineChar_3 rfl f_X1_30_0 hx ⟨rfl, (Nat.le_of_ble_eq_true rfl)⟩ rfl ?_
  refine zW.callV (r' := 0) (pc' := 9) dX1_lineChar_6 rfl l_X1_377 rfl hlb ⟨rfl, (Nat.le_of_ble_eq_true rfl)⟩ rfl (w_sbLen kS) zc0 rfl (Nat.le_of_ble_eq_true rfl) (Nat.le_of_ble_eq_true rfl) (Nat.le_of_ble_eq_true rfl) (fun _ _ q9 => ?_) (fun _ _ q9 => by cases q9.1)
  obtain ⟨q8, e9⟩ := q9
  cases q8
  replace e9 := e9.symm
  subst e9
  refine zW.iconst (pc' := 10) (nI 1) dX1_lineChar_9 rfl (by decide) ?_
  refine zW.isub (pc' := 11) dX1_lineChar_10 rfl ?_
  refine zW.callS (r' := 0) (pc' := 14) dX1_lineChar_11 rfl l_X1_52 rfl (w_btw) (zcc rfl (zcc rfl (zcc rfl zc0))) rfl (Nat.le_of_ble_eq_true rfl) (Nat.le_of_ble_eq_true rfl) (Nat.le_of_ble_eq_true rfl) (fun _ _ q9 => ?_) (fun _ _ q9 => by cases q9.1)
  obtain ⟨q8, e9⟩ := q9
  cases q8
  replace e9 := e9.symm
  subst e9
  rw [sIn_pos (by omega)]
  by_cases q : sPos y w.2.2.2.1.length = true
  · rw [if_pos q]
    refine zW.callS (r' := 0) (pc' := 17) dX1_lineChar_14 rfl l_X1_187 rfl (w_chkIndex1) (zcc rfl zc0) rfl (Nat.le_of_ble_eq_true rfl) (Nat.le_of_ble_eq_true rfl) (Nat.le_of_ble_eq_true rfl) (fun _ _ q9 => ?_) (fun _ _ q9 => by cases q9.1)
    obtain ⟨q8, e9⟩ := q9
    cases q8
    replace e9 := e9.symm
    subst e9
    obtain ⟨n, e1, hn, e2⟩ := sPos_nat q
    rw [e1]
    have hxn : w.2.2.2.1[n]? = some (w.2.2.2.1.getD n 0) := by rw [List.getD_eq_getElem?_getD, List.getElem?_eq_getElem hn]; rfl
    obtain ⟨ml', t', hlb', hv', h3', h4'⟩ := id kS
    have hx1 := h4' _ (List.mem_append_left _ (List.mem_of_getElem? hxn))
    refine zW.aload_n (pc' := 18) dX1_lineChar_17 rfl rfl zg0 rfl ?_
    refine zW.get (pc' := 21) dX1_lineChar_18 rfl f_X1_30_0 hx ⟨rfl, (Nat.le_of_ble_eq_true rfl)⟩ rfl ?_
    refine zW.iload_n (pc' := 22) dX1_lineChar_21 rfl rfl (zgS (zg0)) ?_
    refine zW.callV (r' := 0) (pc' := 25) dX1_lineChar_22 rfl l_X1_380 rfl hlb ⟨rfl, (Nat.le_of_ble_eq_true rfl)⟩ rfl (w_sbAt kS hxn) (zcc rfl zc0) rfl (Nat.le_of_ble_eq_true rfl) (Nat.le_of_ble_eq_true rfl) (Nat.le_of_ble_eq_true rfl) (fun _ _ q9 => ?_) (fun _ _ q9 => by cases q9.1)
    obtain ⟨q8, e9⟩ := q9
    cases q8
    replace e9 := e9.symm
    subst e9
    refine zW.iret dX1_lineChar_25 rfl ((nI_char (by omega))) ?_
    exact cAns.ok (by unfold qLine; rw [← e1, if_pos q, e2])
  · rw [if_neg q]
    refine zW.callS (r' := 2) (pc' := 17) dX1_lineChar_14 rfl l_X1_187 rfl (w_chkIndex0) (zcc rfl zc0) rfl (Nat.le_of_ble_eq_true rfl) (Nat.le_of_ble_eq_true rfl) (Nat.le_of_ble_eq_true rfl) (fun _ _ q9 => by cases q9.1) (fun _ _ q9 => ?_)
    obtain ⟨q8, e9⟩ := q9
    cases q8
    replace e9 := e9.symm
    subst e9
    refine zX.out0 rfl ?_
    exact cAns.no (by unfold qLine; rw [if_neg q]) rfl
theorem c_append (hG : cReg x 0 [] w h U) (hl : w.2.2.2.2.1.length ≤ 60) : zK G mX1_append 40 60 [.ref x, .int y] h (cOut x U h [eArg, eSta] (sAppend w y)) := by
  have hG0 := hG
  obtain ⟨st, O, hS, l, k⟩ := hG
  obtain ⟨sv, hq, ib, lb, v, Ob, hx, nx, kS, oo, lB, put⟩ := k.inp
  obtain ⟨ml, t, hib, -⟩ := id kS
  show zW G mX1_append 40 60 0 [.ref x, .int y] [] h _
  refine zW.iload_n (pc' := 1) dX1_append_0 rfl rfl (zgS (zg0)) ?_
  refine zW.bipush (pc' := 3) (nI 32) dX1_append_1 rfl (by decide) ?_
  refine zW.bipush (pc' := 5) (nI 126) dX1_append_3 rfl (by decide) ?_
  refine zW.callS (r' := 0) (pc' := 8) dX1_append_5 rfl l_X1_52 rfl (w_btw) (zcc rfl (zcc rfl (zcc rfl zc0))) rfl (Nat.le_of_ble_eq_true rfl) (Nat.le_of_ble_eq_true rfl) (Nat.le_of_ble_eq_true rfl) (fun _ _ q9 => ?_) (fun _ _ q9 => by cases q9.1)
  obtain ⟨q8, e9⟩ := q9
  cases q8
  replace e9 := e9.symm
  subst e9
  by_cases q : sIn y (nI 32) (nI 126) = true
  rotate_left
  · rw [if_neg q]
    refine zW.callS (r' := 2) (pc' := 11) dX1_append_8 rfl l_X1_88 rfl (w_chkArgument0) (zcc rfl zc0) rfl (Nat.le_of_ble_eq_true rfl) (Nat.le_of_ble_eq_true rfl) (Nat.le_of_ble_eq_true rfl) (fun _ _ q9 => by cases q9.1) (fun _ _ q9 => ?_)
    obtain ⟨q8, e9⟩ := q9
    cases q8
    replace e9 := e9.symm
    subst e9
    refine zX.out0 rfl ?_
    exact cOut.no hG0 (k := 0) (v := nI 0) (by unfold sAppend; rw [if_neg q]) rfl
  rw [if_pos q]
  refine zW.callS (r' := 0) (pc' := 11) dX1_append_8 rfl l_X1_88 rfl (w_chkArgument1) (zcc rfl zc0) rfl (Nat.le_of_ble_eq_true rfl) (Nat.le_of_ble_eq_true rfl) (Nat.le_of_ble_eq_true rfl) (fun _ _ q9 => ?_) (fun _ _ q9 => by cases q9.1)
  obtain ⟨q8, e9⟩ := q9
  cases q8
  replace e9 := e9.symm
  subst e9
  refine zW.aload_n (pc' := 12) dX1_append_11 rfl rfl zg0 rfl ?_
  refine zW.get (pc' := 15) dX1_append_12 rfl f_X1_26_0 hx ⟨rfl, (Nat.le_of_ble_eq_true rfl)⟩ rfl ?_
  refine zW.callV (r' := 0) (pc' := 18) dX1_append_15 rfl l_X1_377 rfl hib ⟨rfl, (Nat.le_of_ble_eq_true rfl)⟩ rfl (w_sbLen kS) zc0 rfl (Nat.le_of_ble_eq_true rfl) (Nat.le_of_ble_eq_true rfl) (Nat.le_of_ble_eq_true rfl) (fun _ _ q9 => ?_) (fun _ _ q9 => by cases q9.1)
  obtain ⟨q8, e9⟩ := q9
  cases q8
  replace e9 := e9.symm
  subst e9
  refine zW.bipush (pc' := 20) (nI 60) dX1_append_18 rfl (by decide) ?_
  refine zW.icmp_geN (pc' := 23) 27 dX1_append_20 rfl (by decide) (by omega) (by omega) (fun b1 => ?_) (fun b1 => ?_)
  · refine zW.iconst (pc' := 28) (nI 0) dX1_append_27 rfl (by decide) ?_
    refine zW.callS (r' := 2) (pc' := 31) dX1_append_28 rfl l_X1_98 rfl (w_chkState0) (zcc rfl zc0) rfl (Nat.le_of_ble_eq_true rfl) (Nat.le_of_ble_eq_true rfl) (Nat.le_of_ble_eq_true rfl) (fun _ _ q9 => by cases q9.1) (fun _ _ q9 => ?_)
    obtain ⟨q8, e9⟩ := q9
    cases q8
    replace e9 := e9.symm
    subst e9
    refine zX.out0 rfl ?_
    exact cOut.no hG0 (k := 1) (v := nI 0) (by unfold sAppend; rw [if_pos q, if_pos (by omega)]) rfl
  refine zW.iconst (pc' := 24) (nI 1) dX1_append_23 rfl (by decide) ?_
  refine zW.goto 28 dX1_append_24 (by decide) ?_
  refine zW.callS (r' := 0) (pc' := 31) dX1_append_28 rfl l_X1_98 rfl (w_chkState1) (zcc rfl zc0) rfl (Nat.le_of_ble_eq_true rfl) (Nat.le_of_ble_eq_true rfl) (Nat.le_of_ble_eq_true rfl) (fun _ _ q9 => ?_) (fun _ _ q9 => by cases q9.1)
  obtain ⟨q8, e9⟩ := q9
  cases q8
  replace e9 := e9.symm
  subst e9
  obtain ⟨m, hm, -, h3, em⟩ := sIn_nat q (by decide) (by decide)
  subst hm
  refine zW.aload_n (pc' := 32) dX1_append_31 rfl rfl zg0 rfl ?_
  refine zW.get (pc' := 35) dX1_append_32 rfl f_X1_26_0 hx ⟨rfl, (Nat.le_of_ble_eq_true rfl)⟩ rfl ?_
  refine zW.iload_n (pc' := 36) dX1_append_35 rfl rfl (zgS (zg0)) ?_
  refine zW.callV (r' := 51) (pc' := 39) dX1_append_36 rfl l_X1_359 rfl hib ⟨rfl, (Nat.le_of_ble_eq_true rfl)⟩ rfl (w_sbAppC kS (x := m) (by omega) (by omega)) (zcc rfl zc0) rfl (Nat.le_of_ble_eq_true rfl) (Nat.le_of_ble_eq_true rfl) (Nat.le_of_ble_eq_true rfl) (fun _ _ q9 => ?_) (fun _ _ q9 => absurd q9 zO.no)
  obtain ⟨_, q8, e1, v', k2, hv', z⟩ := q9
  cases q8
  subst e1
  have zO : zfr Ob h _ := z.mono fun b hb => Or.inl (hb.elim (fun q => by rw [q]; exact oo.1) fun q => by rw [q]; exact oo.2)
  have hx := zO.at hx nx
  obtain ⟨ml2, t2, hib2, -⟩ := id k2
  refine zW.pop (pc' := 40) dX1_append_39 rfl rfl ?_
  refine zW.aload_n (pc' := 41) dX1_append_40 rfl rfl zg0 rfl ?_
  refine zW.get (pc' := 44) dX1_append_41 rfl f_X1_26_0 hx ⟨rfl, (Nat.le_of_ble_eq_true rfl)⟩ rfl ?_
  refine zW.callV (r' := 0) (pc' := 47) dX1_append_44 rfl l_X1_377 rfl hib2 ⟨rfl, (Nat.le_of_ble_eq_true rfl)⟩ rfl (w_sbLen k2) zc0 rfl (Nat.le_of_ble_eq_true rfl) (Nat.le_of_ble_eq_true rfl) (Nat.le_of_ble_eq_true rfl) (fun _ _ q9 => ?_) (fun _ _ q9 => by cases q9.1)
  obtain ⟨q8, e9⟩ := q9
  cases q8
  replace e9 := e9.symm
  subst e9
  rw [List.length_append, List.length_singleton]
  refine zW.iret dX1_append_47 rfl (rfl) ?_
  have k3 := put _ v' _ zO k2 (hv'.elim (fun q => by rw [q]; exact Or.inl oo.2) fun q => Or.inr q)
  refine cOut.ok ?_ (cReg.mk' (w' := (w.1, w.2.1, w.2.2.1, w.2.2.2.1, w.2.2.2.2.1 ++ [m], w.2.2.2.2.2)) l lB hS zO k3)
  unfold sAppend
  rw [if_pos q, if_neg (by omega), em]
theorem c_errorPosition (hG : cReg x 0 [] w h U) (hl : w.2.2.2.2.2.1 < 2 ^ 30) : zK G mX1_errorPosition 40 2 [.ref x] h (cOut x U h [eElt] ((qPlace w.2.2.2.2.2.1).1, (qPlace w.2.2.2.2.2.1).2, w)) := by
  refine zW.post (Q1 := cAns [eElt] h (qPlace w.2.2.2.2.2.1)) ?_ fun o h' k => cOut.ans hG k
  obtain ⟨st, O, hS, l, k⟩ := hG
  obtain ⟨sv, hq, ib, lb, v, Ob, hx, -⟩ := k.line
  show zW G mX1_errorPosition 40 2 0 [.ref x] [] h _
  refine zW.aload_n (pc' := 1) dX1_errorPosition_0 rfl rfl zg0 rfl ?_
  refine zW.get (pc' := 4) dX1_errorPosition_1 rfl f_X1_33_0 hx ⟨rfl, (Nat.le_of_ble_eq_true rfl)⟩ rfl ?_
  refine zW.iconst (pc' := 5) (-1) dX1_errorPosition_4 rfl (by decide) ?_
  refine zW.icmp_eq (pc' := 8) 12 dX1_errorPosition_5 rfl (by decide) (fun b1 => ?_) (fun b1 => ?_)
  · have q := (nI_m1 hl).mp b1
    refine zW.iconst (pc' := 13) (nI 0) dX1_errorPosition_12 rfl (by decide) ?_
    refine zW.callS (r' := 2) (pc' := 16) dX1_errorPosition_13 rfl l_X1_80 rfl (w_chkElement0) (zcc rfl zc0) rfl (Nat.le_of_ble_eq_true rfl) (Nat.le_of_ble_eq_true rfl) (Nat.le_of_ble_eq_true rfl) (fun _ _ q9 => by cases q9.1) (fun _ _ q9 => ?_)
    obtain ⟨q8, e9⟩ := q9
    cases q8
    replace e9 := e9.symm
    subst e9
    refine zX.out0 rfl ?_
    exact cAns.no (by unfold qPlace; rw [if_pos q]) rfl
  · have q : ¬ w.2.2.2.2.2.1 = 0 := fun q => b1 ((nI_m1 hl).mpr q)
    refine zW.iconst (pc' := 9) (nI 1) dX1_errorPosition_8 rfl (by decide) ?_
    refine zW.goto 13 dX1_errorPosition_9 (by decide) ?_
    refine zW.callS (r' := 0) (pc' := 16) dX1_errorPosition_13 rfl l_X1_80 rfl (w_chkElement1) (zcc rfl zc0) rfl (Nat.le_of_ble_eq_true rfl) (Nat.le_of_ble_eq_true rfl) (Nat.le_of_ble_eq_true rfl) (fun _ _ q9 => ?_) (fun _ _ q9 => by cases q9.1)
    obtain ⟨q8, e9⟩ := q9
    cases q8
    replace e9 := e9.symm
    subst e9
    refine zW.aload_n (pc' := 17) dX1_errorPosition_16 rfl rfl zg0 rfl ?_
    refine zW.get (pc' := 20) dX1_errorPosition_17 rfl f_X1_33_0 hx ⟨rfl, (Nat.le_of_ble_eq_true rfl)⟩ rfl ?_
    rw [nI_sub (by omega)]
    refine zW.iret dX1_errorPosition_20 rfl (rfl) ?_
    exact cAns.ok (by unfold qPlace; rw [if_neg q])
theorem c_failedCommand (hG : cReg x 0 [] w h U) (hl : w.2.2.2.2.2.2 < 2 ^ 30) : zK G mX1_failedCommand 40 2 [.ref x] h (cOut x U h [eElt] ((qPlace w.2.2.2.2.2.2).1, (qPlace w.2.2.2.2.2.2).2, w)) := by
  refine zW.post (Q1 := cAns [eElt] h (qPlace w.2.2.2.2.2.2)) ?_ fun o h' k => cOut.ans hG k
  obtain ⟨st, O, hS, l, k⟩ := hG
  obtain ⟨sv, hq, ib, lb, v, Ob, hx, -⟩ := k.line
  show zW G mX1_failedCommand 40 2 0 [.ref x] [] h _
  refine zW.aload_n (pc' := 1) dX1_failedCommand_0 rfl rfl zg0 rfl ?_
  refine zW.get (pc' := 4) dX1_failedCommand_1 rfl f_X1_37_0 hx ⟨rfl, (Nat.le_of_ble_eq_true rfl)⟩ rfl ?_
  refine zW.iconst (pc' := 5) (-1) dX1_failedCommand_4 rfl (by decide) ?_
  refine zW.icmp_eq (pc' := 8) 12 dX1_failedCommand_5 rfl (by decide) (fun b1 => ?_) (fun b1 => ?_)
  · have q := (nI_m1 hl).mp b1
    refine zW.iconst (pc' := 13) (nI 0) dX1_failedCommand_12 rfl (by decide) ?_
    refine zW.callS (r' := 2) (pc' := 16) dX1_failedCommand_13 rfl l_X1_80 rfl (w_chkElement0) (zcc rfl zc0) rfl (Nat.le_of_ble_eq_true rfl) (Nat.le_of_ble_eq_true rfl) (Nat.le_of_ble_eq_true rfl) (fun _ _ q9 => by cases q9.1) (fun _ _ q9 => ?_)
    obtain ⟨q8, e9⟩ := q9
    cases q8
    replace e9 := e9.symm
    subst e9
    refine zX.out0 rfl ?_
    exact cAns.no (by unfold qPlace; rw [if_pos q]) rfl
  · have q : ¬ w.2.2.2.2.2.2 = 0 := fun q => b1 ((nI_m1 hl).mpr q)
    refine zW.iconst (pc' := 9) (nI 1) dX1_failedCommand_8 rfl (by decide) ?_
    refine zW.goto 13 dX1_failedCommand_9 (by decide) ?_
    refine zW.callS (r' := 0) (pc' := 16) dX1_failedCommand_13 rfl l_X1_80 rfl (w_chkElement1) (zcc rfl zc0) rfl (Nat.le_of_ble_eq_true rfl) (Nat.le_of_ble_eq_true rfl) (Nat.le_of_ble_eq_true rfl) (fun _ _ q9 => ?_) (fun _ _ q9 => by cases q9.1)
    obtain ⟨q8, e9⟩ := q9
    cases q8
    replace e9 := e9.symm
    subst e9
    refine zW.aload_n (pc' := 17) dX1_failedCommand_16 rfl rfl zg0 rfl ?_
    refine zW.get (pc' := 20) dX1_failedCommand_17 rfl f_X1_37_0 hx ⟨rfl, (Nat.le_of_ble_eq_true rfl)⟩ rfl ?_
    rw [nI_sub (by omega)]
    refine zW.iret dX1_failedCommand_20 rfl (rfl) ?_
    exact cAns.ok (by unfold qPlace; rw [if_neg q])
theorem c_undoableCount (hG : cReg x 0 [] w h U) : zK G mX1_undoableCount 40 2 [.ref x] h (cOut x U h [] ((sUndoable w).1, (sUndoable w).2, w)) := by
  refine zW.post (Q1 := cAns [] h (sUndoable w)) ?_ fun o h' k => cOut.ans hG k
  obtain ⟨st, O, hS, l, sv, hq, ib, lb, SH, ⟨h1, h2, h3⟩, k⟩ := hG
  obtain ⟨Ox, ⟨⟨hx, ox⟩, -⟩, lx, Od, ⟨⟨ar, hd, hQ, -⟩, -⟩, -⟩ := k
  have hq1 := hQ.2.1
  show zW G mX1_undoableCount 40 2 0 [.ref x] [] h _
  refine zW.aload_n (pc' := 1) dX1_undoableCount_0 rfl rfl zg0 rfl ?_
  refine zW.get (pc' := 4) dX1_undoableCount_1 rfl f_X1_19_0 hx ⟨rfl, (Nat.le_of_ble_eq_true rfl)⟩ rfl ?_
  refine zW.callV (r' := 0) (pc' := 7) dX1_undoableCount_4 rfl l_X1_68 rfl hq1 ⟨rfl, (Nat.le_of_ble_eq_true rfl)⟩ rfl (w_dqSize hQ) zc0 rfl (Nat.le_of_ble_eq_true rfl) (Nat.le_of_ble_eq_true rfl) (Nat.le_of_ble_eq_true rfl) (fun _ _ q9 => ?_) (fun _ _ q9 => by cases q9.1)
  obtain ⟨q8, e9⟩ := q9
  cases q8
  replace e9 := e9.symm
  subst e9
  rw [h1]
  refine zW.iret dX1_undoableCount_7 rfl (rfl) ?_
  exact cAns.ok rfl
end
