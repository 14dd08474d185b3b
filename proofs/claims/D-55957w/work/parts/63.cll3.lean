/-! LinkedList: an item is taken out -/
section
set_option maxRecDepth 100000
variable {G : zG} {h h' h0 : zH} {a it : Nat} {mc : Int32} {xs : List (Nat × Nat)}
theorem map_er {α β : Type} {f : α → β} : ∀ (l : List α) (i : Nat), (l.eraseIdx i).map f = (l.map f).eraseIdx i
  | [], _ => rfl
  | _ :: _, 0 => rfl
  | a :: l, i + 1 => by
    show f a :: (l.eraseIdx i).map f = f a :: (l.map f).eraseIdx i
    rw [map_er l i]
theorem cNd_er_lt {i j : Nat} (hj : j < i) : cNd (xs.eraseIdx i) j = cNd xs j := by unfold cNd; rw [List.getElem?_eraseIdx, if_pos hj]
theorem cNd_er_ge {i j : Nat} (hj : i ≤ j) : cNd (xs.eraseIdx i) j = cNd xs (j + 1) := by unfold cNd; rw [List.getElem?_eraseIdx, if_neg (Nat.not_lt.mpr hj)]
theorem cPd_er_le {i j : Nat} (hj : j ≤ i) : cPd (xs.eraseIdx i) j = cPd xs j := by
  cases j with
  | zero => rfl
  | succ j => exact cNd_er_lt hj
theorem cPd_er_gt {i j : Nat} (hj : i < j) : cPd (xs.eraseIdx i) j = cPd xs (j + 1) := by
  cases j with
  | zero => omega
  | succ j => exact cNd_er_ge (by omega)
theorem cLL.erase (hL : cLL h a mc xs) {mc' : Int32} {i : Nat} {p : Nat × Nat} (hi : xs[i]? = some p) (ha : h' a = some (6, [.int mc', .int (nI (xs.length - 1)), zrf (if i = 0 then cNd xs 1 else cNd xs 0), zrf (if i + 1 = xs.length then cPd xs i else cPd xs xs.length)]))
    (hq : ∀ j q, i = j + 1 → xs[j]? = some q → h' q.1 = some (7, [.ref q.2, zrf (cNd xs (i + 1)), zrf (cPd xs j)])) (hr : ∀ r, xs[i + 1]? = some r → h' r.1 = some (7, [.ref r.2, zrf (cNd xs (i + 2)), zrf (cPd xs i)]))
    (ho : ∀ j q, xs[j]? = some q → j ≠ i → j + 1 ≠ i → j ≠ i + 1 → h' q.1 = h q.1) : cLL h' a mc' (xs.eraseIdx i) := by
  have hil := (List.getElem?_eq_some_iff.mp hi).1
  have hlen : (xs.eraseIdx i).length = xs.length - 1 := by rw [List.length_eraseIdx, if_pos hil]
  have hL1 := hL.2.1
  refine ⟨?_, fun j q e => ?_, ?_⟩
  · rw [hlen]
    have e1 : cNd (xs.eraseIdx i) 0 = if i = 0 then cNd xs 1 else cNd xs 0 := by
      by_cases q : i = 0
      · rw [if_pos q, cNd_er_ge (by omega)]
      · rw [if_neg q, cNd_er_lt (by omega)]
    have e2 : cPd (xs.eraseIdx i) (xs.length - 1) = if i + 1 = xs.length then cPd xs i else cPd xs xs.length := by
      by_cases q : i + 1 = xs.length
      · rw [if_pos q, show xs.length - 1 = i by omega, cPd_er_le (Nat.le_refl _)]
      · rw [if_neg q, cPd_er_gt (by omega), show xs.length - 1 + 1 = xs.length by omega]
    rw [e1, e2]
    exact ha
  · rw [List.getElem?_eraseIdx] at e
    by_cases q1 : j < i
    · rw [if_pos q1] at e
      rw [cPd_er_le (by omega)]
      by_cases q2 : j + 1 = i
      · rw [cNd_er_ge (by omega), hq j q q2.symm e, q2]
      · rw [cNd_er_lt (by omega), ho j q e (by omega) q2 (by omega)]
        exact hL1 j q e
    · rw [if_neg q1] at e
      rw [cNd_er_ge (by omega)]
      by_cases q2 : j = i
      · subst q2
        rw [cPd_er_le (Nat.le_refl _), hr q e]
      · rw [cPd_er_gt (by omega), ho (j + 1) q e (by omega) (by omega) (by omega)]
        exact hL1 (j + 1) q e
  · rw [map_er]
    exact hL.2.2.sublist (List.eraseIdx_sublist _ _)
theorem w_unlink (hL : cLL h a mc xs) {i : Nat} {p : Nat × Nat} (hi : xs[i]? = some p) : zK G mJ3_unlink 1 0 [.ref a, .ref p.1] h (zO fun v h' => v = some (.ref p.2) ∧ cLL h' a (mc + nI 1) (xs.eraseIdx i) ∧ zfr (cLf a xs) h h') := by
  have hl := hL.1
  have hL1 := hL.2.1
  have hp := hL1 _ _ hi
  have hil := (List.getElem?_eq_some_iff.mp hi).1
  have hmem : ∀ (j : Nat) (q : Nat × Nat), xs[j]? = some q → cLf a xs q.1 := fun j q e => Or.inr (List.mem_map_of_mem (List.mem_of_getElem? e))
  have hla : ∀ (j : Nat) (q : Nat × Nat), xs[j]? = some q → q.1 ≠ a := fun j q e => zne (hL1 _ _ e) hL.1 (by decide)
  have hlv : ∀ (j : Nat) (q : Nat × Nat), xs[j]? = some q → h q.1 ≠ none := fun j q e => by rw [hL1 _ _ e]; exact fun z => by cases z
  cases i with
  | zero =>
    rcases hr0 : xs[1]? with - | r
    · have hn : xs.length = 1 := by have := List.getElem?_eq_none_iff.mp hr0; omega
      have e1 : cNd xs 1 = none := cNd_no (by omega)
      rw [show cNd xs (0 + 1) = none from e1] at hp
      have hf := zfr.rf (A := fun b => b = a ∨ b = p.1) (h := h)
      show zW G mJ3_unlink 1 0 0 [.ref a, .ref p.1, zho, zho, zho] [] h _
      refine zW.aload_n (pc' := 1) dJ3_unlink_0 rfl rfl (zgS (zg0)) rfl ?_
      refine zW.get (pc' := 4) dJ3_unlink_1 rfl f_J3_39_7 hp ⟨rfl, (Nat.le_of_ble_eq_true rfl)⟩ rfl ?_
      refine zW.astore_n (pc' := 5) dJ3_unlink_4 rfl rfl (Nat.le_of_ble_eq_true rfl) rfl (zsS (zsS (zs0))) ?_
      refine zW.aload_n (pc' := 6) dJ3_unlink_5 rfl rfl (zgS (zg0)) rfl ?_
      refine zW.get (pc' := 9) dJ3_unlink_6 rfl f_J3_36_7 hp ⟨rfl, (Nat.le_of_ble_eq_true rfl)⟩ rfl ?_
      refine zW.astore_n (pc' := 10) dJ3_unlink_9 rfl rfl (Nat.le_of_ble_eq_true rfl) zrf_ir (zsS (zsS (zsS (zs0)))) ?_
      refine zW.aload_n (pc' := 11) dJ3_unlink_10 rfl rfl (zgS (zg0)) rfl ?_
      refine zW.get (pc' := 14) dJ3_unlink_11 rfl f_J3_30_7 hp ⟨rfl, (Nat.le_of_ble_eq_true rfl)⟩ rfl ?_
      refine zW.astore (pc' := 16) dJ3_unlink_14 rfl (Nat.le_of_ble_eq_true rfl) zrf_ir (zsS (zsS (zsS (zsS (zs0))))) ?_
      refine zW.aload (pc' := 18) dJ3_unlink_16 rfl (zgS (zgS (zgS (zgS (zg0))))) zrf_ir ?_
      refine zW.ifnonnull (pc' := 21) 29 dJ3_unlink_18 rfl (by decide) zrf_ir (fun b1 => ?_) (fun b1 => ?_)
      · exact absurd rfl b1
      refine zW.aload_n (pc' := 22) dJ3_unlink_21 rfl rfl zg0 rfl ?_
      refine zW.aload_n (pc' := 23) dJ3_unlink_22 rfl rfl (zgS (zgS (zgS (zg0)))) zrf_ir ?_
      refine zW.putK (pc' := 26) dJ3_unlink_23 rfl f_J3_18_6 hl ⟨⟨rfl, (Nat.le_of_ble_eq_true rfl)⟩, (Nat.le_of_ble_eq_true rfl)⟩ (zFw.of ft_6_2 zrf_nar zrf_fit) (zsS (zsS (zs0))) (fun _ e9 k9 => ?_)
      have hp := zpres e9 (zne hp hl (by decide)) hp
      have hf := hf.put e9 hl (by decide) (Or.inl (Or.inl rfl))
      replace hl := k9
      clear e9 k9
      refine zW.goto 40 dJ3_unlink_26 (by decide) ?_
      refine zW.aload_n (pc' := 41) dJ3_unlink_40 rfl rfl (zgS (zgS (zgS (zg0)))) zrf_ir ?_
      refine zW.ifnonnull (pc' := 44) 53 dJ3_unlink_41 rfl (by decide) zrf_ir (fun b2 => ?_) (fun b2 => ?_)
      · exact absurd rfl b2
      refine zW.aload_n (pc' := 45) dJ3_unlink_44 rfl rfl zg0 rfl ?_
      refine zW.aload (pc' := 47) dJ3_unlink_45 rfl (zgS (zgS (zgS (zgS (zg0))))) zrf_ir ?_
      refine zW.putK (pc' := 50) dJ3_unlink_47 rfl f_J3_27_6 hl ⟨⟨rfl, (Nat.le_of_ble_eq_true rfl)⟩, (Nat.le_of_ble_eq_true rfl)⟩ (zFw.of ft_6_3 zrf_nar zrf_fit) (zsS (zsS (zsS (zs0)))) (fun _ e9 k9 => ?_)
      have hp := zpres e9 (zne hp hl (by decide)) hp
      have hf := hf.put e9 hl (by decide) (Or.inl (Or.inl rfl))
      replace hl := k9
      clear e9 k9
      refine zW.goto 64 dJ3_unlink_50 (by decide) ?_
      refine zW.aload_n (pc' := 65) dJ3_unlink_64 rfl rfl (zgS (zg0)) rfl ?_
      refine zW.null (pc' := 66) dJ3_unlink_65 rfl ?_
      refine zW.putK (pc' := 69) dJ3_unlink_66 rfl f_J3_39_7 hp ⟨⟨rfl, (Nat.le_of_ble_eq_true rfl)⟩, (Nat.le_of_ble_eq_true rfl)⟩ (zFw.of ft_7_0 rfl rfl) zs0 (fun _ e9 k9 => ?_)
      have hl := zpres e9 (zne hl hp (by decide)) hl
      have hf := hf.put e9 hp (by decide) (Or.inl (Or.inr rfl))
      replace hp := k9
      clear e9 k9
      refine zW.aload_n (pc' := 70) dJ3_unlink_69 rfl rfl zg0 rfl ?_
      refine zW.dup (pc' := 71) dJ3_unlink_70 rfl rfl ?_
      refine zW.get (pc' := 74) dJ3_unlink_71 rfl f_J3_7_6 hl ⟨rfl, (Nat.le_of_ble_eq_true rfl)⟩ rfl ?_
      refine zW.iconst (pc' := 75) (nI 1) dJ3_unlink_74 rfl (by decide) ?_
      refine zW.isubN (pc' := 76) dJ3_unlink_75 rfl (by omega) ?_
      refine zW.putK (pc' := 79) dJ3_unlink_76 rfl f_J3_7_6 hl ⟨⟨rfl, (Nat.le_of_ble_eq_true rfl)⟩, (Nat.le_of_ble_eq_true rfl)⟩ (zFw.of ft_6_1 rfl rfl) (zsS (zs0)) (fun _ e9 k9 => ?_)
      have hp := zpres e9 (zne hp hl (by decide)) hp
      have hf := hf.put e9 hl (by decide) (Or.inl (Or.inl rfl))
      replace hl := k9
      clear e9 k9
      refine zW.aload_n (pc' := 80) dJ3_unlink_79 rfl rfl zg0 rfl ?_
      refine zW.dup (pc' := 81) dJ3_unlink_80 rfl rfl ?_
      refine zW.get (pc' := 84) dJ3_unlink_81 rfl f_J3_33_6 hl ⟨rfl, (Nat.le_of_ble_eq_true rfl)⟩ rfl ?_
      refine zW.iconst (pc' := 85) (nI 1) dJ3_unlink_84 rfl (by decide) ?_
      refine zW.iadd (pc' := 86) dJ3_unlink_85 rfl ?_
      refine zW.putK (pc' := 89) dJ3_unlink_86 rfl f_J3_33_6 hl ⟨⟨rfl, (Nat.le_of_ble_eq_true rfl)⟩, (Nat.le_of_ble_eq_true rfl)⟩ (zFw.of ft_6_0 rfl rfl) zs0 (fun _ e9 k9 => ?_)
      have hp := zpres e9 (zne hp hl (by decide)) hp
      have hf := hf.put e9 hl (by decide) (Or.inl (Or.inl rfl))
      replace hl := k9
      clear e9 k9
      refine zW.aload_n (pc' := 90) dJ3_unlink_89 rfl rfl (zgS (zgS (zg0))) rfl ?_
      refine zW.aret dJ3_unlink_90 rfl (Or.inl ⟨_, rfl⟩) rfl ?_
      refine ⟨_, rfl, rfl, cLL.erase hL hi ?_ (fun j q ej e => by omega) (fun r e => by rw [hr0] at e; cases e) (fun j q e n1 n2 n3 => ?_), hf.mono fun b hb => Or.inl (hb.elim Or.inl fun q => by rw [q]; exact hmem _ _ hi)⟩
      · rw [if_pos rfl, if_pos (show 0 + 1 = xs.length by omega), e1]
        exact hl
      · exact hf.1 _ (fun z => z.elim (hla _ _ e) (hL.ne e hi n1)) (hlv _ _ e)
    · have hr := hL1 _ _ hr0
      have hnrp : r.1 ≠ p.1 := hL.ne hr0 hi (by decide)
      have hrl := (List.getElem?_eq_some_iff.mp hr0).1
      have e1 : cNd xs 1 = some r.1 := cNd_at hr0
      rw [show cNd xs (0 + 1) = some r.1 from e1] at hp
      have hf := zfr.rf (A := fun b => b = a ∨ b = p.1 ∨ b = r.1) (h := h)
      show zW G mJ3_unlink 1 0 0 [.ref a, .ref p.1, zho, zho, zho] [] h _
      refine zW.aload_n (pc' := 1) dJ3_unlink_0 rfl rfl (zgS (zg0)) rfl ?_
      refine zW.get (pc' := 4) dJ3_unlink_1 rfl f_J3_39_7 hp ⟨rfl, (Nat.le_of_ble_eq_true rfl)⟩ rfl ?_
      refine zW.astore_n (pc' := 5) dJ3_unlink_4 rfl rfl (Nat.le_of_ble_eq_true rfl) rfl (zsS (zsS (zs0))) ?_
      refine zW.aload_n (pc' := 6) dJ3_unlink_5 rfl rfl (zgS (zg0)) rfl ?_
      refine zW.get (pc' := 9) dJ3_unlink_6 rfl f_J3_36_7 hp ⟨rfl, (Nat.le_of_ble_eq_true rfl)⟩ rfl ?_
      refine zW.astore_n (pc' := 10) dJ3_unlink_9 rfl rfl (Nat.le_of_ble_eq_true rfl) zrf_ir (zsS (zsS (zsS (zs0)))) ?_
      refine zW.aload_n (pc' := 11) dJ3_unlink_10 rfl rfl (zgS (zg0)) rfl ?_
      refine zW.get (pc' := 14) dJ3_unlink_11 rfl f_J3_30_7 hp ⟨rfl, (Nat.le_of_ble_eq_true rfl)⟩ rfl ?_
      refine zW.astore (pc' := 16) dJ3_unlink_14 rfl (Nat.le_of_ble_eq_true rfl) zrf_ir (zsS (zsS (zsS (zsS (zs0))))) ?_
      refine zW.aload (pc' := 18) dJ3_unlink_16 rfl (zgS (zgS (zgS (zgS (zg0))))) zrf_ir ?_
      refine zW.ifnonnull (pc' := 21) 29 dJ3_unlink_18 rfl (by decide) zrf_ir (fun b1 => ?_) (fun b1 => ?_)
      · exact absurd rfl b1
      refine zW.aload_n (pc' := 22) dJ3_unlink_21 rfl rfl zg0 rfl ?_
      refine zW.aload_n (pc' := 23) dJ3_unlink_22 rfl rfl (zgS (zgS (zgS (zg0)))) zrf_ir ?_
      refine zW.putK (pc' := 26) dJ3_unlink_23 rfl f_J3_18_6 hl ⟨⟨rfl, (Nat.le_of_ble_eq_true rfl)⟩, (Nat.le_of_ble_eq_true rfl)⟩ (zFw.of ft_6_2 zrf_nar zrf_fit) (zsS (zsS (zs0))) (fun _ e9 k9 => ?_)
      have hp := zpres e9 (zne hp hl (by decide)) hp
      have hr := zpres e9 (zne hr hl (by decide)) hr
      have hf := hf.put e9 hl (by decide) (Or.inl (Or.inl rfl))
      replace hl := k9
      clear e9 k9
      refine zW.goto 40 dJ3_unlink_26 (by decide) ?_
      refine zW.aload_n (pc' := 41) dJ3_unlink_40 rfl rfl (zgS (zgS (zgS (zg0)))) zrf_ir ?_
      refine zW.ifnonnull (pc' := 44) 53 dJ3_unlink_41 rfl (by decide) zrf_ir (fun b2 => ?_) (fun b2 => ?_)
      rotate_left
      · cases b2
      refine zW.aload_n (pc' := 54) dJ3_unlink_53 rfl rfl (zgS (zgS (zgS (zg0)))) zrf_ir ?_
      refine zW.aload (pc' := 56) dJ3_unlink_54 rfl (zgS (zgS (zgS (zgS (zg0))))) zrf_ir ?_
      refine zW.putK (pc' := 59) dJ3_unlink_56 rfl f_J3_30_7 hr ⟨⟨rfl, (Nat.le_of_ble_eq_true rfl)⟩, (Nat.le_of_ble_eq_true rfl)⟩ (zFw.of ft_7_2 zrf_nar zrf_fit) (zsS (zsS (zs0))) (fun _ e9 k9 => ?_)
      have hl := zpres e9 (zne hl hr (by decide)) hl
      have hp := zpres e9 (Ne.symm hnrp) hp
      have hf := hf.put e9 hr (by decide) (Or.inl (Or.inr (Or.inr rfl)))
      replace hr := k9
      clear e9 k9
      refine zW.aload_n (pc' := 60) dJ3_unlink_59 rfl rfl (zgS (zg0)) rfl ?_
      refine zW.null (pc' := 61) dJ3_unlink_60 rfl ?_
      refine zW.putK (pc' := 64) dJ3_unlink_61 rfl f_J3_36_7 hp ⟨⟨rfl, (Nat.le_of_ble_eq_true rfl)⟩, (Nat.le_of_ble_eq_true rfl)⟩ (zFw.of ft_7_1 rfl rfl) (zsS (zs0)) (fun _ e9 k9 => ?_)
      have hl := zpres e9 (zne hl hp (by decide)) hl
      have hr := zpres e9 hnrp hr
      have hf := hf.put e9 hp (by decide) (Or.inl (Or.inr (Or.inl rfl)))
      replace hp := k9
      clear e9 k9
      refine zW.aload_n (pc' := 65) dJ3_unlink_64 rfl rfl (zgS (zg0)) rfl ?_
      refine zW.null (pc' := 66) dJ3_unlink_65 rfl ?_
      refine zW.putK (pc' := 69) dJ3_unlink_66 rfl f_J3_39_7 hp ⟨⟨rfl, (Nat.le_of_ble_eq_true rfl)⟩, (Nat.le_of_ble_eq_true rfl)⟩ (zFw.of ft_7_0 rfl rfl) zs0 (fun _ e9 k9 => ?_)
      have hl := zpres e9 (zne hl hp (by decide)) hl
      have hr := zpres e9 hnrp hr
      have hf := hf.put e9 hp (by decide) (Or.inl (Or.inr (Or.inl rfl)))
      replace hp := k9
      clear e9 k9
      refine zW.aload_n (pc' := 70) dJ3_unlink_69 rfl rfl zg0 rfl ?_
      refine zW.dup (pc' := 71) dJ3_unlink_70 rfl rfl ?_
      refine zW.get (pc' := 74) dJ3_unlink_71 rfl f_J3_7_6 hl ⟨rfl, (Nat.le_of_ble_eq_true rfl)⟩ rfl ?_
      refine zW.iconst (pc' := 75) (nI 1) dJ3_unlink_74 rfl (by decide) ?_
      refine zW.isubN (pc' := 76) dJ3_unlink_75 rfl (by omega) ?_
      refine zW.putK (pc' := 79) dJ3_unlink_76 rfl f_J3_7_6 hl ⟨⟨rfl, (Nat.le_of_ble_eq_true rfl)⟩, (Nat.le_of_ble_eq_true rfl)⟩ (zFw.of ft_6_1 rfl rfl) (zsS (zs0)) (fun _ e9 k9 => ?_)
      have hp := zpres e9 (zne hp hl (by decide)) hp
      have hr := zpres e9 (zne hr hl (by decide)) hr
      have hf := hf.put e9 hl (by decide) (Or.inl (Or.inl rfl))
      replace hl := k9
      clear e9 k9
      refine zW.aload_n (pc' := 80) dJ3_unlink_79 rfl rfl zg0 rfl ?_
      refine zW.dup (pc' := 81) dJ3_unlink_80 rfl rfl ?_
      refine zW.get (pc' := 84) dJ3_unlink_81 rfl f_J3_33_6 hl ⟨rfl, (Nat.le_of_ble_eq_true rfl)⟩ rfl ?_
      refine zW.iconst (pc' := 85) (nI 1) dJ3_unlink_84 rfl (by decide) ?_
      refine zW.iadd (pc' := 86) dJ3_unlink_85 rfl ?_
      refine zW.putK (pc' := 89) dJ3_unlink_86 rfl f_J3_33_6 hl ⟨⟨rfl, (Nat.le_of_ble_eq_true rfl)⟩, (Nat.le_of_ble_eq_true rfl)⟩ (zFw.of ft_6_0 rfl rfl) zs0 (fun _ e9 k9 => ?_)
      have hp := zpres e9 (zne hp hl (by decide)) hp
      have hr := zpres e9 (zne hr hl (by decide)) hr
      have hf := hf.put e9 hl (by decide) (Or.inl (Or.inl rfl))
      replace hl := k9
      clear e9 k9
      refine zW.aload_n (pc' := 90) dJ3_unlink_89 rfl rfl (zgS (zgS (zg0))) rfl ?_
      refine zW.aret dJ3_unlink_90 rfl (Or.inl ⟨_, rfl⟩) rfl ?_
      refine ⟨_, rfl, rfl, cLL.erase hL hi ?_ (fun j q ej e => by omega) (fun r' e => by rw [hr0] at e; cases e; exact hr) (fun j q e n1 n2 n3 => ?_), hf.mono fun b hb => Or.inl (hb.elim Or.inl fun q => q.elim (fun q => by rw [q]; exact hmem _ _ hi) fun q => by rw [q]; exact hmem _ _ hr0)⟩
      · rw [if_pos rfl, if_neg (show ¬ 0 + 1 = xs.length by omega), e1]
        exact hl
      · exact hf.1 _ (fun z => z.elim (hla _ _ e) fun z => z.elim (hL.ne e hi n1) (hL.ne e hr0 n3)) (hlv _ _ e)
  | succ i =>
    obtain ⟨q, hq0⟩ : ∃ q, xs[i]? = some q := ⟨_, List.getElem?_eq_getElem (by omega)⟩
    have hq := hL1 _ _ hq0
    have hnqp : q.1 ≠ p.1 := hL.ne hq0 hi (by omega)
    have e0 : cPd xs (i + 1) = some q.1 := cNd_at hq0
    rw [e0] at hp
    rcases hr0 : xs[i + 1 + 1]? with - | r
    · have hn : xs.length = i + 2 := by have := List.getElem?_eq_none_iff.mp hr0; omega
      have e1 : cNd xs (i + 1 + 1) = none := cNd_no (by omega)
      rw [e1] at hp
      have hf := zfr.rf (A := fun b => b = a ∨ b = p.1 ∨ b = q.1) (h := h)
      show zW G mJ3_unlink 1 0 0 [.ref a, .ref p.1, zho, zho, zho] [] h _
      refine zW.aload_n (pc' := 1) dJ3_unlink_0 rfl rfl (zgS (zg0)) rfl ?_
      refine zW.get (pc' := 4) dJ3_unlink_1 rfl f_J3_39_7 hp ⟨rfl, (Nat.le_of_ble_eq_true rfl)⟩ rfl ?_
      refine zW.astore_n (pc' := 5) dJ3_unlink_4 rfl rfl (Nat.le_of_ble_eq_true rfl) rfl (zsS (zsS (zs0))) ?_
      refine zW.aload_n (pc' := 6) dJ3_unlink_5 rfl rfl (zgS (zg0)) rfl ?_
      refine zW.get (pc' := 9) dJ3_unlink_6 rfl f_J3_36_7 hp ⟨rfl, (Nat.le_of_ble_eq_true rfl)⟩ rfl ?_
      refine zW.astore_n (pc' := 10) dJ3_unlink_9 rfl rfl (Nat.le_of_ble_eq_true rfl) zrf_ir (zsS (zsS (zsS (zs0)))) ?_
      refine zW.aload_n (pc' := 11) dJ3_unlink_10 rfl rfl (zgS (zg0)) rfl ?_
      refine zW.get (pc' := 14) dJ3_unlink_11 rfl f_J3_30_7 hp ⟨rfl, (Nat.le_of_ble_eq_true rfl)⟩ rfl ?_
      refine zW.astore (pc' := 16) dJ3_unlink_14 rfl (Nat.le_of_ble_eq_true rfl) zrf_ir (zsS (zsS (zsS (zsS (zs0))))) ?_
      refine zW.aload (pc' := 18) dJ3_unlink_16 rfl (zgS (zgS (zgS (zgS (zg0))))) zrf_ir ?_
      refine zW.ifnonnull (pc' := 21) 29 dJ3_unlink_18 rfl (by decide) zrf_ir (fun b1 => ?_) (fun b1 => ?_)
      rotate_left
      · cases b1
      refine zW.aload (pc' := 31) dJ3_unlink_29 rfl (zgS (zgS (zgS (zgS (zg0))))) zrf_ir ?_
      refine zW.aload_n (pc' := 32) dJ3_unlink_31 rfl rfl (zgS (zgS (zgS (zg0)))) zrf_ir ?_
      refine zW.putK (pc' := 35) dJ3_unlink_32 rfl f_J3_36_7 hq ⟨⟨rfl, (Nat.le_of_ble_eq_true rfl)⟩, (Nat.le_of_ble_eq_true rfl)⟩ (zFw.of ft_7_1 zrf_nar zrf_fit) (zsS (zs0)) (fun _ e9 k9 => ?_)
      have hl := zpres e9 (zne hl hq (by decide)) hl
      have hp := zpres e9 (Ne.symm hnqp) hp
      have hf := hf.put e9 hq (by decide) (Or.inl (Or.inr (Or.inr rfl)))
      replace hq := k9
      clear e9 k9
      refine zW.aload_n (pc' := 36) dJ3_unlink_35 rfl rfl (zgS (zg0)) rfl ?_
      refine zW.null (pc' := 37) dJ3_unlink_36 rfl ?_
      refine zW.putK (pc' := 40) dJ3_unlink_37 rfl f_J3_30_7 hp ⟨⟨rfl, (Nat.le_of_ble_eq_true rfl)⟩, (Nat.le_of_ble_eq_true rfl)⟩ (zFw.of ft_7_2 rfl rfl) (zsS (zsS (zs0))) (fun _ e9 k9 => ?_)
      have hl := zpres e9 (zne hl hp (by decide)) hl
      have hq := zpres e9 hnqp hq
      have hf := hf.put e9 hp (by decide) (Or.inl (Or.inr (Or.inl rfl)))
      replace hp := k9
      clear e9 k9
      refine zW.aload_n (pc' := 41) dJ3_unlink_40 rfl rfl (zgS (zgS (zgS (zg0)))) zrf_ir ?_
      refine zW.ifnonnull (pc' := 44) 53 dJ3_unlink_41 rfl (by decide) zrf_ir (fun b2 => ?_) (fun b2 => ?_)
      · exact absurd rfl b2
      refine zW.aload_n (pc' := 45) dJ3_unlink_44 rfl rfl zg0 rfl ?_
      refine zW.aload (pc' := 47) dJ3_unlink_45 rfl (zgS (zgS (zgS (zgS (zg0))))) zrf_ir ?_
      refine zW.putK (pc' := 50) dJ3_unlink_47 rfl f_J3_27_6 hl ⟨⟨rfl, (Nat.le_of_ble_eq_true rfl)⟩, (Nat.le_of_ble_eq_true rfl)⟩ (zFw.of ft_6_3 zrf_nar zrf_fit) (zsS (zsS (zsS (zs0)))) (fun _ e9 k9 => ?_)
      have hp := zpres e9 (zne hp hl (by decide)) hp
      have hq := zpres e9 (zne hq hl (by decide)) hq
      have hf := hf.put e9 hl (by decide) (Or.inl (Or.inl rfl))
      replace hl := k9
      clear e9 k9
      refine zW.goto 64 dJ3_unlink_50 (by decide) ?_
      refine zW.aload_n (pc' := 65) dJ3_unlink_64 rfl rfl (zgS (zg0)) rfl ?_
      refine zW.null (pc' := 66) dJ3_unlink_65 rfl ?_
      refine zW.putK (pc' := 69) dJ3_unlink_66 rfl f_J3_39_7 hp ⟨⟨rfl, (Nat.le_of_ble_eq_true rfl)⟩, (Nat.le_of_ble_eq_true rfl)⟩ (zFw.of ft_7_0 rfl rfl) zs0 (fun _ e9 k9 => ?_)
      have hl := zpres e9 (zne hl hp (by decide)) hl
      have hq := zpres e9 hnqp hq
      have hf := hf.put e9 hp (by decide) (Or.inl (Or.inr (Or.inl rfl)))
      replace hp := k9
      clear e9 k9
      refine zW.aload_n (pc' := 70) dJ3_unlink_69 rfl rfl zg0 rfl ?_
      refine zW.dup (pc' := 71) dJ3_unlink_70 rfl rfl ?_
      refine zW.get (pc' := 74) dJ3_unlink_71 rfl f_J3_7_6 hl ⟨rfl, (Nat.le_of_ble_eq_true rfl)⟩ rfl ?_
      refine zW.iconst (pc' := 75) (nI 1) dJ3_unlink_74 rfl (by decide) ?_
      refine zW.isubN (pc' := 76) dJ3_unlink_75 rfl (by omega) ?_
      refine zW.putK (pc' := 79) dJ3_unlink_76 rfl f_J3_7_6 hl ⟨⟨rfl, (Nat.le_of_ble_eq_true rfl)⟩, (Nat.le_of_ble_eq_true rfl)⟩ (zFw.of ft_6_1 rfl rfl) (zsS (zs0)) (fun _ e9 k9 => ?_)
      have hp := zpres e9 (zne hp hl (by decide)) hp
      have hq := zpres e9 (zne hq hl (by decide)) hq
      have hf := hf.put e9 hl (by decide) (Or.inl (Or.inl rfl))
      replace hl := k9
      clear e9 k9
      refine zW.aload_n (pc' := 80) dJ3_unlink_79 rfl rfl zg0 rfl ?_
      refine zW.dup (pc' := 81) dJ3_unlink_80 rfl rfl ?_
      refine zW.get (pc' := 84) dJ3_unlink_81 rfl f_J3_33_6 hl ⟨rfl, (Nat.le_of_ble_eq_true rfl)⟩ rfl ?_
      refine zW.iconst (pc' := 85) (nI 1) dJ3_unlink_84 rfl (by decide) ?_
      refine zW.iadd (pc' := 86) dJ3_unlink_85 rfl ?_
      refine zW.putK (pc' := 89) dJ3_unlink_86 rfl f_J3_33_6 hl ⟨⟨rfl, (Nat.le_of_ble_eq_true rfl)⟩, (Nat.le_of_ble_eq_true rfl)⟩ (zFw.of ft_6_0 rfl rfl) zs0 (fun _ e9 k9 => ?_)
      have hp := zpres e9 (zne hp hl (by decide)) hp
      have hq := zpres e9 (zne hq hl (by decide)) hq
      have hf := hf.put e9 hl (by decide) (Or.inl (Or.inl rfl))
      replace hl := k9
      clear e9 k9
      refine zW.aload_n (pc' := 90) dJ3_unlink_89 rfl rfl (zgS (zgS (zg0))) rfl ?_
      refine zW.aret dJ3_unlink_90 rfl (Or.inl ⟨_, rfl⟩) rfl ?_
      refine ⟨_, rfl, rfl, cLL.erase hL hi ?_ (fun j q' ej e => ?_) (fun r e => by rw [hr0] at e; cases e) (fun j q' e n1 n2 n3 => ?_), hf.mono fun b hb => Or.inl (hb.elim Or.inl fun z => z.elim (fun z => by rw [z]; exact hmem _ _ hi) fun z => by rw [z]; exact hmem _ _ hq0)⟩
      · rw [if_neg (Nat.succ_ne_zero i), if_pos (show i + 1 + 1 = xs.length by omega), e0]
        exact hl
      · have : j = i := by omega
        subst this
        cases hq0.symm.trans e
        rw [e1]
        exact hq
      · exact hf.1 _ (fun z => z.elim (hla _ _ e) fun z => z.elim (hL.ne e hi n1) (hL.ne e hq0 (by omega))) (hlv _ _ e)
    · have hr := hL1 _ _ hr0
      have hnrp : r.1 ≠ p.1 := hL.ne hr0 hi (by omega)
      have hnrq : r.1 ≠ q.1 := hL.ne hr0 hq0 (by omega)
      have hrl := (List.getElem?_eq_some_iff.mp hr0).1
      have e1 : cNd xs (i + 1 + 1) = some r.1 := cNd_at hr0
      rw [e1] at hp
      have hf := zfr.rf (A := fun b => b = a ∨ b = p.1 ∨ b = q.1 ∨ b = r.1) (h := h)
      show zW G mJ3_unlink 1 0 0 [.ref a, .ref p.1, zho, zho, zho] [] h _
      refine zW.aload_n (pc' := 1) dJ3_unlink_0 rfl rfl (zgS (zg0)) rfl ?_
      refine zW.get (pc' := 4) dJ3_unlink_1 rfl f_J3_39_7 hp ⟨rfl, (Nat.le_of_ble_eq_true rfl)⟩ rfl ?_
      refine zW.astore_n (pc' := 5) dJ3_unlink_4 rfl rfl (Nat.le_of_ble_eq_true rfl) rfl (zsS (zsS (zs0))) ?_
      refine zW.aload_n (pc' := 6) dJ3_unlink_5 rfl rfl (zgS (zg0)) rfl ?_
      refine zW.get (pc' := 9) dJ3_unlink_6 rfl f_J3_36_7 hp ⟨rfl, (Nat.le_of_ble_eq_true rfl)⟩ rfl ?_
      refine zW.astore_n (pc' := 10) dJ3_unlink_9 rfl rfl (Nat.le_of_ble_eq_true rfl) zrf_ir (zsS (zsS (zsS (zs0)))) ?_
      refine zW.aload_n (pc' := 11) dJ3_unlink_10 rfl rfl (zgS (zg0)) rfl ?_
      refine zW.get (pc' := 14) dJ3_unlink_11 rfl f_J3_30_7 hp ⟨rfl, (Nat.le_of_ble_eq_true rfl)⟩ rfl ?_
      refine zW.astore (pc' := 16) dJ3_unlink_14 rfl (Nat.le_of_ble_eq_true rfl) zrf_ir (zsS (zsS (zsS (zsS (zs0))))) ?_
      refine zW.aload (pc' := 18) dJ3_unlink_16 rfl (zgS (zgS (zgS (zgS (zg0))))) zrf_ir ?_
      refine zW.ifnonnull (pc' := 21) 29 dJ3_unlink_18 rfl (by decide) zrf_ir (fun b1 => ?_) (fun b1 => ?_)
      rotate_left
      · cases b1
      refine zW.aload (pc' := 31) dJ3_unlink_29 rfl (zgS (zgS (zgS (zgS (zg0))))) zrf_ir ?_
      refine zW.aload_n (pc' := 32) dJ3_unlink_31 rfl rfl (zgS (zgS (zgS (zg0)))) zrf_ir ?_
      refine zW.putK (pc' := 35) dJ3_unlink_32 rfl f_J3_36_7 hq ⟨⟨rfl, (Nat.le_of_ble_eq_true rfl)⟩, (Nat.le_of_ble_eq_true rfl)⟩ (zFw.of ft_7_1 zrf_nar zrf_fit) (zsS (zs0)) (fun _ e9 k9 => ?_)
      have hl := zpres e9 (zne hl hq (by decide)) hl
      have hp := zpres e9 (Ne.symm hnqp) hp
      have hr := zpres e9 hnrq hr
      have hf := hf.put e9 hq (by decide) (Or.inl (Or.inr (Or.inr (Or.inl rfl))))
      replace hq := k9
      clear e9 k9
      refine zW.aload_n (pc' := 36) dJ3_unlink_35 rfl rfl (zgS (zg0)) rfl ?_
      refine zW.null (pc' := 37) dJ3_unlink_36 rfl ?_
      refine zW.putK (pc' := 40) dJ3_unlink_37 rfl f_J3_30_7 hp ⟨⟨rfl, (Nat.le_of_ble_eq_true rfl)⟩, (Nat.le_of_ble_eq_true rfl)⟩ (zFw.of ft_7_2 rfl rfl) (zsS (zsS (zs0))) (fun _ e9 k9 => ?_)
      have hl := zpres e9 (zne hl hp (by decide)) hl
      have hq := zpres e9 hnqp hq
      have hr := zpres e9 hnrp hr
      have hf := hf.put e9 hp (by decide) (Or.inl (Or.inr (Or.inl rfl)))
      replace hp := k9
      clear e9 k9
      refine zW.aload_n (pc' := 41) dJ3_unlink_40 rfl rfl (zgS (zgS (zgS (zg0)))) zrf_ir ?_
      refine zW.ifnonnull (pc' := 44) 53 dJ3_unlink_41 rfl (by decide) zrf_ir (fun b2 => ?_) (fun b2 => ?_)
      rotate_left
      · cases b2
      refine zW.aload_n (pc' := 54) dJ3_unlink_53 rfl rfl (zgS (zgS (zgS (zg0)))) zrf_ir ?_
      refine zW.aload (pc' := 56) dJ3_unlink_54 rfl (zgS (zgS (zgS (zgS (zg0))))) zrf_ir ?_
      refine zW.putK (pc' := 59) dJ3_unlink_56 rfl f_J3_30_7 hr ⟨⟨rfl, (Nat.le_of_ble_eq_true rfl)⟩, (Nat.le_of_ble_eq_true rfl)⟩ (zFw.of ft_7_2 zrf_nar zrf_fit) (zsS (zsS (zs0))) (fun _ e9 k9 => ?_)
      have hl := zpres e9 (zne hl hr (by decide)) hl
      have hp := zpres e9 (Ne.symm hnrp) hp
      have hq := zpres e9 (Ne.symm hnrq) hq
      have hf := hf.put e9 hr (by decide) (Or.inl (Or.inr (Or.inr (Or.inr rfl))))
      replace hr := k9
      clear e9 k9
      refine zW.aload_n (pc' := 60) dJ3_unlink_59 rfl rfl (zgS (zg0)) rfl ?_
      refine zW.null (pc' := 61) dJ3_unlink_60 rfl ?_
      refine zW.putK (pc' := 64) dJ3_unlink_61 rfl f_J3_36_7 hp ⟨⟨rfl, (Nat.le_of_ble_eq_true rfl)⟩, (Nat.le_of_ble_eq_true rfl)⟩ (zFw.of ft_7_1 rfl rfl) (zsS (zs0)) (fun _ e9 k9 => ?_)
      have hl := zpres e9 (zne hl hp (by decide)) hl
      have hq := zpres e9 hnqp hq
      have hr := zpres e9 hnrp hr
      have hf := hf.put e9 hp (by decide) (Or.inl (Or.inr (Or.inl rfl)))
      replace hp := k9
      clear e9 k9
      refine zW.aload_n (pc' := 65) dJ3_unlink_64 rfl rfl (zgS (zg0)) rfl ?_
      refine zW.null (pc' := 66) dJ3_unlink_65 rfl ?_
      refine zW.putK (pc' := 69) dJ3_unlink_66 rfl f_J3_39_7 hp ⟨⟨rfl, (Nat.le_of_ble_eq_true rfl)⟩, (Nat.le_of_ble_eq_true rfl)⟩ (zFw.of ft_7_0 rfl rfl) zs0 (fun _ e9 k9 => ?_)
      have hl := zpres e9 (zne hl hp (by decide)) hl
      have hq := zpres e9 hnqp hq
      have hr := zpres e9 hnrp hr
      have hf := hf.put e9 hp (by decide) (Or.inl (Or.inr (Or.inl rfl)))
      replace hp := k9
      clear e9 k9
      refine zW.aload_n (pc' := 70) dJ3_unlink_69 rfl rfl zg0 rfl ?_
      refine zW.dup (pc' := 71) dJ3_unlink_70 rfl rfl ?_
      refine zW.get (pc' := 74) dJ3_unlink_71 rfl f_J3_7_6 hl ⟨rfl, (Nat.le_of_ble_eq_true rfl)⟩ rfl ?_
      refine zW.iconst (pc' := 75) (nI 1) dJ3_unlink_74 rfl (by decide) ?_
      refine zW.isubN (pc' := 76) dJ3_unlink_75 rfl (by omega) ?_
      refine zW.putK (pc' := 79) dJ3_unlink_76 rfl f_J3_7_6 hl ⟨⟨rfl, (Nat.le_of_ble_eq_true rfl)⟩, (Nat.le_of_ble_eq_true rfl)⟩ (zFw.of ft_6_1 rfl rfl) (zsS (zs0)) (fun _ e9 k9 => ?_)
      have hp := zpres e9 (zne hp hl (by decide)) hp
      have hq := zpres e9 (zne hq hl (by decide)) hq
      have hr := zpres e9 (zne hr hl (by decide)) hr
      have hf := hf.put e9 hl (by decide) (Or.inl (Or.inl rfl))
      replace hl := k9
      clear e9 k9
      refine zW.aload_n (pc' := 80) dJ3_unlink_79 rfl rfl zg0 rfl ?_
      refine zW.dup (pc' := 81) dJ3_unlink_80 rfl rfl ?_
      refine zW.get (pc' := 84) dJ3_unlink_81 rfl f_J3_33_6 hl ⟨rfl, (Nat.le_of_ble_eq_true rfl)⟩ rfl ?_
      refine zW.iconst (pc' := 85) (nI 1) dJ3_unlink_84 rfl (by decide) ?_
      refine zW.iadd (pc' := 86) dJ3_unlink_85 rfl ?_
      refine zW.putK (pc' := 89) dJ3_unlink_86 rfl f_J3_33_6 hl ⟨⟨rfl, (Nat.le_of_ble_eq_true rfl)⟩, (Nat.le_of_ble_eq_true rfl)⟩ (zFw.of ft_6_0 rfl rfl) zs0 (fun _ e9 k9 => ?_)
      have hp := zpres e9 (zne hp hl (by decide)) hp
      have hq := zpres e9 (zne hq hl (by decide)) hq
      have hr := zpres e9 (zne hr hl (by decide)) hr
      have hf := hf.put e9 hl (by decide) (Or.inl (Or.inl rfl))
      replace hl := k9
      clear e9 k9
      refine zW.aload_n (pc' := 90) dJ3_unlink_89 rfl rfl (zgS (zgS (zg0))) rfl ?_
      refine zW.aret dJ3_unlink_90 rfl (Or.inl ⟨_, rfl⟩) rfl ?_
      refine ⟨_, rfl, rfl, cLL.erase hL hi ?_ (fun j q' ej e => ?_) (fun r' e => ?_) (fun j q' e n1 n2 n3 => ?_), hf.mono fun b hb => Or.inl (hb.elim Or.inl fun z => z.elim (fun z => by rw [z]; exact hmem _ _ hi) fun z => z.elim (fun z => by rw [z]; exact hmem _ _ hq0) fun z => by rw [z]; exact hmem _ _ hr0)⟩
      · rw [if_neg (Nat.succ_ne_zero i), if_neg (show ¬ i + 1 + 1 = xs.length by omega)]
        exact hl
      · have : j = i := by omega
        subst this
        cases hq0.symm.trans e
        rw [e1]
        exact hq
      · rw [hr0] at e
        cases e
        rw [e0]
        exact hr
      · exact hf.1 _ (fun z => z.elim (hla _ _ e) fun z => z.elim (hL.ne e hi n1) fun z => z.elim (hL.ne e hq0 (by omega)) (hL.ne e hr0 n3)) (hlv _ _ e)
/-- the iterator takes out what it gave last -/
theorem w_itRemove (hL : cLL h a mc xs) {k : Nat} {p : Nat × Nat} (hk : xs[k]? = some p) (hi : h it = some (8, [.ref p.1, zrf (cNd xs (k + 1)), .int (nI (k + 1)), .int mc, .ref a])) : zK G mJ25_remove 2 0 [.ref it] h (zO fun v h' => v = none ∧ cLL h' a (mc + nI 1) (xs.eraseIdx k) ∧ h' it = some (8, [.null, zrf (cNd (xs.eraseIdx k) k), .int (nI k), .int (mc + nI 1), .ref a]) ∧ zfr (fun b => b = it ∨ cLf a xs b) h h') := by
  have hl := hL.1
  have hp := hL.2.1 _ _ hk
  have nit := hL.nk hi ⟨by decide, by decide⟩
  have ner : cNd xs (k + 1) ≠ some p.1 := fun z => by
    cases e : xs[k + 1]? with
    | none => unfold cNd at z; rw [e] at z; cases z
    | some q =>
      rw [cNd_at e] at z
      exact hL.ne e hk (by omega) (Option.some.inj z)
  have ener : ¬ zrf (cNd xs (k + 1)) = .ref p.1 := fun z => by
    cases e : cNd xs (k + 1) with
    | none => rw [e] at z; cases z
    | some q => rw [e] at z; cases z; exact ner e
  show zW G mJ25_remove 2 0 0 [.ref it, zho] [] h _
  refine zW.aload_n (pc' := 1) dJ25_remove_0 rfl rfl zg0 rfl ?_
  refine zW.callV (r' := 0) (pc' := 4) dJ25_remove_1 rfl l_J25_36 rfl hi ⟨rfl, (Nat.le_of_ble_eq_true rfl)⟩ rfl (w_itMod hi hl) zc0 rfl (Nat.le_of_ble_eq_true rfl) (Nat.le_of_ble_eq_true rfl) (Nat.le_of_ble_eq_true rfl) (fun _ _ q9 => ?_) (fun _ _ q9 => by cases q9.1)
  obtain ⟨q8, e9⟩ := q9
  cases q8
  replace e9 := e9.symm
  subst e9
  refine zW.aload_n (pc' := 5) dJ25_remove_4 rfl rfl zg0 rfl ?_
  refine zW.get (pc' := 8) dJ25_remove_5 rfl f_J25_46_8 hi ⟨rfl, (Nat.le_of_ble_eq_true rfl)⟩ rfl ?_
  refine zW.ifnonnull (pc' := 11) 19 dJ25_remove_8 rfl (by decide) rfl (fun b1 => ?_) (fun b1 => ?_)
  rotate_left
  · cases b1
  refine zW.aload_n (pc' := 20) dJ25_remove_19 rfl rfl zg0 rfl ?_
  refine zW.get (pc' := 23) dJ25_remove_20 rfl f_J25_46_8 hi ⟨rfl, (Nat.le_of_ble_eq_true rfl)⟩ rfl ?_
  refine zW.get (pc' := 26) dJ25_remove_23 rfl f_J25_49_7 hp ⟨rfl, (Nat.le_of_ble_eq_true rfl)⟩ rfl ?_
  refine zW.astore_n (pc' := 27) dJ25_remove_26 rfl rfl (Nat.le_of_ble_eq_true rfl) zrf_ir (zsS (zs0)) ?_
  refine zW.aload_n (pc' := 28) dJ25_remove_27 rfl rfl zg0 rfl ?_
  refine zW.get (pc' := 31) dJ25_remove_28 rfl f_J25_1_8 hi ⟨rfl, (Nat.le_of_ble_eq_true rfl)⟩ rfl ?_
  refine zW.aload_n (pc' := 32) dJ25_remove_31 rfl rfl zg0 rfl ?_
  refine zW.get (pc' := 35) dJ25_remove_32 rfl f_J25_46_8 hi ⟨rfl, (Nat.le_of_ble_eq_true rfl)⟩ rfl ?_
  refine zW.callV (r' := 0) (pc' := 38) dJ25_remove_35 rfl l_J25_68 rfl hl ⟨rfl, (Nat.le_of_ble_eq_true rfl)⟩ rfl (w_unlink hL hk) (zcc rfl zc0) rfl (Nat.le_of_ble_eq_true rfl) (Nat.le_of_ble_eq_true rfl) (Nat.le_of_ble_eq_true rfl) (fun _ _ q9 => ?_) (fun _ _ q9 => absurd q9 zO.no)
  obtain ⟨_, q8, e1, hL2, z1⟩ := q9
  cases q8
  subst e1
  have hi := z1.at hi (fun q => nit _ q rfl)
  have z2 : zfr (fun b => b = it ∨ cLf a xs b) h _ := z1.mono fun b hb => Or.inl (Or.inr hb)
  refine zW.pop (pc' := 39) dJ25_remove_38 rfl rfl ?_
  refine zW.aload_n (pc' := 40) dJ25_remove_39 rfl rfl zg0 rfl ?_
  refine zW.get (pc' := 43) dJ25_remove_40 rfl f_J25_29_8 hi ⟨rfl, (Nat.le_of_ble_eq_true rfl)⟩ rfl ?_
  refine zW.aload_n (pc' := 44) dJ25_remove_43 rfl rfl zg0 rfl ?_
  refine zW.get (pc' := 47) dJ25_remove_44 rfl f_J25_46_8 hi ⟨rfl, (Nat.le_of_ble_eq_true rfl)⟩ rfl ?_
  refine zW.acmp_ne (pc' := 50) 58 dJ25_remove_47 rfl (by decide) zrf_ir rfl (fun b2 => ?_) (fun b2 => ?_)
  rotate_left
  · exact absurd b2 ener
  have hi1 := hi
  refine zW.aload_n (pc' := 59) dJ25_remove_58 rfl rfl zg0 rfl ?_
  refine zW.dup (pc' := 60) dJ25_remove_59 rfl rfl ?_
  refine zW.get (pc' := 63) dJ25_remove_60 rfl f_J25_33_8 hi ⟨rfl, (Nat.le_of_ble_eq_true rfl)⟩ rfl ?_
  refine zW.iconst (pc' := 64) (nI 1) dJ25_remove_63 rfl (by decide) ?_
  refine zW.isubN (pc' := 65) dJ25_remove_64 rfl (by omega) ?_
  refine zW.putK (pc' := 68) dJ25_remove_65 rfl f_J25_33_8 hi ⟨⟨rfl, (Nat.le_of_ble_eq_true rfl)⟩, (Nat.le_of_ble_eq_true rfl)⟩ (zFw.of ft_8_2 rfl rfl) (zsS (zsS (zs0))) (fun _ e9 k9 => ?_)
  have z2 := z2.put e9 hi (by decide) (Or.inl (Or.inl rfl))
  have hq := e9
  replace hi := k9
  clear e9 k9
  refine zW.aload_n (pc' := 69) dJ25_remove_68 rfl rfl zg0 rfl ?_
  refine zW.null (pc' := 70) dJ25_remove_69 rfl ?_
  refine zW.putK (pc' := 73) dJ25_remove_70 rfl f_J25_46_8 hi ⟨⟨rfl, (Nat.le_of_ble_eq_true rfl)⟩, (Nat.le_of_ble_eq_true rfl)⟩ (zFw.of ft_8_0 rfl rfl) zs0 (fun _ e9 k9 => ?_)
  have z2 := z2.put e9 hi (by decide) (Or.inl (Or.inl rfl))
  have hq := ztrk hq e9
  replace hi := k9
  clear e9 k9
  refine zW.aload_n (pc' := 74) dJ25_remove_73 rfl rfl zg0 rfl ?_
  refine zW.dup (pc' := 75) dJ25_remove_74 rfl rfl ?_
  refine zW.get (pc' := 78) dJ25_remove_75 rfl f_J25_19_8 hi ⟨rfl, (Nat.le_of_ble_eq_true rfl)⟩ rfl ?_
  refine zW.iconst (pc' := 79) (nI 1) dJ25_remove_78 rfl (by decide) ?_
  refine zW.iadd (pc' := 80) dJ25_remove_79 rfl ?_
  refine zW.putK (pc' := 83) dJ25_remove_80 rfl f_J25_19_8 hi ⟨⟨rfl, (Nat.le_of_ble_eq_true rfl)⟩, (Nat.le_of_ble_eq_true rfl)⟩ (zFw.of ft_8_3 rfl rfl) (zsS (zsS (zsS (zs0)))) (fun _ e9 k9 => ?_)
  have z2 := z2.put e9 hi (by decide) (Or.inl (Or.inl rfl))
  have hq := ztrk hq e9
  replace hi := k9
  clear e9 k9
  have hL3 : cLL _ a (mc + nI 1) (xs.eraseIdx k) := hL2.mv fun b k' l hk' hb => zpres hq (fun e => by rw [e, hi1] at hb; cases hb; exact absurd hk' (by decide)) hb
  refine zW.vret dJ25_remove_83 rfl ?_
  rw [cNd_er_ge (Nat.le_refl k)]
  exact ⟨_, rfl, rfl, hL3, hi, z2⟩
theorem w_llFirst (hL : cLL h a mc xs) {p : Nat × Nat} (hp0 : xs[0]? = some p) : zK G mJ3_getFirst 1 0 [.ref a] h (zPu h (some (.ref p.2))) := by
  have hl := hL.1
  have hp := hL.2.1 _ _ hp0
  rw [cNd_at hp0] at hl
  show zW G mJ3_getFirst 1 0 0 [.ref a, zho] [] h _
  refine zW.aload_n (pc' := 1) dJ3_getFirst_0 rfl rfl zg0 rfl ?_
  refine zW.get (pc' := 4) dJ3_getFirst_1 rfl f_J3_18_6 hl ⟨rfl, (Nat.le_of_ble_eq_true rfl)⟩ rfl ?_
  refine zW.astore_n (pc' := 5) dJ3_getFirst_4 rfl rfl (Nat.le_of_ble_eq_true rfl) zrf_ir (zsS (zs0)) ?_
  refine zW.aload_n (pc' := 6) dJ3_getFirst_5 rfl rfl (zgS (zg0)) zrf_ir ?_
  refine zW.ifnonnull (pc' := 9) 17 dJ3_getFirst_6 rfl (by decide) zrf_ir (fun b1 => ?_) (fun b1 => ?_)
  rotate_left
  · cases b1
  refine zW.aload_n (pc' := 18) dJ3_getFirst_17 rfl rfl (zgS (zg0)) zrf_ir ?_
  refine zW.get (pc' := 21) dJ3_getFirst_18 rfl f_J3_39_7 hp ⟨rfl, (Nat.le_of_ble_eq_true rfl)⟩ rfl ?_
  refine zW.aret dJ3_getFirst_21 rfl (Or.inl ⟨_, rfl⟩) rfl ?_
  exact ⟨rfl, rfl⟩
theorem w_unlinkFirst (hL : cLL h a mc xs) {p : Nat × Nat} (hi : xs[0]? = some p) : zK G mJ3_unlinkFirst 1 0 [.ref a, .ref p.1] h (zO fun v h' => v = some (.ref p.2) ∧ cLL h' a (mc + nI 1) (xs.eraseIdx 0) ∧ zfr (cLf a xs) h h') := by
  have hl := hL.1
  have hL1 := hL.2.1
  have hp := hL1 _ _ hi
  have hil := (List.getElem?_eq_some_iff.mp hi).1
  have hmem : ∀ (j : Nat) (q : Nat × Nat), xs[j]? = some q → cLf a xs q.1 := fun j q e => Or.inr (List.mem_map_of_mem (List.mem_of_getElem? e))
  have hla : ∀ (j : Nat) (q : Nat × Nat), xs[j]? = some q → q.1 ≠ a := fun j q e => zne (hL1 _ _ e) hL.1 (by decide)
  have hlv : ∀ (j : Nat) (q : Nat × Nat), xs[j]? = some q → h q.1 ≠ none := fun j q e => by rw [hL1 _ _ e]; exact fun z => by cases z
  rcases hr0 : xs[1]? with - | r
  · have hn : xs.length = 1 := by have := List.getElem?_eq_none_iff.mp hr0; omega
    have e1 : cNd xs 1 = none := cNd_no (by omega)
    rw [show cNd xs (0 + 1) = none from e1] at hp
    have hf := zfr.rf (A := fun b => b = a ∨ b = p.1) (h := h)
    show zW G mJ3_unlinkFirst 1 0 0 [.ref a, .ref p.1, zho, zho] [] h _
    refine zW.aload_n (pc' := 1) dJ3_unlinkFirst_0 rfl rfl (zgS (zg0)) rfl ?_
    refine zW.get (pc' := 4) dJ3_unlinkFirst_1 rfl f_J3_39_7 hp ⟨rfl, (Nat.le_of_ble_eq_true rfl)⟩ rfl ?_
    refine zW.astore_n (pc' := 5) dJ3_unlinkFirst_4 rfl rfl (Nat.le_of_ble_eq_true rfl) rfl (zsS (zsS (zs0))) ?_
    refine zW.aload_n (pc' := 6) dJ3_unlinkFirst_5 rfl rfl (zgS (zg0)) rfl ?_
    refine zW.get (pc' := 9) dJ3_unlinkFirst_6 rfl f_J3_36_7 hp ⟨rfl, (Nat.le_of_ble_eq_true rfl)⟩ rfl ?_
    refine zW.astore_n (pc' := 10) dJ3_unlinkFirst_9 rfl rfl (Nat.le_of_ble_eq_true rfl) zrf_ir (zsS (zsS (zsS (zs0)))) ?_
    refine zW.aload_n (pc' := 11) dJ3_unlinkFirst_10 rfl rfl (zgS (zg0)) rfl ?_
    refine zW.null (pc' := 12) dJ3_unlinkFirst_11 rfl ?_
    refine zW.putK (pc' := 15) dJ3_unlinkFirst_12 rfl f_J3_39_7 hp ⟨⟨rfl, (Nat.le_of_ble_eq_true rfl)⟩, (Nat.le_of_ble_eq_true rfl)⟩ (zFw.of ft_7_0 rfl rfl) zs0 (fun _ e9 k9 => ?_)
    have hl := zpres e9 (zne hl hp (by decide)) hl
    have hf := hf.put e9 hp (by decide) (Or.inl (Or.inr rfl))
    replace hp := k9
    clear e9 k9
    refine zW.aload_n (pc' := 16) dJ3_unlinkFirst_15 rfl rfl (zgS (zg0)) rfl ?_
    refine zW.null (pc' := 17) dJ3_unlinkFirst_16 rfl ?_
    refine zW.putK (pc' := 20) dJ3_unlinkFirst_17 rfl f_J3_36_7 hp ⟨⟨rfl, (Nat.le_of_ble_eq_true rfl)⟩, (Nat.le_of_ble_eq_true rfl)⟩ (zFw.of ft_7_1 rfl rfl) (zsS (zs0)) (fun _ e9 k9 => ?_)
    have hl := zpres e9 (zne hl hp (by decide)) hl
    have hf := hf.put e9 hp (by decide) (Or.inl (Or.inr rfl))
    replace hp := k9
    clear e9 k9
    refine zW.aload_n (pc' := 21) dJ3_unlinkFirst_20 rfl rfl zg0 rfl ?_
    refine zW.aload_n (pc' := 22) dJ3_unlinkFirst_21 rfl rfl (zgS (zgS (zgS (zg0)))) zrf_ir ?_
    refine zW.putK (pc' := 25) dJ3_unlinkFirst_22 rfl f_J3_18_6 hl ⟨⟨rfl, (Nat.le_of_ble_eq_true rfl)⟩, (Nat.le_of_ble_eq_true rfl)⟩ (zFw.of ft_6_2 zrf_nar zrf_fit) (zsS (zsS (zs0))) (fun _ e9 k9 => ?_)
    have hp := zpres e9 (zne hp hl (by decide)) hp
    have hf := hf.put e9 hl (by decide) (Or.inl (Or.inl rfl))
    replace hl := k9
    clear e9 k9
    refine zW.aload_n (pc' := 26) dJ3_unlinkFirst_25 rfl rfl (zgS (zgS (zgS (zg0)))) zrf_ir ?_
    refine zW.ifnonnull (pc' := 29) 37 dJ3_unlinkFirst_26 rfl (by decide) zrf_ir (fun b1 => ?_) (fun b1 => ?_)
    · exact absurd rfl b1
    refine zW.aload_n (pc' := 30) dJ3_unlinkFirst_29 rfl rfl zg0 rfl ?_
    refine zW.null (pc' := 31) dJ3_unlinkFirst_30 rfl ?_
    refine zW.putK (pc' := 34) dJ3_unlinkFirst_31 rfl f_J3_27_6 hl ⟨⟨rfl, (Nat.le_of_ble_eq_true rfl)⟩, (Nat.le_of_ble_eq_true rfl)⟩ (zFw.of ft_6_3 rfl rfl) (zsS (zsS (zsS (zs0)))) (fun _ e9 k9 => ?_)
    have hp := zpres e9 (zne hp hl (by decide)) hp
    have hf := hf.put e9 hl (by decide) (Or.inl (Or.inl rfl))
    replace hl := k9
    clear e9 k9
    refine zW.goto 42 dJ3_unlinkFirst_34 (by decide) ?_
    refine zW.aload_n (pc' := 43) dJ3_unlinkFirst_42 rfl rfl zg0 rfl ?_
    refine zW.dup (pc' := 44) dJ3_unlinkFirst_43 rfl rfl ?_
    refine zW.get (pc' := 47) dJ3_unlinkFirst_44 rfl f_J3_7_6 hl ⟨rfl, (Nat.le_of_ble_eq_true rfl)⟩ rfl ?_
    refine zW.iconst (pc' := 48) (nI 1) dJ3_unlinkFirst_47 rfl (by decide) ?_
    refine zW.isubN (pc' := 49) dJ3_unlinkFirst_48 rfl (by omega) ?_
    refine zW.putK (pc' := 52) dJ3_unlinkFirst_49 rfl f_J3_7_6 hl ⟨⟨rfl, (Nat.le_of_ble_eq_true rfl)⟩, (Nat.le_of_ble_eq_true rfl)⟩ (zFw.of ft_6_1 rfl rfl) (zsS (zs0)) (fun _ e9 k9 => ?_)
    have hp := zpres e9 (zne hp hl (by decide)) hp
    have hf := hf.put e9 hl (by decide) (Or.inl (Or.inl rfl))
    replace hl := k9
    clear e9 k9
    refine zW.aload_n (pc' := 53) dJ3_unlinkFirst_52 rfl rfl zg0 rfl ?_
    refine zW.dup (pc' := 54) dJ3_unlinkFirst_53 rfl rfl ?_
    refine zW.get (pc' := 57) dJ3_unlinkFirst_54 rfl f_J3_33_6 hl ⟨rfl, (Nat.le_of_ble_eq_true rfl)⟩ rfl ?_
    refine zW.iconst (pc' := 58) (nI 1) dJ3_unlinkFirst_57 rfl (by decide) ?_
    refine zW.iadd (pc' := 59) dJ3_unlinkFirst_58 rfl ?_
    refine zW.putK (pc' := 62) dJ3_unlinkFirst_59 rfl f_J3_33_6 hl ⟨⟨rfl, (Nat.le_of_ble_eq_true rfl)⟩, (Nat.le_of_ble_eq_true rfl)⟩ (zFw.of ft_6_0 rfl rfl) zs0 (fun _ e9 k9 => ?_)
    have hp := zpres e9 (zne hp hl (by decide)) hp
    have hf := hf.put e9 hl (by decide) (Or.inl (Or.inl rfl))
    replace hl := k9
    clear e9 k9
    refine zW.aload_n (pc' := 63) dJ3_unlinkFirst_62 rfl rfl (zgS (zgS (zg0))) rfl ?_
    refine zW.aret dJ3_unlinkFirst_63 rfl (Or.inl ⟨_, rfl⟩) rfl ?_
    refine ⟨_, rfl, rfl, cLL.erase hL hi ?_ (fun j q ej e => by omega) (fun r e => by rw [hr0] at e; cases e) (fun j q e n1 n2 n3 => ?_), hf.mono fun b hb => Or.inl (hb.elim Or.inl fun q => by rw [q]; exact hmem _ _ hi)⟩
    · rw [if_pos rfl, if_pos (show 0 + 1 = xs.length by omega), e1]
      exact hl
    · exact hf.1 _ (fun z => z.elim (hla _ _ e) (hL.ne e hi n1)) (hlv _ _ e)
  · have hr := hL1 _ _ hr0
    have hnrp : r.1 ≠ p.1 := hL.ne hr0 hi (by decide)
    have hrl := (List.getElem?_eq_some_iff.mp hr0).1
    have e1 : cNd xs 1 = some r.1 := cNd_at hr0
    rw [show cNd xs (0 + 1) = some r.1 from e1] at hp
    have hf := zfr.rf (A := fun b => b = a ∨ b = p.1 ∨ b = r.1) (h := h)
    show zW G mJ3_unlinkFirst 1 0 0 [.ref a, .ref p.1, zho, zho] [] h _
    refine zW.aload_n (pc' := 1) dJ3_unlinkFirst_0 rfl rfl (zgS (zg0)) rfl ?_
    refine zW.get (pc' := 4) dJ3_unlinkFirst_1 rfl f_J3_39_7 hp ⟨rfl, (Nat.le_of_ble_eq_true rfl)⟩ rfl ?_
    refine zW.astore_n (pc' := 5) dJ3_unlinkFirst_4 rfl rfl (Nat.le_of_ble_eq_true rfl) rfl (zsS (zsS (zs0))) ?_
    refine zW.aload_n (pc' := 6) dJ3_unlinkFirst_5 rfl rfl (zgS (zg0)) rfl ?_
    refine zW.get (pc' := 9) dJ3_unlinkFirst_6 rfl f_J3_36_7 hp ⟨rfl, (Nat.le_of_ble_eq_true rfl)⟩ rfl ?_
    refine zW.astore_n (pc' := 10) dJ3_unlinkFirst_9 rfl rfl (Nat.le_of_ble_eq_true rfl) zrf_ir (zsS (zsS (zsS (zs0)))) ?_
    refine zW.aload_n (pc' := 11) dJ3_unlinkFirst_10 rfl rfl (zgS (zg0)) rfl ?_
    refine zW.null (pc' := 12) dJ3_unlinkFirst_11 rfl ?_
    refine zW.putK (pc' := 15) dJ3_unlinkFirst_12 rfl f_J3_39_7 hp ⟨⟨rfl, (Nat.le_of_ble_eq_true rfl)⟩, (Nat.le_of_ble_eq_true rfl)⟩ (zFw.of ft_7_0 rfl rfl) zs0 (fun _ e9 k9 => ?_)
    have hl := zpres e9 (zne hl hp (by decide)) hl
    have hr := zpres e9 hnrp hr
    have hf := hf.put e9 hp (by decide) (Or.inl (Or.inr (Or.inl rfl)))
    replace hp := k9
    clear e9 k9
    refine zW.aload_n (pc' := 16) dJ3_unlinkFirst_15 rfl rfl (zgS (zg0)) rfl ?_
    refine zW.null (pc' := 17) dJ3_unlinkFirst_16 rfl ?_
    refine zW.putK (pc' := 20) dJ3_unlinkFirst_17 rfl f_J3_36_7 hp ⟨⟨rfl, (Nat.le_of_ble_eq_true rfl)⟩, (Nat.le_of_ble_eq_true rfl)⟩ (zFw.of ft_7_1 rfl rfl) (zsS (zs0)) (fun _ e9 k9 => ?_)
    have hl := zpres e9 (zne hl hp (by decide)) hl
    have hr := zpres e9 hnrp hr
    have hf := hf.put e9 hp (by decide) (Or.inl (Or.inr (Or.inl rfl)))
    replace hp := k9
    clear e9 k9
    refine zW.aload_n (pc' := 21) dJ3_unlinkFirst_20 rfl rfl zg0 rfl ?_
    refine zW.aload_n (pc' := 22) dJ3_unlinkFirst_21 rfl rfl (zgS (zgS (zgS (zg0)))) zrf_ir ?_
    refine zW.putK (pc' := 25) dJ3_unlinkFirst_22 rfl f_J3_18_6 hl ⟨⟨rfl, (Nat.le_of_ble_eq_true rfl)⟩, (Nat.le_of_ble_eq_true rfl)⟩ (zFw.of ft_6_2 zrf_nar zrf_fit) (zsS (zsS (zs0))) (fun _ e9 k9 => ?_)
    have hp := zpres e9 (zne hp hl (by decide)) hp
    have hr := zpres e9 (zne hr hl (by decide)) hr
    have hf := hf.put e9 hl (by decide) (Or.inl (Or.inl rfl))
    replace hl := k9
    clear e9 k9
    refine zW.aload_n (pc' := 26) dJ3_unlinkFirst_25 rfl rfl (zgS (zgS (zgS (zg0)))) zrf_ir ?_
    refine zW.ifnonnull (pc' := 29) 37 dJ3_unlinkFirst_26 rfl (by decide) zrf_ir (fun b1 => ?_) (fun b1 => ?_)
    rotate_left
    · cases b1
    refine zW.aload_n (pc' := 38) dJ3_unlinkFirst_37 rfl rfl (zgS (zgS (zgS (zg0)))) zrf_ir ?_
    refine zW.null (pc' := 39) dJ3_unlinkFirst_38 rfl ?_
    refine zW.putK (pc' := 42) dJ3_unlinkFirst_39 rfl f_J3_30_7 hr ⟨⟨rfl, (Nat.le_of_ble_eq_true rfl)⟩, (Nat.le_of_ble_eq_true rfl)⟩ (zFw.of ft_7_2 rfl rfl) (zsS (zsS (zs0))) (fun _ e9 k9 => ?_)
    have hl := zpres e9 (zne hl hr (by decide)) hl
    have hp := zpres e9 (Ne.symm hnrp) hp
    have hf := hf.put e9 hr (by decide) (Or.inl (Or.inr (Or.inr rfl)))
    replace hr := k9
    clear e9 k9
    refine zW.aload_n (pc' := 43) dJ3_unlinkFirst_42 rfl rfl zg0 rfl ?_
    refine zW.dup (pc' := 44) dJ3_unlinkFirst_43 rfl rfl ?_
    refine zW.get (pc' := 47) dJ3_unlinkFirst_44 rfl f_J3_7_6 hl ⟨rfl, (Nat.le_of_ble_eq_true rfl)⟩ rfl ?_
    refine zW.iconst (pc' := 48) (nI 1) dJ3_unlinkFirst_47 rfl (by decide) ?_
    refine zW.isubN (pc' := 49) dJ3_unlinkFirst_48 rfl (by omega) ?_
    refine zW.putK (pc' := 52) dJ3_unlinkFirst_49 rfl f_J3_7_6 hl ⟨⟨rfl, (Nat.le_of_ble_eq_true rfl)⟩, (Nat.le_of_ble_eq_true rfl)⟩ (zFw.of ft_6_1 rfl rfl) (zsS (zs0)) (fun _ e9 k9 => ?_)
    have hp := zpres e9 (zne hp hl (by decide)) hp
    have hr := zpres e9 (zne hr hl (by decide)) hr
    have hf := hf.put e9 hl (by decide) (Or.inl (Or.inl rfl))
    replace hl := k9
    clear e9 k9
    refine zW.aload_n (pc' := 53) dJ3_unlinkFirst_52 rfl rfl zg0 rfl ?_
    refine zW.dup (pc' := 54) dJ3_unlinkFirst_53 rfl rfl ?_
    refine zW.get (pc' := 57) dJ3_unlinkFirst_54 rfl f_J3_33_6 hl ⟨rfl, (Nat.le_of_ble_eq_true rfl)⟩ rfl ?_
    refine zW.iconst (pc' := 58) (nI 1) dJ3_unlinkFirst_57 rfl (by decide) ?_
    refine zW.iadd (pc' := 59) dJ3_unlinkFirst_58 rfl ?_
    refine zW.putK (pc' := 62) dJ3_unlinkFirst_59 rfl f_J3_33_6 hl ⟨⟨rfl, (Nat.le_of_ble_eq_true rfl)⟩, (Nat.le_of_ble_eq_true rfl)⟩ (zFw.of ft_6_0 rfl rfl) zs0 (fun _ e9 k9 => ?_)
    have hp := zpres e9 (zne hp hl (by decide)) hp
    have hr := zpres e9 (zne hr hl (by decide)) hr
    have hf := hf.put e9 hl (by decide) (Or.inl (Or.inl rfl))
    replace hl := k9
    clear e9 k9
    refine zW.aload_n (pc' := 63) dJ3_unlinkFirst_62 rfl rfl (zgS (zgS (zg0))) rfl ?_
    refine zW.aret dJ3_unlinkFirst_63 rfl (Or.inl ⟨_, rfl⟩) rfl ?_
    refine ⟨_, rfl, rfl, cLL.erase hL hi ?_ (fun j q ej e => by omega) (fun r' e => by rw [hr0] at e; cases e; exact hr) (fun j q e n1 n2 n3 => ?_), hf.mono fun b hb => Or.inl (hb.elim Or.inl fun q => q.elim (fun q => by rw [q]; exact hmem _ _ hi) fun q => by rw [q]; exact hmem _ _ hr0)⟩
    · rw [if_pos rfl, if_neg (show ¬ 0 + 1 = xs.length by omega), e1]
      exact hl
    · exact hf.1 _ (fun z => z.elim (hla _ _ e) fun z => z.elim (hL.ne e hi n1) (hL.ne e hr0 n3)) (hlv _ _ e)
theorem w_llRemFirst (hL : cLL h a mc xs) {p : Nat × Nat} (hi : xs[0]? = some p) : zK G mJ3_removeFirst 2 0 [.ref a] h (zO fun v h' => v = some (.ref p.2) ∧ cLL h' a (mc + nI 1) (xs.eraseIdx 0) ∧ zfr (cLf a xs) h h') := by
  have hl := hL.1
  rw [cNd_at hi] at hl
  show zW G mJ3_removeFirst 2 0 0 [.ref a, zho] [] h _
  refine zW.aload_n (pc' := 1) dJ3_removeFirst_0 rfl rfl zg0 rfl ?_
  refine zW.get (pc' := 4) dJ3_removeFirst_1 rfl f_J3_18_6 hl ⟨rfl, (Nat.le_of_ble_eq_true rfl)⟩ rfl ?_
  refine zW.astore_n (pc' := 5) dJ3_removeFirst_4 rfl rfl (Nat.le_of_ble_eq_true rfl) zrf_ir (zsS (zs0)) ?_
  refine zW.aload_n (pc' := 6) dJ3_removeFirst_5 rfl rfl (zgS (zg0)) zrf_ir ?_
  refine zW.ifnonnull (pc' := 9) 17 dJ3_removeFirst_6 rfl (by decide) zrf_ir (fun b1 => ?_) (fun b1 => ?_)
  rotate_left
  · cases b1
  refine zW.aload_n (pc' := 18) dJ3_removeFirst_17 rfl rfl zg0 rfl ?_
  refine zW.aload_n (pc' := 19) dJ3_removeFirst_18 rfl rfl (zgS (zg0)) zrf_ir ?_
  refine zW.callV (r' := 0) (pc' := 22) dJ3_removeFirst_19 rfl l_J3_46 rfl hl ⟨rfl, (Nat.le_of_ble_eq_true rfl)⟩ rfl (w_unlinkFirst hL hi) (zcc rfl zc0) rfl (Nat.le_of_ble_eq_true rfl) (Nat.le_of_ble_eq_true rfl) (Nat.le_of_ble_eq_true rfl) (fun _ _ q9 => ?_) (fun _ _ q9 => absurd q9 zO.no)
  obtain ⟨_, q8, e1, e2⟩ := q9
  cases q8
  subst e1
  refine zW.aret dJ3_removeFirst_22 rfl (Or.inl ⟨_, rfl⟩) rfl ?_
  exact ⟨_, rfl, rfl, e2⟩
end
