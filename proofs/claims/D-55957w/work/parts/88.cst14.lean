/-! State: count, sum, lowest -/
section
set_option maxRecDepth 100000
variable {G : zG} {h h' h0 : zH} {O : Nat → Prop} {N : zM} {st ll aq re rt ea ha er hr b i k kk : Nat} {mc : Int32} {xs : List (Nat × Nat)} {qs rs : List Nat} {s : sS} {x : MethodName} {vals : List Value}
theorem zle.at {h1 h2 : zH} (z : zle h1 h2) {a : Nat} {c : zC} (e : h1 a = some c) : h2 a = some c := z a c e
theorem sAt_mem {cs : List sC} {k : Nat} (hk : k < cs.length) : sAt cs k ∈ cs := List.mem_of_getElem? (sAt_get hk)
/-- how often T holds among the first k -/
abbrev sCk (T : sC → Bool) (cs : List sC) : Nat → Nat := sUp fun k => if T (sAt cs k) = true then 1 else 0
theorem sCk_s {T : sC → Bool} {cs : List sC} {k : Nat} : sCk T cs (k + 1) = sCk T cs k + (if T (sAt cs k) = true then 1 else 0) := rfl
theorem sCk_le {T : sC → Bool} {cs : List sC} {k : Nat} : sCk T cs k ≤ k := sUp_le fun k => by
  by_cases q : T (sAt cs k) = true
  · rw [if_pos q]; exact Nat.le_refl _
  · rw [if_neg q]; exact Nat.zero_le _
def sUpI (g : Nat → Int32) : Nat → Int32
  | 0 => 0
  | k + 1 => sUpI g k + g k
/-- the lowest of the first k + 1 -/
def sLowK (V : sC → Int32) (cs : List sC) : Nat → Nat
  | 0 => 0
  | k + 1 => if V (sAt cs (k + 1)) < V (sAt cs (sLowK V cs k)) then k + 1 else sLowK V cs k
theorem sLowK_le {V : sC → Int32} {cs : List sC} {k : Nat} : sLowK V cs k ≤ k := by
  induction k with
  | zero => exact Nat.le_refl _
  | succ k ih =>
    show (if _ then k + 1 else sLowK V cs k) ≤ _
    split
    · exact Nat.le_refl _
    · omega
theorem w_stCount (hP : cP h O st ll aq re rt ea ha er hr mc xs qs rs s) (h12 : s.2.1.length ≤ 12) (hL9 : zCL "ClaimRegistry$State" 98 i k x N .boolean) (hi9 : i < 50) (hb : h b = some (kk, vals)) (hkk : kk % 1000 = 50 + i) (hvl : vals.length = k) (hcat : ∀ v ∈ vals, v.category = 1) (hln : k + 1 ≤ zm_n N) {T : sC → Bool}
    (hK : ∀ (H : zH) (a : Nat) (c : sC), zle h H → c ∈ s.2.1 → H a = some (2, cCl c) → zK G N 4 0 (vals ++ [Value.ref a]) H (zPu H (some (.int (nI (if T c = true then 1 else 0)))))) : zK G mX2_count 6 2 [.ref st, .ref b] h (zPu h (some (.int (nI (sCk T s.2.1 s.2.1.length))))) := by
  obtain ⟨h1, ⟨hL, hC⟩, -⟩ := hP
  have hl := hL.1
  have hxs := hC.1
  have loop : ∀ (it : Nat) (n : h it = none) (m j : Nat) (lr v4 : Value), j + m = s.2.1.length → zW G mX2_count 6 0 10 [.ref st, .ref b, .int (nI (sCk T s.2.1 j)), .ref it, v4] [] (zup h it (cIt ll mc xs j lr)) (zPu h (some (.int (nI (sCk T s.2.1 s.2.1.length))))) := by
    intro it n m
    induction m with
    | zero =>
      intro j lr v4 hj
      have hi := zup_s (h := h) (a := it) (c := cIt ll mc xs j lr)
      have hl1 := (zup_n (c := cIt ll mc xs j lr) (zfresh n hl)).trans hl
      refine zW.aload_n (pc' := 11) dX2_count_10 rfl rfl (zgS (zgS (zgS (zg0)))) rfl ?_
      refine zW.callF (r' := 0) (pc' := 16) dX2_count_11 rfl l_X2_37_J25 rfl hi ⟨rfl, (Nat.le_of_ble_eq_true rfl)⟩ rfl (w_itHas hi hl1 (by omega) (by omega)) zc0 rfl (Nat.le_of_ble_eq_true rfl) (Nat.le_of_ble_eq_true rfl) (Nat.le_of_ble_eq_true rfl) (fun _ _ q9 => ?_) (fun _ _ q9 => by cases q9.1)
      obtain ⟨q8, e9⟩ := q9
      cases q8
      replace e9 := e9.symm
      subst e9
      rw [if_neg (by omega)]
      refine zW.if_eqN (pc' := 19) 47 dX2_count_16 rfl (by decide) (by omega) (fun b9 => ?_) (fun b9 => absurd b9 (by omega))
      refine zW.iload_n (pc' := 48) dX2_count_47 rfl rfl (zgS (zgS (zg0))) ?_
      refine zW.drop (zle.up n) ?_
      refine zW.iret dX2_count_48 rfl (rfl) ?_
      rw [show j = s.2.1.length by omega]
      exact ⟨rfl, rfl⟩
    | succ m ih =>
      intro j lr v4 hj
      have hi := zup_s (h := h) (a := it) (c := cIt ll mc xs j lr)
      have hl1 := (zup_n (c := cIt ll mc xs j lr) (zfresh n hl)).trans hl
      obtain ⟨p, hp, hc⟩ := hC.at (k := j) (by omega)
      have hcj := sCk_le (T := T) (cs := s.2.1) (k := j)
      refine zW.aload_n (pc' := 11) dX2_count_10 rfl rfl (zgS (zgS (zgS (zg0)))) rfl ?_
      refine zW.callF (r' := 0) (pc' := 16) dX2_count_11 rfl l_X2_37_J25 rfl hi ⟨rfl, (Nat.le_of_ble_eq_true rfl)⟩ rfl (w_itHas hi hl1 (by omega) (by omega)) zc0 rfl (Nat.le_of_ble_eq_true rfl) (Nat.le_of_ble_eq_true rfl) (Nat.le_of_ble_eq_true rfl) (fun _ _ q9 => ?_) (fun _ _ q9 => by cases q9.1)
      obtain ⟨q8, e9⟩ := q9
      cases q8
      replace e9 := e9.symm
      subst e9
      rw [if_pos (by omega)]
      refine zW.if_eqN (pc' := 19) 47 dX2_count_16 rfl (by decide) (by omega) (fun b9 => absurd b9 (by omega)) (fun b9 => ?_)
      refine zW.aload_n (pc' := 20) dX2_count_19 rfl rfl (zgS (zgS (zgS (zg0)))) rfl ?_
      refine zW.callF (r' := 0) (pc' := 25) dX2_count_20 rfl l_X2_43_J25 rfl hi ⟨rfl, (Nat.le_of_ble_eq_true rfl)⟩ rfl (w_itNext (hL.it n) hi hp (by omega)) zc0 rfl (Nat.le_of_ble_eq_true rfl) (Nat.le_of_ble_eq_true rfl) (Nat.le_of_ble_eq_true rfl) (fun _ _ q9 => ?_) (fun _ _ q9 => absurd q9 zO.no)
      obtain ⟨_, q8, e1, e9, -⟩ := q9
      cases q8
      subst e1
      rw [zup_up] at e9
      subst e9
      have hc1 := (zup_n (c := cIt ll mc xs (j + 1) (.ref p.1)) (zfresh n hc)).trans hc
      have hc2 := cCl_l hc1
      refine zW.castS (pc' := 28) dX2_count_25 rfl (lw_all_tbl q1032) hc2 ⟨rfl, (Nat.le_of_ble_eq_true rfl)⟩ rfl ?_
      refine zW.astore (pc' := 30) dX2_count_28 rfl (Nat.le_of_ble_eq_true rfl) rfl (zsS (zsS (zsS (zsS (zs0))))) ?_
      refine zW.aload_n (pc' := 31) dX2_count_30 rfl rfl (zgS (zg0)) rfl ?_
      refine zW.aload (pc' := 33) dX2_count_31 rfl (zgS (zgS (zgS (zgS (zg0))))) rfl ?_
      have hz : zle h (zup h it (cIt ll mc xs (j + 1) (.ref p.1))) := zle.up n
      refine zW.callL (r' := 0) (pc' := 38) dX2_count_33 rfl hL9 rfl hi9 (hz.at hb) hkk hvl hcat (hK _ _ _ hz (sAt_mem (by omega)) hc1) hln (fun v _ q => ?_) (fun _ _ q => by cases q.1) (Nat.le_of_ble_eq_true rfl) (Nat.le_of_ble_eq_true rfl) (fun _ _ q9 => ?_)
      · cases q.1
        by_cases q5 : T (sAt s.2.1 j) = true
        · rw [if_pos q5]; exact ⟨_, rfl, rfl⟩
        · rw [if_neg q5]; exact ⟨_, rfl, rfl⟩
      obtain ⟨q8, e9⟩ := q9
      cases q8
      replace e9 := e9.symm
      subst e9
      have hs := sCk_s (T := T) (cs := s.2.1) (k := j)
      by_cases q5 : T (sAt s.2.1 j) = true
      · rw [if_pos q5] at hs ⊢
        refine zW.if_eqN (pc' := 41) 44 dX2_count_38 rfl (by decide) (by omega) (fun b9 => absurd b9 (by omega)) (fun b9 => ?_)
        refine zW.iincN (pc' := 44) (n := 1) dX2_count_41 rfl (Nat.le_of_ble_eq_true rfl) (zgS (zgS (zg0))) (zsS (zsS (zs0))) ?_
        refine zW.goto 10 dX2_count_44 (by decide) ?_
        rw [← hs]
        exact ih (j + 1) _ _ (by omega)
      · rw [if_neg q5] at hs ⊢
        replace hs := hs.trans (Nat.add_zero _)
        refine zW.if_eqN (pc' := 41) 44 dX2_count_38 rfl (by decide) (by omega) (fun b9 => ?_) (fun b9 => absurd b9 (by omega))
        refine zW.goto 10 dX2_count_44 (by decide) ?_
        rw [← hs]
        exact ih (j + 1) _ _ (by omega)
  show zW G mX2_count 6 2 0 [.ref st, .ref b, zho, zho, zho] [] h _
  refine zW.iconst (pc' := 1) (nI 0) dX2_count_0 rfl (by decide) ?_
  refine zW.istore_n (pc' := 2) dX2_count_1 rfl rfl (Nat.le_of_ble_eq_true rfl) (zsS (zsS (zs0))) ?_
  refine zW.aload_n (pc' := 3) dX2_count_2 rfl rfl zg0 rfl ?_
  refine zW.get (pc' := 6) dX2_count_3 rfl f_X2_12_1 h1 ⟨rfl, (Nat.le_of_ble_eq_true rfl)⟩ rfl ?_
  refine zW.callU (r' := 2) (pc' := 9) dX2_count_6 rfl l_X2_33_J3 rfl hl ⟨rfl, (Nat.le_of_ble_eq_true rfl)⟩ rfl (w_llIter hL (by omega)) zc0 rfl (Nat.le_of_ble_eq_true rfl) (Nat.le_of_ble_eq_true rfl) (Nat.le_of_ble_eq_true rfl) (fun _ _ q9 => ?_) (fun _ _ q9 => absurd q9 zO.no)
  obtain ⟨_, q8, it, e1, n, e9, -⟩ := q9
  cases q8
  subst e1
  subst e9
  refine zW.astore_n (pc' := 10) dX2_count_9 rfl rfl (Nat.le_of_ble_eq_true rfl) rfl (zsS (zsS (zsS (zs0)))) ?_
  exact loop it n s.2.1.length 0 .null zho (Nat.zero_add _)
theorem w_stSum (hP : cP h O st ll aq re rt ea ha er hr mc xs qs rs s) (h12 : s.2.1.length ≤ 12) (hL9 : zCL "ClaimRegistry$State" 104 i k x N .int) (hi9 : i < 50) (hb : h b = some (kk, vals)) (hkk : kk % 1000 = 50 + i) (hvl : vals.length = k) (hcat : ∀ v ∈ vals, v.category = 1) (hln : k + 1 ≤ zm_n N) {V : sC → Int32}
    (hK : ∀ (H : zH) (a : Nat) (c : sC), zle h H → c ∈ s.2.1 → H a = some (2, cCl c) → zK G N 4 0 (vals ++ [Value.ref a]) H (zPu H (some (.int (V c))))) : zK G mX2_sum 6 2 [.ref st, .ref b] h (zPu h (some (.int (sUpI (fun k => V (sAt s.2.1 k)) s.2.1.length)))) := by
  obtain ⟨h1, ⟨hL, hC⟩, -⟩ := hP
  have hl := hL.1
  have hxs := hC.1
  have loop : ∀ (it : Nat) (n : h it = none) (m j : Nat) (lr v4 : Value), j + m = s.2.1.length → zW G mX2_sum 6 0 10 [.ref st, .ref b, .int (sUpI (fun k => V (sAt s.2.1 k)) j), .ref it, v4] [] (zup h it (cIt ll mc xs j lr)) (zPu h (some (.int (sUpI (fun k => V (sAt s.2.1 k)) s.2.1.length)))) := by
    intro it n m
    induction m with
    | zero =>
      intro j lr v4 hj
      have hi := zup_s (h := h) (a := it) (c := cIt ll mc xs j lr)
      have hl1 := (zup_n (c := cIt ll mc xs j lr) (zfresh n hl)).trans hl
      refine zW.aload_n (pc' := 11) dX2_sum_10 rfl rfl (zgS (zgS (zgS (zg0)))) rfl ?_
      refine zW.callF (r' := 0) (pc' := 16) dX2_sum_11 rfl l_X2_37_J25 rfl hi ⟨rfl, (Nat.le_of_ble_eq_true rfl)⟩ rfl (w_itHas hi hl1 (by omega) (by omega)) zc0 rfl (Nat.le_of_ble_eq_true rfl) (Nat.le_of_ble_eq_true rfl) (Nat.le_of_ble_eq_true rfl) (fun _ _ q9 => ?_) (fun _ _ q9 => by cases q9.1)
      obtain ⟨q8, e9⟩ := q9
      cases q8
      replace e9 := e9.symm
      subst e9
      rw [if_neg (by omega)]
      refine zW.if_eqN (pc' := 19) 44 dX2_sum_16 rfl (by decide) (by omega) (fun b9 => ?_) (fun b9 => absurd b9 (by omega))
      refine zW.iload_n (pc' := 45) dX2_sum_44 rfl rfl (zgS (zgS (zg0))) ?_
      refine zW.drop (zle.up n) ?_
      refine zW.iret dX2_sum_45 rfl (rfl) ?_
      rw [show j = s.2.1.length by omega]
      exact ⟨rfl, rfl⟩
    | succ m ih =>
      intro j lr v4 hj
      have hi := zup_s (h := h) (a := it) (c := cIt ll mc xs j lr)
      have hl1 := (zup_n (c := cIt ll mc xs j lr) (zfresh n hl)).trans hl
      obtain ⟨p, hp, hc⟩ := hC.at (k := j) (by omega)
      refine zW.aload_n (pc' := 11) dX2_sum_10 rfl rfl (zgS (zgS (zgS (zg0)))) rfl ?_
      refine zW.callF (r' := 0) (pc' := 16) dX2_sum_11 rfl l_X2_37_J25 rfl hi ⟨rfl, (Nat.le_of_ble_eq_true rfl)⟩ rfl (w_itHas hi hl1 (by omega) (by omega)) zc0 rfl (Nat.le_of_ble_eq_true rfl) (Nat.le_of_ble_eq_true rfl) (Nat.le_of_ble_eq_true rfl) (fun _ _ q9 => ?_) (fun _ _ q9 => by cases q9.1)
      obtain ⟨q8, e9⟩ := q9
      cases q8
      replace e9 := e9.symm
      subst e9
      rw [if_pos (by omega)]
      refine zW.if_eqN (pc' := 19) 44 dX2_sum_16 rfl (by decide) (by omega) (fun b9 => absurd b9 (by omega)) (fun b9 => ?_)
      refine zW.aload_n (pc' := 20) dX2_sum_19 rfl rfl (zgS (zgS (zgS (zg0)))) rfl ?_
      refine zW.callF (r' := 0) (pc' := 25) dX2_sum_20 rfl l_X2_43_J25 rfl hi ⟨rfl, (Nat.le_of_ble_eq_true rfl)⟩ rfl (w_itNext (hL.it n) hi hp (by omega)) zc0 rfl (Nat.le_of_ble_eq_true rfl) (Nat.le_of_ble_eq_true rfl) (Nat.le_of_ble_eq_true rfl) (fun _ _ q9 => ?_) (fun _ _ q9 => absurd q9 zO.no)
      obtain ⟨_, q8, e1, e9, -⟩ := q9
      cases q8
      subst e1
      rw [zup_up] at e9
      subst e9
      have hc1 := (zup_n (c := cIt ll mc xs (j + 1) (.ref p.1)) (zfresh n hc)).trans hc
      have hc2 := cCl_l hc1
      refine zW.castS (pc' := 28) dX2_sum_25 rfl (lw_all_tbl q1032) hc2 ⟨rfl, (Nat.le_of_ble_eq_true rfl)⟩ rfl ?_
      refine zW.astore (pc' := 30) dX2_sum_28 rfl (Nat.le_of_ble_eq_true rfl) rfl (zsS (zsS (zsS (zsS (zs0))))) ?_
      refine zW.iload_n (pc' := 31) dX2_sum_30 rfl rfl (zgS (zgS (zg0))) ?_
      refine zW.aload_n (pc' := 32) dX2_sum_31 rfl rfl (zgS (zg0)) rfl ?_
      refine zW.aload (pc' := 34) dX2_sum_32 rfl (zgS (zgS (zgS (zgS (zg0))))) rfl ?_
      have hz : zle h (zup h it (cIt ll mc xs (j + 1) (.ref p.1))) := zle.up n
      refine zW.callL (r' := 0) (pc' := 39) dX2_sum_34 rfl hL9 rfl hi9 (hz.at hb) hkk hvl hcat (hK _ _ _ hz (sAt_mem (by omega)) hc1) hln (fun v _ q => ?_) (fun _ _ q => by cases q.1) (Nat.le_of_ble_eq_true rfl) (Nat.le_of_ble_eq_true rfl) (fun _ _ q9 => ?_)
      · cases q.1
        exact ⟨_, rfl, rfl⟩
      obtain ⟨q8, e9⟩ := q9
      cases q8
      replace e9 := e9.symm
      subst e9
      refine zW.iadd (pc' := 40) dX2_sum_39 rfl ?_
      refine zW.istore_n (pc' := 41) dX2_sum_40 rfl rfl (Nat.le_of_ble_eq_true rfl) (zsS (zsS (zs0))) ?_
      refine zW.goto 10 dX2_sum_41 (by decide) ?_
      exact ih (j + 1) _ _ (by omega)
  show zW G mX2_sum 6 2 0 [.ref st, .ref b, zho, zho, zho] [] h _
  refine zW.iconst (pc' := 1) (nI 0) dX2_sum_0 rfl (by decide) ?_
  refine zW.istore_n (pc' := 2) dX2_sum_1 rfl rfl (Nat.le_of_ble_eq_true rfl) (zsS (zsS (zs0))) ?_
  refine zW.aload_n (pc' := 3) dX2_sum_2 rfl rfl zg0 rfl ?_
  refine zW.get (pc' := 6) dX2_sum_3 rfl f_X2_12_1 h1 ⟨rfl, (Nat.le_of_ble_eq_true rfl)⟩ rfl ?_
  refine zW.callU (r' := 2) (pc' := 9) dX2_sum_6 rfl l_X2_33_J3 rfl hl ⟨rfl, (Nat.le_of_ble_eq_true rfl)⟩ rfl (w_llIter hL (by omega)) zc0 rfl (Nat.le_of_ble_eq_true rfl) (Nat.le_of_ble_eq_true rfl) (Nat.le_of_ble_eq_true rfl) (fun _ _ q9 => ?_) (fun _ _ q9 => absurd q9 zO.no)
  obtain ⟨_, q8, it, e1, n, e9, -⟩ := q9
  cases q8
  subst e1
  subst e9
  refine zW.astore_n (pc' := 10) dX2_sum_9 rfl rfl (Nat.le_of_ble_eq_true rfl) rfl (zsS (zsS (zsS (zs0)))) ?_
  exact loop it n s.2.1.length 0 .null zho (Nat.zero_add _)
theorem w_stLowest (hP : cP h O st ll aq re rt ea ha er hr mc xs qs rs s) (h12 : s.2.1.length ≤ 12) (hL9 : zCL "ClaimRegistry$State" 104 i k x N .int) (hi9 : i < 50) (hb : h b = some (kk, vals)) (hkk : kk % 1000 = 50 + i) (hvl : vals.length = k) (hcat : ∀ v ∈ vals, v.category = 1) (hln : k + 1 ≤ zm_n N) {V : sC → Int32}
    (hK : ∀ (H : zH) (a : Nat) (c : sC), zle h H → c ∈ s.2.1 → H a = some (2, cCl c) → zK G N 4 0 (vals ++ [Value.ref a]) H (zPu H (some (.int (V c))))) : zK G mX2_lowest 6 2 [.ref st, .ref b] h (zPu h (some (zrf (if s.2.1.length = 0 then none else cAd xs (sLowK V s.2.1 (s.2.1.length - 1)))))) := by
  obtain ⟨h1, ⟨hL, hC⟩, -⟩ := hP
  have hl := hL.1
  have hxs := hC.1
  have loop : ∀ (it : Nat) (n : h it = none) (m j : Nat) (lr v4 : Value), j + m = s.2.1.length → zW G mX2_lowest 6 0 10 [.ref st, .ref b, zrf (if j = 0 then none else cAd xs (sLowK V s.2.1 (j - 1))), .ref it, v4] [] (zup h it (cIt ll mc xs j lr)) (zPu h (some (zrf (if s.2.1.length = 0 then none else cAd xs (sLowK V s.2.1 (s.2.1.length - 1)))))) := by
    intro it n m
    induction m with
    | zero =>
      intro j lr v4 hj
      have hi := zup_s (h := h) (a := it) (c := cIt ll mc xs j lr)
      have hl1 := (zup_n (c := cIt ll mc xs j lr) (zfresh n hl)).trans hl
      refine zW.aload_n (pc' := 11) dX2_lowest_10 rfl rfl (zgS (zgS (zgS (zg0)))) rfl ?_
      refine zW.callF (r' := 0) (pc' := 16) dX2_lowest_11 rfl l_X2_37_J25 rfl hi ⟨rfl, (Nat.le_of_ble_eq_true rfl)⟩ rfl (w_itHas hi hl1 (by omega) (by omega)) zc0 rfl (Nat.le_of_ble_eq_true rfl) (Nat.le_of_ble_eq_true rfl) (Nat.le_of_ble_eq_true rfl) (fun _ _ q9 => ?_) (fun _ _ q9 => by cases q9.1)
      obtain ⟨q8, e9⟩ := q9
      cases q8
      replace e9 := e9.symm
      subst e9
      rw [show (if j < xs.length then (1 : Nat) else 0) = 0 from if_neg (by omega)]
      refine zW.if_eqN (pc' := 19) 58 dX2_lowest_16 rfl (by decide) (by omega) (fun b9 => ?_) (fun b9 => absurd b9 (by omega))
      refine zW.aload_n (pc' := 59) dX2_lowest_58 rfl rfl (zgS (zgS (zg0))) zrf_ir ?_
      refine zW.drop (zle.up n) ?_
      rw [show j = s.2.1.length by omega]
      refine zW.aret dX2_lowest_59 rfl (Or.inl ⟨_, rfl⟩) zrf_ir ?_
      exact ⟨rfl, rfl⟩
    | succ m ih =>
      intro j lr v4 hj
      have hi := zup_s (h := h) (a := it) (c := cIt ll mc xs j lr)
      have hl1 := (zup_n (c := cIt ll mc xs j lr) (zfresh n hl)).trans hl
      obtain ⟨p, hp, hc⟩ := hC.at (k := j) (by omega)
      have hpa : cAd xs j = some p.2 := by unfold cAd; rw [hp]; rfl
      refine zW.aload_n (pc' := 11) dX2_lowest_10 rfl rfl (zgS (zgS (zgS (zg0)))) rfl ?_
      refine zW.callF (r' := 0) (pc' := 16) dX2_lowest_11 rfl l_X2_37_J25 rfl hi ⟨rfl, (Nat.le_of_ble_eq_true rfl)⟩ rfl (w_itHas hi hl1 (by omega) (by omega)) zc0 rfl (Nat.le_of_ble_eq_true rfl) (Nat.le_of_ble_eq_true rfl) (Nat.le_of_ble_eq_true rfl) (fun _ _ q9 => ?_) (fun _ _ q9 => by cases q9.1)
      obtain ⟨q8, e9⟩ := q9
      cases q8
      replace e9 := e9.symm
      subst e9
      rw [show (if j < xs.length then (1 : Nat) else 0) = 1 from if_pos (by omega)]
      refine zW.if_eqN (pc' := 19) 58 dX2_lowest_16 rfl (by decide) (by omega) (fun b9 => absurd b9 (by omega)) (fun b9 => ?_)
      refine zW.aload_n (pc' := 20) dX2_lowest_19 rfl rfl (zgS (zgS (zgS (zg0)))) rfl ?_
      refine zW.callF (r' := 0) (pc' := 25) dX2_lowest_20 rfl l_X2_43_J25 rfl hi ⟨rfl, (Nat.le_of_ble_eq_true rfl)⟩ rfl (w_itNext (hL.it n) hi hp (by omega)) zc0 rfl (Nat.le_of_ble_eq_true rfl) (Nat.le_of_ble_eq_true rfl) (Nat.le_of_ble_eq_true rfl) (fun _ _ q9 => ?_) (fun _ _ q9 => absurd q9 zO.no)
      obtain ⟨_, q8, e1, e9, -⟩ := q9
      cases q8
      subst e1
      rw [zup_up] at e9
      subst e9
      have hc1 := (zup_n (c := cIt ll mc xs (j + 1) (.ref p.1)) (zfresh n hc)).trans hc
      have hc2 := cCl_l hc1
      refine zW.castS (pc' := 28) dX2_lowest_25 rfl (lw_all_tbl q1032) hc2 ⟨rfl, (Nat.le_of_ble_eq_true rfl)⟩ rfl ?_
      refine zW.astore (pc' := 30) dX2_lowest_28 rfl (Nat.le_of_ble_eq_true rfl) rfl (zsS (zsS (zsS (zsS (zs0))))) ?_
      refine zW.aload_n (pc' := 31) dX2_lowest_30 rfl rfl (zgS (zgS (zg0))) zrf_ir ?_
      have hz : zle h (zup h it (cIt ll mc xs (j + 1) (.ref p.1))) := zle.up n
      have put : sLowK V s.2.1 j = j → zW G mX2_lowest 6 0 52 [.ref st, .ref b, zrf (if j = 0 then none else cAd xs (sLowK V s.2.1 (j - 1))), .ref it, .ref p.2] [] (zup h it (cIt ll mc xs (j + 1) (.ref p.1))) (zPu h (some (zrf (if s.2.1.length = 0 then none else cAd xs (sLowK V s.2.1 (s.2.1.length - 1)))))) := by
        intro e0
        refine zW.aload (pc' := 54) dX2_lowest_52 rfl (zgS (zgS (zgS (zgS (zg0))))) rfl ?_
        refine zW.astore_n (pc' := 55) dX2_lowest_54 rfl rfl (Nat.le_of_ble_eq_true rfl) rfl (zsS (zsS (zs0))) ?_
        refine zW.goto 10 dX2_lowest_55 (by decide) ?_
        have k9 := ih (j + 1) (.ref p.1) (.ref p.2) (by omega)
        rw [if_neg (by omega), Nat.add_sub_cancel, e0, hpa] at k9
        exact k9
      by_cases q0 : j = 0
      · rw [if_pos q0] at put ⊢
        refine zW.ifnull (pc' := 34) 52 dX2_lowest_31 rfl (by decide) rfl (fun _ => ?_) (fun b9 => absurd rfl b9)
        exact put (by rw [q0]; rfl)
      · rw [if_neg q0] at put ⊢
        have hle := sLowK_le (V := V) (cs := s.2.1) (k := j - 1)
        obtain ⟨p0, hp0, hc0⟩ := hC.at (k := sLowK V s.2.1 (j - 1)) (by omega)
        have hpa0 : cAd xs (sLowK V s.2.1 (j - 1)) = some p0.2 := by unfold cAd; rw [hp0]; rfl
        have hc01 := (zup_n (c := cIt ll mc xs (j + 1) (.ref p.1)) (zfresh n hc0)).trans hc0
        have hs : sLowK V s.2.1 j = if V (sAt s.2.1 j) < V (sAt s.2.1 (sLowK V s.2.1 (j - 1))) then j else sLowK V s.2.1 (j - 1) := by
          obtain ⟨j', rfl⟩ : ∃ j', j = j' + 1 := ⟨j - 1, by omega⟩
          rfl
        rw [hpa0] at put ⊢
        refine zW.ifnull (pc' := 34) 52 dX2_lowest_31 rfl (by decide) rfl (fun b9 => by cases b9) (fun b9 => ?_)
        refine zW.aload_n (pc' := 35) dX2_lowest_34 rfl rfl (zgS (zg0)) rfl ?_
        refine zW.aload (pc' := 37) dX2_lowest_35 rfl (zgS (zgS (zgS (zgS (zg0))))) rfl ?_
        refine zW.callL (r' := 0) (pc' := 42) dX2_lowest_37 rfl hL9 rfl hi9 (hz.at hb) hkk hvl hcat (hK _ _ _ hz (sAt_mem (by omega)) hc1) hln (fun v _ q => ?_) (fun _ _ q => by cases q.1) (Nat.le_of_ble_eq_true rfl) (Nat.le_of_ble_eq_true rfl) (fun _ _ q9 => ?_)
        · cases q.1
          exact ⟨_, rfl, rfl⟩
        obtain ⟨q8, e9⟩ := q9
        cases q8
        replace e9 := e9.symm
        subst e9
        refine zW.aload_n (pc' := 43) dX2_lowest_42 rfl rfl (zgS (zg0)) rfl ?_
        refine zW.aload_n (pc' := 44) dX2_lowest_43 rfl rfl (zgS (zgS (zg0))) rfl ?_
        refine zW.callL (r' := 0) (pc' := 49) dX2_lowest_44 rfl hL9 rfl hi9 (hz.at hb) hkk hvl hcat (hK _ _ _ hz (sAt_mem (by omega)) hc01) hln (fun v _ q => ?_) (fun _ _ q => by cases q.1) (Nat.le_of_ble_eq_true rfl) (Nat.le_of_ble_eq_true rfl) (fun _ _ q9 => ?_)
        · cases q.1
          exact ⟨_, rfl, rfl⟩
        obtain ⟨q8, e9⟩ := q9
        cases q8
        replace e9 := e9.symm
        subst e9
        refine zW.icmp_ge (pc' := 52) 55 dX2_lowest_49 rfl (by decide) (fun b1 => ?_) (fun b1 => ?_)
        · rw [if_neg (Int32.not_lt.mpr b1)] at hs
          refine zW.goto 10 dX2_lowest_55 (by decide) ?_
          have k9 := ih (j + 1) (.ref p.1) (.ref p.2) (by omega)
          rw [if_neg (by omega), Nat.add_sub_cancel, hs, hpa0] at k9
          exact k9
        · rw [if_pos (Int32.not_le.mp b1)] at hs
          exact put hs
  show zW G mX2_lowest 6 2 0 [.ref st, .ref b, zho, zho, zho] [] h _
  refine zW.null (pc' := 1) dX2_lowest_0 rfl ?_
  refine zW.astore_n (pc' := 2) dX2_lowest_1 rfl rfl (Nat.le_of_ble_eq_true rfl) rfl (zsS (zsS (zs0))) ?_
  refine zW.aload_n (pc' := 3) dX2_lowest_2 rfl rfl zg0 rfl ?_
  refine zW.get (pc' := 6) dX2_lowest_3 rfl f_X2_12_1 h1 ⟨rfl, (Nat.le_of_ble_eq_true rfl)⟩ rfl ?_
  refine zW.callU (r' := 2) (pc' := 9) dX2_lowest_6 rfl l_X2_33_J3 rfl hl ⟨rfl, (Nat.le_of_ble_eq_true rfl)⟩ rfl (w_llIter hL (by omega)) zc0 rfl (Nat.le_of_ble_eq_true rfl) (Nat.le_of_ble_eq_true rfl) (Nat.le_of_ble_eq_true rfl) (fun _ _ q9 => ?_) (fun _ _ q9 => absurd q9 zO.no)
  obtain ⟨_, q8, it, e1, n, e9, -⟩ := q9
  cases q8
  subst e1
  subst e9
  refine zW.astore_n (pc' := 10) dX2_lowest_9 rfl rfl (Nat.le_of_ble_eq_true rfl) rfl (zsS (zsS (zsS (zs0)))) ?_
  exact loop it n s.2.1.length 0 .null zho (Nat.zero_add _)
end
