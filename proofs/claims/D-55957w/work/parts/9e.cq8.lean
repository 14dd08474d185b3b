/-! THE CLASS's sort, whole; the claim at a place of it -/
section
set_option maxRecDepth 100000
variable {G : zG} {h h' : zH} {O : Nat → Prop} {x st ll aq re rt ea ha er hr tt nn n i l l1 l2 : Nat} {mc mc1 mc2 : Int32} {xs ys ys1 ys2 : List (Nat × Nat)} {qs rs : List Nat} {s : sS} {fs : List Value} {id y z : Int32} {Q9 : zR → zH → Prop} {K : Nat → sC}
def sRm : Nat → Nat
  | 0 => 0
  | f + 1 => sRm f + sRm f + 31
abbrev cSo (h : zH) (l : Nat) (ys : List (Nat × Nat)) (as : List Nat) : zR → zH → Prop := zO fun v h' => ∃ l3 mc3 ys3, v = some (.ref l3) ∧ cLL h' l3 mc3 ys3 ∧ ys3.map Prod.snd = as ∧ zfr (fun _ => False) h h' ∧ ((l3 = l ∧ ys3 = ys ∧ h' = h) ∨ ∀ b, cLf l3 ys3 b → h b = none)
theorem cLf.app {p : Nat × Nat} {b : Nat} (hb : cLf l (ys ++ [p]) b) : cLf l ys b ∨ b = p.1 := by
  rcases hb with q | q
  · exact Or.inl (Or.inl q)
  · rw [List.map_append] at q
    rcases List.mem_append.mp q with q | q
    · exact Or.inl (Or.inr q)
    · exact Or.inr (List.mem_singleton.mp q)
theorem take_sn {as : List Nat} {k a : Nat} (h : as[k]? = some a) : as.take (k + 1) = as.take k ++ [a] := by rw [List.take_succ, h]; rfl
theorem drop_sn {as : List Nat} {k a n : Nat} (h : as[k]? = some a) (hn : n ≤ k) : (as.take (k + 1)).drop n = (as.take k).drop n ++ [a] := by
  have hk := (List.getElem?_eq_some_iff.mp h).1
  rw [take_sn h, List.drop_append_of_le_length (by rw [List.length_take]; omega)]
theorem c_stSmall {d r f : Nat} (hL : cLL h l mc ys) (h2 : ys.length < 2) : zK G mX1_sort (2 + d) r [.ref l] h (cSo h l ys (mSort K f (ys.map Prod.snd))) := by
  have hl := hL.1
  have e : mSort K f (ys.map Prod.snd) = ys.map Prod.snd := by
    cases f with
    | zero => rfl
    | succ f => rw [mSort, if_pos (by rw [List.length_map]; exact h2)]
  rw [e]
  refine zW.deep (d1 := 2) ?_ (Nat.le_add_right _ _)
  refine zW.pay (r1 := 0) ?_ (Nat.zero_le _)
  show zW G mX1_sort 2 0 0 [.ref l, zho, zho, zho, zho] [] h _
  refine zW.aload_n (pc' := 1) dX1_sort_0 rfl rfl zg0 rfl ?_
  refine zW.callV (r' := 0) (pc' := 4) dX1_sort_1 rfl l_X1_95 rfl hl ⟨rfl, (Nat.le_of_ble_eq_true rfl)⟩ rfl (w_llSize hl) zc0 rfl (Nat.le_of_ble_eq_true rfl) (Nat.le_of_ble_eq_true rfl) (Nat.le_of_ble_eq_true rfl) (fun _ _ q9 => ?_) (fun _ _ q9 => by cases q9.1)
  obtain ⟨q8, e9⟩ := q9
  cases q8
  replace e9 := e9.symm
  subst e9
  refine zW.iconst (pc' := 5) (nI 2) dX1_sort_4 rfl (by decide) ?_
  refine zW.icmp_geN (pc' := 8) 10 dX1_sort_5 rfl (by decide) (by omega) (by omega) (fun b9 => absurd b9 (by omega)) (fun b9 => ?_)
  refine zW.aload_n (pc' := 9) dX1_sort_8 rfl rfl zg0 rfl ?_
  refine zW.aret dX1_sort_9 rfl (Or.inl ⟨_, rfl⟩) rfl ?_
  exact ⟨_, rfl, l, mc, ys, rfl, hL, rfl, zfr.rf, Or.inl ⟨rfl, rfl, rfl⟩⟩
/-- the list is parted -/
theorem c_stPart {r d it : Nat} (hd6 : 6 ≤ d) (nit : h it = none) (h12 : ys.length ≤ 12)
    (fin : ∀ (H : zH) (mc1 mc2 : Int32) (ys1 ys2 : List (Nat × Nat)) (v3 v4 : Value), zfr (fun _ => False) h H → cLL H l1 mc1 ys1 → cLL H l2 mc2 ys2 → ys1.map Prod.snd = (ys.map Prod.snd).take (ys.length / 2) → ys2.map Prod.snd = (ys.map Prod.snd).drop (ys.length / 2) → (∀ b, cLf l1 ys1 b → h b = none) → (∀ b, cLf l2 ys2 b → h b = none) → (∀ b, cLf l1 ys1 b → ¬ cLf l2 ys2 b) → cKs H K (ys.map Prod.snd) → zW G mX1_sort d r 82 [.ref l, .ref l1, .ref l2, v3, v4] [] H Q9) :
    ∀ (m k : Nat) (H : zH) (mc1 mc2 : Int32) (ys1 ys2 : List (Nat × Nat)) (lr v4 : Value), k + m = ys.length → zfr (fun _ => False) h H → cLL H l mc ys → H it = some (cIt l mc ys k lr) → cLL H l1 mc1 ys1 → cLL H l2 mc2 ys2 → ys1.map Prod.snd = (ys.map Prod.snd).take (min k (ys.length / 2)) → ys2.map Prod.snd = ((ys.map Prod.snd).take k).drop (ys.length / 2) → (∀ b, cLf l1 ys1 b → h b = none ∧ b ≠ it) → (∀ b, cLf l2 ys2 b → h b = none ∧ b ≠ it) → (∀ b, cLf l1 ys1 b → ¬ cLf l2 ys2 b) → (∀ b, cLf l ys b → h b ≠ none) → cKs H K (ys.map Prod.snd) → zW G mX1_sort d (r + m) 31 [.ref l, .ref l1, .ref l2, .ref it, v4] [] H Q9 := by
  intro m
  induction m with
  | zero =>
    intro k H mc1 mc2 ys1 ys2 lr v4 hkm zf hL hit hL1 hL2 e1 e2 hF1 hF2 hd hFl hK
    have hl := hL.1
    have hk : k = ys.length := hkm
    refine zW.aload_n (pc' := 32) dX1_sort_31 rfl rfl (zgS (zgS (zgS (zg0)))) rfl ?_
    refine zW.callF (r' := 0) (pc' := 37) dX1_sort_32 rfl l_X1_247_J25 rfl hit ⟨rfl, (Nat.le_of_ble_eq_true rfl)⟩ rfl (w_itHas hit hl (by omega) (by omega)) zc0 rfl (Nat.le_of_ble_eq_true rfl) (by omega) (Nat.le_of_ble_eq_true rfl) (fun _ _ q9 => ?_) (fun _ _ q9 => by cases q9.1)
    obtain ⟨q8, e9⟩ := q9
    cases q8
    replace e9 := e9.symm
    subst e9
    rw [if_neg (by omega)]
    refine zW.if_eqN (pc' := 40) 82 dX1_sort_37 rfl (by decide) (by omega) (fun b9 => ?_) (fun b9 => absurd b9 (by omega))
    rw [Nat.min_eq_right (by omega)] at e1
    rw [List.take_of_length_le (by rw [List.length_map]; omega)] at e2
    exact fin H mc1 mc2 ys1 ys2 _ _ zf hL1 hL2 e1 e2 (fun b hb => (hF1 b hb).1) (fun b hb => (hF2 b hb).1) hd hK
  | succ m ih =>
    intro k H mc1 mc2 ys1 ys2 lr v4 hkm zf hL hit hL1 hL2 e1 e2 hF1 hF2 hd hFl hK
    have hl := hL.1
    obtain ⟨p, hp⟩ : ∃ p, ys[k]? = some p := ⟨_, List.getElem?_eq_getElem (by omega)⟩
    have hpa : (ys.map Prod.snd)[k]? = some p.2 := by rw [List.getElem?_map, hp]; rfl
    have hc := (hK p.2 (List.mem_map_of_mem (List.mem_of_getElem? hp))).1
    have hc2 := cCl_l hc
    have hy1 : ys1.length = min k (ys.length / 2) := by
      have := congrArg List.length e1
      rw [List.length_map, List.length_take, List.length_map] at this
      omega
    refine zW.pay (r1 := r + m + 1) ?_ (by omega)
    have zi := zfr.self hit
    refine zW.aload_n (pc' := 32) dX1_sort_31 rfl rfl (zgS (zgS (zgS (zg0)))) rfl ?_
    refine zW.callF (r' := 0) (pc' := 37) dX1_sort_32 rfl l_X1_247_J25 rfl hit ⟨rfl, (Nat.le_of_ble_eq_true rfl)⟩ rfl (w_itHas hit hl (by omega) (by omega)) zc0 rfl (Nat.le_of_ble_eq_true rfl) (by omega) (Nat.le_of_ble_eq_true rfl) (fun _ _ q9 => ?_) (fun _ _ q9 => by cases q9.1)
    obtain ⟨q8, e9⟩ := q9
    cases q8
    replace e9 := e9.symm
    subst e9
    rw [if_pos (by omega)]
    refine zW.if_eqN (pc' := 40) 82 dX1_sort_37 rfl (by decide) (by omega) (fun b9 => absurd b9 (by omega)) (fun b9 => ?_)
    refine zW.aload_n (pc' := 41) dX1_sort_40 rfl rfl (zgS (zgS (zgS (zg0)))) rfl ?_
    have hit0 := hit
    refine zW.callF (r' := 0) (pc' := 46) dX1_sort_41 rfl l_X1_252_J25 rfl hit ⟨rfl, (Nat.le_of_ble_eq_true rfl)⟩ rfl (w_itNext hL hit hp (by omega)) zc0 rfl (Nat.le_of_ble_eq_true rfl) (by omega) (Nat.le_of_ble_eq_true rfl) (fun _ _ q9 => ?_) (fun _ _ q9 => absurd q9 zO.no)
    obtain ⟨_, q8, e1, e9, k9⟩ := q9
    cases q8
    subst e1
    have hc2 := zpres e9 (zne hc2 hit (by decide)) hc2
    have zi := zi.put e9 hit (by decide) (Or.inl rfl)
    replace hit := k9
    clear e9 k9
    have hLa := hL.mv fun b k' l' hk' e => zi.at e (zne e hit0 (by rcases hk' with q | q <;> subst q <;> decide))
    have hL1a := hL1.mv fun b k' l' hk' e => zi.at e (zne e hit0 (by rcases hk' with q | q <;> subst q <;> decide))
    have hL2a := hL2.mv fun b k' l' hk' e => zi.at e (zne e hit0 (by rcases hk' with q | q <;> subst q <;> decide))
    have hKa := hK.mv fun b l' e => zi.at e (zne e hit0 (by decide))
    have zfa := zf.tr zi fun b hb => Or.inr (by rw [hb]; exact nit)
    have hla := hLa.1
    have hl1a := hL1a.1
    have hl2a := hL2a.1
    refine zW.castS (pc' := 49) dX1_sort_46 rfl (lw_all_tbl q1398) hc2 ⟨rfl, (Nat.le_of_ble_eq_true rfl)⟩ rfl ?_
    refine zW.astore (pc' := 51) dX1_sort_49 rfl (Nat.le_of_ble_eq_true rfl) rfl (zsS (zsS (zsS (zsS (zs0))))) ?_
    refine zW.aload_n (pc' := 52) dX1_sort_51 rfl rfl (zgS (zg0)) rfl ?_
    refine zW.callV (r' := 0) (pc' := 55) dX1_sort_52 rfl l_X1_95 rfl hl1a ⟨rfl, (Nat.le_of_ble_eq_true rfl)⟩ rfl (w_llSize hl1a) zc0 rfl (Nat.le_of_ble_eq_true rfl) (by omega) (Nat.le_of_ble_eq_true rfl) (fun _ _ q9 => ?_) (fun _ _ q9 => by cases q9.1)
    obtain ⟨q8, e9⟩ := q9
    cases q8
    replace e9 := e9.symm
    subst e9
    refine zW.aload_n (pc' := 56) dX1_sort_55 rfl rfl zg0 rfl ?_
    refine zW.callV (r' := 0) (pc' := 59) dX1_sort_56 rfl l_X1_95 rfl hla ⟨rfl, (Nat.le_of_ble_eq_true rfl)⟩ rfl (w_llSize hla) zc0 rfl (Nat.le_of_ble_eq_true rfl) (by omega) (Nat.le_of_ble_eq_true rfl) (fun _ _ q9 => ?_) (fun _ _ q9 => by cases q9.1)
    obtain ⟨q8, e9⟩ := q9
    cases q8
    replace e9 := e9.symm
    subst e9
    refine zW.iconst (pc' := 60) (nI 2) dX1_sort_59 rfl (by decide) ?_
    refine zW.idivN (pc' := 61) dX1_sort_60 rfl (by omega) (by decide) (by decide) ?_
    by_cases q : k < ys.length / 2
    · refine zW.icmp_geN (pc' := 64) 73 dX1_sort_61 rfl (by decide) (by omega) (by omega) (fun b9 => absurd b9 (by omega)) (fun b9 => ?_)
      refine zW.aload_n (pc' := 65) dX1_sort_64 rfl rfl (zgS (zg0)) rfl ?_
      refine zW.aload (pc' := 67) dX1_sort_65 rfl (zgS (zgS (zgS (zgS (zg0))))) rfl ?_
      refine zW.callV (r' := 1) (pc' := 70) dX1_sort_67 rfl l_X1_292 rfl hl1a ⟨rfl, (Nat.le_of_ble_eq_true rfl)⟩ rfl (w_addLast hL1a) (zcc rfl zc0) rfl (Nat.le_of_ble_eq_true rfl) (by omega) (Nat.le_of_ble_eq_true rfl) (fun _ _ q9 => ?_) (fun _ _ q9 => absurd q9 zO.no)
      obtain ⟨_, q8, e3, nd, nnd, hL1b, z3⟩ := q9
      cases q8
      subst e3
      refine zW.goto 79 dX1_sort_70 (by decide) ?_
      refine zW.goto 31 dX1_sort_79 (by decide) ?_
      have nnd0 := zfa.nn0 nnd
      have hLb := hLa.fr z3 fun b hb w => hFl b hb (hF1 b w).1
      have hL2b := hL2a.fr z3 fun b hb w => hd b w hb
      have hitb := z3.at hit fun w => (hF1 it w).2 rfl
      have ndi : nd ≠ it := fun w => by rw [w, hit] at nnd; cases nnd
      have nd2 : ¬ cLf l2 ys2 nd := fun w => cLf.live hL2a w nnd
      refine ih (k + 1) _ _ _ _ ys2 _ _ (by omega) (zfa.tr z3 fun b hb => Or.inr (hF1 b hb).1) hLb hitb hL1b hL2b ?_ ?_ (fun b hb => ?_) hF2 (fun b hb w => ?_) hFl (hKa.mv (hL1a.outC z3))
      · rw [List.map_append, e1, Nat.min_eq_left (by omega), Nat.min_eq_left (by omega), take_sn hpa]; rfl
      · rw [e2, List.drop_of_length_le (by rw [List.length_take]; omega), List.drop_of_length_le (by rw [List.length_take]; omega)]
      · rcases cLf.app hb with w | w
        · exact hF1 b w
        · rw [w]; exact ⟨nnd0, ndi⟩
      · rcases cLf.app hb with v | v
        · exact hd b v w
        · rw [v] at w; exact nd2 w
    · refine zW.icmp_geN (pc' := 64) 73 dX1_sort_61 rfl (by decide) (by omega) (by omega) (fun b9 => ?_) (fun b9 => absurd b9 (by omega))
      refine zW.aload_n (pc' := 74) dX1_sort_73 rfl rfl (zgS (zgS (zg0))) rfl ?_
      refine zW.aload (pc' := 76) dX1_sort_74 rfl (zgS (zgS (zgS (zgS (zg0))))) rfl ?_
      refine zW.callV (r' := 1) (pc' := 79) dX1_sort_76 rfl l_X1_292 rfl hl2a ⟨rfl, (Nat.le_of_ble_eq_true rfl)⟩ rfl (w_addLast hL2a) (zcc rfl zc0) rfl (Nat.le_of_ble_eq_true rfl) (by omega) (Nat.le_of_ble_eq_true rfl) (fun _ _ q9 => ?_) (fun _ _ q9 => absurd q9 zO.no)
      obtain ⟨_, q8, e3, nd, nnd, hL2b, z3⟩ := q9
      cases q8
      subst e3
      refine zW.goto 31 dX1_sort_79 (by decide) ?_
      have nnd0 := zfa.nn0 nnd
      have hLb := hLa.fr z3 fun b hb w => hFl b hb (hF2 b w).1
      have hL1b := hL1a.fr z3 fun b hb w => hd b hb w
      have hitb := z3.at hit fun w => (hF2 it w).2 rfl
      have ndi : nd ≠ it := fun w => by rw [w, hit] at nnd; cases nnd
      have nd1 : ¬ cLf l1 ys1 nd := fun w => cLf.live hL1a w nnd
      refine ih (k + 1) _ _ _ ys1 _ _ _ (by omega) (zfa.tr z3 fun b hb => Or.inr (hF2 b hb).1) hLb hitb hL1b hL2b ?_ ?_ hF1 (fun b hb => ?_) (fun b hb w => ?_) hFl (hKa.mv (hL2a.outC z3))
      · rw [e1, Nat.min_eq_right (by omega), Nat.min_eq_right (by omega)]
      · rw [List.map_append, e2, drop_sn hpa (by omega)]; rfl
      · rcases cLf.app hb with w | w
        · exact hF2 b w
        · rw [w]; exact ⟨nnd0, ndi⟩
      · rcases cLf.app w with v | v
        · exact hd b hb v
        · rw [v] at hb; exact nd1 hb
theorem c_sort : ∀ (f : Nat) {h : zH} {l : Nat} {mc : Int32} {ys : List (Nat × Nat)}, ys.length ≤ 2 ^ f → ys.length ≤ 12 → cLL h l mc ys → cKs h K (ys.map Prod.snd) → zK G mX1_sort (f + 10) (sRm f) [.ref l] h (cSo h l ys (mSort K f (ys.map Prod.snd))) := by
  intro f
  induction f with
  | zero =>
    intro h l mc ys h2 h12 hL hK
    exact zW.deep (d1 := 2 + 0) (c_stSmall hL (by omega)) (by omega)
  | succ f ih =>
    intro h l mc ys h2 h12 hL hK
    by_cases q : ys.length < 2
    · exact zW.deep (d1 := 2 + 0) (c_stSmall hL q) (by omega)
    · have hl := hL.1
      have hFl : ∀ b, cLf l ys b → h b ≠ none := fun b hb => cLf.live hL hb
      have zg := zfr.rf (A := fun _ => False) (h := h)
      have hp2 : 2 ^ (f + 1) = 2 * 2 ^ f := by rw [Nat.pow_succ, Nat.mul_comm]
      have eS : mSort K (f + 1) (ys.map Prod.snd) = List.merge (mSort K f ((ys.map Prod.snd).take (ys.length / 2))) (mSort K f ((ys.map Prod.snd).drop (ys.length / 2))) (lt9 K) := by
        rw [mSort, if_neg (by rw [List.length_map]; exact q), List.length_map]
      rw [eS]
      refine zW.pay (r1 := 0 + (ys.length + 3) + sRm f + sRm f + ys.length + 2 + 1 + 1) ?_ (by show _ ≤ sRm f + sRm f + 31; omega)
      generalize sRm f = R at *
      show zW G mX1_sort (f+1+10) (0+(ys.length+3)+R+R+ys.length+2+1+1) 0 [.ref l, zho, zho, zho, zho] [] h _
      refine zW.aload_n (pc' := 1) dX1_sort_0 rfl rfl zg0 rfl ?_
      refine zW.callV (r' := 0) (pc' := 4) dX1_sort_1 rfl l_X1_95 rfl hl ⟨rfl, (Nat.le_of_ble_eq_true rfl)⟩ rfl (w_llSize hl) zc0 rfl (Nat.le_of_ble_eq_true rfl) (by omega) (Nat.le_of_ble_eq_true rfl) (fun _ _ q9 => ?_) (fun _ _ q9 => by cases q9.1)
      obtain ⟨q8, e9⟩ := q9
      cases q8
      replace e9 := e9.symm
      subst e9
      refine zW.iconst (pc' := 5) (nI 2) dX1_sort_4 rfl (by decide) ?_
      refine zW.icmp_geN (pc' := 8) 10 dX1_sort_5 rfl (by decide) (by omega) (by omega) (fun b9 => ?_) (fun b9 => absurd b9 (by omega))
      refine zW.newK (u := 1) (pc' := 13) dX1_sort_10 rfl n_X1_96 zd_6 (fun l1 _ nl1 e9 k9 => ?_)
      have ol1 := zg.nn0 nl1
      have zg := zg.new e9 nl1
      have hl1 := k9
      clear k9
      refine zW.dup (pc' := 14) dX1_sort_13 rfl rfl ?_
      refine zW.callI (r' := 0) (pc' := 17) dX1_sort_14 rfl l_X1_285 rfl (w_llInit hl1) zc0 rfl (Nat.le_of_ble_eq_true rfl) (by omega) (Nat.le_of_ble_eq_true rfl) (fun _ _ q9 => ?_) (fun _ _ q9 => absurd q9 zO.no)
      obtain ⟨_, q8, e1, e9, k9⟩ := q9
      cases q8
      subst e1
      have zg := zg.put e9 hl1 (by decide) (Or.inr ol1)
      replace hl1 := k9
      clear e9 k9
      refine zW.astore_n (pc' := 18) dX1_sort_17 rfl rfl (Nat.le_of_ble_eq_true rfl) rfl (zsS (zs0)) ?_
      refine zW.newK (u := 1) (pc' := 21) dX1_sort_18 rfl n_X1_96 zd_6 (fun l2 _ nl2 e9 k9 => ?_)
      have q_hl1_l2 := zfresh nl2 hl1
      have hl1 := zpres e9 (zfresh nl2 hl1) hl1
      have ol2 := zg.nn0 nl2
      have zg := zg.new e9 nl2
      have hl2 := k9
      clear k9
      refine zW.dup (pc' := 22) dX1_sort_21 rfl rfl ?_
      refine zW.callI (r' := 0) (pc' := 25) dX1_sort_22 rfl l_X1_285 rfl (w_llInit hl2) zc0 rfl (Nat.le_of_ble_eq_true rfl) (by omega) (Nat.le_of_ble_eq_true rfl) (fun _ _ q9 => ?_) (fun _ _ q9 => absurd q9 zO.no)
      obtain ⟨_, q8, e1, e9, k9⟩ := q9
      cases q8
      subst e1
      have hl1 := zpres e9 q_hl1_l2 hl1
      have zg := zg.put e9 hl2 (by decide) (Or.inr ol2)
      replace hl2 := k9
      clear e9 k9
      refine zW.astore_n (pc' := 26) dX1_sort_25 rfl rfl (Nat.le_of_ble_eq_true rfl) rfl (zsS (zsS (zs0))) ?_
      refine zW.aload_n (pc' := 27) dX1_sort_26 rfl rfl zg0 rfl ?_
      have hLa := hL.fr zg fun _ _ q => q
      have hla := hLa.1
      refine zW.callU (r' := 2) (pc' := 30) dX1_sort_27 rfl l_X1_274_J3 rfl hla ⟨rfl, (Nat.le_of_ble_eq_true rfl)⟩ rfl (w_llIter hLa (by omega)) zc0 rfl (Nat.le_of_ble_eq_true rfl) (by omega) (Nat.le_of_ble_eq_true rfl) (fun _ _ q9 => ?_) (fun _ _ q9 => absurd q9 zO.no)
      obtain ⟨_, q8, it, e1, nit, e9, hit⟩ := q9
      cases q8
      subst e1
      have zv := zfr.new (zfr.rf (A := fun _ => False)) e9 nit
      have nit0 := zg.nn0 nit
      have hl1a := zv.at hl1 fun q => q
      have hl2a := zv.at hl2 fun q => q
      refine zW.astore_n (pc' := 31) dX1_sort_30 rfl rfl (Nat.le_of_ble_eq_true rfl) rfl (zsS (zsS (zsS (zs0)))) ?_
      have hL1 : cLL _ l1 (nI 0) [] := ⟨hl1a, (fun i p e => by cases e), List.nodup_nil⟩
      have hL2 : cLL _ l2 (nI 0) [] := ⟨hl2a, (fun i p e => by cases e), List.nodup_nil⟩
      refine c_stPart (by omega) nit0 h12 (fun H mc1 mc2 ys1 ys2 v3 v4 zf hL1 hL2 e1 e2 hF1 hF2 hd hK1 => ?_) ys.length 0 _ _ _ [] [] .null _ (Nat.zero_add _) (zg.tr zv fun _ q => q.elim) (hLa.fr zv fun _ _ q => q) hit hL1 hL2 (by rw [Nat.zero_min]; rfl) (by rw [List.take_zero, List.drop_nil]; rfl) (fun b hb => ?_) (fun b hb => ?_) (fun b hb w => ?_) hFl (hK.mv fun b l' e => zv.at (zg.at e fun q => q) fun q => q)
      rotate_left
      · rcases hb with w | w
        · rw [w]; exact ⟨ol1, zfresh nit hl1⟩
        · cases w
      · rcases hb with w | w
        · rw [w]; exact ⟨ol2, zfresh nit hl2⟩
        · cases w
      · rcases hb with v | v
        · rcases w with w | w
          · exact q_hl1_l2 (v.symm.trans w)
          · cases w
        · cases v
      have n1 : ys1.length = ys.length / 2 := by
        have := congrArg List.length e1
        rw [List.length_map, List.length_take, List.length_map] at this
        omega
      have n2 : ys2.length = ys.length - ys.length / 2 := by
        have := congrArg List.length e2
        rw [List.length_map, List.length_drop, List.length_map] at this
        omega
      refine zW.aload_n (pc' := 83) dX1_sort_82 rfl rfl (zgS (zg0)) rfl ?_
      refine zW.callS (r' := R) (pc' := 86) dX1_sort_83 rfl l_X1_293 rfl (ih (by omega) (by omega) hL1 (hK1.sub fun b hb ↦ List.mem_of_mem_take (by rw [← e1]; exact hb))) (zcc rfl zc0) rfl (Nat.le_of_ble_eq_true rfl) (by omega) (Nat.le_of_ble_eq_true rfl) (fun _ _ q9 => ?_) (fun _ _ q9 => absurd q9 zO.no)
      obtain ⟨_, q8, k1, mck1, yk1, e3, hLk1, e4, z1, a1⟩ := q9
      cases q8
      subst e3
      have hL2b := hL2.fr z1 fun _ _ q => q
      have hK2 := hK1.mv (h' := _) fun b l' e => z1.at e fun q => q
      refine zW.aload_n (pc' := 87) dX1_sort_86 rfl rfl (zgS (zgS (zg0))) rfl ?_
      refine zW.callS (r' := R) (pc' := 90) dX1_sort_87 rfl l_X1_293 rfl (ih (by omega) (by omega) hL2b (hK2.sub fun b hb ↦ List.mem_of_mem_drop (by rw [← e2]; exact hb))) (zcc rfl zc0) rfl (Nat.le_of_ble_eq_true rfl) (by omega) (Nat.le_of_ble_eq_true rfl) (fun _ _ q9 => ?_) (fun _ _ q9 => absurd q9 zO.no)
      obtain ⟨_, q8, k2, mck2, yk2, e5, hLk2, e6, z2, a2⟩ := q9
      cases q8
      subst e5
      have hLk1b := hLk1.fr z2 fun _ _ q => q
      have hK3 := hK2.mv (h' := _) fun b l' e => z2.at e fun q => q
      have m1 : yk1.length = ys1.length := by have := congrArg List.length e4; rw [mSort_len, List.length_map, List.length_map] at this; exact this
      have m2 : yk2.length = ys2.length := by have := congrArg List.length e6; rw [mSort_len, List.length_map, List.length_map] at this; exact this
      have new1 : ∀ b, cLf k1 yk1 b → h b = none := fun b hb => by
        rcases a1 with ⟨r1, r2, -⟩ | r
        · rw [r1, r2] at hb; exact hF1 b hb
        · exact zf.nn0 (r b hb)
      have new2 : ∀ b, cLf k2 yk2 b → h b = none := fun b hb => by
        rcases a2 with ⟨r1, r2, -⟩ | r
        · rw [r1, r2] at hb; exact hF2 b hb
        · exact zf.nn0 (z1.nn0 (r b hb))
      have dis : ∀ b, cLf k1 yk1 b → ¬ cLf k2 yk2 b := fun b hb w => by
        rcases a2 with ⟨r1, r2, -⟩ | r
        · rw [r1, r2] at w
          rcases a1 with ⟨r3, r4, -⟩ | r
          · rw [r3, r4] at hb; exact hd b hb w
          · exact cLf.live hL2 w (r b hb)
        · exact cLf.live hLk1 hb (r b w)
      have q1 : cKs _ K (yk1.map Prod.snd) := hK3.sub fun b hb => by
        rw [e4] at hb
        have := mSort_perm.mem_iff.mp hb
        rw [e1] at this
        exact List.mem_of_mem_take this
      have q2 : cKs _ K (yk2.map Prod.snd) := hK3.sub fun b hb => by
        rw [e6] at hb
        have := mSort_perm.mem_iff.mp hb
        rw [e2] at this
        exact List.mem_of_mem_drop this
      refine zW.pay (r1 := 0 + (yk1.length + yk2.length + 3)) ?_ (by omega)
      refine zW.callS (r' := (yk1.length+yk2.length+3)) (pc' := 93) dX1_sort_90 rfl l_X1_297 rfl (c_merge hLk1b hLk2 dis (by omega) q1 q2) (zcc rfl (zcc rfl zc0)) rfl (Nat.le_of_ble_eq_true rfl) (by omega) (Nat.le_of_ble_eq_true rfl) (fun _ _ q9 => ?_) (fun _ _ q9 => absurd q9 zO.no)
      obtain ⟨_, q8, k3, mck3, yk3, e7, hLk3, e8, z3, a3⟩ := q9
      cases q8
      subst e7
      refine zW.aret dX1_sort_93 rfl (Or.inl ⟨_, rfl⟩) rfl ?_
      have zall : zfr (fun _ => False) h _ := ((zf.tr z1 fun _ q => q.elim).tr z2 fun _ q => q.elim)
      refine ⟨_, rfl, k3, mck3, yk3, rfl, hLk3, by rw [e8, e4, e6, e1, e2], zall.tr z3 fun b hb => Or.inr (hb.elim (new1 b) (new2 b)), Or.inr fun b hb => zall.nn0 (a3 b hb)⟩
theorem c_idByExpiry (hx : h x = some (0, .ref st :: fs)) (hP : cP h O st ll aq re rt ea ha er hr mc xs qs rs s) (hJ : sJ tt nn s) (hN : nn ≤ 10000) (hT : tt ≤ 100000) : zK G mX1_idByExpiry 40 470 [.ref x, .int y] h (cAns [eIdx] h (qByExp s y)) := by
  have hst := hP.1
  have hL := hP.2.1.1
  have hl := hL.1
  have hC := hP.2.1.2
  have h12 := hJ.1.len
  have hxs := hC.1
  show zW G mX1_idByExpiry 40 470 0 [.ref x, .int y] [] h _
  refine zW.iload_n (pc' := 1) dX1_idByExpiry_0 rfl rfl (zgS (zg0)) ?_
  refine zW.iconst (pc' := 2) (nI 0) dX1_idByExpiry_1 rfl (by decide) ?_
  refine zW.aload_n (pc' := 3) dX1_idByExpiry_2 rfl rfl zg0 rfl ?_
  refine zW.get (pc' := 6) dX1_idByExpiry_3 rfl f_X1_10_0 hx ⟨rfl, (Nat.le_of_ble_eq_true rfl)⟩ rfl ?_
  refine zW.get (pc' := 9) dX1_idByExpiry_6 rfl f_X1_91_1 hst ⟨rfl, (Nat.le_of_ble_eq_true rfl)⟩ rfl ?_
  refine zW.callV (r' := 0) (pc' := 12) dX1_idByExpiry_9 rfl l_X1_95 rfl hl ⟨rfl, (Nat.le_of_ble_eq_true rfl)⟩ rfl (w_llSize hl) zc0 rfl (Nat.le_of_ble_eq_true rfl) (Nat.le_of_ble_eq_true rfl) (Nat.le_of_ble_eq_true rfl) (fun _ _ q9 => ?_) (fun _ _ q9 => by cases q9.1)
  obtain ⟨q8, e9⟩ := q9
  cases q8
  replace e9 := e9.symm
  subst e9
  refine zW.iconst (pc' := 13) (nI 1) dX1_idByExpiry_12 rfl (by decide) ?_
  refine zW.isub (pc' := 14) dX1_idByExpiry_13 rfl ?_
  refine zW.callS (r' := 0) (pc' := 17) dX1_idByExpiry_14 rfl l_X1_52 rfl (w_btw) (zcc rfl (zcc rfl (zcc rfl zc0))) rfl (Nat.le_of_ble_eq_true rfl) (Nat.le_of_ble_eq_true rfl) (Nat.le_of_ble_eq_true rfl) (fun _ _ q9 => ?_) (fun _ _ q9 => by cases q9.1)
  obtain ⟨q8, e9⟩ := q9
  cases q8
  replace e9 := e9.symm
  subst e9
  rw [sIn_pos (by omega), hxs]
  by_cases q : sPos y s.2.1.length = true
  · rw [if_pos q]
    refine zW.callS (r' := 0) (pc' := 20) dX1_idByExpiry_17 rfl l_X1_187 rfl (w_chkIndex1) (zcc rfl zc0) rfl (Nat.le_of_ble_eq_true rfl) (Nat.le_of_ble_eq_true rfl) (Nat.le_of_ble_eq_true rfl) (fun _ _ q9 => ?_) (fun _ _ q9 => by cases q9.1)
    obtain ⟨q8, e9⟩ := q9
    cases q8
    replace e9 := e9.symm
    subst e9
    obtain ⟨n, e1, hn, e2⟩ := sPos_nat q
    rw [e1]
    have hKs : cKs h (cKey xs s.2.1) (xs.map Prod.snd) := fun a ha' => by
      obtain ⟨p, hp, e3⟩ := List.mem_map.mp ha'
      obtain ⟨i, hi⟩ := List.getElem?_of_mem hp
      have hil := (List.getElem?_eq_some_iff.mp hi).1
      rw [← e3, cKey_at hC.2.2 hi]
      exact ⟨hC.2.1 i p _ hi (sAt_get (by omega)), hJ.1.b034 hN hT (sAt_mem (by omega))⟩
    refine zW.aload_n (pc' := 21) dX1_idByExpiry_20 rfl rfl zg0 rfl ?_
    refine zW.get (pc' := 24) dX1_idByExpiry_21 rfl f_X1_10_0 hx ⟨rfl, (Nat.le_of_ble_eq_true rfl)⟩ rfl ?_
    refine zW.get (pc' := 27) dX1_idByExpiry_24 rfl f_X1_91_1 hst ⟨rfl, (Nat.le_of_ble_eq_true rfl)⟩ rfl ?_
    refine zW.callS (r' := 465) (pc' := 30) dX1_idByExpiry_27 rfl l_X1_293 rfl (c_sort 4 (by omega) (by omega) hL hKs) (zcc rfl zc0) rfl (Nat.le_of_ble_eq_true rfl) (Nat.le_of_ble_eq_true rfl) (Nat.le_of_ble_eq_true rfl) (fun _ _ q9 => ?_) (fun _ _ q9 => absurd q9 zO.no)
    obtain ⟨_, q8, k, mck, yk, e3, hLk, e4, z1, -⟩ := q9
    cases q8
    subst e3
    have hlk := hLk.1
    have hyl : yk.length = xs.length := by have := congrArg List.length e4; rw [mSort_len, List.length_map, List.length_map] at this; exact this
    obtain ⟨p, hp⟩ : ∃ p, yk[n]? = some p := ⟨_, List.getElem?_eq_getElem (by omega)⟩
    have hpa : (mSort (cKey xs s.2.1) 4 (xs.map Prod.snd))[n]? = some p.2 := by rw [← e4, List.getElem?_map, hp]; rfl
    have hc := z1.at (hKs p.2 (mSort_perm.mem_iff.mp (List.mem_of_getElem? hpa))).1 fun q => q
    have hc2 := cCl_l hc
    refine zW.iload_n (pc' := 31) dX1_idByExpiry_30 rfl rfl (zgS (zg0)) ?_
    refine zW.callV (r' := 0) (pc' := 34) dX1_idByExpiry_31 rfl l_X1_190 rfl hlk ⟨rfl, (Nat.le_of_ble_eq_true rfl)⟩ rfl (w_llGet hLk (by omega) hp) (zcc rfl zc0) rfl (Nat.le_of_ble_eq_true rfl) (Nat.le_of_ble_eq_true rfl) (Nat.le_of_ble_eq_true rfl) (fun _ _ q9 => ?_) (fun _ _ q9 => by cases q9.1)
    obtain ⟨q8, e9⟩ := q9
    cases q8
    replace e9 := e9.symm
    subst e9
    refine zW.castS (pc' := 37) dX1_idByExpiry_34 rfl (lw_all_tbl q1398) hc2 ⟨rfl, (Nat.le_of_ble_eq_true rfl)⟩ rfl ?_
    refine zW.get (pc' := 40) dX1_idByExpiry_37 rfl f_X1_194_2 hc2 ⟨rfl, (Nat.le_of_ble_eq_true rfl)⟩ rfl ?_
    refine zW.drop (z1.le fun _ q => q.elim) ?_
    refine zW.iret dX1_idByExpiry_40 rfl (rfl) ?_
    exact cAns.ok (qByExp_sort hJ.1 hC.2.2 hxs hpa)
  · rw [if_neg q]
    refine zW.callS (r' := 2) (pc' := 20) dX1_idByExpiry_17 rfl l_X1_187 rfl (w_chkIndex0) (zcc rfl zc0) rfl (Nat.le_of_ble_eq_true rfl) (Nat.le_of_ble_eq_true rfl) (Nat.le_of_ble_eq_true rfl) (fun _ _ q9 => by cases q9.1) (fun _ _ q9 => ?_)
    obtain ⟨q8, e9⟩ := q9
    cases q8
    replace e9 := e9.symm
    subst e9
    refine zX.out0 rfl ?_
    exact cAns.no (qByExp_no hJ.1 q) rfl
end
