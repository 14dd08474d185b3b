/-! THE CLASS's run -/
section
set_option maxRecDepth 100000
variable {G : zG} {h h' h0 h1 H : zH} {O U V : Nat → Prop} {x st e al ea a v tt nn s m : Nat} {X : List zA} {w : sW} {es : List Nat} {cs : List pC} {l : List Nat} {A B : List zA} {P : zA}
theorem pHead_3 (hl : ∀ x ∈ l, x < 128) (hs : s ≤ l.length) (h : (pHead l s).2.2 = 0) : s + 3 ≤ (pHead l s).2.1 := by
  obtain ⟨⟨h1, -, -⟩, h2⟩ := kHead hl hs
  have h3 := h2 h
  have h4 : 3 ≤ (kWd (pHead l s).1).length := by
    unfold kWd
    split
    · decide
    · split
      · decide
      · split
        · decide
        · split
          · decide
          · split
            · decide
            · split
              · decide
              · decide
  have h5 : ((l.drop s).take (kGo l s 12 0)).length ≤ kGo l s 12 0 := by rw [List.length_take]; exact Nat.min_le_left _ _
  rw [h3] at h5
  omega
theorem pCmd_3 (hl : ∀ x ∈ l, x < 128) (hs : s ≤ l.length) (h : (pCmd l s).2.2 = 0) : s + 3 ≤ (pCmd l s).2.1 := by
  obtain ⟨e1, e2⟩ := pCmd_eq (l := l) (s := s)
  by_cases q : (pHead l s).2.2 = 0
  · rw [e2 q]
    exact Nat.le_trans (pHead_3 hl hs q) pArgs_le
  · rw [e1, if_neg q] at h
    exact absurd h q
theorem pLoop_cnt (hl : ∀ x ∈ l, x < 128) : ∀ {m : Nat} {p : Nat × Nat} {cs : List pC}, p.1 ≤ l.length → (p.2 = 0 → 4 * cs.length ≤ p.1 + 1) → 0 < cs.length → (pLoop l m p cs).2.1 ≤ l.length ∧ ((pLoop l m p cs).2.2 = 0 → 4 * (pLoop l m p cs).1.length ≤ (pLoop l m p cs).2.1 + 1) ∧ 0 < (pLoop l m p cs).1.length := by
  intro m
  induction m with
  | zero => intro p cs h1 h2 h3; exact ⟨h1, h2, h3⟩
  | succ m ih =>
    intro p cs h1 h2 h3
    rw [pLoop]
    by_cases q : p.2 = 0 ∧ l[p.1]? = some 59
    · rw [if_pos q]
      have hlt := (List.getElem?_eq_some_iff.mp q.2).1
      refine ih (pCmd_ok hl hlt).2 (fun z => ?_) (by rw [List.length_append, List.length_singleton]; omega)
      have := pCmd_3 (s := p.1 + 1) hl hlt z
      have := h2 q.1
      rw [List.length_append, List.length_singleton]
      omega
    · rw [if_neg q]
      exact ⟨h1, h2, h3⟩
theorem pParse_cnt (hl : ∀ x ∈ l, x < 128) (hn : l.length ≤ 60) (h : (pParse l).2 = 0) : (pParse l).1.length ≤ 15 ∧ 0 < (pParse l).1.length := by
  obtain ⟨h1, h2, h3⟩ := pLoop_cnt (m := 60) (p := (pCmd l 0).2) (cs := [(pCmd l 0).1]) hl (pCmd_ok hl (Nat.zero_le _)).2 (fun z => by have := pCmd_3 hl (Nat.zero_le _) z; show 4 * 1 ≤ _; omega) (Nat.succ_pos 0)
  refine ⟨?_, h3⟩
  have h4 : (pLoop l 60 (pCmd l 0).2 [(pCmd l 0).1]).2.2 = 0 := by
    unfold pParse pFin at h
    dsimp only at h
    split at h
    · cases h
    · exact h
  have h5 := h2 h4
  have h6 : (pParse l).1 = (pLoop l 60 (pCmd l 0).2 [(pCmd l 0).1]).1 := rfl
  rw [h6]
  omega
theorem zSep.acc0 (k : zSep (A ++ P :: B) h V) : ∃ O : Nat → Prop, (P h O ∧ zStb P) ∧ (∀ b, O b → V b ∧ h b ≠ none) ∧ zSep (A ++ B) h (fun b => V b ∧ ¬ O b) ∧ ∀ (h' : zH) (P' : zA), zfr O h h' → P' h' O → zStb P' → zSep (A ++ P' :: B) h' V := by
  obtain ⟨O, h1, h2, h3⟩ := zSep.pull k
  exact ⟨O, h1, h2, h3, fun h' P' z p s => zSep.mid ⟨O, ⟨p, s⟩, fun b hb => ⟨(h2 b hb).1, z.2.1 b (h2 b hb).2⟩, h3.fr z fun b hb _ => hb.2⟩⟩
/-- the input's builder, nothing new -/
theorem cRest.inp0 {w : cWr} (k : cRest x st e X w h V) : ∃ sv hq ib lb v, ∃ Ob : Nat → Prop, cXf h x st sv hq ib lb e w ∧ ¬ Ob x ∧ cSB h ib v w.2.2.2.1 ∧ (Ob ib ∧ Ob v) ∧ (∀ b, Ob b → V b ∧ h b ≠ none) ∧ ∀ (h' : zH) (l' : List Nat), zfr Ob h h' → cSB h' ib v l' → cRest x st e X (w.1, w.2.1, w.2.2.1, l', w.2.2.2.2) h' V := by
  obtain ⟨sv, hq, ib, lb, SH, h1, h2⟩ := k
  have h3 : zSep ((iOb x st sv hq ib lb e w :: iD hq SH :: iH SH w.1) ++ iB ib w.2.2.2.1 :: (iB lb w.2.2.1 :: (iV sv w.2.1 ++ X))) h V := h2
  obtain ⟨Ob, ⟨⟨v, kS, o1, o2⟩, -⟩, lB, hr, put⟩ := zSep.acc0 h3
  obtain ⟨Ox, ⟨⟨hx, ox⟩, -⟩, lx, -⟩ := hr
  exact ⟨sv, hq, ib, lb, v, Ob, hx, (lx x ox).1.2, kS, ⟨o1, o2⟩, lB, fun h' l' z p => ⟨sv, hq, ib, lb, SH, h1, put h' (iB ib l') z ⟨v, p, o1, o2⟩ iB.stb⟩⟩
theorem w_sbEnsure0 {ml n : Nat} {b : List Nat} (k : cSBt h a v ml n b) : zK G mJ5_ensureCapacityInternal 4 0 [.ref a, .int (nI 0)] h (zPu h none) := by
  obtain ⟨ha, hv, ⟨h1, h2, h3⟩, h4⟩ := k
  show zW G mJ5_ensureCapacityInternal 4 0 0 [.ref a, .int (nI 0), zho] [] h _
  refine zW.aload_n (pc' := 1) dJ5_ensureCapacityInternal_0 rfl rfl zg0 rfl ?_
  refine zW.get (pc' := 4) dJ5_ensureCapacityInternal_1 rfl f_J5_15_13 ha ⟨rfl, (Nat.le_of_ble_eq_true rfl)⟩ rfl ?_
  refine zW.alen (pc' := 5) dJ5_ensureCapacityInternal_4 rfl hv (by decide) (btab_n (rfl)) ?_
  refine zW.aload_n (pc' := 6) dJ5_ensureCapacityInternal_5 rfl rfl zg0 rfl ?_
  refine zW.get (pc' := 9) dJ5_ensureCapacityInternal_6 rfl f_J5_22_13 ha ⟨rfl, (Nat.le_of_ble_eq_true rfl)⟩ rfl ?_
  refine zW.ishr0 (pc' := 10) dJ5_ensureCapacityInternal_9 rfl ?_
  refine zW.istore_n (pc' := 11) dJ5_ensureCapacityInternal_10 rfl rfl (Nat.le_of_ble_eq_true rfl) (zsS (zsS (zs0))) ?_
  refine zW.iload_n (pc' := 12) dJ5_ensureCapacityInternal_11 rfl rfl (zgS (zg0)) ?_
  refine zW.iload_n (pc' := 13) dJ5_ensureCapacityInternal_12 rfl rfl (zgS (zgS (zg0))) ?_
  refine zW.isub (pc' := 14) dJ5_ensureCapacityInternal_13 rfl ?_
  refine zW.if_le (pc' := 17) 38 dJ5_ensureCapacityInternal_14 rfl (by decide) (fun b1 => ?_) (fun b1 => ?_)
  rotate_left
  · exact absurd ((nI_sub_le (by omega) (by omega)).mpr (Nat.zero_le _)) b1
  refine zW.vret dJ5_ensureCapacityInternal_38 rfl ?_
  exact ⟨rfl, rfl⟩
/-- emptied, in place -/
theorem w_sbClear0 (k : cSB h a v l) : zK G mJ6_setLength 6 0 [.ref a, .int (nI 0)] h (zO fun o h' => o = none ∧ cSB h' a v [] ∧ zfr (fun c => c = a ∨ c = v) h h') := by
  have ks : zK G mJ5_setLength 5 0 [.ref a, .int (nI 0)] h (zO fun o h' => o = none ∧ cSB h' a v [] ∧ zfr (fun c => c = a ∨ c = v) h h') := by
    obtain ⟨ml, t, k0⟩ := cSBt.of k
    have ha := k0.1
    show zW G mJ5_setLength 5 0 0 [.ref a, .int (nI 0)] [] h _
    refine zW.iload_n (pc' := 1) dJ5_setLength_0 rfl rfl (zgS (zg0)) ?_
    refine zW.if_geN 13 dJ5_setLength_1 (by decide) (by omega) ?_
    refine zW.aload_n (pc' := 14) dJ5_setLength_13 rfl rfl zg0 rfl ?_
    refine zW.iload_n (pc' := 15) dJ5_setLength_14 rfl rfl (zgS (zg0)) ?_
    refine zW.callP (r' := 0) (pc' := 18) dJ5_setLength_15 rfl l_J5_100 rfl ha ⟨rfl, (Nat.le_of_ble_eq_true rfl)⟩ rfl (w_sbEnsure0 k0) (zcc rfl zc0) rfl (Nat.le_of_ble_eq_true rfl) (Nat.le_of_ble_eq_true rfl) (Nat.le_of_ble_eq_true rfl) (fun _ _ q9 => ?_) (fun _ _ q9 => by cases q9.1)
    obtain ⟨q8, e9⟩ := q9
    cases q8
    replace e9 := e9.symm
    subst e9
    obtain ⟨ha, hv, ⟨h1, h2, h3⟩, h4⟩ := k0
    have fin : ∀ (H : zH) (y m : Nat), y ≤ 1 → H a = some (13, [.ref v, .int (nI 0), .int (nI y), .int (nI m)]) → H v = some (103, btab (l ++ t)) → zfr (fun c => c = a ∨ c = v) h H → zW G mJ5_setLength 5 0 76 [.ref a, .int (nI 0)] [] H (zO fun o h' => o = none ∧ cSB h' a v [] ∧ zfr (fun c => c = a ∨ c = v) h h') := by
      intro H y m hy ha hv zf
      refine zW.aload_n (pc' := 77) dJ5_setLength_76 rfl rfl zg0 rfl ?_
      refine zW.iload_n (pc' := 78) dJ5_setLength_77 rfl rfl (zgS (zg0)) ?_
      refine zW.putK (pc' := 81) dJ5_setLength_78 rfl f_J5_79_13 ha ⟨⟨rfl, (Nat.le_of_ble_eq_true rfl)⟩, (Nat.le_of_ble_eq_true rfl)⟩ (zFw.of ft_13_3 rfl rfl) (zsS (zsS (zsS (zs0)))) (fun _ e9 k9 => ?_)
      have hv := zpres e9 (zne hv ha (by decide)) hv
      have zf := zf.put e9 ha (by decide) (Or.inl (Or.inl rfl))
      replace ha := k9
      clear e9 k9
      refine zW.vret dJ5_setLength_81 rfl ?_
      exact ⟨_, rfl, rfl, ⟨y, l ++ t, ha, hv, ⟨hy, by rw [List.nil_append]; exact h3⟩, fun x hx => h4 x hx⟩, zf⟩
    have zf := zfr.rf (A := fun c => c = a ∨ c = v) (h := h)
    refine zW.aload_n (pc' := 19) dJ5_setLength_18 rfl rfl zg0 rfl ?_
    refine zW.get (pc' := 22) dJ5_setLength_19 rfl f_J5_79_13 ha ⟨rfl, (Nat.le_of_ble_eq_true rfl)⟩ rfl ?_
    refine zW.iload_n (pc' := 23) dJ5_setLength_22 rfl rfl (zgS (zg0)) ?_
    refine zW.icmp_geN (pc' := 26) 63 dJ5_setLength_23 rfl (by decide) (by omega) (by omega) (fun b9 => ?_) (fun b9 => absurd b9 (by omega))
    refine zW.aload_n (pc' := 64) dJ5_setLength_63 rfl rfl zg0 rfl ?_
    refine zW.get (pc' := 67) dJ5_setLength_64 rfl f_J5_79_13 ha ⟨rfl, (Nat.le_of_ble_eq_true rfl)⟩ rfl ?_
    refine zW.iload_n (pc' := 68) dJ5_setLength_67 rfl rfl (zgS (zg0)) ?_
    refine zW.icmp_leN (pc' := 71) 76 dJ5_setLength_68 rfl (by decide) (by omega) (by omega) (fun b1 => ?_) (fun b1 => ?_)
    · exact fin _ ml _ h1 ha hv zf
    · refine zW.aload_n (pc' := 72) dJ5_setLength_71 rfl rfl zg0 rfl ?_
      refine zW.iconst (pc' := 73) (nI 1) dJ5_setLength_72 rfl (by decide) ?_
      refine zW.putK (pc' := 76) dJ5_setLength_73 rfl f_J5_73_13 ha ⟨⟨rfl, (Nat.le_of_ble_eq_true rfl)⟩, (Nat.le_of_ble_eq_true rfl)⟩ (zFw.of ft_13_2 rfl rfl) (zsS (zsS (zs0))) (fun _ e9 k9 => ?_)
      have hv := zpres e9 (zne hv ha (by decide)) hv
      have zf := zf.put e9 ha (by decide) (Or.inl (Or.inl rfl))
      replace ha := k9
      clear e9 k9
      exact fin _ 1 _ (Nat.le_refl _) ha hv zf
  have ha : ∃ fs, h a = some (13, fs) := by obtain ⟨ml, t, k1, -⟩ := k; exact ⟨_, k1⟩
  obtain ⟨fs, ha⟩ := ha
  show zW G mJ6_setLength 6 0 0 [.ref a, .int (nI 0)] [] h _
  refine zW.aload_n (pc' := 1) dJ6_setLength_0 rfl rfl zg0 rfl ?_
  refine zW.iload_n (pc' := 2) dJ6_setLength_1 rfl rfl (zgS (zg0)) ?_
  refine zW.callSU (r' := 0) (pc' := 5) dJ6_setLength_2 rfl l_J6_333 rfl ha ⟨rfl, (Nat.le_of_ble_eq_true rfl)⟩ rfl (ks) (zcc rfl zc0) rfl (Nat.le_of_ble_eq_true rfl) (Nat.le_of_ble_eq_true rfl) (Nat.le_of_ble_eq_true rfl) (fun _ _ q9 => ?_) (fun _ _ q9 => absurd q9 zO.no)
  obtain ⟨_, q8, e1, k2⟩ := q9
  cases q8
  subst e1
  refine zW.vret dJ6_setLength_5 rfl ?_
  exact ⟨_, rfl, rfl, k2⟩
/-- a heap, cut to what stood before -/
def hzR (h h4 : zH) : zH := fun b => if h b = none then none else h4 b
theorem hzR_n {b : Nat} (n : h b = none) : hzR h h' b = none := if_pos n
theorem hzR_s {b : Nat} (n : h b ≠ none) : hzR h h' b = h' b := if_neg n
theorem hzR_l {b : Nat} {A : Nat → Prop} (z : zfr A h h') (n : h b ≠ none) : hzR h h' b ≠ none := by rw [hzR_s n]; exact z.2.1 b n
theorem hzR_fr (h h' : zH) : zfr (fun _ => False) (hzR h h') h' := by
  have e : ∀ b, hzR h h' b ≠ none → h' b = hzR h h' b := fun b q => by
    by_cases n : h b = none
    · exact absurd (hzR_n n) q
    · exact (hzR_s n).symm
  exact ⟨fun b _ q => e b q, fun b q => by rw [e b q]; exact q, fun b c q _ => by rw [e b (by rw [q]; exact fun q => by cases q), q]⟩
theorem zfr.mix {A : Nat → Prop} (z : zfr A h h') (y : zfr (fun _ => False) (hzR h h') H) : zfr A h H := by
  have e : ∀ b, h b ≠ none → H b = h' b := fun b q => by rw [y.1 b (fun q => q) (hzR_l z q), hzR_s q]
  exact ⟨fun b nb q => (e b q).trans (z.1 b nb q), fun b q => by rw [e b q]; exact z.2.1 b q, fun b c q r => by rw [e b (by rw [q]; exact fun q => by cases q)]; exact z.2.2 b c q r⟩
theorem cSB.eq (k : cSB h a v l) (e1 : h' a = h a) (e2 : h' v = h v) : cSB h' a v l := by
  obtain ⟨ml, t, h1, h2, h3⟩ := k
  exact ⟨ml, t, e1.trans h1, e2.trans h2, h3⟩
end
