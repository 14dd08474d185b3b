/-! THE CLASS's sort -/
section
set_option maxRecDepth 100000
variable {G : zG} {h h' : zH} {O : Nat → Prop} {x st ll aq re rt ea ha er hr tt nn n i l1 l2 : Nat} {mc mc1 mc2 : Int32} {xs ys1 ys2 : List (Nat × Nat)} {qs rs : List Nat} {s : sS} {fs : List Value} {id y z : Int32} {Q9 : zR → zH → Prop} {K : Nat → sC}
/-- addresses are claims of K -/
def cKs (h : zH) (K : Nat → sC) (as : List Nat) : Prop := ∀ a ∈ as, h a = some (2, cCl (K a)) ∧ K a 0 < 2 ^ 30 ∧ K a 3 < 2 ^ 30 ∧ K a 4 < 2 ^ 30
theorem cKs.mv {as : List Nat} (hK : cKs h K as) (z : ∀ b l, h b = some (2, l) → h' b = some (2, l)) : cKs h' K as := fun a ha => ⟨z _ _ (hK a ha).1, (hK a ha).2⟩
theorem cKs.sub {as bs : List Nat} (hK : cKs h K as) (z : ∀ b ∈ bs, b ∈ as) : cKs h K bs := fun a ha => hK a (z a ha)
abbrev cSrt (h : zH) (F : Nat → Prop) (as : List Nat) : zR → zH → Prop := zO fun v h' => ∃ l3 mc3 ys3, v = some (.ref l3) ∧ cLL h' l3 mc3 ys3 ∧ ys3.map Prod.snd = as ∧ zfr F h h' ∧ ∀ b, cLf l3 ys3 b → h b = none
theorem cLf.live (hL : cLL h l1 mc1 ys1) {b : Nat} (hb : cLf l1 ys1 b) : h b ≠ none := by
  obtain ⟨k, l, e, -⟩ := hL.live hb
  rw [e]; exact fun q => by cases q
theorem cLf.tail {p : Nat × Nat} {b : Nat} (hb : cLf l1 ys1 b) : cLf l1 (p :: ys1) b := hb.elim Or.inl fun q => Or.inr (List.mem_cons_of_mem _ q)
/-- the rest is taken over -/
theorem c_mgRest {r : Nat} {F : Nat → Prop} {l : Nat} {mc9 : Int32} {ys : List (Nat × Nat)} (h12 : ys.length ≤ 12) {as : List Nat} {it l3 v0 v1 : Nat} (nit : h it = none) (hFl : ∀ b, cLf l ys b → h b ≠ none) :
    ∀ (m k : Nat) (H : zH) (mc3 : Int32) (ys3 : List (Nat × Nat)) (lr v4 : Value), k + m = ys.length → zfr F h H → cLL H l mc9 ys → H it = some (cIt l mc9 ys k lr) → cLL H l3 mc3 ys3 → (∀ b, cLf l3 ys3 b → h b = none ∧ b ≠ it) → ys3.map Prod.snd ++ (ys.drop k).map Prod.snd = as → cKs H K (ys.map Prod.snd) → zW G mX1_merge 6 (r + m) 78 [.ref v0, .ref v1, .ref l3, .ref it, v4] [] H (cSrt h F as) := by
  intro m
  induction m with
  | zero =>
    intro k H mc3 ys3 lr v4 hkm zf hL hit hL3 hF3 e hK
    have hl := hL.1
    refine zW.aload_n (pc' := 79) dX1_merge_78 rfl rfl (zgS (zgS (zgS (zg0)))) rfl ?_
    refine zW.callF (r' := 0) (pc' := 84) dX1_merge_79 rfl l_X1_247_J25 rfl hit ⟨rfl, (Nat.le_of_ble_eq_true rfl)⟩ rfl (w_itHas hit hl (by omega) (by omega)) zc0 rfl (Nat.le_of_ble_eq_true rfl) (Nat.le_of_ble_eq_true rfl) (Nat.le_of_ble_eq_true rfl) (fun _ _ q9 => ?_) (fun _ _ q9 => by cases q9.1)
    obtain ⟨q8, e9⟩ := q9
    cases q8
    replace e9 := e9.symm
    subst e9
    rw [if_neg (by omega)]
    refine zW.if_eqN (pc' := 87) 107 dX1_merge_84 rfl (by decide) (by omega) (fun b9 => ?_) (fun b9 => absurd b9 (by omega))
    refine zW.aload_n (pc' := 108) dX1_merge_107 rfl rfl (zgS (zgS (zg0))) rfl ?_
    refine zW.aret dX1_merge_108 rfl (Or.inl ⟨_, rfl⟩) rfl ?_
    rw [List.drop_of_length_le (by omega), List.map_nil, List.append_nil] at e
    exact ⟨_, rfl, l3, mc3, ys3, rfl, hL3, e, zf, fun b hb => (hF3 b hb).1⟩
  | succ m ih =>
    intro k H mc3 ys3 lr v4 hkm zf hL hit hL3 hF3 e hK
    have hl := hL.1
    obtain ⟨p, hp⟩ : ∃ p, ys[k]? = some p := ⟨_, List.getElem?_eq_getElem (by omega)⟩
    have hc := (hK p.2 (List.mem_map_of_mem (List.mem_of_getElem? hp))).1
    have hc2 := cCl_l hc
    refine zW.pay (r1 := r + m + 1) ?_ (by omega)
    have zi := zfr.self hit
    refine zW.aload_n (pc' := 79) dX1_merge_78 rfl rfl (zgS (zgS (zgS (zg0)))) rfl ?_
    refine zW.callF (r' := 0) (pc' := 84) dX1_merge_79 rfl l_X1_247_J25 rfl hit ⟨rfl, (Nat.le_of_ble_eq_true rfl)⟩ rfl (w_itHas hit hl (by omega) (by omega)) zc0 rfl (Nat.le_of_ble_eq_true rfl) (Nat.le_of_ble_eq_true rfl) (Nat.le_of_ble_eq_true rfl) (fun _ _ q9 => ?_) (fun _ _ q9 => by cases q9.1)
    obtain ⟨q8, e9⟩ := q9
    cases q8
    replace e9 := e9.symm
    subst e9
    rw [if_pos (by omega)]
    refine zW.if_eqN (pc' := 87) 107 dX1_merge_84 rfl (by decide) (by omega) (fun b9 => absurd b9 (by omega)) (fun b9 => ?_)
    refine zW.aload_n (pc' := 88) dX1_merge_87 rfl rfl (zgS (zgS (zgS (zg0)))) rfl ?_
    have hit0 := hit
    refine zW.callF (r' := 0) (pc' := 93) dX1_merge_88 rfl l_X1_252_J25 rfl hit ⟨rfl, (Nat.le_of_ble_eq_true rfl)⟩ rfl (w_itNext hL hit hp (by omega)) zc0 rfl (Nat.le_of_ble_eq_true rfl) (Nat.le_of_ble_eq_true rfl) (Nat.le_of_ble_eq_true rfl) (fun _ _ q9 => ?_) (fun _ _ q9 => absurd q9 zO.no)
    obtain ⟨_, q8, e1, e9, k9⟩ := q9
    cases q8
    subst e1
    have hc2 := zpres e9 (zne hc2 hit (by decide)) hc2
    have zi := zi.put e9 hit (by decide) (Or.inl rfl)
    replace hit := k9
    clear e9 k9
    have hLa := hL.mv fun b k' l' hk' e => zi.at e (zne e hit0 (by rcases hk' with q | q <;> subst q <;> decide))
    have hL3a := hL3.mv fun b k' l' hk' e => zi.at e (zne e hit0 (by rcases hk' with q | q <;> subst q <;> decide))
    have hKa := hK.mv fun b l' e => zi.at e (zne e hit0 (by decide))
    have zfa := zf.tr zi fun b hb => Or.inr (by rw [hb]; exact nit)
    have hl3 := hL3a.1
    refine zW.castS (pc' := 96) dX1_merge_93 rfl (lw_all_tbl q1398) hc2 ⟨rfl, (Nat.le_of_ble_eq_true rfl)⟩ rfl ?_
    refine zW.astore (pc' := 98) dX1_merge_96 rfl (Nat.le_of_ble_eq_true rfl) rfl (zsS (zsS (zsS (zsS (zs0))))) ?_
    refine zW.aload_n (pc' := 99) dX1_merge_98 rfl rfl (zgS (zgS (zg0))) rfl ?_
    refine zW.aload (pc' := 101) dX1_merge_99 rfl (zgS (zgS (zgS (zgS (zg0))))) rfl ?_
    refine zW.callV (r' := 1) (pc' := 104) dX1_merge_101 rfl l_X1_292 rfl hl3 ⟨rfl, (Nat.le_of_ble_eq_true rfl)⟩ rfl (w_addLast hL3a) (zcc rfl zc0) rfl (Nat.le_of_ble_eq_true rfl) (Nat.le_of_ble_eq_true rfl) (Nat.le_of_ble_eq_true rfl) (fun _ _ q9 => ?_) (fun _ _ q9 => absurd q9 zO.no)
    obtain ⟨_, q8, e1, nd, nnd, hL3b, z3⟩ := q9
    cases q8
    subst e1
    refine zW.goto 78 dX1_merge_104 (by decide) ?_
    have nnd0 := zfa.nn0 nnd
    have hLb := hLa.fr z3 fun b hb q => hFl b hb (hF3 b q).1
    have hitb := z3.at hit fun q => (hF3 it q).2 rfl
    have hKb := hKa.mv fun b l' e => hL3a.outC z3 b l' e
    refine ih (k + 1) _ _ _ _ _ (by omega) (zfa.tr z3 fun b hb => Or.inr (hF3 b hb).1) hLb hitb hL3b (fun b hb => ?_) ?_ hKb
    · rcases hb with q | q
      · exact hF3 b (Or.inl q)
      · rw [List.map_append] at q
        rcases List.mem_append.mp q with q | q
        · exact hF3 b (Or.inr q)
        · have : b = nd := List.mem_singleton.mp q
          rw [this]
          exact ⟨nnd0, fun w => by rw [w, hit] at nnd; cases nnd⟩
    · rw [List.map_append, List.append_assoc, ← e]
      congr 1
      rw [List.drop_eq_getElem_cons (i := k) (by omega), List.map_cons]
      have : ys[k]'(by omega) = p := by
        rw [List.getElem?_eq_getElem (by omega)] at hp
        exact Option.some.inj hp
      rw [this]
      rfl
theorem c_mgTail {F : Nat → Prop} (hFl : ∀ b, F b → h b ≠ none) {res : List Nat} {l l3 v0 v1 : Nat} {H : zH} {mc9 mc3 : Int32} {ys ys3 : List (Nat × Nat)} {v3 v4 : Value} (h12 : ys.length ≤ 12) (zf : zfr F h H) (hL : cLL H l mc9 ys) (hL3 : cLL H l3 mc3 ys3) (hF : ∀ b, cLf l ys b → F b) (hF3 : ∀ b, cLf l3 ys3 b → h b = none) (e : ys3.map Prod.snd ++ ys.map Prod.snd = res) (hK : cKs H K (ys.map Prod.snd)) : zW G mX1_merge 6 (ys.length + 2) 74 [.ref v0, .ref v1, .ref l3, v3, v4] [.ref l] H (cSrt h F res) := by
  have hl := hL.1
  refine zW.callU (r' := 2) (pc' := 77) dX1_merge_74 rfl l_X1_274_J3 rfl hl ⟨rfl, (Nat.le_of_ble_eq_true rfl)⟩ rfl (w_llIter hL (by omega)) zc0 rfl (Nat.le_of_ble_eq_true rfl) (Nat.le_of_ble_eq_true rfl) (Nat.le_of_ble_eq_true rfl) (fun _ _ q9 => ?_) (fun _ _ q9 => absurd q9 zO.no)
  obtain ⟨_, q8, it, e1, nit, e9, hit⟩ := q9
  cases q8
  subst e1
  have zv := zfr.new (zfr.rf (A := fun _ => False) (h := H)) e9 nit
  refine zW.astore_n (pc' := 78) dX1_merge_77 rfl rfl (Nat.le_of_ble_eq_true rfl) rfl (zsS (zsS (zsS (zs0)))) ?_
  have nit0 := zf.nn0 nit
  refine zW.pay (r1 := 0 + ys.length) ?_ (by omega)
  exact c_mgRest h12 nit0 (fun b hb => hFl b (hF b hb)) ys.length 0 _ mc3 ys3 .null _ (Nat.zero_add _) (zf.tr zv fun _ q => q.elim) (hL.fr zv fun _ _ q => q) hit (hL3.fr zv fun _ _ q => q) (fun b hb => ⟨hF3 b hb, fun w => cLf.live hL3 hb (by rw [w]; exact nit)⟩) (by rw [List.drop_zero]; exact e) (hK.mv fun b l' q => zv.at q fun q => q)
/-- two sorted lists become one -/
theorem c_mgLoop {l3 : Nat} {F1 F2 : Nat → Prop} (hF12 : ∀ b, F1 b → ¬ F2 b) (hFl : ∀ b, F1 b ∨ F2 b → h b ≠ none) {res : List Nat} :
    ∀ (m : Nat) (H : zH) (mc1 mc2 mc3 : Int32) (ys1 ys2 ys3 : List (Nat × Nat)) (v3 v4 : Value), ys1.length + ys2.length ≤ m → m ≤ 12 → zfr (fun b => F1 b ∨ F2 b) h H → cLL H l1 mc1 ys1 → cLL H l2 mc2 ys2 → cLL H l3 mc3 ys3 → (∀ b, cLf l1 ys1 b → F1 b) → (∀ b, cLf l2 ys2 b → F2 b) → (∀ b, cLf l3 ys3 b → h b = none) → ys3.map Prod.snd ++ List.merge (ys1.map Prod.snd) (ys2.map Prod.snd) (lt9 K) = res → cKs H K (ys1.map Prod.snd) → cKs H K (ys2.map Prod.snd) → zW G mX1_merge 6 (m + 2) 8 [.ref l1, .ref l2, .ref l3, v3, v4] [] H (cSrt h (fun b => F1 b ∨ F2 b) res) := by
  have emp1 : ∀ (m : Nat) (H : zH) (mc1 mc2 mc3 : Int32) (ys1 ys2 ys3 : List (Nat × Nat)) (v3 v4 : Value), ys1.length + ys2.length ≤ m → m ≤ 12 → zfr (fun b => F1 b ∨ F2 b) h H → cLL H l1 mc1 ys1 → cLL H l2 mc2 ys2 → cLL H l3 mc3 ys3 → (∀ b, cLf l1 ys1 b → F1 b) → (∀ b, cLf l2 ys2 b → F2 b) → (∀ b, cLf l3 ys3 b → h b = none) → ys3.map Prod.snd ++ List.merge (ys1.map Prod.snd) (ys2.map Prod.snd) (lt9 K) = res → cKs H K (ys1.map Prod.snd) → cKs H K (ys2.map Prod.snd) → ys1 = [] → zW G mX1_merge 6 (m + 2) 8 [.ref l1, .ref l2, .ref l3, v3, v4] [] H (cSrt h (fun b => F1 b ∨ F2 b) res) := by
    intro m H mc1 mc2 mc3 ys1 ys2 ys3 v3 v4 hm h12 zf hL1 hL2 hL3 hF1 hF2 hF3 e hK1 hK2 e0
    subst e0
    have hl1 := hL1.1
    have k1 := w_llEmpty (G := G) hl1 (by rw [List.length_nil]; decide)
    rw [if_pos rfl] at k1
    rw [List.map_nil, List.nil_merge] at e
    refine zW.aload_n (pc' := 9) dX1_merge_8 rfl rfl zg0 rfl ?_
    refine zW.callU (r' := 0) (pc' := 12) dX1_merge_9 rfl l_X1_219_J3 rfl hl1 ⟨rfl, (Nat.le_of_ble_eq_true rfl)⟩ rfl (k1) zc0 rfl (Nat.le_of_ble_eq_true rfl) (Nat.le_of_ble_eq_true rfl) (Nat.le_of_ble_eq_true rfl) (fun _ _ q9 => ?_) (fun _ _ q9 => by cases q9.1)
    obtain ⟨q8, e9⟩ := q9
    cases q8
    replace e9 := e9.symm
    subst e9
    refine zW.if_neN (pc' := 15) 62 dX1_merge_12 rfl (by decide) (by omega) (fun b9 => ?_) (fun b9 => absurd b9 (by omega))
    refine zW.aload_n (pc' := 63) dX1_merge_62 rfl rfl zg0 rfl ?_
    refine zW.callU (r' := 0) (pc' := 66) dX1_merge_63 rfl l_X1_219_J3 rfl hl1 ⟨rfl, (Nat.le_of_ble_eq_true rfl)⟩ rfl (k1) zc0 rfl (Nat.le_of_ble_eq_true rfl) (Nat.le_of_ble_eq_true rfl) (Nat.le_of_ble_eq_true rfl) (fun _ _ q9 => ?_) (fun _ _ q9 => by cases q9.1)
    obtain ⟨q8, e9⟩ := q9
    cases q8
    replace e9 := e9.symm
    subst e9
    refine zW.if_eqN (pc' := 69) 73 dX1_merge_66 rfl (by decide) (by omega) (fun b9 => absurd b9 (by omega)) (fun b9 => ?_)
    refine zW.aload_n (pc' := 70) dX1_merge_69 rfl rfl (zgS (zg0)) rfl ?_
    refine zW.goto 74 dX1_merge_70 (by decide) ?_
    rw [List.length_nil] at hm
    exact zW.pay (c_mgTail hFl (by omega) zf hL2 hL3 (fun b hb => Or.inr (hF2 b hb)) hF3 e hK2) (by omega)
  have emp2 : ∀ (m : Nat) (H : zH) (mc1 mc2 mc3 : Int32) (ys1 ys2 ys3 : List (Nat × Nat)) (v3 v4 : Value), ys1.length + ys2.length ≤ m → m ≤ 12 → zfr (fun b => F1 b ∨ F2 b) h H → cLL H l1 mc1 ys1 → cLL H l2 mc2 ys2 → cLL H l3 mc3 ys3 → (∀ b, cLf l1 ys1 b → F1 b) → (∀ b, cLf l2 ys2 b → F2 b) → (∀ b, cLf l3 ys3 b → h b = none) → ys3.map Prod.snd ++ List.merge (ys1.map Prod.snd) (ys2.map Prod.snd) (lt9 K) = res → cKs H K (ys1.map Prod.snd) → cKs H K (ys2.map Prod.snd) → ys1 ≠ [] → ys2 = [] → zW G mX1_merge 6 (m + 2) 8 [.ref l1, .ref l2, .ref l3, v3, v4] [] H (cSrt h (fun b => F1 b ∨ F2 b) res) := by
    intro m H mc1 mc2 mc3 ys1 ys2 ys3 v3 v4 hm h12 zf hL1 hL2 hL3 hF1 hF2 hF3 e hK1 hK2 n1 e0
    subst e0
    have hl1 := hL1.1
    have hl2 := hL2.1
    have k1 := w_llEmpty (G := G) hl1 (by omega)
    have k2 := w_llEmpty (G := G) hl2 (by rw [List.length_nil]; decide)
    rw [if_neg n1] at k1
    rw [if_pos rfl] at k2
    rw [List.map_nil, List.merge_right] at e
    refine zW.aload_n (pc' := 9) dX1_merge_8 rfl rfl zg0 rfl ?_
    refine zW.callU (r' := 0) (pc' := 12) dX1_merge_9 rfl l_X1_219_J3 rfl hl1 ⟨rfl, (Nat.le_of_ble_eq_true rfl)⟩ rfl (k1) zc0 rfl (Nat.le_of_ble_eq_true rfl) (Nat.le_of_ble_eq_true rfl) (Nat.le_of_ble_eq_true rfl) (fun _ _ q9 => ?_) (fun _ _ q9 => by cases q9.1)
    obtain ⟨q8, e9⟩ := q9
    cases q8
    replace e9 := e9.symm
    subst e9
    refine zW.if_neN (pc' := 15) 62 dX1_merge_12 rfl (by decide) (by omega) (fun b9 => absurd b9 (by omega)) (fun b9 => ?_)
    refine zW.aload_n (pc' := 16) dX1_merge_15 rfl rfl (zgS (zg0)) rfl ?_
    refine zW.callU (r' := 0) (pc' := 19) dX1_merge_16 rfl l_X1_219_J3 rfl hl2 ⟨rfl, (Nat.le_of_ble_eq_true rfl)⟩ rfl (k2) zc0 rfl (Nat.le_of_ble_eq_true rfl) (Nat.le_of_ble_eq_true rfl) (Nat.le_of_ble_eq_true rfl) (fun _ _ q9 => ?_) (fun _ _ q9 => by cases q9.1)
    obtain ⟨q8, e9⟩ := q9
    cases q8
    replace e9 := e9.symm
    subst e9
    refine zW.if_neN (pc' := 22) 62 dX1_merge_19 rfl (by decide) (by omega) (fun b9 => ?_) (fun b9 => absurd b9 (by omega))
    refine zW.aload_n (pc' := 63) dX1_merge_62 rfl rfl zg0 rfl ?_
    refine zW.callU (r' := 0) (pc' := 66) dX1_merge_63 rfl l_X1_219_J3 rfl hl1 ⟨rfl, (Nat.le_of_ble_eq_true rfl)⟩ rfl (k1) zc0 rfl (Nat.le_of_ble_eq_true rfl) (Nat.le_of_ble_eq_true rfl) (Nat.le_of_ble_eq_true rfl) (fun _ _ q9 => ?_) (fun _ _ q9 => by cases q9.1)
    obtain ⟨q8, e9⟩ := q9
    cases q8
    replace e9 := e9.symm
    subst e9
    refine zW.if_eqN (pc' := 69) 73 dX1_merge_66 rfl (by decide) (by omega) (fun b9 => ?_) (fun b9 => absurd b9 (by omega))
    refine zW.aload_n (pc' := 74) dX1_merge_73 rfl rfl zg0 rfl ?_
    rw [List.length_nil] at hm
    exact zW.pay (c_mgTail hFl (by omega) zf hL1 hL3 (fun b hb => Or.inl (hF1 b hb)) hF3 e hK1) (by omega)
  intro m
  induction m with
  | zero =>
    intro H mc1 mc2 mc3 ys1 ys2 ys3 v3 v4 hm h12 zf hL1 hL2 hL3 hF1 hF2 hF3 e hK1 hK2
    exact emp1 0 H mc1 mc2 mc3 ys1 ys2 ys3 v3 v4 hm h12 zf hL1 hL2 hL3 hF1 hF2 hF3 e hK1 hK2 (List.length_eq_zero_iff.mp (by omega))
  | succ m ih =>
    intro H mc1 mc2 mc3 ys1 ys2 ys3 v3 v4 hm h12 zf hL1 hL2 hL3 hF1 hF2 hF3 e hK1 hK2
    cases ys1 with
    | nil => exact emp1 (m + 1) H mc1 mc2 mc3 [] ys2 ys3 v3 v4 hm h12 zf hL1 hL2 hL3 hF1 hF2 hF3 e hK1 hK2 rfl
    | cons p t1 =>
    cases ys2 with
    | nil => exact emp2 (m + 1) H mc1 mc2 mc3 (p :: t1) [] ys3 v3 v4 hm h12 zf hL1 hL2 hL3 hF1 hF2 hF3 e hK1 hK2 (fun q => by cases q) rfl
    | cons q t2 =>
    have hl1 := hL1.1
    have hl2 := hL2.1
    have hl3 := hL3.1
    have hp0 : (p :: t1)[0]? = some p := rfl
    have hq0 : (q :: t2)[0]? = some q := rfl
    have k1 := w_llEmpty (G := G) hl1 (by omega)
    have k2 := w_llEmpty (G := G) hl2 (by omega)
    rw [if_neg (fun q => by cases q)] at k1 k2
    obtain ⟨hcp, bp⟩ := hK1 p.2 (List.mem_map_of_mem List.mem_cons_self)
    obtain ⟨hcq, bq⟩ := hK2 q.2 (List.mem_map_of_mem List.mem_cons_self)
    have hcp2 := cCl_l hcp
    have hcq2 := cCl_l hcq
    rw [List.map_cons, List.map_cons, List.cons_merge_cons, show lt9 K p.2 q.2 = decide (cLt (K p.2) (K q.2)) from rfl] at e
    simp only [List.length_cons] at hm
    refine zW.pay (r1 := m + 2 + 1) ?_ (by omega)
    refine zW.aload_n (pc' := 9) dX1_merge_8 rfl rfl zg0 rfl ?_
    refine zW.callU (r' := 0) (pc' := 12) dX1_merge_9 rfl l_X1_219_J3 rfl hl1 ⟨rfl, (Nat.le_of_ble_eq_true rfl)⟩ rfl (k1) zc0 rfl (Nat.le_of_ble_eq_true rfl) (Nat.le_of_ble_eq_true rfl) (Nat.le_of_ble_eq_true rfl) (fun _ _ q9 => ?_) (fun _ _ q9 => by cases q9.1)
    obtain ⟨q8, e9⟩ := q9
    cases q8
    replace e9 := e9.symm
    subst e9
    refine zW.if_neN (pc' := 15) 62 dX1_merge_12 rfl (by decide) (by omega) (fun b9 => absurd b9 (by omega)) (fun b9 => ?_)
    refine zW.aload_n (pc' := 16) dX1_merge_15 rfl rfl (zgS (zg0)) rfl ?_
    refine zW.callU (r' := 0) (pc' := 19) dX1_merge_16 rfl l_X1_219_J3 rfl hl2 ⟨rfl, (Nat.le_of_ble_eq_true rfl)⟩ rfl (k2) zc0 rfl (Nat.le_of_ble_eq_true rfl) (Nat.le_of_ble_eq_true rfl) (Nat.le_of_ble_eq_true rfl) (fun _ _ q9 => ?_) (fun _ _ q9 => by cases q9.1)
    obtain ⟨q8, e9⟩ := q9
    cases q8
    replace e9 := e9.symm
    subst e9
    refine zW.if_neN (pc' := 22) 62 dX1_merge_19 rfl (by decide) (by omega) (fun b9 => absurd b9 (by omega)) (fun b9 => ?_)
    refine zW.aload_n (pc' := 23) dX1_merge_22 rfl rfl zg0 rfl ?_
    refine zW.callV (r' := 0) (pc' := 26) dX1_merge_23 rfl l_X1_286 rfl hl1 ⟨rfl, (Nat.le_of_ble_eq_true rfl)⟩ rfl (w_llFirst hL1 hp0) zc0 rfl (Nat.le_of_ble_eq_true rfl) (Nat.le_of_ble_eq_true rfl) (Nat.le_of_ble_eq_true rfl) (fun _ _ q9 => ?_) (fun _ _ q9 => by cases q9.1)
    obtain ⟨q8, e9⟩ := q9
    cases q8
    replace e9 := e9.symm
    subst e9
    refine zW.castS (pc' := 29) dX1_merge_26 rfl (lw_all_tbl q1398) hcp2 ⟨rfl, (Nat.le_of_ble_eq_true rfl)⟩ rfl ?_
    refine zW.aload_n (pc' := 30) dX1_merge_29 rfl rfl (zgS (zg0)) rfl ?_
    refine zW.callV (r' := 0) (pc' := 33) dX1_merge_30 rfl l_X1_286 rfl hl2 ⟨rfl, (Nat.le_of_ble_eq_true rfl)⟩ rfl (w_llFirst hL2 hq0) zc0 rfl (Nat.le_of_ble_eq_true rfl) (Nat.le_of_ble_eq_true rfl) (Nat.le_of_ble_eq_true rfl) (fun _ _ q9 => ?_) (fun _ _ q9 => by cases q9.1)
    obtain ⟨q8, e9⟩ := q9
    cases q8
    replace e9 := e9.symm
    subst e9
    refine zW.castS (pc' := 36) dX1_merge_33 rfl (lw_all_tbl q1398) hcq2 ⟨rfl, (Nat.le_of_ble_eq_true rfl)⟩ rfl ?_
    refine zW.callS (r' := 0) (pc' := 39) dX1_merge_36 rfl l_X1_287 rfl (w_expB hcp hcq ⟨bp, bq⟩) (zcc rfl (zcc rfl zc0)) rfl (Nat.le_of_ble_eq_true rfl) (Nat.le_of_ble_eq_true rfl) (Nat.le_of_ble_eq_true rfl) (fun _ _ q9 => ?_) (fun _ _ q9 => by cases q9.1)
    obtain ⟨q8, e9⟩ := q9
    cases q8
    replace e9 := e9.symm
    subst e9
    by_cases w : decide (cLt (K p.2) (K q.2)) = true
    · rw [if_pos w] at e ⊢
      refine zW.if_eqN (pc' := 42) 46 dX1_merge_39 rfl (by decide) (by omega) (fun b9 => absurd b9 (by omega)) (fun b9 => ?_)
      refine zW.aload_n (pc' := 43) dX1_merge_42 rfl rfl zg0 rfl ?_
      refine zW.goto 47 dX1_merge_43 (by decide) ?_
      refine zW.astore_n (pc' := 48) dX1_merge_47 rfl rfl (Nat.le_of_ble_eq_true rfl) rfl (zsS (zsS (zsS (zs0)))) ?_
      refine zW.aload_n (pc' := 49) dX1_merge_48 rfl rfl (zgS (zgS (zg0))) rfl ?_
      refine zW.aload_n (pc' := 50) dX1_merge_49 rfl rfl (zgS (zgS (zgS (zg0)))) rfl ?_
      refine zW.callV (r' := 0) (pc' := 53) dX1_merge_50 rfl l_X1_291 rfl hl1 ⟨rfl, (Nat.le_of_ble_eq_true rfl)⟩ rfl (w_llRemFirst hL1 hp0) zc0 rfl (Nat.le_of_ble_eq_true rfl) (Nat.le_of_ble_eq_true rfl) (Nat.le_of_ble_eq_true rfl) (fun _ _ q9 => ?_) (fun _ _ q9 => absurd q9 zO.no)
      obtain ⟨_, q8, e1, hL1a, z1⟩ := q9
      cases q8
      subst e1
      have hcr := hL1.outC z1 _ _ hcp
      have hcr2 := cCl_l hcr
      have hL2a := hL2.fr z1 fun b hb w => hF12 b (hF1 b w) (hF2 b hb)
      have hL3a := hL3.fr z1 fun b hb w => hFl b (Or.inl (hF1 b w)) (hF3 b hb)
      have zfa := zf.tr z1 fun b hb => Or.inl (Or.inl (hF1 b hb))
      have hK1a := hK1.mv (hL1.outC z1)
      have hK2a := hK2.mv (hL1.outC z1)
      have hl3a := hL3a.1
      refine zW.castS (pc' := 56) dX1_merge_53 rfl (lw_all_tbl q1398) hcr2 ⟨rfl, (Nat.le_of_ble_eq_true rfl)⟩ rfl ?_
      refine zW.callV (r' := 1) (pc' := 59) dX1_merge_56 rfl l_X1_292 rfl hl3a ⟨rfl, (Nat.le_of_ble_eq_true rfl)⟩ rfl (w_addLast hL3a) (zcc rfl zc0) rfl (Nat.le_of_ble_eq_true rfl) (Nat.le_of_ble_eq_true rfl) (Nat.le_of_ble_eq_true rfl) (fun _ _ q9 => ?_) (fun _ _ q9 => absurd q9 zO.no)
      obtain ⟨_, q8, e1, nd, nnd, hL3b, z3⟩ := q9
      cases q8
      subst e1
      have nnd0 := zfa.nn0 nnd
      refine zW.goto 8 dX1_merge_59 (by decide) ?_
      have hL1b := hL1a.fr z3 fun b hb w => hFl b (Or.inl (hF1 b (cLf.tail hb))) (hF3 b w)
      have hL2b := hL2a.fr z3 fun b hb w => hFl b (Or.inr (hF2 b (hb))) (hF3 b w)
      refine ih _ _ _ _ t1 (q :: t2) (ys3 ++ [(nd, p.2)]) _ _ (by simp only [List.length_cons] at hm ⊢; omega) (by omega) (zfa.tr z3 fun b hb => Or.inr (hF3 b hb)) hL1b hL2b hL3b (fun b hb => hF1 b (cLf.tail hb)) (fun b hb => hF2 b (hb)) (fun b hb => ?_) ?_ ((hK1a.mv (hL3a.outC z3)).sub (fun b hb => List.mem_cons_of_mem _ hb)) ((hK2a.mv (hL3a.outC z3)).sub (fun b hb => hb))
      · rcases hb with w | w
        · exact hF3 b (Or.inl w)
        · rw [List.map_append] at w
          rcases List.mem_append.mp w with w | w
          · exact hF3 b (Or.inr w)
          · rw [show b = nd from List.mem_singleton.mp w]; exact nnd0
      · rw [List.map_append, List.append_assoc]; exact e
    · rw [if_neg w] at e ⊢
      refine zW.if_eqN (pc' := 42) 46 dX1_merge_39 rfl (by decide) (by omega) (fun b9 => ?_) (fun b9 => absurd b9 (by omega))
      refine zW.aload_n (pc' := 47) dX1_merge_46 rfl rfl (zgS (zg0)) rfl ?_
      refine zW.astore_n (pc' := 48) dX1_merge_47 rfl rfl (Nat.le_of_ble_eq_true rfl) rfl (zsS (zsS (zsS (zs0)))) ?_
      refine zW.aload_n (pc' := 49) dX1_merge_48 rfl rfl (zgS (zgS (zg0))) rfl ?_
      refine zW.aload_n (pc' := 50) dX1_merge_49 rfl rfl (zgS (zgS (zgS (zg0)))) rfl ?_
      refine zW.callV (r' := 0) (pc' := 53) dX1_merge_50 rfl l_X1_291 rfl hl2 ⟨rfl, (Nat.le_of_ble_eq_true rfl)⟩ rfl (w_llRemFirst hL2 hq0) zc0 rfl (Nat.le_of_ble_eq_true rfl) (Nat.le_of_ble_eq_true rfl) (Nat.le_of_ble_eq_true rfl) (fun _ _ q9 => ?_) (fun _ _ q9 => absurd q9 zO.no)
      obtain ⟨_, q8, e1, hL2a, z1⟩ := q9
      cases q8
      subst e1
      have hcr := hL2.outC z1 _ _ hcq
      have hcr2 := cCl_l hcr
      have hL1a := hL1.fr z1 fun b hb w => hF12 b (hF1 b hb) (hF2 b w)
      have hL3a := hL3.fr z1 fun b hb w => hFl b (Or.inr (hF2 b w)) (hF3 b hb)
      have zfa := zf.tr z1 fun b hb => Or.inl (Or.inr (hF2 b hb))
      have hK1a := hK1.mv (hL2.outC z1)
      have hK2a := hK2.mv (hL2.outC z1)
      have hl3a := hL3a.1
      refine zW.castS (pc' := 56) dX1_merge_53 rfl (lw_all_tbl q1398) hcr2 ⟨rfl, (Nat.le_of_ble_eq_true rfl)⟩ rfl ?_
      refine zW.callV (r' := 1) (pc' := 59) dX1_merge_56 rfl l_X1_292 rfl hl3a ⟨rfl, (Nat.le_of_ble_eq_true rfl)⟩ rfl (w_addLast hL3a) (zcc rfl zc0) rfl (Nat.le_of_ble_eq_true rfl) (Nat.le_of_ble_eq_true rfl) (Nat.le_of_ble_eq_true rfl) (fun _ _ q9 => ?_) (fun _ _ q9 => absurd q9 zO.no)
      obtain ⟨_, q8, e1, nd, nnd, hL3b, z3⟩ := q9
      cases q8
      subst e1
      have nnd0 := zfa.nn0 nnd
      refine zW.goto 8 dX1_merge_59 (by decide) ?_
      have hL1b := hL1a.fr z3 fun b hb w => hFl b (Or.inl (hF1 b (hb))) (hF3 b w)
      have hL2b := hL2a.fr z3 fun b hb w => hFl b (Or.inr (hF2 b (cLf.tail hb))) (hF3 b w)
      refine ih _ _ _ _ (p :: t1) t2 (ys3 ++ [(nd, q.2)]) _ _ (by simp only [List.length_cons] at hm ⊢; omega) (by omega) (zfa.tr z3 fun b hb => Or.inr (hF3 b hb)) hL1b hL2b hL3b (fun b hb => hF1 b (hb)) (fun b hb => hF2 b (cLf.tail hb)) (fun b hb => ?_) ?_ ((hK1a.mv (hL3a.outC z3)).sub (fun b hb => hb)) ((hK2a.mv (hL3a.outC z3)).sub (fun b hb => List.mem_cons_of_mem _ hb))
      · rcases hb with w | w
        · exact hF3 b (Or.inl w)
        · rw [List.map_append] at w
          rcases List.mem_append.mp w with w | w
          · exact hF3 b (Or.inr w)
          · rw [show b = nd from List.mem_singleton.mp w]; exact nnd0
      · rw [List.map_append, List.append_assoc]; exact e
theorem c_merge (hL1 : cLL h l1 mc1 ys1) (hL2 : cLL h l2 mc2 ys2) (hd : ∀ b, cLf l1 ys1 b → ¬ cLf l2 ys2 b) (h12 : ys1.length + ys2.length ≤ 12) (hK1 : cKs h K (ys1.map Prod.snd)) (hK2 : cKs h K (ys2.map Prod.snd)) : zK G mX1_merge 6 (ys1.length + ys2.length + 3) [.ref l1, .ref l2] h (cSrt h (fun b => cLf l1 ys1 b ∨ cLf l2 ys2 b) (List.merge (ys1.map Prod.snd) (ys2.map Prod.snd) (lt9 K))) := by
  have zg := zfr.rf (A := fun _ => False) (h := h)
  refine zW.pay (r1 := ys1.length + ys2.length + 2 + 1) ?_ (by omega)
  show zW G mX1_merge 6 (ys1.length+ys2.length+2+1) 0 [.ref l1, .ref l2, zho, zho, zho] [] h _
  refine zW.newK (u := 1) (pc' := 3) dX1_merge_0 rfl n_X1_96 zd_6 (fun l3 _ nl3 e9 k9 => ?_)
  have ol3 := zg.nn0 nl3
  have zg := zg.new e9 nl3
  have hl3 := k9
  clear k9
  refine zW.dup (pc' := 4) dX1_merge_3 rfl rfl ?_
  refine zW.callI (r' := 0) (pc' := 7) dX1_merge_4 rfl l_X1_285 rfl (w_llInit hl3) zc0 rfl (Nat.le_of_ble_eq_true rfl) (Nat.le_of_ble_eq_true rfl) (Nat.le_of_ble_eq_true rfl) (fun _ _ q9 => ?_) (fun _ _ q9 => absurd q9 zO.no)
  obtain ⟨_, q8, e1, e9, k9⟩ := q9
  cases q8
  subst e1
  have zg := zg.put e9 hl3 (by decide) (Or.inr ol3)
  replace hl3 := k9
  clear e9 k9
  refine zW.astore_n (pc' := 8) dX1_merge_7 rfl rfl (Nat.le_of_ble_eq_true rfl) rfl (zsS (zsS (zs0))) ?_
  have hL3 : cLL _ l3 (nI 0) [] := ⟨hl3, (fun i p e => by cases e), List.nodup_nil⟩
  refine c_mgLoop (F1 := cLf l1 ys1) (F2 := cLf l2 ys2) hd (fun b hb => hb.elim (cLf.live hL1) (cLf.live hL2)) (ys1.length + ys2.length) _ mc1 mc2 _ ys1 ys2 [] _ _ (Nat.le_refl _) h12 (zg.mono fun _ q => q.elim) (hL1.fr zg fun _ _ q => q) (hL2.fr zg fun _ _ q => q) hL3 (fun _ q => q) (fun _ q => q) (fun b hb => ?_) rfl (hK1.mv fun b l e => zg.at e fun q => q) (hK2.mv fun b l e => zg.at e fun q => q)
  rcases hb with q | q
  · rw [q]; exact ol3
  · cases q
end
