/-! LinkedList: a list of nodes with their items -/
section
set_option maxRecDepth 100000
variable {G : zG} {h h' h0 : zH} {a it : Nat} {mc : Int32} {xs : List (Nat × Nat)}
def cNd (xs : List (Nat × Nat)) (i : Nat) : Option Nat := (xs[i]?).map Prod.fst
def cPd (xs : List (Nat × Nat)) : Nat → Option Nat
  | 0 => none
  | k + 1 => cNd xs k
/-- list a holds the nodes and items xs -/
def cLL (h : zH) (a : Nat) (mc : Int32) (xs : List (Nat × Nat)) : Prop := h a = some (6, [.int mc, .int (nI xs.length), zrf (cNd xs 0), zrf (cPd xs xs.length)]) ∧ (∀ i p, xs[i]? = some p → h p.1 = some (7, [.ref p.2, zrf (cNd xs (i + 1)), zrf (cPd xs i)])) ∧ (xs.map Prod.fst).Nodup
def cLf (a : Nat) (xs : List (Nat × Nat)) : Nat → Prop := fun b => b = a ∨ b ∈ xs.map Prod.fst
theorem cNd_at {i : Nat} {p : Nat × Nat} (e : xs[i]? = some p) : cNd xs i = some p.1 := by unfold cNd; rw [e]; rfl
theorem cNd_no {i : Nat} (e : xs.length ≤ i) : cNd xs i = none := by unfold cNd; rw [List.getElem?_eq_none e]; rfl
theorem cLL.ne (hL : cLL h a mc xs) {i j : Nat} {p q : Nat × Nat} (e : xs[i]? = some p) (f : xs[j]? = some q) (hn : i ≠ j) : p.1 ≠ q.1 := by
  intro g
  have h1 : (xs.map Prod.fst)[i]? = some p.1 := by rw [List.getElem?_map, e]; rfl
  have h2 : (xs.map Prod.fst)[j]? = some p.1 := by rw [List.getElem?_map, f, g]; rfl
  exact hn ((List.getElem?_inj (List.getElem?_eq_some_iff.mp h1).1 hL.2.2).mp (h1.trans h2.symm))
theorem cLL.mv (hL : cLL h a mc xs) (z : ∀ b k l, (k = 6 ∨ k = 7) → h b = some (k, l) → h' b = some (k, l)) : cLL h' a mc xs := ⟨z _ _ _ (Or.inl rfl) hL.1, fun i p e => z _ _ _ (Or.inr rfl) (hL.2.1 i p e), hL.2.2⟩
theorem cLL.fr (hL : cLL h a mc xs) {A : Nat → Prop} (z : zfr A h h') (n : ∀ b, cLf a xs b → ¬ A b) : cLL h' a mc xs := ⟨z.at hL.1 (n _ (Or.inl rfl)), fun i p e => z.at (hL.2.1 i p e) (n _ (Or.inr (List.mem_map_of_mem (List.mem_of_getElem? e)))), hL.2.2⟩
theorem cLL.live (hL : cLL h a mc xs) {b : Nat} (hb : cLf a xs b) : ∃ k l, h b = some (k, l) ∧ (k = 6 ∨ k = 7) := by
  rcases hb with z | z
  · subst z; exact ⟨6, _, hL.1, Or.inl rfl⟩
  · obtain ⟨p, hp1, hp2⟩ := List.mem_map.mp z
    obtain ⟨i, hpi⟩ := List.getElem?_of_mem hp1
    subst hp2
    exact ⟨7, _, hL.2.1 i p hpi, Or.inr rfl⟩
theorem cLL.nk (hL : cLL h a mc xs) {k : Nat} {l : List Value} (hi : h it = some (k, l)) (h6 : k ≠ 6 ∧ k ≠ 7) : ∀ b, cLf a xs b → ¬ b = it := fun b hb z => by
  obtain ⟨k', l', e, hk⟩ := hL.live hb
  rw [z, hi] at e
  cases e
  exact hk.elim h6.1 h6.2
theorem cLL.nn (hL : cLL h a mc xs) (hi : h it = none) : ∀ b, cLf a xs b → ¬ b = it := fun b hb z => by
  obtain ⟨k', l', e, hk⟩ := hL.live hb
  rw [z, hi] at e
  cases e
/-- a node is made -/
theorem w_nodeInit {n : Nat} {x y z : Value} (hn : h n = some (7, [x, y, z])) {l e nx : Option Nat} : zK G mJ29_init 1 0 [.ref n, zrf l, zrf e, zrf nx] h (zPk h none n (7, [zrf e, zrf nx, zrf l])) := by
  show zW G mJ29_init 1 0 0 [.ref n, zrf l, zrf e, zrf nx] [] h _
  refine zW.aload_n (pc' := 1) dJ29_init_0 rfl rfl zg0 rfl ?_
  refine zW.objInit (pc' := 4) dJ29_init_1 rfl (lw_all_tbl q1092) (lw_all_tbl q151) (lw_all_tbl q152) (Nat.le_of_ble_eq_true rfl) (Nat.le_of_ble_eq_true rfl) ?_
  refine zW.aload_n (pc' := 5) dJ29_init_4 rfl rfl zg0 rfl ?_
  refine zW.aload_n (pc' := 6) dJ29_init_5 rfl rfl (zgS (zgS (zg0))) zrf_ir ?_
  refine zW.putK (pc' := 9) dJ29_init_6 rfl f_J29_7_7 hn ⟨⟨rfl, (Nat.le_of_ble_eq_true rfl)⟩, (Nat.le_of_ble_eq_true rfl)⟩ (zFw.of ft_7_0 zrf_nar zrf_fit) zs0 (fun _ e9 k9 => ?_)
  have hq := e9
  replace hn := k9
  clear e9 k9
  refine zW.aload_n (pc' := 10) dJ29_init_9 rfl rfl zg0 rfl ?_
  refine zW.aload_n (pc' := 11) dJ29_init_10 rfl rfl (zgS (zgS (zgS (zg0)))) zrf_ir ?_
  refine zW.putK (pc' := 14) dJ29_init_11 rfl f_J29_13_7 hn ⟨⟨rfl, (Nat.le_of_ble_eq_true rfl)⟩, (Nat.le_of_ble_eq_true rfl)⟩ (zFw.of ft_7_1 zrf_nar zrf_fit) (zsS (zs0)) (fun _ e9 k9 => ?_)
  have hq := ztrk hq e9
  replace hn := k9
  clear e9 k9
  refine zW.aload_n (pc' := 15) dJ29_init_14 rfl rfl zg0 rfl ?_
  refine zW.aload_n (pc' := 16) dJ29_init_15 rfl rfl (zgS (zg0)) zrf_ir ?_
  refine zW.putK (pc' := 19) dJ29_init_16 rfl f_J29_17_7 hn ⟨⟨rfl, (Nat.le_of_ble_eq_true rfl)⟩, (Nat.le_of_ble_eq_true rfl)⟩ (zFw.of ft_7_2 zrf_nar zrf_fit) (zsS (zsS (zs0))) (fun _ e9 k9 => ?_)
  have hq := ztrk hq e9
  replace hn := k9
  clear e9 k9
  refine zW.vret dJ29_init_19 rfl ?_
  exact ⟨_, rfl, rfl, hq, hn⟩
theorem w_llInit (ha : h a = some (6, [.int 0, .int 0, .null, .null])) : zK G mJ3_init 5 0 [.ref a] h (zPk h none a (6, [.int (nI 0), .int (nI 0), .null, .null])) := by
  have k0 : zK G mJ0_init 1 0 [.ref a] h (zPu h none) := by
    show zW G mJ0_init 1 0 0 [.ref a] [] h _
    refine zW.aload_n (pc' := 1) dJ0_init_0 rfl rfl zg0 rfl ?_
    refine zW.objInit (pc' := 4) dJ0_init_1 rfl (lw_all_tbl q173) (lw_all_tbl q151) (lw_all_tbl q152) (Nat.le_of_ble_eq_true rfl) (Nat.le_of_ble_eq_true rfl) ?_
    refine zW.vret dJ0_init_4 rfl ?_
    exact ⟨rfl, rfl⟩
  have k1 : zK G mJ1_init 2 0 [.ref a] h (zPk h none a (6, [.int (nI 0), .int 0, .null, .null])) := by
    show zW G mJ1_init 2 0 0 [.ref a] [] h _
    refine zW.aload_n (pc' := 1) dJ1_init_0 rfl rfl zg0 rfl ?_
    refine zW.callI (r' := 0) (pc' := 4) dJ1_init_1 rfl l_J1_1 rfl (k0) zc0 rfl (Nat.le_of_ble_eq_true rfl) (Nat.le_of_ble_eq_true rfl) (Nat.le_of_ble_eq_true rfl) (fun _ _ q9 => ?_) (fun _ _ q9 => by cases q9.1)
    obtain ⟨q8, e9⟩ := q9
    cases q8
    replace e9 := e9.symm
    subst e9
    refine zW.aload_n (pc' := 5) dJ1_init_4 rfl rfl zg0 rfl ?_
    refine zW.iconst (pc' := 6) (nI 0) dJ1_init_5 rfl (by decide) ?_
    refine zW.putK (pc' := 9) dJ1_init_6 rfl f_J1_7_6 ha ⟨⟨rfl, (Nat.le_of_ble_eq_true rfl)⟩, (Nat.le_of_ble_eq_true rfl)⟩ (zFw.of ft_6_0 rfl rfl) zs0 (fun _ e9 k9 => ?_)
    have hq := e9
    replace ha := k9
    clear e9 k9
    refine zW.vret dJ1_init_9 rfl ?_
    exact ⟨_, rfl, rfl, hq, ha⟩
  have k2 : zK G mJ2_init 3 0 [.ref a] h (zPk h none a (6, [.int (nI 0), .int 0, .null, .null])) := by
    show zW G mJ2_init 3 0 0 [.ref a] [] h _
    refine zW.aload_n (pc' := 1) dJ2_init_0 rfl rfl zg0 rfl ?_
    refine zW.callI (r' := 0) (pc' := 4) dJ2_init_1 rfl l_J2_1 rfl (k1) zc0 rfl (Nat.le_of_ble_eq_true rfl) (Nat.le_of_ble_eq_true rfl) (Nat.le_of_ble_eq_true rfl) (fun _ _ q9 => ?_) (fun _ _ q9 => absurd q9 zO.no)
    obtain ⟨_, q8, e1, e9, k9⟩ := q9
    cases q8
    subst e1
    have hq := e9
    replace ha := k9
    clear e9 k9
    refine zW.vret dJ2_init_4 rfl ?_
    exact ⟨_, rfl, rfl, hq, ha⟩
  show zW G mJ3_init 5 0 0 [.ref a] [] h _
  refine zW.aload_n (pc' := 1) dJ3_init_0 rfl rfl zg0 rfl ?_
  refine zW.callI (r' := 0) (pc' := 4) dJ3_init_1 rfl l_J3_1 rfl (k2) zc0 rfl (Nat.le_of_ble_eq_true rfl) (Nat.le_of_ble_eq_true rfl) (Nat.le_of_ble_eq_true rfl) (fun _ _ q9 => ?_) (fun _ _ q9 => absurd q9 zO.no)
  obtain ⟨_, q8, e1, e9, k9⟩ := q9
  cases q8
  subst e1
  have hq := e9
  replace ha := k9
  clear e9 k9
  refine zW.aload_n (pc' := 5) dJ3_init_4 rfl rfl zg0 rfl ?_
  refine zW.iconst (pc' := 6) (nI 0) dJ3_init_5 rfl (by decide) ?_
  refine zW.putK (pc' := 9) dJ3_init_6 rfl f_J3_7_6 ha ⟨⟨rfl, (Nat.le_of_ble_eq_true rfl)⟩, (Nat.le_of_ble_eq_true rfl)⟩ (zFw.of ft_6_1 rfl rfl) (zsS (zs0)) (fun _ e9 k9 => ?_)
  have hq := ztrk hq e9
  replace ha := k9
  clear e9 k9
  refine zW.vret dJ3_init_9 rfl ?_
  exact ⟨_, rfl, rfl, hq, ha⟩
theorem cLL_nil (ha : h a = some (6, [.int mc, .int (nI 0), .null, .null])) : cLL h a mc [] := ⟨ha, (fun i p e => by cases e), List.Pairwise.nil⟩
theorem cLL.app (hL : cLL h a mc xs) {mc' : Int32} {n c : Nat} (hn : h n = none) (ha : h' a = some (6, [.int mc', .int (nI (xs.length + 1)), zrf (cNd (xs ++ [(n, c)]) 0), .ref n])) (hnn : h' n = some (7, [.ref c, .null, zrf (cPd xs xs.length)]))
    (hp : ∀ j q, xs[j]? = some q → j + 1 = xs.length → h' q.1 = some (7, [.ref q.2, .ref n, zrf (cPd xs j)])) (ho : ∀ j q, xs[j]? = some q → j + 1 ≠ xs.length → h' q.1 = h q.1) : cLL h' a mc' (xs ++ [(n, c)]) := by
  have en : cNd (xs ++ [(n, c)]) xs.length = some n := cNd_at (p := (n, c)) (by rw [List.getElem?_append_right (Nat.le_refl _), Nat.sub_self]; rfl)
  have e1 : ∀ i, i < xs.length → cNd (xs ++ [(n, c)]) i = cNd xs i := fun i hi => by unfold cNd; rw [List.getElem?_append_left hi]
  have e2 : ∀ i, i ≤ xs.length → cPd (xs ++ [(n, c)]) i = cPd xs i := fun i hi => by
    cases i with
    | zero => rfl
    | succ i => exact e1 i hi
  refine ⟨?_, fun i p e => ?_, ?_⟩
  · rw [List.length_append, List.length_singleton, show cPd (xs ++ [(n, c)]) (xs.length + 1) = some n from en]
    exact ha
  · by_cases q : i < xs.length
    · rw [List.getElem?_append_left q] at e
      rw [e2 i (Nat.le_of_lt q)]
      by_cases r : i + 1 = xs.length
      · rw [r, en]
        exact hp i p e r
      · rw [e1 (i + 1) (by omega), ho i p e r]
        exact hL.2.1 i p e
    · rw [List.getElem?_append_right (by omega)] at e
      have hi1 := (List.getElem?_eq_some_iff.mp e).1
      rw [List.length_singleton] at hi1
      have hi2 : i = xs.length := by omega
      subst hi2
      rw [Nat.sub_self] at e
      cases e
      rw [e2 _ (Nat.le_refl _), cNd_no (by rw [List.length_append]; exact Nat.le_refl _)]
      exact hnn
  · rw [List.map_append, List.nodup_append]
    refine ⟨hL.2.2, List.pairwise_singleton _ _, fun x hx y hy => ?_⟩
    rw [show y = n from List.mem_singleton.mp hy]
    obtain ⟨p, hp1, hp2⟩ := List.mem_map.mp hx
    obtain ⟨i, hi⟩ := List.getElem?_of_mem hp1
    rw [← hp2]
    exact zfresh hn (hL.2.1 i p hi)
/-- one more item, at the end -/
theorem w_linkLast (hL : cLL h a mc xs) {c : Nat} : zK G mJ3_linkLast 2 1 [.ref a, .ref c] h (zO fun v h' => v = none ∧ ∃ n, h n = none ∧ cLL h' a (mc + nI 1) (xs ++ [(n, c)]) ∧ zfr (cLf a xs) h h') := by
  have hl := hL.1
  have hn1 := hL.2.1
  rcases List.eq_nil_or_concat xs with hxs | ⟨ys, p, hxs⟩
  · subst hxs
    have hf := zfr.rf (A := cLf a []) (h := h)
    show zW G mJ3_linkLast 2 1 0 [.ref a, .ref c, zho, zho] [] h _
    refine zW.aload_n (pc' := 1) dJ3_linkLast_0 rfl rfl zg0 rfl ?_
    refine zW.get (pc' := 4) dJ3_linkLast_1 rfl f_J3_27_6 hl ⟨rfl, (Nat.le_of_ble_eq_true rfl)⟩ rfl ?_
    refine zW.astore_n (pc' := 5) dJ3_linkLast_4 rfl rfl (Nat.le_of_ble_eq_true rfl) zrf_ir (zsS (zsS (zs0))) ?_
    refine zW.newK (u := 1) (pc' := 8) dJ3_linkLast_5 rfl n_J3_22 zd_7 (fun n _ nn e9 k9 => ?_)
    have hl := zpres e9 (zfresh nn hl) hl
    have on := hf.nn0 nn
    have hf := hf.new e9 nn
    have hn := k9
    clear k9
    refine zW.dup (pc' := 9) dJ3_linkLast_8 rfl rfl ?_
    refine zW.aload_n (pc' := 10) dJ3_linkLast_9 rfl rfl (zgS (zgS (zg0))) zrf_ir ?_
    refine zW.aload_n (pc' := 11) dJ3_linkLast_10 rfl rfl (zgS (zg0)) rfl ?_
    refine zW.null (pc' := 12) dJ3_linkLast_11 rfl ?_
    refine zW.callI (r' := 0) (pc' := 15) dJ3_linkLast_12 rfl l_J3_24 rfl (w_nodeInit (l := none) (e := some c) (nx := none) hn) (zcc rfl (zcc rfl (zcc rfl zc0))) rfl (Nat.le_of_ble_eq_true rfl) (Nat.le_of_ble_eq_true rfl) (Nat.le_of_ble_eq_true rfl) (fun _ _ q9 => ?_) (fun _ _ q9 => absurd q9 zO.no)
    obtain ⟨_, q8, e1, e9, k9⟩ := q9
    cases q8
    subst e1
    have hl := zpres e9 (zne hl hn (by decide)) hl
    have hf := hf.put e9 hn (by decide) (Or.inr on)
    replace hn := k9
    clear e9 k9
    refine zW.astore_n (pc' := 16) dJ3_linkLast_15 rfl rfl (Nat.le_of_ble_eq_true rfl) rfl (zsS (zsS (zsS (zs0)))) ?_
    refine zW.aload_n (pc' := 17) dJ3_linkLast_16 rfl rfl zg0 rfl ?_
    refine zW.aload_n (pc' := 18) dJ3_linkLast_17 rfl rfl (zgS (zgS (zgS (zg0)))) rfl ?_
    refine zW.putK (pc' := 21) dJ3_linkLast_18 rfl f_J3_27_6 hl ⟨⟨rfl, (Nat.le_of_ble_eq_true rfl)⟩, (Nat.le_of_ble_eq_true rfl)⟩ (zFw.of ft_6_3 rfl rfl) (zsS (zsS (zsS (zs0)))) (fun _ e9 k9 => ?_)
    have hn := zpres e9 (zne hn hl (by decide)) hn
    have hf := hf.put e9 hl (by decide) (Or.inl (Or.inl rfl))
    replace hl := k9
    clear e9 k9
    refine zW.aload_n (pc' := 22) dJ3_linkLast_21 rfl rfl (zgS (zgS (zg0))) zrf_ir ?_
    refine zW.ifnonnull (pc' := 25) 33 dJ3_linkLast_22 rfl (by decide) zrf_ir (fun b1 => ?_) (fun b1 => ?_)
    · exact absurd rfl b1
    refine zW.aload_n (pc' := 26) dJ3_linkLast_25 rfl rfl zg0 rfl ?_
    refine zW.aload_n (pc' := 27) dJ3_linkLast_26 rfl rfl (zgS (zgS (zgS (zg0)))) rfl ?_
    refine zW.putK (pc' := 30) dJ3_linkLast_27 rfl f_J3_18_6 hl ⟨⟨rfl, (Nat.le_of_ble_eq_true rfl)⟩, (Nat.le_of_ble_eq_true rfl)⟩ (zFw.of ft_6_2 rfl rfl) (zsS (zsS (zs0))) (fun _ e9 k9 => ?_)
    have hn := zpres e9 (zne hn hl (by decide)) hn
    have hf := hf.put e9 hl (by decide) (Or.inl (Or.inl rfl))
    replace hl := k9
    clear e9 k9
    refine zW.goto 38 dJ3_linkLast_30 (by decide) ?_
    refine zW.aload_n (pc' := 39) dJ3_linkLast_38 rfl rfl zg0 rfl ?_
    refine zW.dup (pc' := 40) dJ3_linkLast_39 rfl rfl ?_
    refine zW.get (pc' := 43) dJ3_linkLast_40 rfl f_J3_7_6 hl ⟨rfl, (Nat.le_of_ble_eq_true rfl)⟩ rfl ?_
    refine zW.iconst (pc' := 44) (nI 1) dJ3_linkLast_43 rfl (by decide) ?_
    refine zW.iaddN (pc' := 45) dJ3_linkLast_44 rfl ?_
    refine zW.putK (pc' := 48) dJ3_linkLast_45 rfl f_J3_7_6 hl ⟨⟨rfl, (Nat.le_of_ble_eq_true rfl)⟩, (Nat.le_of_ble_eq_true rfl)⟩ (zFw.of ft_6_1 rfl rfl) (zsS (zs0)) (fun _ e9 k9 => ?_)
    have hn := zpres e9 (zne hn hl (by decide)) hn
    have hf := hf.put e9 hl (by decide) (Or.inl (Or.inl rfl))
    replace hl := k9
    clear e9 k9
    refine zW.aload_n (pc' := 49) dJ3_linkLast_48 rfl rfl zg0 rfl ?_
    refine zW.dup (pc' := 50) dJ3_linkLast_49 rfl rfl ?_
    refine zW.get (pc' := 53) dJ3_linkLast_50 rfl f_J3_33_6 hl ⟨rfl, (Nat.le_of_ble_eq_true rfl)⟩ rfl ?_
    refine zW.iconst (pc' := 54) (nI 1) dJ3_linkLast_53 rfl (by decide) ?_
    refine zW.iadd (pc' := 55) dJ3_linkLast_54 rfl ?_
    refine zW.putK (pc' := 58) dJ3_linkLast_55 rfl f_J3_33_6 hl ⟨⟨rfl, (Nat.le_of_ble_eq_true rfl)⟩, (Nat.le_of_ble_eq_true rfl)⟩ (zFw.of ft_6_0 rfl rfl) zs0 (fun _ e9 k9 => ?_)
    have hn := zpres e9 (zne hn hl (by decide)) hn
    have hf := hf.put e9 hl (by decide) (Or.inl (Or.inl rfl))
    replace hl := k9
    clear e9 k9
    refine zW.vret dJ3_linkLast_58 rfl ?_
    exact ⟨_, rfl, rfl, n, on, cLL.app hL on hl hn (fun j q e => by cases e) (fun j q e => by cases e), hf⟩
  · rw [List.concat_eq_append] at hxs
    have hlen : xs.length = ys.length + 1 := by rw [hxs, List.length_append]; rfl
    have hpe : xs[ys.length]? = some p := by rw [hxs, List.getElem?_append_right (Nat.le_refl _), Nat.sub_self]; rfl
    have hp := hn1 _ _ hpe
    have elast : cPd xs xs.length = some p.1 := by rw [hlen]; exact cNd_at hpe
    have enx : cNd xs (ys.length + 1) = none := cNd_no (by omega)
    have hf := zfr.rf (A := fun b => b = a ∨ b = p.1) (h := h)
    rw [elast] at hl
    rw [enx] at hp
    show zW G mJ3_linkLast 2 1 0 [.ref a, .ref c, zho, zho] [] h _
    refine zW.aload_n (pc' := 1) dJ3_linkLast_0 rfl rfl zg0 rfl ?_
    refine zW.get (pc' := 4) dJ3_linkLast_1 rfl f_J3_27_6 hl ⟨rfl, (Nat.le_of_ble_eq_true rfl)⟩ rfl ?_
    refine zW.astore_n (pc' := 5) dJ3_linkLast_4 rfl rfl (Nat.le_of_ble_eq_true rfl) zrf_ir (zsS (zsS (zs0))) ?_
    refine zW.newK (u := 1) (pc' := 8) dJ3_linkLast_5 rfl n_J3_22 zd_7 (fun n _ nn e9 k9 => ?_)
    have hl := zpres e9 (zfresh nn hl) hl
    have q_hp_n := zfresh nn hp
    have hp := zpres e9 (zfresh nn hp) hp
    have on := hf.nn0 nn
    have hf := hf.new e9 nn
    have hn := k9
    clear k9
    have nnp : p.1 ≠ n := zfresh on (hn1 _ _ hpe)
    refine zW.dup (pc' := 9) dJ3_linkLast_8 rfl rfl ?_
    refine zW.aload_n (pc' := 10) dJ3_linkLast_9 rfl rfl (zgS (zgS (zg0))) zrf_ir ?_
    refine zW.aload_n (pc' := 11) dJ3_linkLast_10 rfl rfl (zgS (zg0)) rfl ?_
    refine zW.null (pc' := 12) dJ3_linkLast_11 rfl ?_
    refine zW.callI (r' := 0) (pc' := 15) dJ3_linkLast_12 rfl l_J3_24 rfl (w_nodeInit (l := some p.1) (e := some c) (nx := none) hn) (zcc rfl (zcc rfl (zcc rfl zc0))) rfl (Nat.le_of_ble_eq_true rfl) (Nat.le_of_ble_eq_true rfl) (Nat.le_of_ble_eq_true rfl) (fun _ _ q9 => ?_) (fun _ _ q9 => absurd q9 zO.no)
    obtain ⟨_, q8, e1, e9, k9⟩ := q9
    cases q8
    subst e1
    have hl := zpres e9 (zne hl hn (by decide)) hl
    have hp := zpres e9 nnp hp
    have hf := hf.put e9 hn (by decide) (Or.inr on)
    replace hn := k9
    clear e9 k9
    refine zW.astore_n (pc' := 16) dJ3_linkLast_15 rfl rfl (Nat.le_of_ble_eq_true rfl) rfl (zsS (zsS (zsS (zs0)))) ?_
    refine zW.aload_n (pc' := 17) dJ3_linkLast_16 rfl rfl zg0 rfl ?_
    refine zW.aload_n (pc' := 18) dJ3_linkLast_17 rfl rfl (zgS (zgS (zgS (zg0)))) rfl ?_
    refine zW.putK (pc' := 21) dJ3_linkLast_18 rfl f_J3_27_6 hl ⟨⟨rfl, (Nat.le_of_ble_eq_true rfl)⟩, (Nat.le_of_ble_eq_true rfl)⟩ (zFw.of ft_6_3 rfl rfl) (zsS (zsS (zsS (zs0)))) (fun _ e9 k9 => ?_)
    have hp := zpres e9 (zne hp hl (by decide)) hp
    have hn := zpres e9 (zne hn hl (by decide)) hn
    have hf := hf.put e9 hl (by decide) (Or.inl (Or.inl rfl))
    replace hl := k9
    clear e9 k9
    refine zW.aload_n (pc' := 22) dJ3_linkLast_21 rfl rfl (zgS (zgS (zg0))) zrf_ir ?_
    refine zW.ifnonnull (pc' := 25) 33 dJ3_linkLast_22 rfl (by decide) zrf_ir (fun b1 => ?_) (fun b1 => ?_)
    rotate_left
    · cases b1
    refine zW.aload_n (pc' := 34) dJ3_linkLast_33 rfl rfl (zgS (zgS (zg0))) rfl ?_
    refine zW.aload_n (pc' := 35) dJ3_linkLast_34 rfl rfl (zgS (zgS (zgS (zg0)))) rfl ?_
    refine zW.putK (pc' := 38) dJ3_linkLast_35 rfl f_J3_36_7 hp ⟨⟨rfl, (Nat.le_of_ble_eq_true rfl)⟩, (Nat.le_of_ble_eq_true rfl)⟩ (zFw.of ft_7_1 rfl rfl) (zsS (zs0)) (fun _ e9 k9 => ?_)
    have hl := zpres e9 (zne hl hp (by decide)) hl
    have hn := zpres e9 (Ne.symm nnp) hn
    have hf := hf.put e9 hp (by decide) (Or.inl (Or.inr rfl))
    replace hp := k9
    clear e9 k9
    refine zW.aload_n (pc' := 39) dJ3_linkLast_38 rfl rfl zg0 rfl ?_
    refine zW.dup (pc' := 40) dJ3_linkLast_39 rfl rfl ?_
    refine zW.get (pc' := 43) dJ3_linkLast_40 rfl f_J3_7_6 hl ⟨rfl, (Nat.le_of_ble_eq_true rfl)⟩ rfl ?_
    refine zW.iconst (pc' := 44) (nI 1) dJ3_linkLast_43 rfl (by decide) ?_
    refine zW.iaddN (pc' := 45) dJ3_linkLast_44 rfl ?_
    refine zW.putK (pc' := 48) dJ3_linkLast_45 rfl f_J3_7_6 hl ⟨⟨rfl, (Nat.le_of_ble_eq_true rfl)⟩, (Nat.le_of_ble_eq_true rfl)⟩ (zFw.of ft_6_1 rfl rfl) (zsS (zs0)) (fun _ e9 k9 => ?_)
    have hp := zpres e9 (zne hp hl (by decide)) hp
    have hn := zpres e9 (zne hn hl (by decide)) hn
    have hf := hf.put e9 hl (by decide) (Or.inl (Or.inl rfl))
    replace hl := k9
    clear e9 k9
    refine zW.aload_n (pc' := 49) dJ3_linkLast_48 rfl rfl zg0 rfl ?_
    refine zW.dup (pc' := 50) dJ3_linkLast_49 rfl rfl ?_
    refine zW.get (pc' := 53) dJ3_linkLast_50 rfl f_J3_33_6 hl ⟨rfl, (Nat.le_of_ble_eq_true rfl)⟩ rfl ?_
    refine zW.iconst (pc' := 54) (nI 1) dJ3_linkLast_53 rfl (by decide) ?_
    refine zW.iadd (pc' := 55) dJ3_linkLast_54 rfl ?_
    refine zW.putK (pc' := 58) dJ3_linkLast_55 rfl f_J3_33_6 hl ⟨⟨rfl, (Nat.le_of_ble_eq_true rfl)⟩, (Nat.le_of_ble_eq_true rfl)⟩ (zFw.of ft_6_0 rfl rfl) zs0 (fun _ e9 k9 => ?_)
    have hp := zpres e9 (zne hp hl (by decide)) hp
    have hn := zpres e9 (zne hn hl (by decide)) hn
    have hf := hf.put e9 hl (by decide) (Or.inl (Or.inl rfl))
    replace hl := k9
    clear e9 k9
    refine zW.vret dJ3_linkLast_58 rfl ?_
    have hff : zfr (cLf a xs) h _ := hf.mono (fun b hb => Or.inl (hb.elim (fun q => Or.inl q) fun q => Or.inr (by rw [q]; exact List.mem_map_of_mem (List.mem_of_getElem? hpe))))
    refine ⟨_, rfl, rfl, n, on, cLL.app hL on ?_ ?_ (fun j q e ej => ?_) (fun j q e ej => ?_), hff⟩
    · have e0 : cNd (xs ++ [(n, c)]) 0 = cNd xs 0 := by unfold cNd; rw [List.getElem?_append_left (by omega)]
      rw [e0]
      exact hl
    · rw [elast]
      exact hn
    · have ej2 : j = ys.length := by omega
      subst ej2
      cases hpe.symm.trans e
      exact hp
    · have hne : q.1 ≠ p.1 := hL.ne e hpe (by omega)
      have hqa : q.1 ≠ a := zne (hn1 _ _ e) hL.1 (by decide)
      exact hf.1 _ (fun z => z.elim hqa hne) (by rw [hn1 _ _ e]; exact fun z => by cases z)
theorem w_addLast (hL : cLL h a mc xs) {c : Nat} : zK G mJ3_addLast 3 1 [.ref a, .ref c] h (zO fun v h' => v = none ∧ ∃ n, h n = none ∧ cLL h' a (mc + nI 1) (xs ++ [(n, c)]) ∧ zfr (cLf a xs) h h') := by
  have hl := hL.1
  show zW G mJ3_addLast 3 1 0 [.ref a, .ref c] [] h _
  refine zW.aload_n (pc' := 1) dJ3_addLast_0 rfl rfl zg0 rfl ?_
  refine zW.aload_n (pc' := 2) dJ3_addLast_1 rfl rfl (zgS (zg0)) rfl ?_
  refine zW.callV (r' := 1) (pc' := 5) dJ3_addLast_2 rfl l_J3_57 rfl hl ⟨rfl, (Nat.le_of_ble_eq_true rfl)⟩ rfl (w_linkLast hL) (zcc rfl zc0) rfl (Nat.le_of_ble_eq_true rfl) (Nat.le_of_ble_eq_true rfl) (Nat.le_of_ble_eq_true rfl) (fun _ _ q9 => ?_) (fun _ _ q9 => absurd q9 zO.no)
  obtain ⟨_, q8, e1, e2⟩ := q9
  cases q8
  subst e1
  refine zW.vret dJ3_addLast_5 rfl ?_
  exact ⟨_, rfl, rfl, e2⟩
theorem w_llSize {x y : Value} (hl : h a = some (6, [.int mc, .int (nI xs.length), x, y])) : zK G mJ3_size 1 0 [.ref a] h (zPu h (some (.int (nI xs.length)))) := by
  show zW G mJ3_size 1 0 0 [.ref a] [] h _
  refine zW.aload_n (pc' := 1) dJ3_size_0 rfl rfl zg0 rfl ?_
  refine zW.get (pc' := 4) dJ3_size_1 rfl f_J3_7_6 hl ⟨rfl, (Nat.le_of_ble_eq_true rfl)⟩ rfl ?_
  refine zW.iret dJ3_size_4 rfl (rfl) ?_
  exact ⟨rfl, rfl⟩
theorem w_llEmpty {x y : Value} (hl : h a = some (6, [.int mc, .int (nI xs.length), x, y])) (hx : xs.length < 2 ^ 30) : zK G mJ0_isEmpty 2 0 [.ref a] h (zPu h (some (.int (nI (if xs = [] then 1 else 0))))) := by
  show zW G mJ0_isEmpty 2 0 0 [.ref a] [] h _
  refine zW.aload_n (pc' := 1) dJ0_isEmpty_0 rfl rfl zg0 rfl ?_
  refine zW.callU (r' := 0) (pc' := 4) dJ0_isEmpty_1 rfl l_J0_7_J3 rfl hl ⟨rfl, (Nat.le_of_ble_eq_true rfl)⟩ rfl (w_llSize hl) zc0 rfl (Nat.le_of_ble_eq_true rfl) (Nat.le_of_ble_eq_true rfl) (Nat.le_of_ble_eq_true rfl) (fun _ _ q9 => ?_) (fun _ _ q9 => by cases q9.1)
  obtain ⟨q8, e9⟩ := q9
  cases q8
  replace e9 := e9.symm
  subst e9
  refine zW.if_neN (pc' := 7) 11 dJ0_isEmpty_4 rfl (by decide) (by omega) (fun b1 => ?_) (fun b1 => ?_)
  · refine zW.iconst (pc' := 12) (nI 0) dJ0_isEmpty_11 rfl (by decide) ?_
    refine zW.iret dJ0_isEmpty_12 rfl (rfl) ?_
    rw [if_neg (fun q => b1 (by rw [q]; rfl))]
    exact ⟨rfl, rfl⟩
  · refine zW.iconst (pc' := 8) (nI 1) dJ0_isEmpty_7 rfl (by decide) ?_
    refine zW.goto 12 dJ0_isEmpty_8 (by decide) ?_
    refine zW.iret dJ0_isEmpty_12 rfl (rfl) ?_
    rw [if_pos (List.length_eq_zero_iff.mp b1)]
    exact ⟨rfl, rfl⟩
/-- the iterator at k -/
theorem w_itHas {lr nx : Value} {k n : Nat} {m : Int32} {x y : Value} (hi : h it = some (8, [lr, nx, .int (nI k), .int m, .ref a])) (hl : h a = some (6, [.int mc, .int (nI n), x, y])) (hn : n < 2 ^ 30) (hk : k < 2 ^ 30) : zK G mJ25_hasNext 1 0 [.ref it] h (zPu h (some (.int (nI (if k < n then 1 else 0))))) := by
  show zW G mJ25_hasNext 1 0 0 [.ref it] [] h _
  refine zW.aload_n (pc' := 1) dJ25_hasNext_0 rfl rfl zg0 rfl ?_
  refine zW.get (pc' := 4) dJ25_hasNext_1 rfl f_J25_33_8 hi ⟨rfl, (Nat.le_of_ble_eq_true rfl)⟩ rfl ?_
  refine zW.aload_n (pc' := 5) dJ25_hasNext_4 rfl rfl zg0 rfl ?_
  refine zW.get (pc' := 8) dJ25_hasNext_5 rfl f_J25_1_8 hi ⟨rfl, (Nat.le_of_ble_eq_true rfl)⟩ rfl ?_
  refine zW.get (pc' := 11) dJ25_hasNext_8 rfl f_J25_22_6 hl ⟨rfl, (Nat.le_of_ble_eq_true rfl)⟩ rfl ?_
  refine zW.icmp_geN (pc' := 14) 18 dJ25_hasNext_11 rfl (by decide) (by omega) (by omega) (fun b1 => ?_) (fun b1 => ?_)
  · refine zW.iconst (pc' := 19) (nI 0) dJ25_hasNext_18 rfl (by decide) ?_
    refine zW.iret dJ25_hasNext_19 rfl (rfl) ?_
    rw [if_neg (by omega)]
    exact ⟨rfl, rfl⟩
  · refine zW.iconst (pc' := 15) (nI 1) dJ25_hasNext_14 rfl (by decide) ?_
    refine zW.goto 19 dJ25_hasNext_15 (by decide) ?_
    refine zW.iret dJ25_hasNext_19 rfl (rfl) ?_
    rw [if_pos (by omega)]
    exact ⟨rfl, rfl⟩
theorem w_itMod {lr nx : Value} {k n : Nat} {x y : Value} (hi : h it = some (8, [lr, nx, .int (nI k), .int mc, .ref a])) (hl : h a = some (6, [.int mc, .int (nI n), x, y])) : zK G mJ25_checkForComodification 1 0 [.ref it] h (zPu h none) := by
  show zW G mJ25_checkForComodification 1 0 0 [.ref it] [] h _
  refine zW.aload_n (pc' := 1) dJ25_checkForComodification_0 rfl rfl zg0 rfl ?_
  refine zW.get (pc' := 4) dJ25_checkForComodification_1 rfl f_J25_1_8 hi ⟨rfl, (Nat.le_of_ble_eq_true rfl)⟩ rfl ?_
  refine zW.get (pc' := 7) dJ25_checkForComodification_4 rfl f_J25_13_6 hl ⟨rfl, (Nat.le_of_ble_eq_true rfl)⟩ rfl ?_
  refine zW.aload_n (pc' := 8) dJ25_checkForComodification_7 rfl rfl zg0 rfl ?_
  refine zW.get (pc' := 11) dJ25_checkForComodification_8 rfl f_J25_19_8 hi ⟨rfl, (Nat.le_of_ble_eq_true rfl)⟩ rfl ?_
  refine zW.icmp_eq (pc' := 14) 22 dJ25_checkForComodification_11 rfl (by decide) (fun b1 => ?_) (fun b1 => ?_)
  rotate_left
  · exact absurd rfl b1
  refine zW.vret dJ25_checkForComodification_22 rfl ?_
  exact ⟨rfl, rfl⟩
theorem w_itNext (hL : cLL h a mc xs) {lr : Value} {k : Nat} {p : Nat × Nat} (hi : h it = some (8, [lr, zrf (cNd xs k), .int (nI k), .int mc, .ref a])) (hk : xs[k]? = some p) (hx : xs.length < 2 ^ 30) : zK G mJ25_next 2 0 [.ref it] h (zPk h (some (.ref p.2)) it (8, [.ref p.1, zrf (cNd xs (k + 1)), .int (nI (k + 1)), .int mc, .ref a])) := by
  have hl := hL.1
  have hp := hL.2.1 _ _ hk
  have hkl := (List.getElem?_eq_some_iff.mp hk).1
  rw [cNd_at hk] at hi
  show zW G mJ25_next 2 0 0 [.ref it] [] h _
  refine zW.aload_n (pc' := 1) dJ25_next_0 rfl rfl zg0 rfl ?_
  refine zW.callV (r' := 0) (pc' := 4) dJ25_next_1 rfl l_J25_36 rfl hi ⟨rfl, (Nat.le_of_ble_eq_true rfl)⟩ rfl (w_itMod hi hl) zc0 rfl (Nat.le_of_ble_eq_true rfl) (Nat.le_of_ble_eq_true rfl) (Nat.le_of_ble_eq_true rfl) (fun _ _ q9 => ?_) (fun _ _ q9 => by cases q9.1)
  obtain ⟨q8, e9⟩ := q9
  cases q8
  replace e9 := e9.symm
  subst e9
  refine zW.aload_n (pc' := 5) dJ25_next_4 rfl rfl zg0 rfl ?_
  refine zW.callV (r' := 0) (pc' := 8) dJ25_next_5 rfl l_J25_39 rfl hi ⟨rfl, (Nat.le_of_ble_eq_true rfl)⟩ rfl (w_itHas hi hl hx (by omega)) zc0 rfl (Nat.le_of_ble_eq_true rfl) (Nat.le_of_ble_eq_true rfl) (Nat.le_of_ble_eq_true rfl) (fun _ _ q9 => ?_) (fun _ _ q9 => by cases q9.1)
  obtain ⟨q8, e9⟩ := q9
  cases q8
  replace e9 := e9.symm
  subst e9
  rw [if_pos hkl]
  refine zW.if_neN (pc' := 11) 19 dJ25_next_8 rfl (by decide) (by omega) (fun b9 => ?_) (fun b9 => absurd b9 (by omega))
  refine zW.aload_n (pc' := 20) dJ25_next_19 rfl rfl zg0 rfl ?_
  refine zW.aload_n (pc' := 21) dJ25_next_20 rfl rfl zg0 rfl ?_
  refine zW.get (pc' := 24) dJ25_next_21 rfl f_J25_29_8 hi ⟨rfl, (Nat.le_of_ble_eq_true rfl)⟩ rfl ?_
  refine zW.putK (pc' := 27) dJ25_next_24 rfl f_J25_46_8 hi ⟨⟨rfl, (Nat.le_of_ble_eq_true rfl)⟩, (Nat.le_of_ble_eq_true rfl)⟩ (zFw.of ft_8_0 (zrf_nar (o := some p.1)) (zrf_fit (o := some p.1))) zs0 (fun _ e9 k9 => ?_)
  have hl := zpres e9 (zne hl hi (by decide)) hl
  have hp := zpres e9 (zne hp hi (by decide)) hp
  have hq := e9
  replace hi := k9
  clear e9 k9
  refine zW.aload_n (pc' := 28) dJ25_next_27 rfl rfl zg0 rfl ?_
  refine zW.aload_n (pc' := 29) dJ25_next_28 rfl rfl zg0 rfl ?_
  refine zW.get (pc' := 32) dJ25_next_29 rfl f_J25_29_8 hi ⟨rfl, (Nat.le_of_ble_eq_true rfl)⟩ rfl ?_
  refine zW.get (pc' := 35) dJ25_next_32 rfl f_J25_49_7 hp ⟨rfl, (Nat.le_of_ble_eq_true rfl)⟩ rfl ?_
  refine zW.putK (pc' := 38) dJ25_next_35 rfl f_J25_29_8 hi ⟨⟨rfl, (Nat.le_of_ble_eq_true rfl)⟩, (Nat.le_of_ble_eq_true rfl)⟩ (zFw.of ft_8_1 zrf_nar zrf_fit) (zsS (zs0)) (fun _ e9 k9 => ?_)
  have hl := zpres e9 (zne hl hi (by decide)) hl
  have hp := zpres e9 (zne hp hi (by decide)) hp
  have hq := ztrk hq e9
  replace hi := k9
  clear e9 k9
  refine zW.aload_n (pc' := 39) dJ25_next_38 rfl rfl zg0 rfl ?_
  refine zW.dup (pc' := 40) dJ25_next_39 rfl rfl ?_
  refine zW.get (pc' := 43) dJ25_next_40 rfl f_J25_33_8 hi ⟨rfl, (Nat.le_of_ble_eq_true rfl)⟩ rfl ?_
  refine zW.iconst (pc' := 44) (nI 1) dJ25_next_43 rfl (by decide) ?_
  refine zW.iaddN (pc' := 45) dJ25_next_44 rfl ?_
  refine zW.putK (pc' := 48) dJ25_next_45 rfl f_J25_33_8 hi ⟨⟨rfl, (Nat.le_of_ble_eq_true rfl)⟩, (Nat.le_of_ble_eq_true rfl)⟩ (zFw.of ft_8_2 rfl rfl) (zsS (zsS (zs0))) (fun _ e9 k9 => ?_)
  have hl := zpres e9 (zne hl hi (by decide)) hl
  have hp := zpres e9 (zne hp hi (by decide)) hp
  have hq := ztrk hq e9
  replace hi := k9
  clear e9 k9
  refine zW.aload_n (pc' := 49) dJ25_next_48 rfl rfl zg0 rfl ?_
  refine zW.get (pc' := 52) dJ25_next_49 rfl f_J25_46_8 hi ⟨rfl, (Nat.le_of_ble_eq_true rfl)⟩ rfl ?_
  refine zW.get (pc' := 55) dJ25_next_52 rfl f_J25_52_7 hp ⟨rfl, (Nat.le_of_ble_eq_true rfl)⟩ rfl ?_
  refine zW.aret dJ25_next_55 rfl (Or.inl ⟨_, rfl⟩) rfl ?_
  exact ⟨_, rfl, rfl, hq, hi⟩
end
