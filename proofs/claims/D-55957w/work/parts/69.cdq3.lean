/-! ArrayDeque: an item is taken out of the middle -/
section
set_option maxRecDepth 100000
variable {G : zG} {h h' h0 : zH} {a ar hd it : Nat} {its : List Nat}
/-- items, that are Integers, stand behind changes of the deque -/
theorem dq_kn {f : Nat → Option Nat} {x : List Value} (ha : h a = some (9, x)) (har : h ar = some (104, qtab f)) (hf : ∀ i x, its[i]? = some x → f ((hd + i) % 17) = some x) (hO : ∀ x ∈ its, ∃ k v, cInt h x k v) {h1 : zH} (z : zfr (cDf a ar) h h1) (p : Nat) (hp : ∃ i, i < its.length ∧ p = (hd + i) % 17) : ∃ x c, f p = some x ∧ h1 x = some c ∧ zObj c := by
  obtain ⟨i, hi, hp⟩ := hp
  obtain ⟨k, v, hc⟩ := hO _ (List.getElem_mem hi)
  have hk : k ≠ 9 ∧ k ≠ 104 := by rcases hc.2 with q | q <;> subst q <;> decide
  refine ⟨_, _, ?_, z.at hc.1 (fun q => q.elim (fun q => ?_) fun q => ?_), hc.ob⟩
  · rw [hp]; exact hf i _ (List.getElem?_eq_getElem hi)
  · exact zne hc.1 ha hk.1 q
  · exact zne hc.1 har hk.2 q
set_option maxHeartbeats 8000000 in
theorem w_dqDelete (hQ : cDQ h a ar hd its) (hO : ∀ x ∈ its, ∃ k v, cInt h x k v) {j : Nat} (hj : j < its.length) : zK G mJ4_delete 2 0 [.ref a, .int (nI ((hd + j) % 17))] h (zO fun v h' => ∃ b hd', v = some (.int (nI b)) ∧ ((b = 0 ∧ hd' = (hd + 1) % 17) ∨ (b = 1 ∧ hd' = hd)) ∧ cDQ h' a ar hd' (its.eraseIdx j) ∧ zfr (cDf a ar) h h') := by
  obtain ⟨⟨h1, h2⟩, ha, f, har, hf⟩ := hQ
  have kn := fun {h1 : zH} (z : zfr (cDf a ar) h h1) => dq_kn ha har hf hO z
  have z := zfr.rf (A := cDf a ar) (h := h)
  have hlen : (its.eraseIdx j).length = its.length - 1 := by rw [List.length_eraseIdx, if_pos hj]
  have hi17 : (hd + j) % 17 < 17 := Nat.mod_lt _ (by decide)
  have ht17 : (hd + its.length) % 17 < 17 := Nat.mod_lt _ (by decide)
  have e6 : ((hd + j) % 17 + 17 - hd) % 17 = j := by omega
  have e7 : ((hd + its.length) % 17 + 17 - (hd + j) % 17) % 17 = its.length - j := by omega
  have hm : (hd + (its.length - 1)) % 17 < 17 := Nat.mod_lt _ (by decide)
  have back : ∀ (h1 : zH) (f1 : Nat → Option Nat), h1 a = some (9, [.ref ar, .int (nI hd), .int (nI ((hd + (its.length - 1)) % 17))]) → h1 ar = some (104, qtab f1) → zfr (cDf a ar) h h1 → (∀ t, t + 1 < its.length → f1 ((hd + t) % 17) = f ((hd + (if t < j then t else t + 1)) % 17)) → zW G mJ4_delete 2 0 182 [.ref a, .int (nI ((hd + j) % 17)), .ref ar, .int (nI 17), .int (nI hd), .int (nI ((hd + its.length) % 17)), .int (nI j), .int (nI (its.length - j - 1))] [] h1 (zO fun v h' => ∃ b hd', v = some (.int (nI b)) ∧ ((b = 0 ∧ hd' = (hd + 1) % 17) ∨ (b = 1 ∧ hd' = hd)) ∧ cDQ h' a ar hd' (its.eraseIdx j) ∧ zfr (cDf a ar) h h') := by
    intro h1 f1 ha har z hh
    refine zW.aload_n (pc' := 183) dJ4_delete_182 rfl rfl (zgS (zgS (zg0))) rfl ?_
    refine zW.aload_n (pc' := 184) dJ4_delete_183 rfl rfl zg0 rfl ?_
    refine zW.get (pc' := 187) dJ4_delete_184 rfl f_J4_20_9 ha ⟨rfl, (Nat.le_of_ble_eq_true rfl)⟩ rfl ?_
    refine zW.null (pc' := 188) dJ4_delete_187 rfl ?_
    refine zW.aastNK (pc' := 189) dJ4_delete_188 rfl har (by omega) (fun _ e9 k9 => ?_)
    have ha := zpres e9 (zne ha har (by decide)) ha
    have z := z.put e9 har (by decide) (Or.inl (Or.inr rfl))
    replace har := k9
    clear e9 k9
    refine zW.iconst (pc' := 190) (nI 1) dJ4_delete_189 rfl (by decide) ?_
    refine zW.iret dJ4_delete_190 rfl (rfl) ?_
    refine ⟨_, rfl, 1, hd, rfl, Or.inr ⟨rfl, rfl⟩, ⟨⟨by omega, by omega⟩, by rw [hlen]; exact ha, _, har, dq_fin hf (fun t ht => ?_) hj⟩, z⟩
    rw [zuo_n (by omega)]
    exact hh t ht
  have front : ∀ (h1 : zH) (f1 : Nat → Option Nat), h1 a = some (9, [.ref ar, .int (nI hd), .int (nI ((hd + its.length) % 17))]) → h1 ar = some (104, qtab f1) → zfr (cDf a ar) h h1 → (∀ t, t + 1 < its.length → f1 (((hd + 1) % 17 + t) % 17) = f ((hd + (if t < j then t else t + 1)) % 17)) → zW G mJ4_delete 2 0 100 [.ref a, .int (nI ((hd + j) % 17)), .ref ar, .int (nI 17), .int (nI hd), .int (nI ((hd + its.length) % 17)), .int (nI j), .int (nI (its.length - j - 1))] [] h1 (zO fun v h' => ∃ b hd', v = some (.int (nI b)) ∧ ((b = 0 ∧ hd' = (hd + 1) % 17) ∨ (b = 1 ∧ hd' = hd)) ∧ cDQ h' a ar hd' (its.eraseIdx j) ∧ zfr (cDf a ar) h h') := by
    intro h1 f1 ha har z hh
    refine zW.aload_n (pc' := 101) dJ4_delete_100 rfl rfl (zgS (zgS (zg0))) rfl ?_
    refine zW.iload (pc' := 103) dJ4_delete_101 rfl (zgS (zgS (zgS (zgS (zg0))))) ?_
    refine zW.null (pc' := 104) dJ4_delete_103 rfl ?_
    refine zW.aastNK (pc' := 105) dJ4_delete_104 rfl har (by omega) (fun _ e9 k9 => ?_)
    have ha := zpres e9 (zne ha har (by decide)) ha
    have z := z.put e9 har (by decide) (Or.inl (Or.inr rfl))
    replace har := k9
    clear e9 k9
    refine zW.aload_n (pc' := 106) dJ4_delete_105 rfl rfl zg0 rfl ?_
    refine zW.iload (pc' := 108) dJ4_delete_106 rfl (zgS (zgS (zgS (zgS (zg0))))) ?_
    refine zW.iload_n (pc' := 109) dJ4_delete_108 rfl rfl (zgS (zgS (zgS (zg0)))) ?_
    refine zW.callS (r' := 0) (pc' := 112) dJ4_delete_109 rfl l_J4_74 rfl (w_dqInc (by omega)) (zcc rfl (zcc rfl zc0)) rfl (Nat.le_of_ble_eq_true rfl) (Nat.le_of_ble_eq_true rfl) (Nat.le_of_ble_eq_true rfl) (fun _ _ q9 => ?_) (fun _ _ q9 => by cases q9.1)
    obtain ⟨q8, e9⟩ := q9
    cases q8
    replace e9 := e9.symm
    subst e9
    refine zW.putK (pc' := 115) dJ4_delete_112 rfl f_J4_24_9 ha ⟨⟨rfl, (Nat.le_of_ble_eq_true rfl)⟩, (Nat.le_of_ble_eq_true rfl)⟩ (zFw.of ft_9_1 rfl rfl) (zsS (zs0)) (fun _ e9 k9 => ?_)
    have har := zpres e9 (zne har ha (by decide)) har
    have z := z.put e9 ha (by decide) (Or.inl (Or.inl rfl))
    replace ha := k9
    clear e9 k9
    refine zW.iconst (pc' := 116) (nI 0) dJ4_delete_115 rfl (by decide) ?_
    refine zW.iret dJ4_delete_116 rfl (rfl) ?_
    refine ⟨_, rfl, 0, (hd + 1) % 17, rfl, Or.inl ⟨rfl, rfl⟩, ⟨⟨Nat.mod_lt _ (by decide), by omega⟩, ?_, _, har, dq_fin hf (fun t ht => ?_) hj⟩, z⟩
    · rw [hlen, show ((hd + 1) % 17 + (its.length - 1)) % 17 = (hd + its.length) % 17 by omega]
      exact ha
    · rw [zuo_n (by omega)]
      exact hh t ht
  show zW G mJ4_delete 2 0 0 [.ref a, .int (nI ((hd + j) % 17)), zho, zho, zho, zho, zho, zho] [] h _
  refine zW.aload_n (pc' := 1) dJ4_delete_0 rfl rfl zg0 rfl ?_
  refine zW.get (pc' := 4) dJ4_delete_1 rfl f_J4_3_9 ha ⟨rfl, (Nat.le_of_ble_eq_true rfl)⟩ rfl ?_
  refine zW.astore_n (pc' := 5) dJ4_delete_4 rfl rfl (Nat.le_of_ble_eq_true rfl) rfl (zsS (zsS (zs0))) ?_
  refine zW.aload_n (pc' := 6) dJ4_delete_5 rfl rfl (zgS (zgS (zg0))) rfl ?_
  refine zW.alen (pc' := 7) dJ4_delete_6 rfl har (by decide) qtab_n ?_
  refine zW.istore_n (pc' := 8) dJ4_delete_7 rfl rfl (Nat.le_of_ble_eq_true rfl) (zsS (zsS (zsS (zs0)))) ?_
  refine zW.iload_n (pc' := 9) dJ4_delete_8 rfl rfl (zgS (zg0)) ?_
  refine zW.aload_n (pc' := 10) dJ4_delete_9 rfl rfl zg0 rfl ?_
  refine zW.get (pc' := 13) dJ4_delete_10 rfl f_J4_24_9 ha ⟨rfl, (Nat.le_of_ble_eq_true rfl)⟩ rfl ?_
  refine zW.dup (pc' := 14) dJ4_delete_13 rfl rfl ?_
  refine zW.istore (pc' := 16) dJ4_delete_14 rfl (Nat.le_of_ble_eq_true rfl) (zsS (zsS (zsS (zsS (zs0))))) ?_
  refine zW.iload_n (pc' := 17) dJ4_delete_16 rfl rfl (zgS (zgS (zgS (zg0)))) ?_
  refine zW.callS (r' := 0) (pc' := 20) dJ4_delete_17 rfl l_J4_127 rfl (w_dqSub hi17 h1) (zcc rfl (zcc rfl (zcc rfl zc0))) rfl (Nat.le_of_ble_eq_true rfl) (Nat.le_of_ble_eq_true rfl) (Nat.le_of_ble_eq_true rfl) (fun _ _ q9 => ?_) (fun _ _ q9 => by cases q9.1)
  obtain ⟨q8, e9⟩ := q9
  cases q8
  replace e9 := e9.symm
  subst e9
  rw [e6]
  refine zW.istore (pc' := 22) dJ4_delete_20 rfl (Nat.le_of_ble_eq_true rfl) (zsS (zsS (zsS (zsS (zsS (zsS (zs0))))))) ?_
  refine zW.aload_n (pc' := 23) dJ4_delete_22 rfl rfl zg0 rfl ?_
  refine zW.get (pc' := 26) dJ4_delete_23 rfl f_J4_20_9 ha ⟨rfl, (Nat.le_of_ble_eq_true rfl)⟩ rfl ?_
  refine zW.dup (pc' := 27) dJ4_delete_26 rfl rfl ?_
  refine zW.istore (pc' := 29) dJ4_delete_27 rfl (Nat.le_of_ble_eq_true rfl) (zsS (zsS (zsS (zsS (zsS (zs0)))))) ?_
  refine zW.iload_n (pc' := 30) dJ4_delete_29 rfl rfl (zgS (zg0)) ?_
  refine zW.iload_n (pc' := 31) dJ4_delete_30 rfl rfl (zgS (zgS (zgS (zg0)))) ?_
  refine zW.callS (r' := 0) (pc' := 34) dJ4_delete_31 rfl l_J4_127 rfl (w_dqSub ht17 hi17) (zcc rfl (zcc rfl (zcc rfl zc0))) rfl (Nat.le_of_ble_eq_true rfl) (Nat.le_of_ble_eq_true rfl) (Nat.le_of_ble_eq_true rfl) (fun _ _ q9 => ?_) (fun _ _ q9 => by cases q9.1)
  obtain ⟨q8, e9⟩ := q9
  cases q8
  replace e9 := e9.symm
  subst e9
  rw [e7]
  refine zW.iconst (pc' := 35) (nI 1) dJ4_delete_34 rfl (by decide) ?_
  refine zW.isubN (pc' := 36) dJ4_delete_35 rfl (by omega) ?_
  refine zW.istore (pc' := 38) dJ4_delete_36 rfl (Nat.le_of_ble_eq_true rfl) (zsS (zsS (zsS (zsS (zsS (zsS (zsS (zs0)))))))) ?_
  refine zW.iload (pc' := 40) dJ4_delete_38 rfl (zgS (zgS (zgS (zgS (zgS (zgS (zg0))))))) ?_
  refine zW.iload (pc' := 42) dJ4_delete_40 rfl (zgS (zgS (zgS (zgS (zgS (zgS (zgS (zg0)))))))) ?_
  refine zW.icmp_geN (pc' := 45) 117 dJ4_delete_42 rfl (by decide) (by omega) (by omega) (fun b1 => ?_) (fun b1 => ?_)
  · refine zW.aload_n (pc' := 118) dJ4_delete_117 rfl rfl zg0 rfl ?_
    refine zW.iload (pc' := 120) dJ4_delete_118 rfl (zgS (zgS (zgS (zgS (zgS (zg0)))))) ?_
    refine zW.iload_n (pc' := 121) dJ4_delete_120 rfl rfl (zgS (zgS (zgS (zg0)))) ?_
    refine zW.callS (r' := 0) (pc' := 124) dJ4_delete_121 rfl l_J4_68 rfl (w_dqDec ht17) (zcc rfl (zcc rfl zc0)) rfl (Nat.le_of_ble_eq_true rfl) (Nat.le_of_ble_eq_true rfl) (Nat.le_of_ble_eq_true rfl) (fun _ _ q9 => ?_) (fun _ _ q9 => by cases q9.1)
    obtain ⟨q8, e9⟩ := q9
    cases q8
    replace e9 := e9.symm
    subst e9
    rw [show ((hd + its.length) % 17 + 16) % 17 = (hd + (its.length - 1)) % 17 by omega]
    refine zW.putK (pc' := 127) dJ4_delete_124 rfl f_J4_20_9 ha ⟨⟨rfl, (Nat.le_of_ble_eq_true rfl)⟩, (Nat.le_of_ble_eq_true rfl)⟩ (zFw.of ft_9_2 rfl rfl) (zsS (zsS (zs0))) (fun _ e9 k9 => ?_)
    have har := zpres e9 (zne har ha (by decide)) har
    have z := z.put e9 ha (by decide) (Or.inl (Or.inl rfl))
    replace ha := k9
    clear e9 k9
    refine zW.iload_n (pc' := 128) dJ4_delete_127 rfl rfl (zgS (zg0)) ?_
    refine zW.aload_n (pc' := 129) dJ4_delete_128 rfl rfl zg0 rfl ?_
    refine zW.get (pc' := 132) dJ4_delete_129 rfl f_J4_20_9 ha ⟨rfl, (Nat.le_of_ble_eq_true rfl)⟩ rfl ?_
    refine zW.icmp_gtN (pc' := 135) 149 dJ4_delete_132 rfl (by decide) (by omega) (by omega) (fun b2 => ?_) (fun b2 => ?_)
    · obtain ⟨x, cx, hx0, hxc, hxo⟩ := kn z 0 ⟨17 - hd, by omega, by omega⟩
      refine zW.aload_n (pc' := 150) dJ4_delete_149 rfl rfl (zgS (zgS (zg0))) rfl ?_
      refine zW.iload_n (pc' := 151) dJ4_delete_150 rfl rfl (zgS (zg0)) ?_
      refine zW.iconst (pc' := 152) (nI 1) dJ4_delete_151 rfl (by decide) ?_
      refine zW.iaddN (pc' := 153) dJ4_delete_152 rfl ?_
      refine zW.aload_n (pc' := 154) dJ4_delete_153 rfl rfl (zgS (zgS (zg0))) rfl ?_
      refine zW.iload_n (pc' := 155) dJ4_delete_154 rfl rfl (zgS (zg0)) ?_
      refine zW.iload_n (pc' := 156) dJ4_delete_155 rfl rfl (zgS (zgS (zgS (zg0)))) ?_
      refine zW.iload_n (pc' := 157) dJ4_delete_156 rfl rfl (zgS (zg0)) ?_
      refine zW.iconst (pc' := 158) (nI 1) dJ4_delete_157 rfl (by decide) ?_
      refine zW.iaddN (pc' := 159) dJ4_delete_158 rfl ?_
      refine zW.isubN (pc' := 160) dJ4_delete_159 rfl (by omega) ?_
      refine zW.acopyQ (pc' := 163) dJ4_delete_160 rfl (lw_all_tbl q1203) har (by omega) (by omega) (fun t ht => kn z _ ⟨j + 1 + t, by omega, by omega⟩) (Nat.le_of_ble_eq_true rfl) (Nat.le_of_ble_eq_true rfl) (fun _ e9 k9 => ?_)
      have ha := zpres e9 (zne ha har (by decide)) ha
      have z := z.put e9 har (by decide) (Or.inl (Or.inr rfl))
      replace har := k9
      clear e9 k9
      have ex0 : qcp f ((hd + j) % 17 + 1) ((hd + j) % 17) (17 - ((hd + j) % 17 + 1)) 0 = some x := by
        unfold qcp
        rw [if_neg (by omega)]
        exact hx0
      refine zW.aload_n (pc' := 164) dJ4_delete_163 rfl rfl (zgS (zgS (zg0))) rfl ?_
      refine zW.iload_n (pc' := 165) dJ4_delete_164 rfl rfl (zgS (zgS (zgS (zg0)))) ?_
      refine zW.iconst (pc' := 166) (nI 1) dJ4_delete_165 rfl (by decide) ?_
      refine zW.isubN (pc' := 167) dJ4_delete_166 rfl (by omega) ?_
      refine zW.aload_n (pc' := 168) dJ4_delete_167 rfl rfl (zgS (zgS (zg0))) rfl ?_
      refine zW.iconst (pc' := 169) (nI 0) dJ4_delete_168 rfl (by decide) ?_
      refine zW.aaldQ (pc' := 170) dJ4_delete_169 rfl har (⟨by decide, by decide⟩) ?_
      rw [ex0]
      obtain ⟨x', cx', hx0', hxc', hxo'⟩ := kn z 0 ⟨17 - hd, by omega, by omega⟩
      cases hx0.symm.trans hx0'
      refine zW.aastQK (pc' := 171) dJ4_delete_170 rfl har (by omega) hxc' hxo' (fun _ e9 k9 => ?_)
      have ha := zpres e9 (zne ha har (by decide)) ha
      have z := z.put e9 har (by decide) (Or.inl (Or.inr rfl))
      replace har := k9
      clear e9 k9
      refine zW.aload_n (pc' := 172) dJ4_delete_171 rfl rfl (zgS (zgS (zg0))) rfl ?_
      refine zW.iconst (pc' := 173) (nI 1) dJ4_delete_172 rfl (by decide) ?_
      refine zW.aload_n (pc' := 174) dJ4_delete_173 rfl rfl (zgS (zgS (zg0))) rfl ?_
      refine zW.iconst (pc' := 175) (nI 0) dJ4_delete_174 rfl (by decide) ?_
      refine zW.iload (pc' := 177) dJ4_delete_175 rfl (zgS (zgS (zgS (zgS (zgS (zg0)))))) ?_
      refine zW.iconst (pc' := 178) (nI 1) dJ4_delete_177 rfl (by decide) ?_
      refine zW.isubN (pc' := 179) dJ4_delete_178 rfl (by omega) ?_
      have ac : ∀ {hx : zH}, zfr (cDf a ar) h hx → ∀ t, t < (hd + its.length) % 17 - 1 → ∃ y c, zuo (qcp f ((hd + j) % 17 + 1) ((hd + j) % 17) (17 - ((hd + j) % 17 + 1))) (17 - 1) (some x) (1 + t) = some y ∧ hx y = some c ∧ zObj c := fun z t ht => by
        obtain ⟨y, cy, e1, e2, e3⟩ := kn z (1 + t) ⟨17 - hd + 1 + t, by omega, by omega⟩
        refine ⟨y, cy, ?_, e2, e3⟩
        simp only [zuo, qcp]
        rw [if_neg (by omega), if_neg (by omega)]
        exact e1
      refine zW.acopyQ (pc' := 182) dJ4_delete_179 rfl (lw_all_tbl q1203) har (by omega) (by omega) (ac z) (Nat.le_of_ble_eq_true rfl) (Nat.le_of_ble_eq_true rfl) (fun _ e9 k9 => ?_)
      have ha := zpres e9 (zne ha har (by decide)) ha
      have z := z.put e9 har (by decide) (Or.inl (Or.inr rfl))
      replace har := k9
      clear e9 k9
      refine back _ _ ha har z fun t ht => ?_
      simp only [qcp, zuo]
      by_cases q : t < j
      · rw [if_pos q]
        repeat' split
        all_goals first | rfl | (exfalso; omega) | (congr 1; omega) | (rw [← hx0]; congr 1; omega)
      · rw [if_neg q]
        repeat' split
        all_goals first | rfl | (exfalso; omega) | (congr 1; omega) | (rw [← hx0]; congr 1; omega)
    · refine zW.aload_n (pc' := 136) dJ4_delete_135 rfl rfl (zgS (zgS (zg0))) rfl ?_
      refine zW.iload_n (pc' := 137) dJ4_delete_136 rfl rfl (zgS (zg0)) ?_
      refine zW.iconst (pc' := 138) (nI 1) dJ4_delete_137 rfl (by decide) ?_
      refine zW.iaddN (pc' := 139) dJ4_delete_138 rfl ?_
      refine zW.aload_n (pc' := 140) dJ4_delete_139 rfl rfl (zgS (zgS (zg0))) rfl ?_
      refine zW.iload_n (pc' := 141) dJ4_delete_140 rfl rfl (zgS (zg0)) ?_
      refine zW.iload (pc' := 143) dJ4_delete_141 rfl (zgS (zgS (zgS (zgS (zgS (zgS (zgS (zg0)))))))) ?_
      refine zW.acopyQ (pc' := 146) dJ4_delete_143 rfl (lw_all_tbl q1203) har (by omega) (by omega) (fun t ht => kn z _ ⟨j + 1 + t, by omega, by omega⟩) (Nat.le_of_ble_eq_true rfl) (Nat.le_of_ble_eq_true rfl) (fun _ e9 k9 => ?_)
      have ha := zpres e9 (zne ha har (by decide)) ha
      have z := z.put e9 har (by decide) (Or.inl (Or.inr rfl))
      replace har := k9
      clear e9 k9
      refine zW.goto 182 dJ4_delete_146 (by decide) ?_
      refine back _ _ ha har z fun t ht => ?_
      simp only [qcp]
      by_cases q : t < j
      · rw [if_pos q]
        repeat' split
        all_goals first | rfl | (exfalso; omega) | (congr 1; omega)
      · rw [if_neg q]
        repeat' split
        all_goals first | rfl | (exfalso; omega) | (congr 1; omega)
  · refine zW.iload (pc' := 47) dJ4_delete_45 rfl (zgS (zgS (zgS (zgS (zg0))))) ?_
    refine zW.iload_n (pc' := 48) dJ4_delete_47 rfl rfl (zgS (zg0)) ?_
    refine zW.icmp_gtN (pc' := 51) 67 dJ4_delete_48 rfl (by decide) (by omega) (by omega) (fun b2 => ?_) (fun b2 => ?_)
    · obtain ⟨x, cx, hx0, hxc, hxo⟩ := kn z 16 ⟨16 - hd, by omega, by omega⟩
      refine zW.aload_n (pc' := 68) dJ4_delete_67 rfl rfl (zgS (zgS (zg0))) rfl ?_
      refine zW.iconst (pc' := 69) (nI 0) dJ4_delete_68 rfl (by decide) ?_
      refine zW.aload_n (pc' := 70) dJ4_delete_69 rfl rfl (zgS (zgS (zg0))) rfl ?_
      refine zW.iconst (pc' := 71) (nI 1) dJ4_delete_70 rfl (by decide) ?_
      refine zW.iload_n (pc' := 72) dJ4_delete_71 rfl rfl (zgS (zg0)) ?_
      refine zW.acopyQ (pc' := 75) dJ4_delete_72 rfl (lw_all_tbl q1203) har (by omega) (by omega) (fun t ht => kn z _ ⟨17 - hd + t, by omega, by omega⟩) (Nat.le_of_ble_eq_true rfl) (Nat.le_of_ble_eq_true rfl) (fun _ e9 k9 => ?_)
      have ha := zpres e9 (zne ha har (by decide)) ha
      have z := z.put e9 har (by decide) (Or.inl (Or.inr rfl))
      replace har := k9
      clear e9 k9
      have ex0 : qcp f 0 1 ((hd + j) % 17) 16 = some x := by
        unfold qcp
        rw [if_neg (by omega)]
        exact hx0
      refine zW.aload_n (pc' := 76) dJ4_delete_75 rfl rfl (zgS (zgS (zg0))) rfl ?_
      refine zW.iconst (pc' := 77) (nI 0) dJ4_delete_76 rfl (by decide) ?_
      refine zW.aload_n (pc' := 78) dJ4_delete_77 rfl rfl (zgS (zgS (zg0))) rfl ?_
      refine zW.iload_n (pc' := 79) dJ4_delete_78 rfl rfl (zgS (zgS (zgS (zg0)))) ?_
      refine zW.iconst (pc' := 80) (nI 1) dJ4_delete_79 rfl (by decide) ?_
      refine zW.isubN (pc' := 81) dJ4_delete_80 rfl (by omega) ?_
      refine zW.aaldQ (pc' := 82) dJ4_delete_81 rfl har (⟨by decide, by decide⟩) ?_
      rw [ex0]
      obtain ⟨x', cx', hx0', hxc', hxo'⟩ := kn z 16 ⟨16 - hd, by omega, by omega⟩
      cases hx0.symm.trans hx0'
      refine zW.aastQK (pc' := 83) dJ4_delete_82 rfl har (by omega) hxc' hxo' (fun _ e9 k9 => ?_)
      have ha := zpres e9 (zne ha har (by decide)) ha
      have z := z.put e9 har (by decide) (Or.inl (Or.inr rfl))
      replace har := k9
      clear e9 k9
      refine zW.aload_n (pc' := 84) dJ4_delete_83 rfl rfl (zgS (zgS (zg0))) rfl ?_
      refine zW.iload (pc' := 86) dJ4_delete_84 rfl (zgS (zgS (zgS (zgS (zg0))))) ?_
      refine zW.aload_n (pc' := 87) dJ4_delete_86 rfl rfl (zgS (zgS (zg0))) rfl ?_
      refine zW.iload (pc' := 89) dJ4_delete_87 rfl (zgS (zgS (zgS (zgS (zg0))))) ?_
      refine zW.iconst (pc' := 90) (nI 1) dJ4_delete_89 rfl (by decide) ?_
      refine zW.iaddN (pc' := 91) dJ4_delete_90 rfl ?_
      refine zW.iload (pc' := 93) dJ4_delete_91 rfl (zgS (zgS (zgS (zgS (zgS (zgS (zg0))))))) ?_
      refine zW.iload_n (pc' := 94) dJ4_delete_93 rfl rfl (zgS (zg0)) ?_
      refine zW.iconst (pc' := 95) (nI 1) dJ4_delete_94 rfl (by decide) ?_
      refine zW.iaddN (pc' := 96) dJ4_delete_95 rfl ?_
      refine zW.isubN (pc' := 97) dJ4_delete_96 rfl (by omega) ?_
      have ac : ∀ {hx : zH}, zfr (cDf a ar) h hx → ∀ t, t < j - ((hd + j) % 17 + 1) → ∃ y c, zuo (qcp f 0 1 ((hd + j) % 17)) 0 (some x) (hd + t) = some y ∧ hx y = some c ∧ zObj c := fun z t ht => by
        obtain ⟨y, cy, e1, e2, e3⟩ := kn z (hd + t) ⟨t, by omega, by omega⟩
        refine ⟨y, cy, ?_, e2, e3⟩
        simp only [zuo, qcp]
        rw [if_neg (by omega), if_neg (by omega)]
        exact e1
      refine zW.acopyQ (pc' := 100) dJ4_delete_97 rfl (lw_all_tbl q1203) har (by omega) (by omega) (ac z) (Nat.le_of_ble_eq_true rfl) (Nat.le_of_ble_eq_true rfl) (fun _ e9 k9 => ?_)
      have ha := zpres e9 (zne ha har (by decide)) ha
      have z := z.put e9 har (by decide) (Or.inl (Or.inr rfl))
      replace har := k9
      clear e9 k9
      refine front _ _ ha har z fun t ht => ?_
      simp only [qcp, zuo]
      by_cases q : t < j
      · rw [if_pos q]
        repeat' split
        all_goals first | rfl | (exfalso; omega) | (congr 1; omega) | (rw [← hx0]; congr 1; omega)
      · rw [if_neg q]
        repeat' split
        all_goals first | rfl | (exfalso; omega) | (congr 1; omega) | (rw [← hx0]; congr 1; omega)
    · refine zW.aload_n (pc' := 52) dJ4_delete_51 rfl rfl (zgS (zgS (zg0))) rfl ?_
      refine zW.iload (pc' := 54) dJ4_delete_52 rfl (zgS (zgS (zgS (zgS (zg0))))) ?_
      refine zW.aload_n (pc' := 55) dJ4_delete_54 rfl rfl (zgS (zgS (zg0))) rfl ?_
      refine zW.iload (pc' := 57) dJ4_delete_55 rfl (zgS (zgS (zgS (zgS (zg0))))) ?_
      refine zW.iconst (pc' := 58) (nI 1) dJ4_delete_57 rfl (by decide) ?_
      refine zW.iaddN (pc' := 59) dJ4_delete_58 rfl ?_
      refine zW.iload (pc' := 61) dJ4_delete_59 rfl (zgS (zgS (zgS (zgS (zgS (zgS (zg0))))))) ?_
      refine zW.acopyQ (pc' := 64) dJ4_delete_61 rfl (lw_all_tbl q1203) har (by omega) (by omega) (fun t ht => kn z _ ⟨t, by omega, by omega⟩) (Nat.le_of_ble_eq_true rfl) (Nat.le_of_ble_eq_true rfl) (fun _ e9 k9 => ?_)
      have ha := zpres e9 (zne ha har (by decide)) ha
      have z := z.put e9 har (by decide) (Or.inl (Or.inr rfl))
      replace har := k9
      clear e9 k9
      refine zW.goto 100 dJ4_delete_64 (by decide) ?_
      refine front _ _ ha har z fun t ht => ?_
      simp only [qcp]
      by_cases q : t < j
      · rw [if_pos q]
        repeat' split
        all_goals first | rfl | (exfalso; omega) | (congr 1; omega)
      · rw [if_neg q]
        repeat' split
        all_goals first | rfl | (exfalso; omega) | (congr 1; omega)
/-- the iterator takes out what it gave last -/
theorem w_diRemove (hQ : cDQ h a ar hd its) (hO : ∀ x ∈ its, ∃ k v, cInt h x k v) {k : Nat} (hk : k < its.length) (hi : h it = some (cDi a hd its.length (k + 1) (nI ((hd + k) % 17)))) : zK G mJ30_remove 3 0 [.ref it] h (zO fun v h' => v = none ∧ ∃ hd', cDQ h' a ar hd' (its.eraseIdx k) ∧ h' it = some (cDi a hd' (its.length - 1) k (-1)) ∧ zfr (fun b => b = it ∨ cDf a ar b) h h') := by
  have hn := hQ.nk hi ⟨by decide, by decide⟩
  have ha := hQ.2.1
  have hm : (hd + k) % 17 < 17 := Nat.mod_lt _ (by decide)
  have hl16 := hQ.1.2
  have hd17 := hQ.1.1
  show zW G mJ30_remove 3 0 0 [.ref it] [] h _
  refine zW.aload_n (pc' := 1) dJ30_remove_0 rfl rfl zg0 rfl ?_
  refine zW.get (pc' := 4) dJ30_remove_1 rfl f_J30_23_10 hi ⟨rfl, (Nat.le_of_ble_eq_true rfl)⟩ rfl ?_
  refine zW.if_geN 15 dJ30_remove_4 (by decide) (by omega) ?_
  refine zW.aload_n (pc' := 16) dJ30_remove_15 rfl rfl zg0 rfl ?_
  refine zW.aload_n (pc' := 17) dJ30_remove_16 rfl rfl zg0 rfl ?_
  refine zW.get (pc' := 20) dJ30_remove_17 rfl f_J30_1_10 hi ⟨rfl, (Nat.le_of_ble_eq_true rfl)⟩ rfl ?_
  refine zW.aload_n (pc' := 21) dJ30_remove_20 rfl rfl zg0 rfl ?_
  refine zW.get (pc' := 24) dJ30_remove_21 rfl f_J30_23_10 hi ⟨rfl, (Nat.le_of_ble_eq_true rfl)⟩ rfl ?_
  refine zW.callV (r' := 0) (pc' := 27) dJ30_remove_24 rfl l_J30_53 rfl ha ⟨rfl, (Nat.le_of_ble_eq_true rfl)⟩ rfl (w_dqDelete hQ hO hk) (zcc rfl zc0) rfl (Nat.le_of_ble_eq_true rfl) (Nat.le_of_ble_eq_true rfl) (Nat.le_of_ble_eq_true rfl) (fun _ _ q9 => ?_) (fun _ _ q9 => absurd q9 zO.no)
  obtain ⟨_, q8, b, hd', e1, hb, hQ2, z1⟩ := q9
  cases q8
  subst e1
  have hi := z1.at hi (fun q => q.elim (fun q => hn.1 q.symm) fun q => hn.2 q.symm)
  have hd2 := hQ2.1.1
  have fin : ∀ (h1 : zH), h1 it = some (10, [.int (nI ((hd' + k) % 17)), .int (nI (its.length - (k + 1))), .int (nI ((hd + k) % 17)), .ref a]) → cDQ h1 a ar hd' (its.eraseIdx k) → zfr (fun b => b = it ∨ cDf a ar b) h h1 → zW G mJ30_remove 3 0 30 [.ref it] [] h1 (zO fun v h' => v = none ∧ ∃ hd', cDQ h' a ar hd' (its.eraseIdx k) ∧ h' it = some (cDi a hd' (its.length - 1) k (-1)) ∧ zfr (fun b => b = it ∨ cDf a ar b) h h') := by
    intro h1 hi hQ3 z
    have hn3 := hQ3.nk hi ⟨by decide, by decide⟩
    refine zW.aload_n (pc' := 31) dJ30_remove_30 rfl rfl zg0 rfl ?_
    refine zW.iconst (pc' := 32) (-1) dJ30_remove_31 rfl (by decide) ?_
    refine zW.putK (pc' := 35) dJ30_remove_32 rfl f_J30_23_10 hi ⟨⟨rfl, (Nat.le_of_ble_eq_true rfl)⟩, (Nat.le_of_ble_eq_true rfl)⟩ (zFw.of ft_10_2 rfl rfl) (zsS (zsS (zs0))) (fun _ e9 k9 => ?_)
    have z := z.put e9 hi (by decide) (Or.inl (Or.inl rfl))
    have hq := e9
    replace hi := k9
    clear e9 k9
    refine zW.vret dJ30_remove_35 rfl ?_
    refine ⟨_, rfl, rfl, hd', hQ3.mv fun b k l hb e => zpres hq (hb.elim (fun q => by rw [q]; exact hn3.1) fun q => by rw [q]; exact hn3.2) e, ?_, z⟩
    rw [hi, show its.length - (k + 1) = its.length - 1 - k by omega]
  have z2 : zfr (fun b => b = it ∨ cDf a ar b) h _ := z1.mono fun b hb => Or.inl (Or.inr hb)
  have ha2 := hQ2.2.1
  obtain ⟨-, -, f2, har2, -⟩ := id hQ2
  have hn2 := hQ2.nk hi ⟨by decide, by decide⟩
  rcases hb with ⟨rfl, e⟩ | ⟨rfl, e⟩
  · subst e
    have k1 : ∀ h1 : zH, zK G mJ30_postDelete 2 0 [.ref it, .int (nI 0)] h1 (zPu h1 none) := by
      intro h1
      show zW G mJ30_postDelete 2 0 0 [.ref it, .int (nI 0)] [] h1 _
      refine zW.iload_n (pc' := 1) dJ30_postDelete_0 rfl rfl (zgS (zg0)) ?_
      refine zW.if_eqN (pc' := 4) 23 dJ30_postDelete_1 rfl (by decide) (by omega) (fun b9 => ?_) (fun b9 => absurd b9 (by omega))
      refine zW.vret dJ30_postDelete_23 rfl ?_
      exact ⟨rfl, rfl⟩
    refine zW.callV (r' := 0) (pc' := 30) dJ30_remove_27 rfl l_J30_57 rfl hi ⟨rfl, (Nat.le_of_ble_eq_true rfl)⟩ rfl (k1 _) (zcc rfl zc0) rfl (Nat.le_of_ble_eq_true rfl) (Nat.le_of_ble_eq_true rfl) (Nat.le_of_ble_eq_true rfl) (fun _ _ q9 => ?_) (fun _ _ q9 => by cases q9.1)
    obtain ⟨q8, e9⟩ := q9
    cases q8
    replace e9 := e9.symm
    subst e9
    have ei : cDi a hd its.length (k + 1) (nI ((hd + k) % 17)) = (10, [.int (nI (((hd + 1) % 17 + k) % 17)), .int (nI (its.length - (k + 1))), .int (nI ((hd + k) % 17)), .ref a]) := by
      show (10, [Value.int (nI ((hd + (k + 1)) % 17)), .int (nI (its.length - (k + 1))), .int (nI ((hd + k) % 17)), .ref a]) = _
      rw [show (hd + (k + 1)) % 17 = ((hd + 1) % 17 + k) % 17 by omega]
    rw [ei] at hi
    exact fin _ hi hQ2 z2
  · replace e := e.symm
    subst e
    have k1 : ∀ h1 : zH, cDQ h1 a ar hd (its.eraseIdx k) → h1 it = some (10, [.int (nI ((hd + (k + 1)) % 17)), .int (nI (its.length - (k + 1))), .int (nI ((hd + k) % 17)), .ref a]) → zK G mJ30_postDelete 2 0 [.ref it, .int (nI 1)] h1 (zPk h1 none it (10, [.int (nI ((hd + k) % 17)), .int (nI (its.length - (k + 1))), .int (nI ((hd + k) % 17)), .ref a])) := by
      intro h1 hQ4 hi
      have hm2 : (hd + (k + 1)) % 17 < 17 := Nat.mod_lt _ (by decide)
      obtain ⟨-, ha, f, har, -⟩ := hQ4
      show zW G mJ30_postDelete 2 0 0 [.ref it, .int (nI 1)] [] h1 _
      refine zW.iload_n (pc' := 1) dJ30_postDelete_0 rfl rfl (zgS (zg0)) ?_
      refine zW.if_eqN (pc' := 4) 23 dJ30_postDelete_1 rfl (by decide) (by omega) (fun b9 => absurd b9 (by omega)) (fun b9 => ?_)
      refine zW.aload_n (pc' := 5) dJ30_postDelete_4 rfl rfl zg0 rfl ?_
      refine zW.aload_n (pc' := 6) dJ30_postDelete_5 rfl rfl zg0 rfl ?_
      refine zW.get (pc' := 9) dJ30_postDelete_6 rfl f_J30_29_10 hi ⟨rfl, (Nat.le_of_ble_eq_true rfl)⟩ rfl ?_
      refine zW.aload_n (pc' := 10) dJ30_postDelete_9 rfl rfl zg0 rfl ?_
      refine zW.get (pc' := 13) dJ30_postDelete_10 rfl f_J30_1_10 hi ⟨rfl, (Nat.le_of_ble_eq_true rfl)⟩ rfl ?_
      refine zW.get (pc' := 16) dJ30_postDelete_13 rfl f_J30_35_9 ha ⟨rfl, (Nat.le_of_ble_eq_true rfl)⟩ rfl ?_
      refine zW.alen (pc' := 17) dJ30_postDelete_16 rfl har (by decide) qtab_n ?_
      refine zW.callS (r' := 0) (pc' := 20) dJ30_postDelete_17 rfl l_J30_47 rfl (w_dqDec hm2) (zcc rfl (zcc rfl zc0)) rfl (Nat.le_of_ble_eq_true rfl) (Nat.le_of_ble_eq_true rfl) (Nat.le_of_ble_eq_true rfl) (fun _ _ q9 => ?_) (fun _ _ q9 => by cases q9.1)
      obtain ⟨q8, e9⟩ := q9
      cases q8
      replace e9 := e9.symm
      subst e9
      rw [show ((hd + (k + 1)) % 17 + 16) % 17 = (hd + k) % 17 by omega]
      refine zW.putK (pc' := 23) dJ30_postDelete_20 rfl f_J30_29_10 hi ⟨⟨rfl, (Nat.le_of_ble_eq_true rfl)⟩, (Nat.le_of_ble_eq_true rfl)⟩ (zFw.of ft_10_0 rfl rfl) zs0 (fun _ e9 k9 => ?_)
      have ha := zpres e9 (zne ha hi (by decide)) ha
      have har := zpres e9 (zne har hi (by decide)) har
      have hq := e9
      replace hi := k9
      clear e9 k9
      refine zW.vret dJ30_postDelete_23 rfl ?_
      exact ⟨_, rfl, rfl, hq, hi⟩
    refine zW.callV (r' := 0) (pc' := 30) dJ30_remove_27 rfl l_J30_57 rfl hi ⟨rfl, (Nat.le_of_ble_eq_true rfl)⟩ rfl (k1 _ hQ2 hi) (zcc rfl zc0) rfl (Nat.le_of_ble_eq_true rfl) (Nat.le_of_ble_eq_true rfl) (Nat.le_of_ble_eq_true rfl) (fun _ _ q9 => ?_) (fun _ _ q9 => absurd q9 zO.no)
    obtain ⟨_, q8, e1, e9, k9⟩ := q9
    cases q8
    subst e1
    have z2 := z2.put e9 hi (by decide) (Or.inl (Or.inl rfl))
    have hq := e9
    replace hi := k9
    clear e9 k9
    refine fin _ hi (hQ2.mv fun b k l hb e => zpres hq (hb.elim (fun q => by rw [q]; exact hn2.1) fun q => by rw [q]; exact hn2.2) e) z2
end
