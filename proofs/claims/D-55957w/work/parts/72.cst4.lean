/-! a State's copy -/
section
set_option maxRecDepth 100000
variable {G : zG} {h h' h0 : zH} {O O' A : Nat → Prop} {st ll aq re rt ea ha er hr : Nat} {mc : Int32} {xs : List (Nat × Nat)} {qs rs : List Nat} {s : sS}
theorem cCs.app {cs : List sC} (hC : cCs h xs cs) {h3 : zH} {nd n : Nat} {c : sC} (z : ∀ b l, h b = some (2, l) → h3 b = some (2, l)) (hn : h n = none) (hc : h3 n = some (2, cCl c)) : cCs h3 (xs ++ [(nd, n)]) (cs ++ [c]) := by
  refine ⟨by rw [List.length_append, List.length_append, hC.1]; rfl, fun i p d e1 e2 => ?_, ?_⟩
  · by_cases hi : i < xs.length
    · rw [List.getElem?_append_left hi] at e1
      rw [List.getElem?_append_left (by rw [← hC.1]; exact hi)] at e2
      exact z _ _ (hC.2.1 i p d e1 e2)
    · rw [List.getElem?_append_right (by omega)] at e1
      rw [List.getElem?_append_right (by rw [← hC.1]; omega), ← hC.1] at e2
      have h1 := (List.getElem?_eq_some_iff.mp e1).1
      rw [List.length_singleton] at h1
      have h2 : i - xs.length = 0 := by omega
      rw [h2] at e1 e2
      cases e1
      cases e2
      exact hc
  · rw [List.map_append, List.nodup_append]
    refine ⟨hC.2.2, List.pairwise_singleton _ _, fun x hx y hy => ?_⟩
    rw [show y = n from List.mem_singleton.mp hy]
    obtain ⟨p, hp1, hp2⟩ := List.mem_map.mp hx
    obtain ⟨i, hi⟩ := List.getElem?_of_mem hp1
    obtain ⟨d, hd⟩ : ∃ d, cs[i]? = some d := ⟨_, List.getElem?_eq_getElem (by rw [← hC.1]; exact (List.getElem?_eq_some_iff.mp hi).1)⟩
    rw [← hp2]
    exact zfresh hn (hC.2.1 i p d hi hd)
theorem take_snoc {α : Type} {l : List α} {k : Nat} {x : α} (e : l[k]? = some x) : l.take (k + 1) = l.take k ++ [x] := by
  rw [List.take_succ, e]; rfl
theorem cP.both (hP : cP h O st ll aq re rt ea ha er hr mc xs qs rs s) (z : zfr (fun b => b = st ∨ b = rt) h h') {m : Nat → Nat} (e1 : h' st = some (1, cSf ll aq re rt m)) (e2 : h' rt = some (100, ztab 4 fun i => m (10 + i))) : cP h' O st ll aq re rt ea ha er hr mc xs qs rs (m, s.2) := by
  obtain ⟨h1, ⟨h2, h3⟩, ⟨h4, h5⟩, ⟨h6, h7⟩, h8, h9, o⟩ := hP
  have mv : ∀ {b k : Nat} {l : List Value}, h b = some (k, l) → (k ≠ 1 ∧ k ≠ 100) → h' b = some (k, l) := fun e hk => z.at e fun q => q.elim (fun q => zne e h1 hk.1 q) fun q => zne e h9 hk.2 q
  have mvQ : ∀ b k l, (k = 9 ∨ k = 104) → h b = some (k, l) → h' b = some (k, l) := fun b k l hk e => mv e (by rcases hk with q | q <;> subst q <;> decide)
  have mvI : ∀ b k l, (k = 15 ∨ k = 1015) → h b = some (k, l) → h' b = some (k, l) := fun b k l hk e => mv e (by rcases hk with q | q <;> subst q <;> decide)
  exact ⟨e1, ⟨h2.mv fun b k l hk e => mv e (by rcases hk with q | q <;> subst q <;> decide), h3.mv fun b l e => mv e (by decide)⟩, ⟨h4.mk mvQ, h5.mv mvI⟩, ⟨h6.mk mvQ, h7.mv mvI⟩, h8, e2, o⟩
/-- what is new since h, but it -/
abbrev cNw (h : zH) (it : Nat) : Nat → Prop := fun b => h b = none ∧ b ≠ it
abbrev cCopy (h : zH) (s : sS) : zR → zH → Prop := zO fun v h' => ∃ st', v = some (.ref st') ∧ cS h' (fun b => h b = none) st' s ∧ zfr (fun _ => False) h h'
/-- the last part of a copy: rates and numbers -/
theorem w_copy4 (hP : cP h O st ll aq re rt ea ha er hr mc xs qs rs s) {H : zH} {st' ll' aq' re' rt' ea' ha' er' hr' : Nat} {mc' : Int32} {ys : List (Nat × Nat)} {qs' rs' : List Nat} (zf : zfr (fun _ => False) h H) (hN : cP H (fun b => h b = none) st' ll' aq' re' rt' ea' ha' er' hr' mc' ys qs' rs' (sZero, s.2)) {v2 v3 : Value} : zW G mX2_copy 8 0 137 [.ref st, .ref st', v2, v3] [] H (cCopy h s) := by
  have hPo := hP.fr zf fun _ _ q => q
  have hst := hPo.1
  have hrt := hPo.2.2.2.2.2.1
  have hst2 := hN.1
  have hrt2 := hN.2.2.2.2.2.1
  have oN := hN.2.2.2.2.2.2
  have n1 : st ≠ st' := fun q => by
    have := oN.1
    rw [← q, hP.1] at this
    cases this
  have n2 : rt ≠ rt' := fun q => by
    have := oN.2.2.2.2.2
    rw [← q, hP.2.2.2.2.2.1] at this
    cases this
  have z := zfr.rf (A := fun b => b = st' ∨ b = rt') (h := H)
  refine zW.iconst (pc' := 138) (nI 0) dX2_copy_137 rfl (by decide) ?_
  refine zW.istore_n (pc' := 139) dX2_copy_138 rfl rfl (Nat.le_of_ble_eq_true rfl) (zsS (zsS (zs0))) ?_
  refine zW.iload_n (pc' := 140) dX2_copy_139 rfl rfl (zgS (zgS (zg0))) ?_
  refine zW.iconst (pc' := 141) (nI 4) dX2_copy_140 rfl (by decide) ?_
  refine zW.icmp_geN (pc' := 144) 162 dX2_copy_141 rfl (by decide) (by omega) (by omega) (fun b9 => absurd b9 (by omega)) (fun b9 => ?_)
  refine zW.aload_n (pc' := 145) dX2_copy_144 rfl rfl (zgS (zg0)) rfl ?_
  refine zW.get (pc' := 148) dX2_copy_145 rfl f_X2_28_1 hst2 ⟨rfl, (Nat.le_of_ble_eq_true rfl)⟩ rfl ?_
  refine zW.iload_n (pc' := 149) dX2_copy_148 rfl rfl (zgS (zgS (zg0))) ?_
  refine zW.aload_n (pc' := 150) dX2_copy_149 rfl rfl zg0 rfl ?_
  refine zW.get (pc' := 153) dX2_copy_150 rfl f_X2_28_1 hst ⟨rfl, (Nat.le_of_ble_eq_true rfl)⟩ rfl ?_
  refine zW.iload_n (pc' := 154) dX2_copy_153 rfl rfl (zgS (zgS (zg0))) ?_
  refine zW.ialdN (pc' := 155) dX2_copy_154 rfl hrt rfl (by omega) (Nat.le_of_ble_eq_true rfl) ?_
  refine zW.iastNK (pc' := 156) dX2_copy_155 rfl hrt2 (by omega) (Nat.le_of_ble_eq_true rfl) (fun _ e9 k9 => ?_)
  have hst := zpres e9 (zne hst hrt2 (by decide)) hst
  have hst2 := zpres e9 (zne hst2 hrt2 (by decide)) hst2
  have hrt := zpres e9 n2 hrt
  have z := z.put e9 hrt2 (by decide) (Or.inl (Or.inr rfl))
  replace hrt2 := k9
  clear e9 k9
  refine zW.iincN (pc' := 159) (n := 1) dX2_copy_156 rfl (Nat.le_of_ble_eq_true rfl) (zgS (zgS (zg0))) (zsS (zsS (zs0))) ?_
  refine zW.goto 139 dX2_copy_159 (by decide) ?_
  refine zW.iload_n (pc' := 140) dX2_copy_139 rfl rfl (zgS (zgS (zg0))) ?_
  refine zW.iconst (pc' := 141) (nI 4) dX2_copy_140 rfl (by decide) ?_
  refine zW.icmp_geN (pc' := 144) 162 dX2_copy_141 rfl (by decide) (by omega) (by omega) (fun b9 => absurd b9 (by omega)) (fun b9 => ?_)
  refine zW.aload_n (pc' := 145) dX2_copy_144 rfl rfl (zgS (zg0)) rfl ?_
  refine zW.get (pc' := 148) dX2_copy_145 rfl f_X2_28_1 hst2 ⟨rfl, (Nat.le_of_ble_eq_true rfl)⟩ rfl ?_
  refine zW.iload_n (pc' := 149) dX2_copy_148 rfl rfl (zgS (zgS (zg0))) ?_
  refine zW.aload_n (pc' := 150) dX2_copy_149 rfl rfl zg0 rfl ?_
  refine zW.get (pc' := 153) dX2_copy_150 rfl f_X2_28_1 hst ⟨rfl, (Nat.le_of_ble_eq_true rfl)⟩ rfl ?_
  refine zW.iload_n (pc' := 154) dX2_copy_153 rfl rfl (zgS (zgS (zg0))) ?_
  refine zW.ialdN (pc' := 155) dX2_copy_154 rfl hrt rfl (by omega) (Nat.le_of_ble_eq_true rfl) ?_
  refine zW.iastNK (pc' := 156) dX2_copy_155 rfl hrt2 (by omega) (Nat.le_of_ble_eq_true rfl) (fun _ e9 k9 => ?_)
  have hst := zpres e9 (zne hst hrt2 (by decide)) hst
  have hst2 := zpres e9 (zne hst2 hrt2 (by decide)) hst2
  have hrt := zpres e9 n2 hrt
  have z := z.put e9 hrt2 (by decide) (Or.inl (Or.inr rfl))
  replace hrt2 := k9
  clear e9 k9
  refine zW.iincN (pc' := 159) (n := 1) dX2_copy_156 rfl (Nat.le_of_ble_eq_true rfl) (zgS (zgS (zg0))) (zsS (zsS (zs0))) ?_
  refine zW.goto 139 dX2_copy_159 (by decide) ?_
  refine zW.iload_n (pc' := 140) dX2_copy_139 rfl rfl (zgS (zgS (zg0))) ?_
  refine zW.iconst (pc' := 141) (nI 4) dX2_copy_140 rfl (by decide) ?_
  refine zW.icmp_geN (pc' := 144) 162 dX2_copy_141 rfl (by decide) (by omega) (by omega) (fun b9 => absurd b9 (by omega)) (fun b9 => ?_)
  refine zW.aload_n (pc' := 145) dX2_copy_144 rfl rfl (zgS (zg0)) rfl ?_
  refine zW.get (pc' := 148) dX2_copy_145 rfl f_X2_28_1 hst2 ⟨rfl, (Nat.le_of_ble_eq_true rfl)⟩ rfl ?_
  refine zW.iload_n (pc' := 149) dX2_copy_148 rfl rfl (zgS (zgS (zg0))) ?_
  refine zW.aload_n (pc' := 150) dX2_copy_149 rfl rfl zg0 rfl ?_
  refine zW.get (pc' := 153) dX2_copy_150 rfl f_X2_28_1 hst ⟨rfl, (Nat.le_of_ble_eq_true rfl)⟩ rfl ?_
  refine zW.iload_n (pc' := 154) dX2_copy_153 rfl rfl (zgS (zgS (zg0))) ?_
  refine zW.ialdN (pc' := 155) dX2_copy_154 rfl hrt rfl (by omega) (Nat.le_of_ble_eq_true rfl) ?_
  refine zW.iastNK (pc' := 156) dX2_copy_155 rfl hrt2 (by omega) (Nat.le_of_ble_eq_true rfl) (fun _ e9 k9 => ?_)
  have hst := zpres e9 (zne hst hrt2 (by decide)) hst
  have hst2 := zpres e9 (zne hst2 hrt2 (by decide)) hst2
  have hrt := zpres e9 n2 hrt
  have z := z.put e9 hrt2 (by decide) (Or.inl (Or.inr rfl))
  replace hrt2 := k9
  clear e9 k9
  refine zW.iincN (pc' := 159) (n := 1) dX2_copy_156 rfl (Nat.le_of_ble_eq_true rfl) (zgS (zgS (zg0))) (zsS (zsS (zs0))) ?_
  refine zW.goto 139 dX2_copy_159 (by decide) ?_
  refine zW.iload_n (pc' := 140) dX2_copy_139 rfl rfl (zgS (zgS (zg0))) ?_
  refine zW.iconst (pc' := 141) (nI 4) dX2_copy_140 rfl (by decide) ?_
  refine zW.icmp_geN (pc' := 144) 162 dX2_copy_141 rfl (by decide) (by omega) (by omega) (fun b9 => absurd b9 (by omega)) (fun b9 => ?_)
  refine zW.aload_n (pc' := 145) dX2_copy_144 rfl rfl (zgS (zg0)) rfl ?_
  refine zW.get (pc' := 148) dX2_copy_145 rfl f_X2_28_1 hst2 ⟨rfl, (Nat.le_of_ble_eq_true rfl)⟩ rfl ?_
  refine zW.iload_n (pc' := 149) dX2_copy_148 rfl rfl (zgS (zgS (zg0))) ?_
  refine zW.aload_n (pc' := 150) dX2_copy_149 rfl rfl zg0 rfl ?_
  refine zW.get (pc' := 153) dX2_copy_150 rfl f_X2_28_1 hst ⟨rfl, (Nat.le_of_ble_eq_true rfl)⟩ rfl ?_
  refine zW.iload_n (pc' := 154) dX2_copy_153 rfl rfl (zgS (zgS (zg0))) ?_
  refine zW.ialdN (pc' := 155) dX2_copy_154 rfl hrt rfl (by omega) (Nat.le_of_ble_eq_true rfl) ?_
  refine zW.iastNK (pc' := 156) dX2_copy_155 rfl hrt2 (by omega) (Nat.le_of_ble_eq_true rfl) (fun _ e9 k9 => ?_)
  have hst := zpres e9 (zne hst hrt2 (by decide)) hst
  have hst2 := zpres e9 (zne hst2 hrt2 (by decide)) hst2
  have hrt := zpres e9 n2 hrt
  have z := z.put e9 hrt2 (by decide) (Or.inl (Or.inr rfl))
  replace hrt2 := k9
  clear e9 k9
  refine zW.iincN (pc' := 159) (n := 1) dX2_copy_156 rfl (Nat.le_of_ble_eq_true rfl) (zgS (zgS (zg0))) (zsS (zsS (zs0))) ?_
  refine zW.goto 139 dX2_copy_159 (by decide) ?_
  refine zW.iload_n (pc' := 140) dX2_copy_139 rfl rfl (zgS (zgS (zg0))) ?_
  refine zW.iconst (pc' := 141) (nI 4) dX2_copy_140 rfl (by decide) ?_
  refine zW.icmp_geN (pc' := 144) 162 dX2_copy_141 rfl (by decide) (by omega) (by omega) (fun b9 => ?_) (fun b9 => absurd b9 (by omega))
  refine zW.aload_n (pc' := 163) dX2_copy_162 rfl rfl (zgS (zg0)) rfl ?_
  refine zW.aload_n (pc' := 164) dX2_copy_163 rfl rfl zg0 rfl ?_
  refine zW.get (pc' := 167) dX2_copy_164 rfl f_X2_69_1 hst ⟨rfl, (Nat.le_of_ble_eq_true rfl)⟩ rfl ?_
  refine zW.putK (pc' := 170) dX2_copy_167 rfl f_X2_69_1 hst2 ⟨⟨rfl, (Nat.le_of_ble_eq_true rfl)⟩, (Nat.le_of_ble_eq_true rfl)⟩ (zFw.of ft_1_4 rfl rfl) (zsS (zsS (zsS (zsS (zs0))))) (fun _ e9 k9 => ?_)
  have hst := zpres e9 n1 hst
  have hrt := zpres e9 (zne hrt hst2 (by decide)) hrt
  have hrt2 := zpres e9 (zne hrt2 hst2 (by decide)) hrt2
  have z := z.put e9 hst2 (by decide) (Or.inl (Or.inl rfl))
  replace hst2 := k9
  clear e9 k9
  refine zW.aload_n (pc' := 171) dX2_copy_170 rfl rfl (zgS (zg0)) rfl ?_
  refine zW.aload_n (pc' := 172) dX2_copy_171 rfl rfl zg0 rfl ?_
  refine zW.get (pc' := 175) dX2_copy_172 rfl f_X2_73_1 hst ⟨rfl, (Nat.le_of_ble_eq_true rfl)⟩ rfl ?_
  refine zW.putK (pc' := 178) dX2_copy_175 rfl f_X2_73_1 hst2 ⟨⟨rfl, (Nat.le_of_ble_eq_true rfl)⟩, (Nat.le_of_ble_eq_true rfl)⟩ (zFw.of ft_1_5 rfl rfl) (zsS (zsS (zsS (zsS (zsS (zs0)))))) (fun _ e9 k9 => ?_)
  have hst := zpres e9 n1 hst
  have hrt := zpres e9 (zne hrt hst2 (by decide)) hrt
  have hrt2 := zpres e9 (zne hrt2 hst2 (by decide)) hrt2
  have z := z.put e9 hst2 (by decide) (Or.inl (Or.inl rfl))
  replace hst2 := k9
  clear e9 k9
  refine zW.aload_n (pc' := 179) dX2_copy_178 rfl rfl (zgS (zg0)) rfl ?_
  refine zW.aload_n (pc' := 180) dX2_copy_179 rfl rfl zg0 rfl ?_
  refine zW.get (pc' := 183) dX2_copy_180 rfl f_X2_76_1 hst ⟨rfl, (Nat.le_of_ble_eq_true rfl)⟩ rfl ?_
  refine zW.putK (pc' := 186) dX2_copy_183 rfl f_X2_76_1 hst2 ⟨⟨rfl, (Nat.le_of_ble_eq_true rfl)⟩, (Nat.le_of_ble_eq_true rfl)⟩ (zFw.of ft_1_6 rfl rfl) (zsS (zsS (zsS (zsS (zsS (zsS (zs0))))))) (fun _ e9 k9 => ?_)
  have hst := zpres e9 n1 hst
  have hrt := zpres e9 (zne hrt hst2 (by decide)) hrt
  have hrt2 := zpres e9 (zne hrt2 hst2 (by decide)) hrt2
  have z := z.put e9 hst2 (by decide) (Or.inl (Or.inl rfl))
  replace hst2 := k9
  clear e9 k9
  refine zW.aload_n (pc' := 187) dX2_copy_186 rfl rfl (zgS (zg0)) rfl ?_
  refine zW.aload_n (pc' := 188) dX2_copy_187 rfl rfl zg0 rfl ?_
  refine zW.get (pc' := 191) dX2_copy_188 rfl f_X2_79_1 hst ⟨rfl, (Nat.le_of_ble_eq_true rfl)⟩ rfl ?_
  refine zW.putK (pc' := 194) dX2_copy_191 rfl f_X2_79_1 hst2 ⟨⟨rfl, (Nat.le_of_ble_eq_true rfl)⟩, (Nat.le_of_ble_eq_true rfl)⟩ (zFw.of ft_1_7 rfl rfl) (zsS (zsS (zsS (zsS (zsS (zsS (zsS (zs0)))))))) (fun _ e9 k9 => ?_)
  have hst := zpres e9 n1 hst
  have hrt := zpres e9 (zne hrt hst2 (by decide)) hrt
  have hrt2 := zpres e9 (zne hrt2 hst2 (by decide)) hrt2
  have z := z.put e9 hst2 (by decide) (Or.inl (Or.inl rfl))
  replace hst2 := k9
  clear e9 k9
  refine zW.aload_n (pc' := 195) dX2_copy_194 rfl rfl (zgS (zg0)) rfl ?_
  refine zW.aload_n (pc' := 196) dX2_copy_195 rfl rfl zg0 rfl ?_
  refine zW.get (pc' := 199) dX2_copy_196 rfl f_X2_82_1 hst ⟨rfl, (Nat.le_of_ble_eq_true rfl)⟩ rfl ?_
  refine zW.putK (pc' := 202) dX2_copy_199 rfl f_X2_82_1 hst2 ⟨⟨rfl, (Nat.le_of_ble_eq_true rfl)⟩, (Nat.le_of_ble_eq_true rfl)⟩ (zFw.of ft_1_8 rfl rfl) (zsS (zsS (zsS (zsS (zsS (zsS (zsS (zsS (zs0))))))))) (fun _ e9 k9 => ?_)
  have hst := zpres e9 n1 hst
  have hrt := zpres e9 (zne hrt hst2 (by decide)) hrt
  have hrt2 := zpres e9 (zne hrt2 hst2 (by decide)) hrt2
  have z := z.put e9 hst2 (by decide) (Or.inl (Or.inl rfl))
  replace hst2 := k9
  clear e9 k9
  refine zW.aload_n (pc' := 203) dX2_copy_202 rfl rfl (zgS (zg0)) rfl ?_
  refine zW.aload_n (pc' := 204) dX2_copy_203 rfl rfl zg0 rfl ?_
  refine zW.get (pc' := 207) dX2_copy_204 rfl f_X2_85_1 hst ⟨rfl, (Nat.le_of_ble_eq_true rfl)⟩ rfl ?_
  refine zW.putK (pc' := 210) dX2_copy_207 rfl f_X2_85_1 hst2 ⟨⟨rfl, (Nat.le_of_ble_eq_true rfl)⟩, (Nat.le_of_ble_eq_true rfl)⟩ (zFw.of ft_1_9 rfl rfl) (zsS (zsS (zsS (zsS (zsS (zsS (zsS (zsS (zsS (zs0)))))))))) (fun _ e9 k9 => ?_)
  have hst := zpres e9 n1 hst
  have hrt := zpres e9 (zne hrt hst2 (by decide)) hrt
  have hrt2 := zpres e9 (zne hrt2 hst2 (by decide)) hrt2
  have z := z.put e9 hst2 (by decide) (Or.inl (Or.inl rfl))
  replace hst2 := k9
  clear e9 k9
  refine zW.aload_n (pc' := 211) dX2_copy_210 rfl rfl (zgS (zg0)) rfl ?_
  refine zW.aload_n (pc' := 212) dX2_copy_211 rfl rfl zg0 rfl ?_
  refine zW.get (pc' := 215) dX2_copy_212 rfl f_X2_89_1 hst ⟨rfl, (Nat.le_of_ble_eq_true rfl)⟩ rfl ?_
  refine zW.putK (pc' := 218) dX2_copy_215 rfl f_X2_89_1 hst2 ⟨⟨rfl, (Nat.le_of_ble_eq_true rfl)⟩, (Nat.le_of_ble_eq_true rfl)⟩ (zFw.of ft_1_10 rfl rfl) (zsS (zsS (zsS (zsS (zsS (zsS (zsS (zsS (zsS (zsS (zs0))))))))))) (fun _ e9 k9 => ?_)
  have hst := zpres e9 n1 hst
  have hrt := zpres e9 (zne hrt hst2 (by decide)) hrt
  have hrt2 := zpres e9 (zne hrt2 hst2 (by decide)) hrt2
  have z := z.put e9 hst2 (by decide) (Or.inl (Or.inl rfl))
  replace hst2 := k9
  clear e9 k9
  refine zW.aload_n (pc' := 219) dX2_copy_218 rfl rfl (zgS (zg0)) rfl ?_
  refine zW.aload_n (pc' := 220) dX2_copy_219 rfl rfl zg0 rfl ?_
  refine zW.get (pc' := 223) dX2_copy_220 rfl f_X2_92_1 hst ⟨rfl, (Nat.le_of_ble_eq_true rfl)⟩ rfl ?_
  refine zW.putK (pc' := 226) dX2_copy_223 rfl f_X2_92_1 hst2 ⟨⟨rfl, (Nat.le_of_ble_eq_true rfl)⟩, (Nat.le_of_ble_eq_true rfl)⟩ (zFw.of ft_1_11 rfl rfl) (zsS (zsS (zsS (zsS (zsS (zsS (zsS (zsS (zsS (zsS (zsS (zs0)))))))))))) (fun _ e9 k9 => ?_)
  have hst := zpres e9 n1 hst
  have hrt := zpres e9 (zne hrt hst2 (by decide)) hrt
  have hrt2 := zpres e9 (zne hrt2 hst2 (by decide)) hrt2
  have z := z.put e9 hst2 (by decide) (Or.inl (Or.inl rfl))
  replace hst2 := k9
  clear e9 k9
  refine zW.aload_n (pc' := 227) dX2_copy_226 rfl rfl (zgS (zg0)) rfl ?_
  refine zW.aret dX2_copy_227 rfl (Or.inl ⟨_, rfl⟩) rfl ?_
  refine ⟨_, rfl, st', rfl, ⟨ll', aq', re', rt', ea', ha', er', hr', mc', ys, qs', rs', hN.both z hst2 ?_⟩, zf.tr z fun b hb => Or.inr (hb.elim (fun q => by rw [q]; exact oN.1) fun q => by rw [q]; exact oN.2.2.2.2.2)⟩
  rw [hrt2]
  congr 2
end
