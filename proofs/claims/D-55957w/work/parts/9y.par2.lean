/-! THE PARSER: signs and numbers -/
section
set_option maxRecDepth 100000
variable {G : zG} {h h' H : zH} {a n kw ka it c w p al x d : Nat} {l : List Nat} {e : Nat × Nat}
theorem pNeeds_ub (hl : e.1 ≤ l.length) : (pNeeds l x e).1 ≤ l.length := by
  unfold pNeeds
  split
  · split
    · rename_i q
      exact (List.getElem?_eq_some_iff.mp q).1
    · exact hl
  · exact hl
theorem pDig_lt {h : Nat} (q : pDig l h = true) : h < l.length := by
  obtain ⟨x, -, -, -, h1, -⟩ := pDig_at q
  exact h1
theorem pRun_ub : ∀ {m h v : Nat}, h ≤ l.length → (pRun l m h v).2 ≤ l.length := by
  intro m
  induction m with
  | zero => intro h v hl; exact hl
  | succ m ih =>
    intro h v hl
    rw [pRun]
    split
    · rename_i q
      exact ih (pDig_lt q)
    · exact hl
theorem pNum_ub (hl : e.1 ≤ l.length) : (pNum l d e).2.1 ≤ l.length := by
  unfold pNum
  split
  · split
    · exact pRun_ub hl
    · exact hl
  · exact hl
theorem pBehind_ub (hl : e.1 ≤ l.length) : (pBehind l d e).2.1 ≤ l.length := pNum_ub (pNeeds_ub hl)
/-- an error stands at its place -/
def pOk (e : Nat × Nat) : Prop := e.2 = 0 ∨ e.2 = e.1 + 1
theorem pNeeds_ok (k : pOk e) : pOk (pNeeds l x e) := by
  unfold pNeeds
  split
  · split
    · exact Or.inl rfl
    · exact Or.inr rfl
  · exact k
theorem pNum_ok (k : pOk e) : pOk (pNum l d e).2 := by
  unfold pNum
  split
  · split
    · exact Or.inl rfl
    · exact Or.inr rfl
  · exact k
theorem pBehind_ok (k : pOk e) : pOk (pBehind l d e).2 := pNum_ok (pNeeds_ok k)
abbrev cPp (h : zH) (p kw c al : Nat) (ov : Option Value) (e : Nat × Nat) : zR → zH → Prop := zO fun o h' => o = ov ∧ cPo h' p kw c al e ∧ zfr (fun b => b = p) h h'
theorem w_expect (hP : cPo h p kw c al e) (ks : cStr h c w l) (hl : e.1 ≤ l.length) (hx : x < 128) : zK G mX5_expect 9 0 [.ref p, .int (nI x)] h (cPp h p kw c al none (pNeeds l x e)) := by
  have hp := hP
  unfold cPo at hp
  have zf := zfr.rf (A := fun b => b = p) (h := h)
  have bad : e.2 ≠ 0 ∨ ¬ l[e.1]? = some x → zW G mX5_expect 9 0 15 [.ref p, .int (nI x)] [] h (cPp h p kw c al none (pNeeds l x e)) := fun q => by
    refine zW.aload_n (pc' := 16) dX5_expect_15 rfl rfl zg0 rfl ?_
    refine zW.iconst (pc' := 17) (nI 1) dX5_expect_16 rfl (by decide) ?_
    refine zW.putK (pc' := 20) dX5_expect_17 rfl f_X5_62_4 hp ⟨⟨rfl, (Nat.le_of_ble_eq_true rfl)⟩, (Nat.le_of_ble_eq_true rfl)⟩ (zFw.of ft_4_4 rfl rfl) (zsS (zsS (zsS (zsS (zs0))))) (fun _ e9 k9 => ?_)
    have zf := zf.put e9 hp (by decide) (Or.inl rfl)
    replace hp := k9
    clear e9 k9
    refine zW.goto 33 dX5_expect_20 (by decide) ?_
    refine zW.vret dX5_expect_33 rfl ?_
    refine ⟨_, rfl, rfl, ?_, zf⟩
    unfold cPo pNeeds
    by_cases q2 : e.2 = 0
    · rw [if_pos q2, if_neg (q.resolve_left fun z => z q2), if_neg (Nat.succ_ne_zero _)]
      exact hp
    · rw [if_neg q2, if_neg q2]
      exact hp
  show zW G mX5_expect 9 0 0 [.ref p, .int (nI x)] [] h _
  refine zW.aload_n (pc' := 1) dX5_expect_0 rfl rfl zg0 rfl ?_
  refine zW.get (pc' := 4) dX5_expect_1 rfl f_X5_62_4 hp ⟨rfl, (Nat.le_of_ble_eq_true rfl)⟩ rfl ?_
  by_cases q2 : e.2 = 0
  · rw [if_pos q2] at hp ⊢
    refine zW.if_neN (pc' := 7) 15 dX5_expect_4 rfl (by decide) (by omega) (fun b9 => absurd b9 (by omega)) (fun b9 => ?_)
    refine zW.aload_n (pc' := 8) dX5_expect_7 rfl rfl zg0 rfl ?_
    refine zW.iload_n (pc' := 9) dX5_expect_8 rfl rfl (zgS (zg0)) ?_
    refine zW.callV (r' := 0) (pc' := 12) dX5_expect_9 rfl l_X5_66 rfl hp ⟨rfl, (Nat.le_of_ble_eq_true rfl)⟩ rfl (w_isNext hP ks hl hx) (zcc rfl zc0) rfl (Nat.le_of_ble_eq_true rfl) (Nat.le_of_ble_eq_true rfl) (Nat.le_of_ble_eq_true rfl) (fun _ _ q9 => ?_) (fun _ _ q9 => by cases q9.1)
    obtain ⟨q8, e9⟩ := q9
    cases q8
    replace e9 := e9.symm
    subst e9
    by_cases q3 : l[e.1]? = some x
    · rw [if_pos q3]
      refine zW.if_neN (pc' := 15) 23 dX5_expect_12 rfl (by decide) (by omega) (fun b9 => ?_) (fun b9 => absurd b9 (by omega))
      refine zW.aload_n (pc' := 24) dX5_expect_23 rfl rfl zg0 rfl ?_
      refine zW.dup (pc' := 25) dX5_expect_24 rfl rfl ?_
      refine zW.get (pc' := 28) dX5_expect_25 rfl f_X5_44_4 hp ⟨rfl, (Nat.le_of_ble_eq_true rfl)⟩ rfl ?_
      refine zW.iconst (pc' := 29) (nI 1) dX5_expect_28 rfl (by decide) ?_
      refine zW.iaddN (pc' := 30) dX5_expect_29 rfl ?_
      refine zW.putK (pc' := 33) dX5_expect_30 rfl f_X5_44_4 hp ⟨⟨rfl, (Nat.le_of_ble_eq_true rfl)⟩, (Nat.le_of_ble_eq_true rfl)⟩ (zFw.of ft_4_3 rfl rfl) (zsS (zsS (zsS (zs0)))) (fun _ e9 k9 => ?_)
      have zf := zf.put e9 hp (by decide) (Or.inl rfl)
      replace hp := k9
      clear e9 k9
      refine zW.vret dX5_expect_33 rfl ?_
      refine ⟨_, rfl, rfl, ?_, zf⟩
      unfold cPo pNeeds
      rw [if_pos q2, if_pos q3]
      exact hp
    · rw [if_neg q3]
      refine zW.if_neN (pc' := 15) 23 dX5_expect_12 rfl (by decide) (by omega) (fun b9 => absurd b9 (by omega)) (fun b9 => ?_)
      exact bad (Or.inr q3)
  · rw [if_neg q2]
    refine zW.if_neN (pc' := 7) 15 dX5_expect_4 rfl (by decide) (by omega) (fun b9 => ?_) (fun b9 => absurd b9 (by omega))
    exact bad (Or.inl q2)
theorem w_digits (hP : cPo h p kw c al e) (ks : cStr h c w l) (hl : e.1 ≤ l.length) (hd0 : 0 < d) (hd : d ≤ 3) : zK G mX5_parseDigits 9 0 [.ref p, .int (nI d)] h (cPp h p kw c al (some (.int (nI (pNum l d e).1))) (pNum l d e).2) := by
  have hw : ∀ H : zH, zfr (fun b => b = p) h H → cStr H c w l := fun H z => by
    obtain ⟨k1, k2, hz, hs, g1, g2, g3, g4, g5⟩ := ks
    have hp := hP
    unfold cPo at hp
    exact ⟨k1, k2, hz, hs, z.at g1 (zne g1 hp (by omega)), g2, z.at g3 (zne g3 hp (by omega)), g4, g5⟩
  have fin : ∀ (H : zH) (e' : Nat × Nat) (v k : Nat), zfr (fun b => b = p) h H → H p = some (4, [.ref kw, .ref c, .ref al, .int (nI e'.1), .int (nI (if e'.2 = 0 then 0 else 1))]) → k ≤ 3 → e'.2 = 0 → 0 < k → zW G mX5_parseDigits 9 0 59 [.ref p, .int (nI d), .int (nI v), .int (nI k)] [] H (cPp h p kw c al (some (.int (nI v))) e') := by
    intro H e' v k zf hp hk q hk0
    rw [if_pos q] at hp
    refine zW.aload_n (pc' := 60) dX5_parseDigits_59 rfl rfl zg0 rfl ?_
    refine zW.dup (pc' := 61) dX5_parseDigits_60 rfl rfl ?_
    refine zW.get (pc' := 64) dX5_parseDigits_61 rfl f_X5_62_4 hp ⟨rfl, (Nat.le_of_ble_eq_true rfl)⟩ rfl ?_
    refine zW.iload_n (pc' := 65) dX5_parseDigits_64 rfl rfl (zgS (zgS (zgS (zg0)))) ?_
    refine zW.if_neN (pc' := 68) 72 dX5_parseDigits_65 rfl (by decide) (by omega) (fun b9 => ?_) (fun b9 => absurd b9 (by omega))
    refine zW.iconst (pc' := 73) (nI 0) dX5_parseDigits_72 rfl (by decide) ?_
    refine zW.ior (pc' := 74) dX5_parseDigits_73 rfl ?_
    refine zW.putK (pc' := 77) dX5_parseDigits_74 rfl f_X5_62_4 hp ⟨⟨rfl, (Nat.le_of_ble_eq_true rfl)⟩, (Nat.le_of_ble_eq_true rfl)⟩ (zFw.of ft_4_4 rfl rfl) (zsS (zsS (zsS (zsS (zs0))))) (fun _ e9 k9 => ?_)
    have zf := zf.put e9 hp (by decide) (Or.inl rfl)
    replace hp := k9
    clear e9 k9
    refine zW.iload_n (pc' := 78) dX5_parseDigits_77 rfl rfl (zgS (zgS (zg0))) ?_
    refine zW.iret dX5_parseDigits_78 rfl (rfl) ?_
    refine ⟨_, rfl, rfl, ?_, zf⟩
    unfold cPo
    rw [if_pos q]
    exact hp
  have bad : ∀ (e' : Nat × Nat) (y : Nat), h p = some (4, [.ref kw, .ref c, .ref al, .int (nI e'.1), .int (nI y)]) → y ≤ 1 → e'.2 ≠ 0 → zW G mX5_parseDigits 9 0 59 [.ref p, .int (nI d), .int (nI 0), .int (nI 0)] [] h (cPp h p kw c al (some (.int (nI 0))) e') := by
    intro e' y hp hy q
    have zf := zfr.rf (A := fun b => b = p) (h := h)
    have e1 : nI y ||| nI 1 = nI 1 := by
      match y, hy with
      | 0, _ => decide
      | 1, _ => decide
    refine zW.aload_n (pc' := 60) dX5_parseDigits_59 rfl rfl zg0 rfl ?_
    refine zW.dup (pc' := 61) dX5_parseDigits_60 rfl rfl ?_
    refine zW.get (pc' := 64) dX5_parseDigits_61 rfl f_X5_62_4 hp ⟨rfl, (Nat.le_of_ble_eq_true rfl)⟩ rfl ?_
    refine zW.iload_n (pc' := 65) dX5_parseDigits_64 rfl rfl (zgS (zgS (zgS (zg0)))) ?_
    refine zW.if_neN (pc' := 68) 72 dX5_parseDigits_65 rfl (by decide) (by omega) (fun b9 => absurd b9 (by omega)) (fun b9 => ?_)
    refine zW.iconst (pc' := 69) (nI 1) dX5_parseDigits_68 rfl (by decide) ?_
    refine zW.goto 73 dX5_parseDigits_69 (by decide) ?_
    refine zW.ior (pc' := 74) dX5_parseDigits_73 rfl ?_
    rw [e1]
    refine zW.putK (pc' := 77) dX5_parseDigits_74 rfl f_X5_62_4 hp ⟨⟨rfl, (Nat.le_of_ble_eq_true rfl)⟩, (Nat.le_of_ble_eq_true rfl)⟩ (zFw.of ft_4_4 rfl rfl) (zsS (zsS (zsS (zsS (zs0))))) (fun _ e9 k9 => ?_)
    have zf := zf.put e9 hp (by decide) (Or.inl rfl)
    replace hp := k9
    clear e9 k9
    refine zW.iload_n (pc' := 78) dX5_parseDigits_77 rfl rfl (zgS (zgS (zg0))) ?_
    refine zW.iret dX5_parseDigits_78 rfl (rfl) ?_
    refine ⟨_, rfl, rfl, ?_, zf⟩
    unfold cPo
    rw [if_neg q]
    exact hp
  have loop : ∀ (m k v : Nat) (e' : Nat × Nat) (H : zH), k + m = d → v < 10 ^ k → e'.1 ≤ l.length → e'.2 = 0 → zfr (fun b => b = p) h H → H p = some (4, [.ref kw, .ref c, .ref al, .int (nI e'.1), .int (nI 0)]) → (0 < k ∨ pDig l e'.1 = true) → zW G mX5_parseDigits 9 0 4 [.ref p, .int (nI d), .int (nI v), .int (nI k)] [] H (cPp h p kw c al (some (.int (nI (pRun l m e'.1 v).1))) ((pRun l m e'.1 v).2, 0)) := by
    intro m
    induction m with
    | zero =>
      intro k v e' H hk hv hl q zf hp hq
      refine zW.aload_n (pc' := 5) dX5_parseDigits_4 rfl rfl zg0 rfl ?_
      refine zW.get (pc' := 8) dX5_parseDigits_5 rfl f_X5_62_4 hp ⟨rfl, (Nat.le_of_ble_eq_true rfl)⟩ rfl ?_
      refine zW.if_neN (pc' := 11) 59 dX5_parseDigits_8 rfl (by decide) (by omega) (fun b9 => absurd b9 (by omega)) (fun b9 => ?_)
      refine zW.iload_n (pc' := 12) dX5_parseDigits_11 rfl rfl (zgS (zgS (zgS (zg0)))) ?_
      refine zW.iload_n (pc' := 13) dX5_parseDigits_12 rfl rfl (zgS (zg0)) ?_
      refine zW.icmp_geN (pc' := 16) 59 dX5_parseDigits_13 rfl (by decide) (by omega) (by omega) (fun b9 => ?_) (fun b9 => absurd b9 (by omega))
      exact fin H (e'.1, 0) v k zf (by rw [if_pos rfl]; exact hp) (by omega) rfl (by omega)
    | succ m ih =>
      intro k v e' H hk hv hl q zf hp hq
      have hv2 : 10 ^ k ≤ 10 ^ 3 := Nat.pow_le_pow_right (by decide) (by omega)
      have hPH : cPo H p kw c al e' := by unfold cPo; rw [if_pos q]; exact hp
      have ks2 := hw H zf
      obtain ⟨kc, fc, hc, hkc⟩ := ks2.ob
      have hkc : kc % 1000 = 14 ∧ 14 < 50 := ⟨hkc, by decide⟩
      refine zW.aload_n (pc' := 5) dX5_parseDigits_4 rfl rfl zg0 rfl ?_
      refine zW.get (pc' := 8) dX5_parseDigits_5 rfl f_X5_62_4 hp ⟨rfl, (Nat.le_of_ble_eq_true rfl)⟩ rfl ?_
      refine zW.if_neN (pc' := 11) 59 dX5_parseDigits_8 rfl (by decide) (by omega) (fun b9 => absurd b9 (by omega)) (fun b9 => ?_)
      refine zW.iload_n (pc' := 12) dX5_parseDigits_11 rfl rfl (zgS (zgS (zgS (zg0)))) ?_
      refine zW.iload_n (pc' := 13) dX5_parseDigits_12 rfl rfl (zgS (zg0)) ?_
      refine zW.icmp_geN (pc' := 16) 59 dX5_parseDigits_13 rfl (by decide) (by omega) (by omega) (fun b9 => absurd b9 (by omega)) (fun b9 => ?_)
      refine zW.aload_n (pc' := 17) dX5_parseDigits_16 rfl rfl zg0 rfl ?_
      refine zW.callV (r' := 0) (pc' := 20) dX5_parseDigits_17 rfl l_X5_99 rfl hp ⟨rfl, (Nat.le_of_ble_eq_true rfl)⟩ rfl (w_isDigit hPH ks2 hl) zc0 rfl (Nat.le_of_ble_eq_true rfl) (Nat.le_of_ble_eq_true rfl) (Nat.le_of_ble_eq_true rfl) (fun _ _ q9 => ?_) (fun _ _ q9 => by cases q9.1)
      obtain ⟨q8, e9⟩ := q9
      cases q8
      replace e9 := e9.symm
      subst e9
      rw [pRun]
      by_cases t : pDig l e'.1 = true
      · rw [if_pos t, if_pos t]
        refine zW.if_eqN (pc' := 23) 59 dX5_parseDigits_20 rfl (by decide) (by omega) (fun b9 => absurd b9 (by omega)) (fun b9 => ?_)
        obtain ⟨x, hx, hx1, hx2, hx3, -, hx4⟩ := pDig_at t
        refine zW.bipush (pc' := 25) (nI 10) dX5_parseDigits_23 rfl (by decide) ?_
        refine zW.iload_n (pc' := 26) dX5_parseDigits_25 rfl rfl (zgS (zgS (zg0))) ?_
        refine zW.imulN (pc' := 27) dX5_parseDigits_26 rfl ?_
        refine zW.aload_n (pc' := 28) dX5_parseDigits_27 rfl rfl zg0 rfl ?_
        refine zW.get (pc' := 31) dX5_parseDigits_28 rfl f_X5_40_4 hp ⟨rfl, (Nat.le_of_ble_eq_true rfl)⟩ rfl ?_
        refine zW.aload_n (pc' := 32) dX5_parseDigits_31 rfl rfl zg0 rfl ?_
        refine zW.get (pc' := 35) dX5_parseDigits_32 rfl f_X5_44_4 hp ⟨rfl, (Nat.le_of_ble_eq_true rfl)⟩ rfl ?_
        refine zW.callV (r' := 0) (pc' := 38) dX5_parseDigits_35 rfl l_X5_58 rfl hc hkc rfl (w_strAt ks2 hx) (zcc rfl zc0) rfl (Nat.le_of_ble_eq_true rfl) (Nat.le_of_ble_eq_true rfl) (Nat.le_of_ble_eq_true rfl) (fun _ _ q9 => ?_) (fun _ _ q9 => by cases q9.1)
        obtain ⟨q8, e9⟩ := q9
        cases q8
        replace e9 := e9.symm
        subst e9
        refine zW.iaddN (pc' := 39) dX5_parseDigits_38 rfl ?_
        refine zW.bipush (pc' := 41) (nI 48) dX5_parseDigits_39 rfl (by decide) ?_
        refine zW.isubN (pc' := 42) dX5_parseDigits_41 rfl (by omega) ?_
        refine zW.istore_n (pc' := 43) dX5_parseDigits_42 rfl rfl (Nat.le_of_ble_eq_true rfl) (zsS (zsS (zs0))) ?_
        refine zW.aload_n (pc' := 44) dX5_parseDigits_43 rfl rfl zg0 rfl ?_
        refine zW.dup (pc' := 45) dX5_parseDigits_44 rfl rfl ?_
        refine zW.get (pc' := 48) dX5_parseDigits_45 rfl f_X5_44_4 hp ⟨rfl, (Nat.le_of_ble_eq_true rfl)⟩ rfl ?_
        refine zW.iconst (pc' := 49) (nI 1) dX5_parseDigits_48 rfl (by decide) ?_
        refine zW.iaddN (pc' := 50) dX5_parseDigits_49 rfl ?_
        refine zW.putK (pc' := 53) dX5_parseDigits_50 rfl f_X5_44_4 hp ⟨⟨rfl, (Nat.le_of_ble_eq_true rfl)⟩, (Nat.le_of_ble_eq_true rfl)⟩ (zFw.of ft_4_3 rfl rfl) (zsS (zsS (zsS (zs0)))) (fun _ e9 k9 => ?_)
        have zf := zf.put e9 hp (by decide) (Or.inl rfl)
        replace hp := k9
        clear e9 k9
        refine zW.iincN (pc' := 56) (n := 1) dX5_parseDigits_53 rfl (Nat.le_of_ble_eq_true rfl) (zgS (zgS (zgS (zg0)))) (zsS (zsS (zsS (zs0)))) ?_
        refine zW.goto 4 dX5_parseDigits_56 (by decide) ?_
        have k9 := ih (k + 1) (10 * v + x - 48) (e'.1 + 1, 0) _ (by omega) (by rw [Nat.pow_succ]; omega) hx3 rfl zf hp (Or.inl (Nat.succ_pos k))
        rw [show 10 * v + x - 48 = 10 * v + (l.getD e'.1 0 - 48) by rw [hx4]; omega] at k9
        rw [show 10 * v + x - 48 = 10 * v + (l.getD e'.1 0 - 48) by rw [hx4]; omega]
        exact k9
      · rw [if_neg t, if_neg t]
        refine zW.if_eqN (pc' := 23) 59 dX5_parseDigits_20 rfl (by decide) (by omega) (fun b9 => ?_) (fun b9 => absurd b9 (by omega))
        exact fin H (e'.1, 0) v k zf (by rw [if_pos rfl]; exact hp) (by omega) rfl (hq.resolve_right t)
  have hp := hP
  unfold cPo at hp
  unfold pNum
  show zW G mX5_parseDigits 9 0 0 [.ref p, .int (nI d), zho, zho] [] h _
  refine zW.iconst (pc' := 1) (nI 0) dX5_parseDigits_0 rfl (by decide) ?_
  refine zW.istore_n (pc' := 2) dX5_parseDigits_1 rfl rfl (Nat.le_of_ble_eq_true rfl) (zsS (zsS (zs0))) ?_
  refine zW.iconst (pc' := 3) (nI 0) dX5_parseDigits_2 rfl (by decide) ?_
  refine zW.istore_n (pc' := 4) dX5_parseDigits_3 rfl rfl (Nat.le_of_ble_eq_true rfl) (zsS (zsS (zsS (zs0)))) ?_
  by_cases q : e.2 = 0
  · rw [if_pos q] at hp ⊢
    by_cases t : pDig l e.1 = true
    · rw [if_pos t]
      exact loop d 0 0 e h (Nat.zero_add _) (by decide) hl q zfr.rf hp (Or.inr t)
    · rw [if_neg t]
      refine zW.aload_n (pc' := 5) dX5_parseDigits_4 rfl rfl zg0 rfl ?_
      refine zW.get (pc' := 8) dX5_parseDigits_5 rfl f_X5_62_4 hp ⟨rfl, (Nat.le_of_ble_eq_true rfl)⟩ rfl ?_
      refine zW.if_neN (pc' := 11) 59 dX5_parseDigits_8 rfl (by decide) (by omega) (fun b9 => absurd b9 (by omega)) (fun b9 => ?_)
      refine zW.iload_n (pc' := 12) dX5_parseDigits_11 rfl rfl (zgS (zgS (zgS (zg0)))) ?_
      refine zW.iload_n (pc' := 13) dX5_parseDigits_12 rfl rfl (zgS (zg0)) ?_
      refine zW.icmp_geN (pc' := 16) 59 dX5_parseDigits_13 rfl (by decide) (by omega) (by omega) (fun b9 => absurd b9 (by omega)) (fun b9 => ?_)
      refine zW.aload_n (pc' := 17) dX5_parseDigits_16 rfl rfl zg0 rfl ?_
      refine zW.callV (r' := 0) (pc' := 20) dX5_parseDigits_17 rfl l_X5_99 rfl hp ⟨rfl, (Nat.le_of_ble_eq_true rfl)⟩ rfl (w_isDigit hP ks hl) zc0 rfl (Nat.le_of_ble_eq_true rfl) (Nat.le_of_ble_eq_true rfl) (Nat.le_of_ble_eq_true rfl) (fun _ _ q9 => ?_) (fun _ _ q9 => by cases q9.1)
      obtain ⟨q8, e9⟩ := q9
      cases q8
      replace e9 := e9.symm
      subst e9
      rw [if_neg t]
      refine zW.if_eqN (pc' := 23) 59 dX5_parseDigits_20 rfl (by decide) (by omega) (fun b9 => ?_) (fun b9 => absurd b9 (by omega))
      exact bad (e.1, e.1 + 1) 0 hp (Nat.zero_le _) (Nat.succ_ne_zero _)
  · rw [if_neg q] at hp ⊢
    refine zW.aload_n (pc' := 5) dX5_parseDigits_4 rfl rfl zg0 rfl ?_
    refine zW.get (pc' := 8) dX5_parseDigits_5 rfl f_X5_62_4 hp ⟨rfl, (Nat.le_of_ble_eq_true rfl)⟩ rfl ?_
    refine zW.if_neN (pc' := 11) 59 dX5_parseDigits_8 rfl (by decide) (by omega) (fun b9 => ?_) (fun b9 => absurd b9 (by omega))
    exact bad e 1 hp (Nat.le_refl _) q
theorem w_numAB (hP : cPo h p kw c al e) (ks : cNew h c w l) (hl : e.1 ≤ l.length) : zK G mX5_parseNumberAfterBlank 10 0 [.ref p] h (cPp h p kw c al (some (.int (nI (pBehind l 3 e).1))) (pBehind l 3 e).2) := by
  have hp := hP
  unfold cPo at hp
  obtain ⟨hs, g1, g2, g3, g4⟩ := id ks
  show zW G mX5_parseNumberAfterBlank 10 0 0 [.ref p] [] h _
  refine zW.aload_n (pc' := 1) dX5_parseNumberAfterBlank_0 rfl rfl zg0 rfl ?_
  refine zW.bipush (pc' := 3) (nI 32) dX5_parseNumberAfterBlank_1 rfl (by decide) ?_
  refine zW.callV (r' := 0) (pc' := 6) dX5_parseNumberAfterBlank_3 rfl l_X5_102 rfl hp ⟨rfl, (Nat.le_of_ble_eq_true rfl)⟩ rfl (w_expect hP ks.str hl (x := 32) (by decide)) (zcc rfl zc0) rfl (Nat.le_of_ble_eq_true rfl) (Nat.le_of_ble_eq_true rfl) (Nat.le_of_ble_eq_true rfl) (fun _ H1 q9 => ?_) (fun _ _ q9 => absurd q9 zO.no)
  obtain ⟨_, q8, e1, hP1, z1⟩ := q9
  cases q8
  subst e1
  have hp := hP1
  unfold cPo at hp
  have k1 := ks.fr z1 (zne g1 hP (by decide)) (zne g3 hP (by decide))
  refine zW.aload_n (pc' := 7) dX5_parseNumberAfterBlank_6 rfl rfl zg0 rfl ?_
  refine zW.iconst (pc' := 8) (nI 3) dX5_parseNumberAfterBlank_7 rfl (by decide) ?_
  refine zW.callV (r' := 0) (pc' := 11) dX5_parseNumberAfterBlank_8 rfl l_X5_106 rfl hp ⟨rfl, (Nat.le_of_ble_eq_true rfl)⟩ rfl (w_digits hP1 k1.str (pNeeds_ub hl) (d := 3) (by decide) (by decide)) (zcc rfl zc0) rfl (Nat.le_of_ble_eq_true rfl) (Nat.le_of_ble_eq_true rfl) (Nat.le_of_ble_eq_true rfl) (fun _ _ q9 => ?_) (fun _ _ q9 => absurd q9 zO.no)
  obtain ⟨_, q8, e1, hP2, z2⟩ := q9
  cases q8
  cases e1
  refine zW.iret dX5_parseNumberAfterBlank_11 rfl (rfl) ?_
  exact ⟨_, rfl, rfl, hP2, z1.tr z2 fun b hb => Or.inl hb⟩
theorem w_digAB (hP : cPo h p kw c al e) (ks : cNew h c w l) (hl : e.1 ≤ l.length) : zK G mX5_parseDigitAfterBlank 10 0 [.ref p] h (cPp h p kw c al (some (.int (nI (pBehind l 1 e).1))) (pBehind l 1 e).2) := by
  have hp := hP
  unfold cPo at hp
  obtain ⟨hs, g1, g2, g3, g4⟩ := id ks
  show zW G mX5_parseDigitAfterBlank 10 0 0 [.ref p] [] h _
  refine zW.aload_n (pc' := 1) dX5_parseDigitAfterBlank_0 rfl rfl zg0 rfl ?_
  refine zW.bipush (pc' := 3) (nI 32) dX5_parseDigitAfterBlank_1 rfl (by decide) ?_
  refine zW.callV (r' := 0) (pc' := 6) dX5_parseDigitAfterBlank_3 rfl l_X5_102 rfl hp ⟨rfl, (Nat.le_of_ble_eq_true rfl)⟩ rfl (w_expect hP ks.str hl (x := 32) (by decide)) (zcc rfl zc0) rfl (Nat.le_of_ble_eq_true rfl) (Nat.le_of_ble_eq_true rfl) (Nat.le_of_ble_eq_true rfl) (fun _ H1 q9 => ?_) (fun _ _ q9 => absurd q9 zO.no)
  obtain ⟨_, q8, e1, hP1, z1⟩ := q9
  cases q8
  subst e1
  have hp := hP1
  unfold cPo at hp
  have k1 := ks.fr z1 (zne g1 hP (by decide)) (zne g3 hP (by decide))
  refine zW.aload_n (pc' := 7) dX5_parseDigitAfterBlank_6 rfl rfl zg0 rfl ?_
  refine zW.iconst (pc' := 8) (nI 1) dX5_parseDigitAfterBlank_7 rfl (by decide) ?_
  refine zW.callV (r' := 0) (pc' := 11) dX5_parseDigitAfterBlank_8 rfl l_X5_106 rfl hp ⟨rfl, (Nat.le_of_ble_eq_true rfl)⟩ rfl (w_digits hP1 k1.str (pNeeds_ub hl) (d := 1) (by decide) (by decide)) (zcc rfl zc0) rfl (Nat.le_of_ble_eq_true rfl) (Nat.le_of_ble_eq_true rfl) (Nat.le_of_ble_eq_true rfl) (fun _ _ q9 => ?_) (fun _ _ q9 => absurd q9 zO.no)
  obtain ⟨_, q8, e1, hP2, z2⟩ := q9
  cases q8
  cases e1
  refine zW.iret dX5_parseDigitAfterBlank_11 rfl (rfl) ?_
  exact ⟨_, rfl, rfl, hP2, z1.tr z2 fun b hb => Or.inl hb⟩
end
