/-! THE PARSER: made; a command; the program */ -/
section
set_option maxRecDepth 100000
variable {G : zG} {h h' h0 h1 H H' : zH} {p kw ka c w al ea cm s : Nat} {l q : List Nat} {e : Nat × Nat} {es : List Nat} {cs : List pC}
theorem w_cmdInit {kc : Nat} (hcm : h cm = some (5, [.null, .null])) : zK G mX6_init 1 1 [.ref cm, .ref kc] h (zO fun o h' => o = none ∧ ∃ ar, h ar = none ∧ h' cm = some (5, [.ref kc, .ref ar]) ∧ h' ar = some (100, ztab 4 fun _ => 0) ∧ zfr (fun b => b = cm) h h') := by
  have zf := zfr.rf (A := fun b => b = cm) (h := h)
  show zW G mX6_init 1 1 0 [.ref cm, .ref kc] [] h _
  refine zW.aload_n (pc' := 1) dX6_init_0 rfl rfl zg0 rfl ?_
  refine zW.objInit (pc' := 4) dX6_init_1 rfl (lw_all_tbl q2393) (lw_all_tbl q151) (lw_all_tbl q152) (Nat.le_of_ble_eq_true rfl) (Nat.le_of_ble_eq_true rfl) ?_
  refine zW.aload_n (pc' := 5) dX6_init_4 rfl rfl zg0 rfl ?_
  refine zW.iconst (pc' := 6) (nI 4) dX6_init_5 rfl (by decide) ?_
  refine zW.newaIK (u := 1) (N := 4) (pc' := 8) dX6_init_6 rfl (by decide) (by decide) (by decide) ⟨by decide, by decide⟩ (fun ar _ nar e9 k9 => ?_)
  have hcm := zpres e9 (zfresh nar hcm) hcm
  have oar := zf.nn0 nar
  have zf := zf.new e9 nar
  have har := k9
  clear k9
  clear e9
  refine zW.putK (pc' := 11) dX6_init_8 rfl f_X6_7_5 hcm ⟨⟨rfl, (Nat.le_of_ble_eq_true rfl)⟩, (Nat.le_of_ble_eq_true rfl)⟩ (zFw.fin ft_5_1 rfl rfl rfl rfl rfl) (zsS (zs0)) (fun _ e9 k9 => ?_)
  have har := zpres e9 (zne har hcm (by decide)) har
  have zf := zf.put e9 hcm (by decide) (Or.inl rfl)
  replace hcm := k9
  clear e9 k9
  refine zW.aload_n (pc' := 12) dX6_init_11 rfl rfl zg0 rfl ?_
  refine zW.aload_n (pc' := 13) dX6_init_12 rfl rfl (zgS (zg0)) rfl ?_
  refine zW.putK (pc' := 16) dX6_init_13 rfl f_X6_13_5 hcm ⟨⟨rfl, (Nat.le_of_ble_eq_true rfl)⟩, (Nat.le_of_ble_eq_true rfl)⟩ (zFw.fin ft_5_0 rfl rfl rfl rfl rfl) zs0 (fun _ e9 k9 => ?_)
  have har := zpres e9 (zne har hcm (by decide)) har
  have zf := zf.put e9 hcm (by decide) (Or.inl rfl)
  replace hcm := k9
  clear e9 k9
  refine zW.vret dX6_init_16 rfl ?_
  exact ⟨_, rfl, rfl, ar, nar, hcm, har, zf⟩
/-- a command object -/
def cCmd (h : zH) (h0 : zH) (x : Nat) (c : pC) : Prop := ∃ kc kv ar g, h x = some (5, [.ref kc, .ref ar]) ∧ cNew h kc kv (kWd c.1) ∧ h ar = some (100, ztab 4 g) ∧ cGot c g ∧ (c.1 = 97 ∨ c.1 = 115 ∨ c.1 = 99 ∨ c.1 = 101 ∨ c.1 = 117 ∨ c.1 = 116 ∨ c.1 = 114) ∧ (h0 x = none ∧ h0 kc = none ∧ h0 kv = none ∧ h0 ar = none)
def cCmds (h h0 : zH) (es : List Nat) (cs : List pC) : Prop := es.length = cs.length ∧ ∀ (i x : Nat) (c : pC), es[i]? = some x → cs[i]? = some c → cCmd h h0 x c
theorem cAL.fr {A : Nat → Prop} (k : cAL G h al ea es) (z : zfr A h h') (n1 : ¬ A al) (n2 : ¬ A ea) (n3 : ∀ x ∈ es, ¬ A x) : cAL G h' al ea es := by
  obtain ⟨mc, kk, t, h1, h2, h3, h4, h5⟩ := k
  refine ⟨mc, kk, t, z.at h1 n1, z.at h2 n2, h3, h4, fun x hx => ?_⟩
  obtain ⟨l, hl⟩ := h5 x hx
  exact ⟨l, z.at hl (n3 x hx)⟩
theorem cAL.hd (k : cAL G h al ea es) : ∃ l, h al = some (11, l) := by
  obtain ⟨mc, kk, t, h1, -⟩ := k
  exact ⟨_, h1⟩
theorem cAL.he (k : cAL G h al ea es) : ∃ kk l, h ea = some (kk, l) ∧ 104 ≤ kk % 1000 := by
  obtain ⟨mc, kk, t, h1, h2, h3, -⟩ := k
  exact ⟨_, _, h2, cAL.kk h3⟩
theorem cAL.hx {x : Nat} (k : cAL G h al ea es) (hx : x ∈ es) : ∃ l, h x = some (5, l) := by
  obtain ⟨mc, kk, t, h1, h2, h3, h4, h5⟩ := k
  exact h5 x hx
/-- a list is left alone by what lies at a cell of another class -/
theorem cAL.fp {k : Nat} {l : List Value} (t : cAL G h al ea es) (z : zfr (fun b => b = p) h h') (hp : h p = some (k, l)) (hk : k ≠ 11 ∧ k % 1000 < 104 ∧ k ≠ 5) : cAL G h' al ea es := by
  obtain ⟨l1, g1⟩ := t.hd
  obtain ⟨k2, l2, g2, g3⟩ := t.he
  refine t.fr z (zne g1 hp (Ne.symm hk.1)) (zne g2 hp (fun e => by rw [e] at g3; omega)) fun x hx => ?_
  obtain ⟨l3, g4⟩ := t.hx hx
  exact zne g4 hp (Ne.symm hk.2.2)
theorem cCmd.mv {x : Nat} {c : pC} (k : cCmd h h0 x c) (z5 : ∀ b l, h b = some (5, l) → h' b = some (5, l)) (z14 : ∀ c w l, cNew h c w l → cNew h' c w l) (z100 : ∀ b l, h b = some (100, l) → h' b = some (100, l)) : cCmd h' h0 x c := by
  obtain ⟨kc, kv, ar, g, h1, h2, h3, h4⟩ := k
  exact ⟨kc, kv, ar, g, z5 _ _ h1, z14 _ _ _ h2, z100 _ _ h3, h4⟩
theorem cCmds.fp {k : Nat} {l : List Value} (t : cCmds h h0 es cs) (z : zfr (fun b => b = p) h h') (hp : h p = some (k, l)) (hk : k ≠ 5 ∧ k ≠ 14 ∧ k ≠ 103 ∧ k ≠ 100) : cCmds h' h0 es cs := ⟨t.1, fun i x c e1 e2 => (t.2 i x c e1 e2).mv (fun b l e => z.at e (zne e hp (Ne.symm hk.1))) (fun c w l e => by
  obtain ⟨hs, h1, h2, h3, h4⟩ := id e
  exact e.fr z (zne h1 hp (Ne.symm hk.2.1)) (zne h3 hp (Ne.symm hk.2.2.1))) (fun b l e => z.at e (zne e hp (Ne.symm hk.2.2.2)))⟩
theorem w_parInit (hk : zkn G h) (hS : zkS G) (hE : zkE G) (hp : h p = some (4, [.null, .null, .null, .int 0, .int 0])) : zK G mX5_init 7 10 [.ref p, .ref c] h (zO fun o h' => o = none ∧ ∃ kw ka al, cPo h' p kw c al (0, 0) ∧ cKw G h' kw ka ∧ cAL G h' al (zg_a G 3) [] ∧ (h kw = none ∧ h ka = none ∧ h al = none) ∧ zfr (fun b => b = p) h h') := by
  have zf := zfr.rf (A := fun b => b = p) (h := h)
  show zW G mX5_init 7 10 0 [.ref p, .ref c] [] h _
  refine zW.aload_n (pc' := 1) dX5_init_0 rfl rfl zg0 rfl ?_
  refine zW.objInit (pc' := 4) dX5_init_1 rfl (lw_all_tbl q2103) (lw_all_tbl q151) (lw_all_tbl q152) (Nat.le_of_ble_eq_true rfl) (Nat.le_of_ble_eq_true rfl) ?_
  refine zW.aload_n (pc' := 5) dX5_init_4 rfl rfl zg0 rfl ?_
  refine zW.ldcS (j := 10) (pc' := 7) dX5_init_5 rfl rfl ?_
  refine zW.ldcS (j := 11) (pc' := 9) dX5_init_7 rfl rfl ?_
  refine zW.ldcS (j := 12) (pc' := 11) dX5_init_9 rfl rfl ?_
  refine zW.ldcS (j := 13) (pc' := 13) dX5_init_11 rfl rfl ?_
  refine zW.ldcS (j := 14) (pc' := 15) dX5_init_13 rfl rfl ?_
  refine zW.ldcS (j := 15) (pc' := 17) dX5_init_15 rfl rfl ?_
  refine zW.ldcS (j := 16) (pc' := 19) dX5_init_17 rfl rfl ?_
  refine zW.callS (r' := 3) (pc' := 22) dX5_init_19 rfl l_X5_21 rfl (w_listOf hk hS) (zcc rfl (zcc rfl (zcc rfl (zcc rfl (zcc rfl (zcc rfl (zcc rfl zc0))))))) rfl (Nat.le_of_ble_eq_true rfl) (Nat.le_of_ble_eq_true rfl) (Nat.le_of_ble_eq_true rfl) (fun _ H1 q9 => ?_) (fun _ _ q9 => absurd q9 zO.no)
  obtain ⟨_, q8, kw, ka, e1, ⟨n1, n2⟩, k1, z1⟩ := q9
  cases q8
  cases e1
  have hp := z1.at hp fun q => q
  have zf := zf.tr z1 fun _ q => q.elim
  have hkw := k1.1
  have hka := k1.2
  refine zW.putK (pc' := 25) dX5_init_22 rfl f_X5_27_4 hp ⟨⟨rfl, (Nat.le_of_ble_eq_true rfl)⟩, (Nat.le_of_ble_eq_true rfl)⟩ (zFw.fin ft_4_0 rfl rfl rfl rfl rfl) zs0 (fun _ e9 k9 => ?_)
  have hkw := zpres e9 (zne hkw hp (by decide)) hkw
  have hka := zpres e9 (zne hka hp (by decide)) hka
  have zf := zf.put e9 hp (by decide) (Or.inl rfl)
  replace hp := k9
  clear e9 k9
  refine zW.aload_n (pc' := 26) dX5_init_25 rfl rfl zg0 rfl ?_
  refine zW.newK (u := 1) (pc' := 29) dX5_init_26 rfl n_X5_33 zd_11 (fun al _ nal e9 k9 => ?_)
  have hp := zpres e9 (zfresh nal hp) hp
  have hkw := zpres e9 (zfresh nal hkw) hkw
  have hka := zpres e9 (zfresh nal hka) hka
  have oal := zf.nn0 nal
  have zf := zf.new e9 nal
  have hal := k9
  clear k9
  clear e9
  refine zW.dup (pc' := 30) dX5_init_29 rfl rfl ?_
  refine zW.callI (r' := 0) (pc' := 33) dX5_init_30 rfl l_X5_35 rfl (w_alInit (zf.kn hk) hE hal) zc0 rfl (Nat.le_of_ble_eq_true rfl) (Nat.le_of_ble_eq_true rfl) (Nat.le_of_ble_eq_true rfl) (fun _ H2 q9 => ?_) (fun _ _ q9 => absurd q9 zO.no)
  obtain ⟨_, q8, e1, k3, z3⟩ := q9
  cases q8
  subst e1
  have hp := z3.at hp (zne hp hal (by decide))
  have hkw := z3.at hkw (zne hkw hal (by decide))
  have hka := z3.at hka (zne hka hal (by decide))
  have zf := zf.tr z3 fun b hb => Or.inr (by rw [hb]; exact oal)
  have zg := zfr.rf (A := fun b => b = p) (h := H2)
  have hp2 := hp
  refine zW.putK (pc' := 36) dX5_init_33 rfl f_X5_36_4 hp ⟨⟨rfl, (Nat.le_of_ble_eq_true rfl)⟩, (Nat.le_of_ble_eq_true rfl)⟩ (zFw.fin ft_4_2 rfl rfl rfl rfl rfl) (zsS (zsS (zs0))) (fun _ e9 k9 => ?_)
  have hkw := zpres e9 (zne hkw hp (by decide)) hkw
  have hka := zpres e9 (zne hka hp (by decide)) hka
  have zf := zf.put e9 hp (by decide) (Or.inl rfl)
  have zg := zg.put e9 hp (by decide) (Or.inl rfl)
  replace hp := k9
  clear e9 k9
  refine zW.aload_n (pc' := 37) dX5_init_36 rfl rfl zg0 rfl ?_
  refine zW.aload_n (pc' := 38) dX5_init_37 rfl rfl (zgS (zg0)) rfl ?_
  refine zW.putK (pc' := 41) dX5_init_38 rfl f_X5_40_4 hp ⟨⟨rfl, (Nat.le_of_ble_eq_true rfl)⟩, (Nat.le_of_ble_eq_true rfl)⟩ (zFw.fin ft_4_1 rfl rfl rfl rfl rfl) (zsS (zs0)) (fun _ e9 k9 => ?_)
  have hkw := zpres e9 (zne hkw hp (by decide)) hkw
  have hka := zpres e9 (zne hka hp (by decide)) hka
  have zf := zf.put e9 hp (by decide) (Or.inl rfl)
  have zg := zg.put e9 hp (by decide) (Or.inl rfl)
  replace hp := k9
  clear e9 k9
  refine zW.pay (r1 := 0) ?_ (Nat.zero_le _)
  refine zW.vret dX5_init_41 rfl ?_
  exact ⟨_, rfl, rfl, kw, ka, al, hp, ⟨hkw, hka⟩, k3.fp zg hp2 ⟨by decide, by decide, by decide⟩, ⟨n1, n2, oal⟩, zf⟩
/-- the parser, its commands -/
def cPar (G : zG) (h0 h : zH) (p kw ka c w al ea : Nat) (l : List Nat) (e : Nat × Nat) (es : List Nat) (cs : List pC) : Prop := cPo h p kw c al e ∧ cKw G h kw ka ∧ cNew h c w l ∧ cAL G h al ea es ∧ (e.2 = 0 → cCmds h h0 es cs) ∧ (h0 p = none ∧ h0 kw = none ∧ h0 ka = none ∧ h0 c = none ∧ h0 w = none ∧ h0 al = none ∧ (0 < es.length → h0 ea = none)) ∧ (ka ≠ ea ∧ es.length = cs.length) ∧ zfr (fun _ => False) h0 h
theorem pArgs_ok {w : Nat × Nat × Nat} (k : pOk w.2) : pOk (pArgs l w).2 := by
  unfold pArgs
  split
  · exact pBehind_ok (pBehind_ok (pNum_ok (pBehind_ok k)))
  · split
    · exact pBehind_ok (pBehind_ok k)
    · split
      · exact pBehind_ok k
      · split
        · split
          · exact pBehind_ok k
          · exact k
        · exact pBehind_ok (pBehind_ok k)
theorem pArgs_ub {w : Nat × Nat × Nat} (k : w.2.1 ≤ l.length) : (pArgs l w).2.1 ≤ l.length := by
  unfold pArgs
  split
  · exact pBehind_ub (pBehind_ub (pNum_ub (pBehind_ub k)))
  · split
    · exact pBehind_ub (pBehind_ub k)
    · split
      · exact pBehind_ub k
      · split
        · split
          · exact pBehind_ub k
          · exact k
        · exact pBehind_ub (pBehind_ub k)
theorem pHead_ok (hl : ∀ x ∈ l, x < 128) (hs : s ≤ l.length) : pOk (pHead l s).2 ∧ (pHead l s).2.1 ≤ l.length ∧ s ≤ (pHead l s).2.1 := by
  obtain ⟨⟨h1, h2, h3⟩, -⟩ := kHead hl hs
  refine ⟨h2.elim (fun q => Or.inl q.1) (fun q => Or.inr (by rw [q.1, h1])), by rw [h1]; exact h3, by rw [h1]; omega⟩
theorem pCmd_ok (hl : ∀ x ∈ l, x < 128) (hs : s ≤ l.length) : pOk (pCmd l s).2 ∧ (pCmd l s).2.1 ≤ l.length := by
  obtain ⟨h1, h2, -⟩ := pHead_ok hl hs
  rw [pCmd_eq.1]
  split
  · exact ⟨pArgs_ok h1, pArgs_ub h2⟩
  · exact ⟨h1, h2⟩
theorem pArgs_kind {w : Nat × Nat × Nat} : (pArgs l w).1.1 = w.1 := by
  unfold pArgs
  split
  · rename_i q
    exact q.symm
  · split
    · rfl
    · split
      · rfl
      · split
        · rename_i q
          split
          · exact q.symm
          · exact q.symm
        · rfl
theorem pHead_k (h : (pHead l s).2.2 = 0) : (pHead l s).1 = 97 ∨ (pHead l s).1 = 115 ∨ (pHead l s).1 = 99 ∨ (pHead l s).1 = 101 ∨ (pHead l s).1 = 117 ∨ (pHead l s).1 = 116 ∨ (pHead l s).1 = 114 := by
  unfold pHead at h ⊢
  cases e : l[s]? with
  | none => rw [e] at h; cases h
  | some x =>
    rw [e] at h
    dsimp only at h ⊢
    by_cases q : x = 97 ∨ x = 115 ∨ x = 99 ∨ x = 116 ∨ x = 114
    · rw [if_pos q]; exact pWord_k
    · rw [if_neg q] at h; cases h
theorem w_parseCmd (hk : zkn G h) (hS : zkS G) (hP : cPar G h0 h p kw ka c w al ea l (s, 0) es cs) (hs : s ≤ l.length) (hl : l.length ≤ 60) (hes : es.length ≤ 61) : zK G mX5_parseCommand 12 380 [.ref p] h (zO fun o h' => o = none ∧ ∃ ea' cm, cPar G h0 h' p kw ka c w al ea' l (pCmd l s).2 (es ++ [cm]) (cs ++ [(pCmd l s).1])) := by
  obtain ⟨p1, p2, p3, p4, p5, ⟨f1, f2, f3, f4, f5, f6, f7⟩, ⟨d1, d2⟩, z0⟩ := hP
  have hp := p1
  unfold cPo at hp
  have h128 : ∀ x ∈ l, x < 128 := by obtain ⟨hs, a1, a2, a3, a4, a5⟩ := id p3; exact a5
  obtain ⟨hok, hub, -⟩ := pHead_ok h128 hs
  have zq := zfr.rf (A := fun _ => False) (h := h)
  show zW G mX5_parseCommand 12 380 0 [.ref p, zho] [] h _
  refine zW.newK (u := 1) (pc' := 3) dX5_parseCommand_0 rfl n_X5_111 zd_5 (fun cm _ ncm e9 k9 => ?_)
  have hp := zpres e9 (zfresh ncm hp) hp
  have ocm := zq.nn0 ncm
  have zq := zq.new e9 ncm
  have hcm := k9
  clear k9
  clear e9
  refine zW.dup (pc' := 4) dX5_parseCommand_3 rfl rfl ?_
  refine zW.aload_n (pc' := 5) dX5_parseCommand_4 rfl rfl zg0 rfl ?_
  refine zW.callV (r' := 350) (pc' := 8) dX5_parseCommand_5 rfl l_X5_131 rfl hp ⟨rfl, (Nat.le_of_ble_eq_true rfl)⟩ rfl (w_parseKey (zq.kn hk) hS (zq.at p1 (fun q ↦ q)) (p2.fr zq (fun q ↦ q) (fun q ↦ q)) (p3.fr zq (fun q ↦ q) (fun q ↦ q)) hs hl) zc0 rfl (Nat.le_of_ble_eq_true rfl) (Nat.le_of_ble_eq_true rfl) (Nat.le_of_ble_eq_true rfl) (fun _ H2 q9 => ?_) (fun _ _ q9 => absurd q9 zO.no)
  obtain ⟨_, q8, c', w', e1, hP2, z2, hq0, hkey⟩ := q9
  cases q8
  cases e1
  have hcm2 := z2.at hcm (zne hcm hp (by decide))
  refine zW.callI (r' := 1) (pc' := 11) dX5_parseCommand_8 rfl l_X5_135 rfl (w_cmdInit hcm2) (zcc rfl zc0) rfl (Nat.le_of_ble_eq_true rfl) (Nat.le_of_ble_eq_true rfl) (Nat.le_of_ble_eq_true rfl) (fun _ H3 q9 => ?_) (fun _ _ q9 => absurd q9 zO.no)
  obtain ⟨_, q8, e1, ar, nar, hcm3, har3, z3⟩ := q9
  cases q8
  subst e1
  have zz2 : zfr (fun b => b = p) h H2 := (zq.mono (B := fun b => b = p) fun _ q => q.elim).tr z2 fun b hb => Or.inl hb
  have zz : zfr (fun b => b = p) h H3 := zz2.tr z3 fun b hb => Or.inr (by rw [hb]; exact ncm)
  have P3 : cPo H3 p kw c al (pHead l s).2 := z3.at hP2 (zne hP2 hcm2 (by decide))
  obtain ⟨hc1, hc2, hc3, hc4, hc5⟩ := id p3
  have k3 := p2.fr zz (zne p2.1 p1 (by decide)) (zne p2.2 p1 (by decide))
  have c3 := p3.fr zz (zne hc2 p1 (by decide)) (zne hc4 p1 (by decide))
  have a3 := p4.fp zz p1 ⟨by decide, by decide, by decide⟩
  have m3 := (p5 rfl).fp zz p1 ⟨by decide, by decide, by decide, by decide⟩
  have z03 : zfr (fun _ => False) h0 H3 := z0.tr zz fun b hb => Or.inr (by rw [hb]; exact f1)
  obtain ⟨lal, hal3⟩ := a3.hd
  obtain ⟨kea, lea, hea3, hea3'⟩ := a3.he
  have hp := P3
  unfold cPo at hp
  refine zW.astore_n (pc' := 12) dX5_parseCommand_11 rfl rfl (Nat.le_of_ble_eq_true rfl) rfl (zsS (zs0)) ?_
  refine zW.aload_n (pc' := 13) dX5_parseCommand_12 rfl rfl zg0 rfl ?_
  refine zW.get (pc' := 16) dX5_parseCommand_13 rfl f_X5_36_4 hp ⟨rfl, (Nat.le_of_ble_eq_true rfl)⟩ rfl ?_
  refine zW.aload_n (pc' := 17) dX5_parseCommand_16 rfl rfl (zgS (zg0)) rfl ?_
  refine zW.callV (r' := 25) (pc' := 20) dX5_parseCommand_17 rfl l_X5_138 rfl hal3 ⟨rfl, (Nat.le_of_ble_eq_true rfl)⟩ rfl (w_alAdd a3 hes hcm3) (zcc rfl zc0) rfl (Nat.le_of_ble_eq_true rfl) (Nat.le_of_ble_eq_true rfl) (Nat.le_of_ble_eq_true rfl) (fun _ H4 q9 => ?_) (fun _ _ q9 => absurd q9 zO.no)
  obtain ⟨_, q8, e1, ea', a4, nea, z4⟩ := q9
  cases q8
  cases e1
  have nA : ∀ {b k : Nat} {l : List Value}, H3 b = some (k, l) → k ≠ 11 → k % 1000 < 104 → ¬ (b = al ∨ (b = ea ∧ 0 < es.length)) := fun e q1 q2 q => q.elim (zne e hal3 q1) fun q => zne e hea3 (fun z => by rw [← z] at hea3'; omega) q.1
  have P4 : cPo H4 p kw c al (pHead l s).2 := z4.at P3 (nA P3 (by decide) (by decide))
  obtain ⟨hc31, hc32, hc33, hc34, hc35⟩ := id c3
  have c4 := c3.fr z4 (nA hc32 (by decide) (by decide)) (nA hc34 (by decide) (by decide))
  have k4 : cKw G H4 kw ka := k3.fr z4 (nA k3.1 (by decide) (by decide)) fun q => q.elim (zne k3.2 hal3 (by decide)) fun q => d1 q.1
  have hcm4 := z4.at hcm3 (nA hcm3 (by decide) (by decide))
  have har4 := z4.at har3 (nA har3 (by decide) (by decide))
  have z04 : zfr (fun _ => False) h0 H4 := z03.tr z4 fun b hb => Or.inr (hb.elim (fun q => by rw [q]; exact f6) fun q => by rw [q.1]; exact f7 q.2)
  have m4 : cCmds H4 h0 es cs := ⟨m3.1, fun i x c e1 e2 => (m3.2 i x c e1 e2).mv (fun b l e => z4.at e (nA e (by decide) (by decide))) (fun c w l e => by
    obtain ⟨g1, g2, g3, g4, g5⟩ := id e
    exact e.fr z4 (nA g2 (by decide) (by decide)) (nA g4 (by decide) (by decide))) (fun b l e => z4.at e (nA e (by decide) (by decide)))⟩
  have fcm : h0 cm = none := z0.nn0 ncm
  have far : h0 ar = none := z0.nn0 (zz2.nn0 nar)
  have dka : ka ≠ ea' := nea.elim (fun q => by rw [q.1]; exact d1) fun q => fun e => by rw [← e, k3.2] at q; cases q
  have fea : 0 < (es ++ [cm]).length → h0 ea' = none := fun _ => nea.elim (fun q => by rw [q.1]; exact f7 q.2) fun q => z03.nn0 q
  have hp := P4
  unfold cPo at hp
  refine zW.pop (pc' := 21) dX5_parseCommand_20 rfl rfl ?_
  refine zW.aload_n (pc' := 22) dX5_parseCommand_21 rfl rfl zg0 rfl ?_
  refine zW.get (pc' := 25) dX5_parseCommand_22 rfl f_X5_62_4 hp ⟨rfl, (Nat.le_of_ble_eq_true rfl)⟩ rfl ?_
  by_cases e0 : (pHead l s).2.2 = 0
  · rw [if_pos e0] at hp ⊢
    refine zW.if_neN (pc' := 28) 33 dX5_parseCommand_25 rfl (by decide) (by omega) (fun b9 => absurd b9 (by omega)) (fun b9 => ?_)
    obtain ⟨kN, kd⟩ := hkey e0
    have eH : (pHead l s).2 = ((pHead l s).2.1, 0) := Prod.ext rfl e0
    have eW : pHead l s = ((pHead l s).1, (pHead l s).2.1, 0) := Prod.ext rfl eH
    have hkk := pHead_k e0
    obtain ⟨hs5, n1, n2, n3, n4⟩ := id kN
    have kN3 := kN.fr z3 (zne n1 hcm2 (by decide)) (zne n3 hcm2 (by decide))
    obtain ⟨hs6, n5, n6, n7, n8⟩ := id kN3
    have kN4 := kN3.fr z4 (nA n5 (by decide) (by decide)) (nA n7 (by decide) (by decide))
    rw [eH] at P4
    have hp4 := P4
    unfold cPo at hp4
    have fkc : h0 c' = none ∧ h0 w' = none := kd.elim (fun q => by rw [q.1, q.2]; exact ⟨f4, f5⟩) fun q => ⟨z0.nn0 (zq.nn0 q.1), z0.nn0 (zq.nn0 q.2)⟩
    refine zW.aload_n (pc' := 29) dX5_parseCommand_28 rfl rfl zg0 rfl ?_
    refine zW.aload_n (pc' := 30) dX5_parseCommand_29 rfl rfl (zgS (zg0)) rfl ?_
    refine zW.callV (r' := 0) (pc' := 33) dX5_parseCommand_30 rfl l_X5_140 rfl hp4 ⟨rfl, (Nat.le_of_ble_eq_true rfl)⟩ rfl (w_pArgs (z4.kn (zz.kn hk)) hS P4 c4 hub hcm4 har4 kN4 hkk) (zcc rfl zc0) rfl (Nat.le_of_ble_eq_true rfl) (Nat.le_of_ble_eq_true rfl) (Nat.le_of_ble_eq_true rfl) (fun _ H5 q9 => ?_) (fun _ _ q9 => absurd q9 zO.no)
    obtain ⟨_, q8, e1, g, t5, gg⟩ := q9
    cases q8
    subst e1
    rw [← eW] at t5 gg
    obtain ⟨t1, t2, t3, t4, z5⟩ := t5
    refine zW.pay (r1 := 0) ?_ (Nat.zero_le _)
    refine zW.vret dX5_parseCommand_33 rfl ?_
    obtain ⟨hs7, r1, r2, r3, r4⟩ := id kN4
    have nB : ∀ {b k : Nat} {l : List Value}, H4 b = some (k, l) → k ≠ 4 → k ≠ 14 → k ≠ 100 → ¬ (b = p ∨ b = c' ∨ b = ar) := fun e q1 q2 q3 q => by
      rcases q with q | q | q
      · exact zne e hp4 q1 q
      · exact zne e r1 q2 q
      · exact zne e har4 q3 q
    have eC : pCmd l s = pArgs l (pHead l s) := pCmd_eq.2 e0
    obtain ⟨la4, hal4⟩ := a4.hd
    obtain ⟨kea4, lea4, hea4, hea4'⟩ := a4.he
    have kd2 : (pArgs l (pHead l s)).1.1 = (pHead l s).1 := pArgs_kind
    have new : cCmd H5 h0 cm (pArgs l (pHead l s)).1 := ⟨c', w', ar, g, z5.at hcm4 (nB hcm4 (by decide) (by decide) (by decide)), by rw [kd2]; exact t4, t3, gg, by rw [kd2]; exact hkk, fcm, fkc.1, fkc.2, far⟩
    have old : ∀ (i x : Nat) (c : pC), es[i]? = some x → cs[i]? = some c → cCmd H5 h0 x c := fun i x c e1 e2 => by
      obtain ⟨kc, kv, ar2, g2, w1, w2, w3, w4⟩ := m4.2 i x c e1 e2
      have dar : ar2 ≠ ar := by
        obtain ⟨kc3, kv3, ar3, g3, w13, w23, w33, w43⟩ := (p5 rfl).2 i x c e1 e2
        have e3 : ar3 = ar2 := by
          have q1 := z4.at (zz.at w13 (zne w13 p1 (by decide))) (nA (zz.at w13 (zne w13 p1 (by decide))) (by decide) (by decide))
          have q2 := (List.cons.inj (List.cons.inj (Prod.mk.inj (Option.some.inj (q1.symm.trans w1))).2).2).1
          injection q2
        rw [← e3]
        exact zfresh nar (zz2.at w33 (zne w33 p1 (by decide)))
      refine ⟨kc, kv, ar2, g2, z5.at w1 (nB w1 (by decide) (by decide) (by decide)), ?_, ?_, w4⟩
      · obtain ⟨v1, v2, v3, v4, v5⟩ := id w2
        by_cases q : kc = c'
        · subst q
          have e5 : kv = w' := by
            have q2 := (List.cons.inj (Prod.mk.inj (Option.some.inj (v2.symm.trans r1))).2).1
            injection q2
          subst e5
          rw [w2.str.inj kN4.str]
          exact t4
        · exact w2.fr z5 (fun z => by
            rcases z with z | z | z
            · exact zne v2 hp4 (by decide) z
            · exact q z
            · exact zne v2 har4 (by decide) z) (nB v4 (by decide) (by decide) (by decide))
      · exact z5.at w3 (fun z => by
          rcases z with z | z | z
          · exact zne w3 hp4 (by decide) z
          · exact zne w3 r1 (by decide) z
          · exact dar z)
    refine ⟨_, rfl, rfl, ea', cm, by rw [eC]; exact t1, k4.fr z5 (nB k4.1 (by decide) (by decide) (by decide)) (nB k4.2 (by decide) (by decide) (by decide)), t2, a4.fr z5 (nB hal4 (by decide) (by decide) (by decide)) (nB hea4 (fun z => by rw [z] at hea4'; omega) (fun z => by rw [z] at hea4'; omega) (fun z => by rw [z] at hea4'; omega)) (fun x hx => ?_), fun _ => ⟨?_, fun i x c e1 e2 => ?_⟩, ⟨f1, f2, f3, f4, f5, f6, fea⟩, ⟨dka, by rw [List.length_append, List.length_append, d2]; rfl⟩, ?_⟩
    · obtain ⟨lx, hlx⟩ := a4.hx hx
      exact nB hlx (by decide) (by decide) (by decide)
    · rw [List.length_append, List.length_append, d2]; rfl
    · rw [eC] at e2
      by_cases q : i < es.length
      · rw [List.getElem?_append_left q] at e1
        rw [List.getElem?_append_left (by omega)] at e2
        exact old i x c e1 e2
      · rw [List.getElem?_append_right (by omega)] at e1
        rw [List.getElem?_append_right (by omega)] at e2
        have e7 := List.mem_singleton.mp (List.mem_of_getElem? e1)
        have e8 := List.mem_singleton.mp (List.mem_of_getElem? e2)
        rw [e7, e8]
        exact new
    · exact z04.tr z5 fun b hb => Or.inr (by
        rcases hb with q | q | q
        · rw [q]; exact f1
        · rw [q]; exact fkc.1
        · rw [q]; exact far)
  · rw [if_neg e0] at hp ⊢
    refine zW.if_neN (pc' := 28) 33 dX5_parseCommand_25 rfl (by decide) (by omega) (fun b9 => ?_) (fun b9 => absurd b9 (by omega))
    refine zW.pay (r1 := 0) ?_ (Nat.zero_le _)
    refine zW.vret dX5_parseCommand_33 rfl ?_
    have eC : (pCmd l s).2 = (pHead l s).2 := by rw [pCmd_eq.1, if_neg e0]
    refine ⟨_, rfl, rfl, ea', cm, by rw [eC]; exact P4, k4, c4, a4, fun q => absurd q (by rw [eC]; exact e0), ⟨f1, f2, f3, f4, f5, f6, fea⟩, ⟨dka, by rw [List.length_append, List.length_append, d2]; rfl⟩, z04⟩
end
