/-! THE CLASS's constructor (printed by mk9u.py) -/
section
set_option maxRecDepth 100000
variable {G : zG} {h h' : zH} {x : Nat} {L : List zA} {P : zA} {X U : Nat → Prop}
theorem zSep.add' (k : zSep L h U) (z : zfr X h h') (n : ∀ b, U b → h b ≠ none → ¬ X b) (p : P h' (fun b => h b = none ∧ h' b ≠ none)) (s : zStb P) : zSep (P :: L) h' (zext U h) :=
  ⟨_, ⟨p, s⟩, fun b hb => ⟨Or.inr hb.1, hb.2⟩, zSep.fr (zSep.up (V := fun b => zext U h b ∧ ¬ (h b = none ∧ h' b ≠ none)) k fun b hb hl => ⟨Or.inl hb, fun q => hl q.1⟩) z fun b hb hl => n b (hb.1.elim (fun q => q) fun q => absurd q hl) hl⟩
theorem w_newState {st : Nat} (hst : h st = some (1, [.null, .null, .null, .null, .int 0, .int 0, .int 0, .int 0, .int 0, .long 0, .long 0, .long 0])) : zK G mX2_init 6 14 [.ref st] h (zO fun o h' => o = none ∧ cS h' (fun b => b = st ∨ h b = none) st (sZero, [], [], []) ∧ zfr (fun b => b = st) h h') :=
  zW.post (w_stInit hst) fun o h' ⟨v, e1, e2, ll, aq, re, rt, ea, er, hP, z⟩ => ⟨v, e1, e2, ⟨ll, aq, re, rt, ea, 0, er, 0, nI 0, [], [], [], hP⟩, z⟩
theorem c_init (hx : h x = some (0, [.null, .null, .null, .null, .null, .int 0, .int 0, .int 0])) : zK G mX1_init 8 40 [.ref x] h (zO fun o h' => o = none ∧ cReg x 0 [] sW0 h' (fun b => b = x ∨ h b = none) ∧ zfr (fun b => b = x) h h') := by
  have hxn : h x ≠ none := by rw [hx]; exact fun q => by cases q
  have nx : ∀ b, h b = none → ¬ b = x := fun b q e => hxn (by rw [← e]; exact q)
  have zf := zfr.rf (A := fun b => b = x) (h := h)
  have R : zSep [] h (fun b => h b = none) := trivial
  show zW G mX1_init 8 40 0 [.ref x] [] h _
  have zg := zfr.rf (A := fun b => b = x) (h := h)
  have lx : ∀ b, h b = none → ¬ x = b := fun b q e => by rw [← e, hx] at q; cases q
  refine zW.aload_n (pc' := 1) dX1_init_0 rfl rfl zg0 rfl ?_
  refine zW.objInit (pc' := 4) dX1_init_1 rfl (lw_all_tbl q150) (lw_all_tbl q151) (lw_all_tbl q152) (Nat.le_of_ble_eq_true rfl) (Nat.le_of_ble_eq_true rfl) ?_
  refine zW.aload_n (pc' := 5) dX1_init_4 rfl rfl zg0 rfl ?_
  refine zW.newK (u := 3) (pc' := 8) dX1_init_5 rfl n_X1_7 zd_1 (fun s _ ns e9 k9 => ?_)
  have hx := zpres e9 (zfresh ns hx) hx
  have os := zg.nn0 ns
  have zg := zg.new e9 ns
  have hs := k9
  clear k9
  clear e9
  refine zW.dup (pc' := 9) dX1_init_8 rfl rfl ?_
  refine zW.callI (r' := 14) (pc' := 12) dX1_init_9 rfl l_X1_9 rfl (w_newState hs) zc0 rfl (Nat.le_of_ble_eq_true rfl) (Nat.le_of_ble_eq_true rfl) (Nat.le_of_ble_eq_true rfl) (fun _ H1 q9 => ?_) (fun _ _ q9 => absurd q9 zO.no)
  obtain ⟨_, q8, q1, hS, z⟩ := q9
  cases q8
  subst q1
  have hx := z.at hx (lx _ os)
  have zg2 : zfr (fun b => b = x) h H1 := zg.tr z fun b hb => Or.inr (by rw [hb]; exact os)
  have R := (zSep.add' (P := iS s (sZero, [], [], [])) R zg2 (fun b hb _ => nx b hb) (cS.live (hS.up (O' := fun b => h b = none) fun b hb => hb.elim (fun q => by rw [q]; exact os) fun q => zg.nn0 q)) iS.stb).up (V := fun b => h b = none) fun b hb hl => hb.elim (fun q => q) fun q => zf.nn0 q
  have zf := zf.tr zg2 fun b hb => Or.inl hb
  clear zg zg2
  have zg := zfr.rf (A := fun b => b = x) (h := H1)
  have lx : ∀ b, H1 b = none → ¬ x = b := fun b q e => by rw [← e, hx] at q; cases q
  refine zW.putK (pc' := 15) dX1_init_12 rfl f_X1_10_0 hx ⟨⟨rfl, (Nat.le_of_ble_eq_true rfl)⟩, (Nat.le_of_ble_eq_true rfl)⟩ (zFw.of ft_0_0 rfl rfl) zs0 (fun _ e9 k9 => ?_)
  have zg := zg.put e9 hx (by decide) (Or.inl rfl)
  replace hx := k9
  clear e9 k9
  refine zW.aload_n (pc' := 16) dX1_init_15 rfl rfl zg0 rfl ?_
  refine zW.newK (u := 1) (pc' := 19) dX1_init_16 rfl n_X1_16 zd_9 (fun a _ na e9 k9 => ?_)
  have hx := zpres e9 (zfresh na hx) hx
  have oa := zg.nn0 na
  have zg := zg.new e9 na
  have ha := k9
  clear k9
  clear e9
  refine zW.dup (pc' := 20) dX1_init_19 rfl rfl ?_
  refine zW.callI (r' := 5) (pc' := 23) dX1_init_20 rfl l_X1_18 rfl (w_dqInit ha) zc0 rfl (Nat.le_of_ble_eq_true rfl) (Nat.le_of_ble_eq_true rfl) (Nat.le_of_ble_eq_true rfl) (fun _ H2 q9 => ?_) (fun _ _ q9 => absurd q9 zO.no)
  obtain ⟨_, q8, q1, ar, nar, hQ, z⟩ := q9
  cases q8
  subst q1
  have hx := z.at hx (lx _ oa)
  have zg2 : zfr (fun b => b = x) H1 H2 := zg.tr z fun b hb => Or.inr (by rw [hb]; exact oa)
  have R := (zSep.add' (P := iD a []) R zg2 (fun b hb _ => nx b hb) (⟨ar, 0, hQ, ⟨oa, by rw [hQ.2.1]; exact fun q => by cases q⟩, ⟨zg.nn0 nar, by obtain ⟨-, -, f, h3, -⟩ := hQ; rw [h3]; exact fun q => by cases q⟩⟩) iD.stb).up (V := fun b => h b = none) fun b hb hl => hb.elim (fun q => q) fun q => zf.nn0 q
  have zf := zf.tr zg2 fun b hb => Or.inl hb
  clear zg zg2
  have zg := zfr.rf (A := fun b => b = x) (h := H2)
  have lx : ∀ b, H2 b = none → ¬ x = b := fun b q e => by rw [← e, hx] at q; cases q
  refine zW.putK (pc' := 26) dX1_init_23 rfl f_X1_19_0 hx ⟨⟨rfl, (Nat.le_of_ble_eq_true rfl)⟩, (Nat.le_of_ble_eq_true rfl)⟩ (zFw.fin ft_0_2 rfl rfl rfl rfl rfl) (zsS (zsS (zs0))) (fun _ e9 k9 => ?_)
  have zg := zg.put e9 hx (by decide) (Or.inl rfl)
  replace hx := k9
  clear e9 k9
  refine zW.aload_n (pc' := 27) dX1_init_26 rfl rfl zg0 rfl ?_
  refine zW.newK (u := 1) (pc' := 30) dX1_init_27 rfl n_X1_23 zd_13 (fun i _ ni e9 k9 => ?_)
  have hx := zpres e9 (zfresh ni hx) hx
  have oi := zg.nn0 ni
  have zg := zg.new e9 ni
  have hi := k9
  clear k9
  clear e9
  refine zW.dup (pc' := 31) dX1_init_30 rfl rfl ?_
  refine zW.callI (r' := 4) (pc' := 34) dX1_init_31 rfl l_X1_25 rfl (w_sbInit hi) zc0 rfl (Nat.le_of_ble_eq_true rfl) (Nat.le_of_ble_eq_true rfl) (Nat.le_of_ble_eq_true rfl) (fun _ H3 q9 => ?_) (fun _ _ q9 => absurd q9 zO.no)
  obtain ⟨_, q8, q1, v, nv, k, z⟩ := q9
  cases q8
  subst q1
  have hx := z.at hx (lx _ oi)
  have zg2 : zfr (fun b => b = x) H2 H3 := zg.tr z fun b hb => Or.inr (by rw [hb]; exact oi)
  have R := (zSep.add' (P := iB i []) R zg2 (fun b hb _ => nx b hb) (⟨v, k, ⟨oi, by obtain ⟨ml, t, h1, h2, -⟩ := k; rw [h1]; exact fun q => by cases q⟩, ⟨zg.nn0 nv, by obtain ⟨ml, t, h1, h2, -⟩ := k; rw [h2]; exact fun q => by cases q⟩⟩) iB.stb).up (V := fun b => h b = none) fun b hb hl => hb.elim (fun q => q) fun q => zf.nn0 q
  have zf := zf.tr zg2 fun b hb => Or.inl hb
  clear zg zg2
  have zg := zfr.rf (A := fun b => b = x) (h := H3)
  have lx : ∀ b, H3 b = none → ¬ x = b := fun b q e => by rw [← e, hx] at q; cases q
  refine zW.putK (pc' := 37) dX1_init_34 rfl f_X1_26_0 hx ⟨⟨rfl, (Nat.le_of_ble_eq_true rfl)⟩, (Nat.le_of_ble_eq_true rfl)⟩ (zFw.fin ft_0_3 rfl rfl rfl rfl rfl) (zsS (zsS (zsS (zs0)))) (fun _ e9 k9 => ?_)
  have zg := zg.put e9 hx (by decide) (Or.inl rfl)
  replace hx := k9
  clear e9 k9
  refine zW.aload_n (pc' := 38) dX1_init_37 rfl rfl zg0 rfl ?_
  refine zW.newK (u := 1) (pc' := 41) dX1_init_38 rfl n_X1_23 zd_13 (fun l _ nl e9 k9 => ?_)
  have hx := zpres e9 (zfresh nl hx) hx
  have ol := zg.nn0 nl
  have zg := zg.new e9 nl
  have hl := k9
  clear k9
  clear e9
  refine zW.dup (pc' := 42) dX1_init_41 rfl rfl ?_
  refine zW.callI (r' := 4) (pc' := 45) dX1_init_42 rfl l_X1_25 rfl (w_sbInit hl) zc0 rfl (Nat.le_of_ble_eq_true rfl) (Nat.le_of_ble_eq_true rfl) (Nat.le_of_ble_eq_true rfl) (fun _ H4 q9 => ?_) (fun _ _ q9 => absurd q9 zO.no)
  obtain ⟨_, q8, q1, v, nv, k, z⟩ := q9
  cases q8
  subst q1
  have hx := z.at hx (lx _ ol)
  have zg2 : zfr (fun b => b = x) H3 H4 := zg.tr z fun b hb => Or.inr (by rw [hb]; exact ol)
  have R := (zSep.add' (P := iB l []) R zg2 (fun b hb _ => nx b hb) (⟨v, k, ⟨ol, by obtain ⟨ml, t, h1, h2, -⟩ := k; rw [h1]; exact fun q => by cases q⟩, ⟨zg.nn0 nv, by obtain ⟨ml, t, h1, h2, -⟩ := k; rw [h2]; exact fun q => by cases q⟩⟩) iB.stb).up (V := fun b => h b = none) fun b hb hl => hb.elim (fun q => q) fun q => zf.nn0 q
  have zf := zf.tr zg2 fun b hb => Or.inl hb
  clear zg zg2
  have zg := zfr.rf (A := fun b => b = x) (h := H4)
  refine zW.putK (pc' := 48) dX1_init_45 rfl f_X1_30_0 hx ⟨⟨rfl, (Nat.le_of_ble_eq_true rfl)⟩, (Nat.le_of_ble_eq_true rfl)⟩ (zFw.fin ft_0_4 rfl rfl rfl rfl rfl) (zsS (zsS (zsS (zsS (zs0))))) (fun _ e9 k9 => ?_)
  have zg := zg.put e9 hx (by decide) (Or.inl rfl)
  have zf := zf.put e9 hx (by decide) (Or.inl rfl)
  replace hx := k9
  clear e9 k9
  refine zW.aload_n (pc' := 49) dX1_init_48 rfl rfl zg0 rfl ?_
  refine zW.iconst (pc' := 50) (-1) dX1_init_49 rfl (by decide) ?_
  refine zW.putK (pc' := 53) dX1_init_50 rfl f_X1_33_0 hx ⟨⟨rfl, (Nat.le_of_ble_eq_true rfl)⟩, (Nat.le_of_ble_eq_true rfl)⟩ (zFw.of ft_0_6 rfl rfl) (zsS (zsS (zsS (zsS (zsS (zsS (zs0))))))) (fun _ e9 k9 => ?_)
  have zg := zg.put e9 hx (by decide) (Or.inl rfl)
  have zf := zf.put e9 hx (by decide) (Or.inl rfl)
  replace hx := k9
  clear e9 k9
  refine zW.aload_n (pc' := 54) dX1_init_53 rfl rfl zg0 rfl ?_
  refine zW.iconst (pc' := 55) (-1) dX1_init_54 rfl (by decide) ?_
  refine zW.putK (pc' := 58) dX1_init_55 rfl f_X1_37_0 hx ⟨⟨rfl, (Nat.le_of_ble_eq_true rfl)⟩, (Nat.le_of_ble_eq_true rfl)⟩ (zFw.of ft_0_7 rfl rfl) (zsS (zsS (zsS (zsS (zsS (zsS (zsS (zs0)))))))) (fun _ e9 k9 => ?_)
  have zg := zg.put e9 hx (by decide) (Or.inl rfl)
  have zf := zf.put e9 hx (by decide) (Or.inl rfl)
  replace hx := k9
  clear e9 k9
  refine zW.pay (r1 := 0) ?_ (Nat.zero_le _)
  refine zW.vret dX1_init_58 rfl ?_
  have R := R.fr zg fun b hb _ => nx b hb
  obtain ⟨O, ⟨hS, -⟩, lO, R2, -⟩ := zSep.acc (A := [iB l [], iB i [], iD a []]) (B := []) R
  have R3 : zSep (iB l [] :: iB i [] :: iD a [] :: []) _ (fun b => h b = none ∧ ¬ O b) := R2
  have R4 := (R3.under fun _ r => r.sw).sw.under fun _ r => r.sw
  refine ⟨_, rfl, rfl, ⟨s, O, hS, fun b hb => ⟨Or.inr (lO b hb).1, (lO b hb).2⟩, none, a, i, l, [], ⟨rfl, Nat.zero_le _, rfl⟩, fun b => b = x, ⟨⟨hx, rfl⟩, iO.stb⟩, fun b hb => ⟨⟨Or.inl hb, fun q => nx b (lO b q).1 hb⟩, by rw [hb, hx]; exact fun q => by cases q⟩, R4.up fun b hb hl => ⟨⟨Or.inr hb.1, hb.2⟩, nx b hb.1⟩⟩, zf⟩
end
