/-! THE CLASS's executeAll: the loop, the whole */ -/
section
set_option maxRecDepth 100000
variable {G : zG} {h h' h0 h1 H : zH} {O U V : Nat → Prop} {x st e al ea it tt nn t kk y p : Nat} {X : List zA} {w : sW} {s s0 : sS} {es : List Nat} {cs : List pC} {mc : Int32} {c : pC}
theorem cCmd.fp {k : Nat} {l : List Value} (t : cCmd h h0 y c) (z : zfr (fun b => b = p) h h') (hp : h p = some (k, l)) (hk : k ≠ 5 ∧ k ≠ 14 ∧ k ≠ 103 ∧ k ≠ 100) : cCmd h' h0 y c := t.mv (fun b l e => z.at e (zne e hp (Ne.symm hk.1))) (fun c w l e => by
  obtain ⟨hs, h1, h2, h3, h4⟩ := id e
  exact e.fr z (zne h1 hp (Ne.symm hk.2.1)) (zne h3 hp (Ne.symm hk.2.2.1))) (fun b l e => z.at e (zne e hp (Ne.symm hk.2.2.2)))
theorem cCmd.cell (k : cCmd h h0 y c) : ∃ l, h y = some (5, l) := by
  obtain ⟨kc, kv, ar, g, h1, -⟩ := k
  exact ⟨_, h1⟩
theorem cReg.shut (k : cReg x e X w h U) : cReg x e X w h (fun b => U b ∧ h b ≠ none) := k.up fun b q z => ⟨q, z⟩
theorem drop_cons {A : Type} : ∀ {l : List A} {i : Nat} {a : A} {r : List A}, l.drop i = a :: r → l[i]? = some a ∧ l.drop (i + 1) = r ∧ i < l.length := by
  intro l i a r h
  have h1 : i < l.length := Nat.lt_of_not_le fun q => by rw [List.drop_eq_nil_of_le q] at h; cases h
  rw [List.drop_eq_getElem_cons h1] at h
  cases h
  exact ⟨List.getElem?_eq_getElem h1, rfl, h1⟩
theorem sDos_ok {rest : List pC} (h : (sDo s c).1 = 0) : sDos (c :: rest) s = ((sDos rest (sDo s c).2.2).1 + 1, (sDos rest (sDo s c).2.2).2) := by rw [sDos, if_pos h]
theorem sDos_no {rest : List pC} (h : (sDo s c).1 ≠ 0) : sDos (c :: rest) s = (0, s) := by rw [sDos, if_neg h]
/-- what a run of commands may change: the registry, hashes of the commands' keywords -/
def cBx (U : Nat → Prop) (h0 h : zH) : Nat → Prop := fun b => U b ∨ (h0 b = none ∧ ∃ l, h b = some (14, l))
theorem cBx.of {kc kv : Nat} {q : List Nat} (z : zfr (cBx U h0 h) h H) (k : cNew H kc kv q) (n : h0 kc = none) : cBx U h0 h kc ∨ h kc = none := by
  obtain ⟨hs, h1, -⟩ := k
  by_cases e : h kc = none
  · exact Or.inr e
  · refine Or.inl (Classical.byContradiction fun nb => ?_)
    have := z.1 kc nb e
    rw [h1] at this
    exact nb (Or.inr ⟨n, _, this.symm⟩)
theorem exAll_loop (hk : zkn G h) (hZ : zkI G) (hS : zkS G) (hL : zkL G) (hin : w.2.2.2.2.1 = []) (hJ0 : sJ tt nn w.1) (hN : nn + cs.length ≤ 10000) (hT : tt + 50 * (cs.length + 1) < 100000) (hel : es.length = cs.length) (hkk : 104 ≤ kk % 1000) (hb : es.length + t ≤ 100) (hit0 : h it = none) : ∀ (rest : List pC) (i : Nat) (s : sS) (H : zH) (Ui : Nat → Prop) (v5 v6 : Value), cs.drop i = rest → i + rest.length = cs.length → cReg x 1 [iS st w.1] (s, w.2) H Ui → (∀ b, Ui b → U b ∨ h b = none) → zfr (cBx U h0 h) h H → H al = some (11, [.int mc, .ref ea, .int (nI es.length)]) → H ea = some (kk, eTab es t) → cAIt H it al mc i → (¬ Ui al ∧ ¬ Ui ea ∧ ¬ Ui it) → (∀ (j y : Nat) (c : pC), es[j]? = some y → cs[j]? = some c → cCmd H (hzU (fun b => h0 b ≠ none ∨ Ui b)) y c) → sJ (tt + 50 * i) (nn + i) s → ((sDos cs w.1).1 = i + (sDos rest s).1 ∧ (sDos cs w.1).2 = (sDos rest s).2) → zW G mX1_executeAll 33 (1500 * rest.length + 82) 26 [.ref x, .ref al, .ref st, .int (nI i), .ref it, v5, v6] [] H (cEA x (cBx U h0 h) h (sRunA w cs)) := by
  have hUB : ∀ {Ui : Nat → Prop}, (∀ b, Ui b → U b ∨ h b = none) → ∀ b, Ui b → cBx U h0 h b ∨ h b = none := fun k b q => (k b q).elim (fun z => Or.inl (Or.inl z)) Or.inr
  intro rest
  induction rest with
  | nil =>
    intro i s H Ui v5 v6 hd hi hG hU zH0 hal hea hit nU hc hJ hs
    obtain ⟨lr, hit1⟩ := id hit
    refine zW.aload (pc' := 28) dX1_executeAll_26 rfl (zgS (zgS (zgS (zgS (zg0))))) rfl ?_
    refine zW.callF (r' := 0) (pc' := 33) dX1_executeAll_28 rfl l_X1_247_J23 rfl hit1 ⟨rfl, (Nat.le_of_ble_eq_true rfl)⟩ rfl (w_aiHas hal hit ⟨by omega, by rw [List.length_nil] at hi; omega⟩) zc0 rfl (Nat.le_of_ble_eq_true rfl) (Nat.le_of_ble_eq_true rfl) (Nat.le_of_ble_eq_true rfl) (fun _ _ q9 => ?_) (fun _ _ q9 => by cases q9.1)
    obtain ⟨q8, e9⟩ := q9
    cases q8
    replace e9 := e9.symm
    subst e9
    rw [if_pos (by rw [List.length_nil] at hi; omega)]
    refine zW.if_eqN (pc' := 36) 60 dX1_executeAll_33 rfl (by decide) (by omega) (fun b9 => ?_) (fun b9 => absurd b9 (by omega))
    rw [List.length_nil] at hi
    exact exAll_fin hk hZ hin hG (hUB hU) zH0 hJ0 (by omega) (by rw [hs.1, sDos]; omega) (by rw [hs.2, sDos])
  | cons c rest ih =>
    intro i s H Ui v5 v6 hd hi hG hU zH0 hal hea hit nU hc hJ hs
    rw [List.length_cons] at hi
    obtain ⟨hci, hd2, hlt⟩ := drop_cons hd
    have hyl : i < es.length := by omega
    obtain ⟨y, hy⟩ : ∃ y, es[i]? = some y := ⟨_, List.getElem?_eq_getElem hyl⟩
    obtain ⟨lr, hit1⟩ := id hit
    refine zW.aload (pc' := 28) dX1_executeAll_26 rfl (zgS (zgS (zgS (zgS (zg0))))) rfl ?_
    refine zW.callF (r' := 0) (pc' := 33) dX1_executeAll_28 rfl l_X1_247_J23 rfl hit1 ⟨rfl, (Nat.le_of_ble_eq_true rfl)⟩ rfl (w_aiHas hal hit ⟨by omega, by omega⟩) zc0 rfl (Nat.le_of_ble_eq_true rfl) (Nat.le_of_ble_eq_true rfl) (Nat.le_of_ble_eq_true rfl) (fun _ _ q9 => ?_) (fun _ _ q9 => by cases q9.1)
    obtain ⟨q8, e9⟩ := q9
    cases q8
    replace e9 := e9.symm
    subst e9
    rw [if_neg (by omega)]
    refine zW.if_eqN (pc' := 36) 60 dX1_executeAll_33 rfl (by decide) (by omega) (fun b9 => absurd b9 (by omega)) (fun b9 => ?_)
    refine zW.aload (pc' := 38) dX1_executeAll_36 rfl (zgS (zgS (zgS (zgS (zg0))))) rfl ?_
    refine zW.callF (r' := 0) (pc' := 43) dX1_executeAll_38 rfl l_X1_252_J23 rfl hit1 ⟨rfl, (Nat.le_of_ble_eq_true rfl)⟩ rfl (w_aiNext hal hea hkk hb hit hy) zc0 rfl (Nat.le_of_ble_eq_true rfl) (Nat.le_of_ble_eq_true rfl) (Nat.le_of_ble_eq_true rfl) (fun _ Hn q9 => ?_) (fun _ _ q9 => absurd q9 zO.no)
    obtain ⟨_, q8, e1, hit, zn⟩ := q9
    cases q8
    subst e1
    have nki : ea ≠ it := zne hea hit1 (fun e => by rw [e] at hkk; exact absurd hkk (by decide))
    have hal := zn.at hal (zne hal hit1 (by decide))
    have hea := zn.at hea nki
    have hG := hG.fr zn fun b hb _ e => nU.2.2 (by rw [← e]; exact hb)
    have zH0 := zH0.tr zn fun b hb => Or.inr (by rw [hb]; exact hit0)
    have hc := fun (j y : Nat) (c : pC) (e1 : es[j]? = some y) (e2 : cs[j]? = some c) => (hc j y c e1 e2).fp zn hit1 ⟨by decide, by decide, by decide, by decide⟩
    have hcm := hc i y c hy hci
    obtain ⟨cl, hcc⟩ := hcm.cell
    obtain ⟨st2, O2, hSt2, l2, k2⟩ := id hG
    obtain ⟨fs, hx, -⟩ := k2.hx
    refine zW.castS (pc' := 46) dX1_executeAll_43 rfl (lw_all_tbl q2516) hcc ⟨rfl, (Nat.le_of_ble_eq_true rfl)⟩ rfl ?_
    refine zW.astore (pc' := 48) dX1_executeAll_46 rfl (Nat.le_of_ble_eq_true rfl) rfl (zsS (zsS (zsS (zsS (zsS (zs0)))))) ?_
    refine zW.aload_n (pc' := 49) dX1_executeAll_48 rfl rfl zg0 rfl ?_
    refine zW.aload (pc' := 51) dX1_executeAll_49 rfl (zgS (zgS (zgS (zgS (zgS (zg0)))))) rfl ?_
    refine zW.pay (r1 := (1500 * rest.length + 82) + 1500) ?_ (by rw [List.length_cons]; omega)
    refine zW.callV (r' := 1500) (pc' := 54) dX1_executeAll_51 rfl l_X1_425 rfl hx ⟨rfl, (Nat.le_of_ble_eq_true rfl)⟩ rfl (w_execute (zH0.kn hk) hZ hS hL hG (fun b q z ↦ hzU_n.mp q (Or.inr z)) hJ (by omega) (by omega) hcm) (zcc rfl zc0) rfl (Nat.le_of_ble_eq_true rfl) (Nat.le_of_ble_eq_true rfl) (Nat.le_of_ble_eq_true rfl) ?_ ?_
    · intro v9 h9 q9
      obtain ⟨kc, kv, q, H1, ⟨kn, kf⟩, z1, kn1, q9⟩ := q9
      rcases q9 with ⟨r1, r2, r3, r4⟩ | ⟨r1, r2, r3⟩
      rotate_left
      · cases r2
      cases r2
      have kU : ¬ (h0 kc ≠ none ∨ Ui kc) := hzU_n.mp kf
      have kc0 : h0 kc = none := Classical.byContradiction fun z => kU (Or.inl z)
      obtain ⟨hsv, hkc, -⟩ := id kn
      have hal1 := z1.at hal (zne hal hkc (by decide))
      have hea1 := z1.at hea (zne hea hkc (fun e => by rw [e] at hkk; exact absurd hkk (by decide)))
      obtain ⟨lr2, hit2⟩ := hit
      have hit3 := z1.at hit2 (zne hit2 hkc (by decide))
      have zH1 := zH0.tr z1 fun b hb => by rw [hb]; exact cBx.of zH0 kn kc0
      have live : ∀ {b : Nat} {c : zC}, H1 b = some c → ¬ Ui b → ¬ zext Ui H1 b := fun e n q => q.elim n fun z => by rw [z] at e; cases e
      have hal4 := r4.at hal1 nU.1
      have hea4 := r4.at hea1 nU.2.1
      have hit4 := r4.at hit3 nU.2.2
      refine zW.iincN (pc' := 57) (n := 1) dX1_executeAll_54 rfl (Nat.le_of_ble_eq_true rfl) (zgS (zgS (zgS (zg0)))) (zsS (zsS (zsS (zs0)))) ?_
      refine zW.goto 26 dX1_executeAll_57 (by decide) ?_
      have hc2 : ∀ (j y : Nat) (c : pC), es[j]? = some y → cs[j]? = some c → cCmd h9 (hzU (fun b => h0 b ≠ none ∨ zext Ui H1 b)) y c := fun j y c e1 e2 => by
        refine cCmd.fr (A := Ui) (cCmd.re (cCmd.hs (hc j y c e1 e2) kn kn1 z1) fun b n l q => ?_) r4 fun b hb => Or.inr (Or.inl hb)
        exact hzU_n.mp n (q.elim Or.inl fun q => q.elim Or.inr fun q => absurd q l)
      have hJ2 := hJ.doc (c := c) (by omega)
      rw [sDos_ok r1] at hs
      exact ih (i + 1) (sDo s c).2.2 h9 (zext Ui H1) _ v6 hd2 (by omega) r3 (fun b hb => hb.elim (hU b) fun q => Or.inr (zH1.nn0 q)) (zH1.tr r4 (hUB hU)) hal4 hea4 ⟨lr2, hit4⟩ ⟨live hal1 nU.1, live hea1 nU.2.1, live hit3 nU.2.2⟩ hc2 (by rw [show tt + 50 * (i + 1) = tt + 50 * i + 50 by omega, show nn + (i + 1) = nn + i + 1 by omega]; exact hJ2) ⟨by rw [hs.1]; show i + ((sDos rest (sDo s c).2.2).1 + 1) = _; omega, hs.2⟩
    · intro v9 h9 q9
      obtain ⟨kc, kv, q, H1, ⟨kn, kf⟩, z1, kn1, q9⟩ := q9
      rcases q9 with ⟨r1, r2, r3, r4⟩ | ⟨r1, r2, r3⟩
      · cases r2
      cases r2
      subst r3
      have kU : ¬ (h0 kc ≠ none ∨ Ui kc) := hzU_n.mp kf
      have kc0 : h0 kc = none := Classical.byContradiction fun z => kU (Or.inl z)
      rw [sDos_no r1] at hs
      refine exAll_catch cEx_3 fun q => zW.pay (r1 := 2) ?_ (by omega)
      exact exAll_bad hin (hG.fr z1 fun b hb _ e => kU (Or.inr (by rw [← e]; exact hb))) (hUB hU) (zH0.tr z1 fun b hb => by rw [hb]; exact cBx.of zH0 kn kc0) hs.1 hlt (by omega)
theorem w_executeAll (hk : zkn G h0) (hZ : zkI G) (hS : zkS G) (hL : zkL G) (z0 : zfr U h0 h) (hG : cReg x 0 [] w h U) (hU0 : ∀ b, U b → h0 b ≠ none) (hin : w.2.2.2.2.1 = []) (kA : cAL G h al ea es) (nA : h0 al = none ∧ (0 < es.length → h0 ea = none)) (hc : cCmds h h0 es cs) (hJ : sJ tt nn w.1) (hne : 0 < cs.length) (hN : nn + cs.length ≤ 10000) (hT : tt + 50 * (cs.length + 1) < 100000) : zK G mX1_executeAll 33 (1500 * cs.length + 162) [.ref x, .ref al] h (cEA x (cBx U h0 h) h (sRunA w cs)) := by
  obtain ⟨st, O, hSt, l, k⟩ := hG
  obtain ⟨fs, hx, -⟩ := k.hx
  obtain ⟨fst, hst⟩ := cS.cell hSt
  obtain ⟨mc, kk, t, hal, hea, hkk, hb, hee⟩ := kA
  have hel := hc.1
  have hkk2 := cAL.kk hkk
  have nUal : ¬ U al := fun q => hU0 _ q nA.1
  have nUea : ¬ U ea := fun q => hU0 _ q (nA.2 (by omega))
  have live : ∀ {b : Nat} {c : zC} {H : zH}, H b = some c → H b = none → False := fun e z => by rw [z] at e; cases e
  show zW G mX1_executeAll 33 (1500*cs.length+162) 0 [.ref x, .ref al, zho, zho, zho, zho, zho] [] h _
  refine zW.aload_n (pc' := 1) dX1_executeAll_0 rfl rfl zg0 rfl ?_
  refine zW.get (pc' := 4) dX1_executeAll_1 rfl f_X1_10_0 hx ⟨rfl, (Nat.le_of_ble_eq_true rfl)⟩ rfl ?_
  refine zW.astore_n (pc' := 5) dX1_executeAll_4 rfl rfl (Nat.le_of_ble_eq_true rfl) rfl (zsS (zsS (zs0))) ?_
  refine zW.iconst (pc' := 6) (nI 0) dX1_executeAll_5 rfl (by decide) ?_
  refine zW.istore_n (pc' := 7) dX1_executeAll_6 rfl rfl (Nat.le_of_ble_eq_true rfl) (zsS (zsS (zsS (zs0)))) ?_
  refine zW.aload_n (pc' := 8) dX1_executeAll_7 rfl rfl zg0 rfl ?_
  refine zW.aload_n (pc' := 9) dX1_executeAll_8 rfl rfl (zgS (zgS (zg0))) rfl ?_
  refine zW.pay (r1 := 1500 * cs.length + 84 + 78) ?_ (by omega)
  refine zW.callV (r' := 78) (pc' := 12) dX1_executeAll_9 rfl l_X1_60 rfl hst ⟨rfl, (Nat.le_of_ble_eq_true rfl)⟩ rfl (w_stCopyJ (z0.kn hk) hZ hSt hJ (by omega)) zc0 rfl (Nat.le_of_ble_eq_true rfl) (Nat.le_of_ble_eq_true rfl) (Nat.le_of_ble_eq_true rfl) (fun _ H1 q9 => ?_) (fun _ _ q9 => absurd q9 zO.no)
  obtain ⟨_, q8, st', e1, hS', z1⟩ := q9
  cases q8
  subst e1
  have k1 := cRest.addX (k.fr z1 fun b _ _ q => q) (hSt.fr z1 fun b _ q => q) iS.stb fun b hb => ⟨(l b hb).1, z1.2.1 b (l b hb).2⟩
  obtain ⟨sv, hq, ib, lb, Oy, hx1, oy, ly, put⟩ := k1.putx
  have zf := zfr.rf (A := Oy) (h := H1)
  obtain ⟨fst', hst'⟩ := cS.cell hS'
  have hal1 := z1.at hal fun q => q
  have hea1 := z1.at hea fun q => q
  have nOal : ¬ Oy al := fun q => nUal (ly al q).1
  have nOea : ¬ Oy ea := fun q => nUea (ly ea q).1
  refine zW.putK (pc' := 15) dX1_executeAll_12 rfl f_X1_10_0 hx1 ⟨⟨rfl, (Nat.le_of_ble_eq_true rfl)⟩, (Nat.le_of_ble_eq_true rfl)⟩ (zFw.of ft_0_0 rfl rfl) zs0 (fun _ e9 k9 => ?_)
  have zf := zf.put e9 hx1 (by decide) (Or.inl oy)
  replace hx1 := k9
  clear e9 k9
  refine zW.aload_n (pc' := 16) dX1_executeAll_15 rfl rfl zg0 rfl ?_
  refine zW.iconst (pc' := 17) (nI 1) dX1_executeAll_16 rfl (by decide) ?_
  refine zW.putK (pc' := 20) dX1_executeAll_17 rfl f_X1_56_0 hx1 ⟨⟨rfl, (Nat.le_of_ble_eq_true rfl)⟩, (Nat.le_of_ble_eq_true rfl)⟩ (zFw.of ft_0_5 rfl rfl) (zsS (zsS (zsS (zsS (zsS (zs0)))))) (fun _ e9 k9 => ?_)
  have zf := zf.put e9 hx1 (by decide) (Or.inl oy)
  replace hx1 := k9
  clear e9 k9
  have k2 := put _ st' 1 w.2.2.2.2.2.1 w.2.2.2.2.2.2 zf hx1
  have hS2 := hS'.live.fr zf fun b hb q => (hU0 b (ly b q).1) (z0.nn0 hb.1)
  have hal2 := zf.at hal1 nOal
  have hea2 := zf.at hea1 nOea
  have hG2 : cReg x 1 [iS st w.1] (w.1, w.2) _ (zext U h) := ⟨st', _, hS2, fun b hb => ⟨Or.inr hb.1, zf.2.1 b hb.2⟩, k2.up fun b hb hl => by
    rcases hb with hb | hb
    · exact ⟨Or.inl hb, fun q => hU0 b hb (z0.nn0 q.1)⟩
    · exact ⟨Or.inr (z1.nn0 hb), fun q => q.2 hb⟩⟩
  have zH2 : zfr (cBx U h0 h) h _ := (z1.mono fun b q => q.elim).tr zf fun b hb => Or.inl (Or.inl (ly b hb).1)
  refine zW.aload_n (pc' := 21) dX1_executeAll_20 rfl rfl (zgS (zg0)) rfl ?_
  refine zW.pay (r1 := 1500 * cs.length + 82 + 1) ?_ (by omega)
  refine zW.callV (r' := 1) (pc' := 24) dX1_executeAll_21 rfl l_X1_422 rfl hal2 ⟨rfl, (Nat.le_of_ble_eq_true rfl)⟩ rfl (w_alIter hal2) zc0 rfl (Nat.le_of_ble_eq_true rfl) (Nat.le_of_ble_eq_true rfl) (Nat.le_of_ble_eq_true rfl) (fun _ H3 q9 => ?_) (fun _ _ q9 => absurd q9 zO.no)
  obtain ⟨_, q8, it, e1, nit, hit, z3⟩ := q9
  cases q8
  subst e1
  refine zW.astore (pc' := 26) dX1_executeAll_24 rfl (Nat.le_of_ble_eq_true rfl) rfl (zsS (zsS (zsS (zsS (zs0))))) ?_
  have hc2 : ∀ (j y : Nat) (c : pC), es[j]? = some y → cs[j]? = some c → cCmd H3 (hzU (fun b => h0 b ≠ none ∨ zext U h b)) y c := fun j y c e1 e2 => by
    have q1 : cCmd h (hzU (fun b => h0 b ≠ none ∨ zext U h b)) y c := (hc.2 j y c e1 e2).re fun b n l q => q.elim (fun z => z n) fun q => q.elim (fun z => hU0 b z n) l
    exact ((q1.fr z1 fun b q => q.elim).fr zf fun b q => Or.inr (Or.inl (ly b q).1)).fr z3 fun b q => q.elim
  exact exAll_loop (z0.kn hk) hZ hS hL hin hJ hN hT hel hkk2 hb (zH2.nn0 nit) cs 0 w.1 H3 _ _ _ (List.drop_zero) (Nat.zero_add _) (hG2.shut.fr z3 fun b _ _ q => q) (fun b hb => hb.1) (zH2.tr z3 fun b q => q.elim) (z3.at hal2 fun q => q) (z3.at hea2 fun q => q) hit ⟨fun q => q.1.elim nUal (live hal), fun q => q.1.elim nUea (live hea), fun q => q.2 nit⟩ (fun j y c e1 e2 => (hc2 j y c e1 e2).re fun b n _ q => hzU_n.mp n (q.elim Or.inl fun q => Or.inr q.1)) hJ ⟨(Nat.zero_add _).symm, rfl⟩
end
