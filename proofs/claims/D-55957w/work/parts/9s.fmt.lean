/-! THE CLASS's format (printed by mk9s.py) -/
section
set_option maxRecDepth 100000
variable {G : zG} {h h' h1 H H' : zH} {O U V Ob A : Nat → Prop} {x st tt nn e a v c w2 k f : Nat} {X : List zA} {w : sW} {y : Int32} {l s : List Nat}
/-- a builder that is being filled: what it holds, what has changed since h -/
def cBu (h : zH) (Ob : Nat → Prop) (H : zH) (a : Nat) (l : List Nat) : Prop := ∃ v, cSB H a v l ∧ Ob a ∧ zext Ob h v ∧ zfr Ob h H
theorem cBu.hd (b : cBu h Ob H a l) : ∃ fs, H a = some (13, fs) := by
  obtain ⟨v, ⟨ml, t, h1, -⟩, -⟩ := b
  exact ⟨_, h1⟩
theorem cBu.z (b : cBu h Ob H a l) : zfr Ob h H := by
  obtain ⟨v, -, -, -, z⟩ := b
  exact z
theorem cBu.step {v : Nat} {ov ow : Option Value} (oa : Ob a) (ovv : zext Ob h v) (z : zfr Ob h H) {l' : List Nat} {o : zR} {H' : zH} (k : cSBp H a v l' ov o H') : ∃ r, o = .inl r ∧ r = ov ∧ cBu h Ob H' a l' := by
  obtain ⟨r, e1, e2, v', k1, k2, k3⟩ := k
  refine ⟨r, e1, e2, v', k1, oa, ?_, z.tr k3 fun b hb => ?_⟩
  · rcases k2 with q | q
    · rw [q]; exact ovv
    · exact Or.inr (z.nn0 q)
  · rcases hb with q | q
    · rw [q]; exact Or.inl oa
    · rw [q]; exact ovv
abbrev cBp (h : zH) (Ob : Nat → Prop) (a : Nat) (l : List Nat) (ov : Option Value) : zR → zH → Prop := zO fun r H' => r = ov ∧ cBu h Ob H' a l
theorem b_clear (b : cBu h Ob H a l) : zK G mJ6_setLength 6 51 [.ref a, .int (nI 0)] H (cBp h Ob a [] none) := by
  obtain ⟨v, k, oa, ov, z⟩ := b
  exact zW.post (w_sbClear k) fun o h' q => cBu.step (ow := none) oa ov z q
theorem b_ch {n : Nat} (b : cBu h Ob H a l) (hl : l.length < 100) (hn : n < 128) : zK G mJ6_append_3 6 51 [.ref a, .int (nI n)] H (cBp h Ob a (l ++ [n]) (some (.ref a))) := by
  obtain ⟨v, k, oa, ov, z⟩ := b
  exact zW.post (w_sbAppC k hl hn) fun o h' q => cBu.step (ow := none) oa ov z q
theorem b_nu (hk : zkn G h) (hD : zkD G) (b : cBu h Ob H a l) (hf : f ≤ 5) (hkf : k < 10 ^ (f + 1)) (hl : l.length ≤ 94) : zK G mJ6_append_2 7 51 [.ref a, .int (nI k)] H (cBp h Ob a (l ++ sDec f k) (some (.ref a))) := by
  obtain ⟨v, k1, oa, ov, z⟩ := b
  exact zW.post (w_sbAppN (z.kn hk) hD k1 hf hkf hl) fun o h' q => cBu.step (ow := none) oa ov z q
theorem b_st (hk : zkn G h) (hS : zkS G) (b : cBu h Ob H a l) {j : Nat} {s : List Nat} (hj : zlt[j]? = some s) (hl : l.length + s.length ≤ 100) : zK G mJ6_append 7 51 [.ref a, .ref (zg_a G (100 + j))] H (cBp h Ob a (l ++ s) (some (.ref a))) := by
  obtain ⟨v, k, oa, ov, z⟩ := b
  have hk2 := z.kn hk
  obtain ⟨hs, hz, g1, g2⟩ := hS j s hj
  obtain ⟨ml, t, p1, p2, -⟩ := id k
  exact zW.post (w_sbAppS k (hS.str hk2 hj) hl ⟨zne (hk2 _ _ g1).1 p1 (by decide), zne (hk2 _ _ g2).1 p1 (by decide), zne (hk2 _ _ g2).1 p2 (by decide)⟩) fun o h' q => cBu.step (ow := none) oa ov z q
theorem c_format (hk : zkn G h) (hS : zkS G) (hD : zkD G) (hG : cReg x 0 [] w h U) (hJ : sJ tt nn w.1) (hN : nn ≤ 10000) (hT : tt + 50 < 100000) : zK G mX1_format 40 900 [.ref x, .int y] h (cOut x U h [eElt] (sForm w y)) := by
  have hG0 := hG
  obtain ⟨st, O, ⟨ll, aq, re, rt, ea, ha', er, hr, mc, xs, qs, rs, hP⟩, l, k⟩ := hG
  have hSt : cS h O st w.1 := ⟨ll, aq, re, rt, ea, ha', er, hr, mc, xs, qs, rs, hP⟩
  have hB := hJ.1.cB hN
  obtain ⟨sv, hq, ib, lb, v, Ob, hx0, nx, kS, oo, lB, put⟩ := k.line
  have hx := hx0
  show zW G mX1_format 40 900 0 [.ref x, .int y, zho] [] h _
  refine zW.aload_n (pc' := 1) dX1_format_0 rfl rfl zg0 rfl ?_
  refine zW.iload_n (pc' := 2) dX1_format_1 rfl rfl (zgS (zg0)) ?_
  cases hf : sFind w.1.2.1 y with
  | none =>
    refine zW.callV (r' := 4) (pc' := 5) dX1_format_2 rfl l_X1_133 rfl hx ⟨rfl, (Nat.le_of_ble_eq_true rfl)⟩ rfl (w_claim0 hx hP hB hf) (zcc rfl zc0) rfl (Nat.le_of_ble_eq_true rfl) (Nat.le_of_ble_eq_true rfl) (Nat.le_of_ble_eq_true rfl) (fun _ _ q9 => by cases q9.1) (fun _ _ q9 => ?_)
    obtain ⟨q8, e9⟩ := q9
    cases q8
    replace e9 := e9.symm
    subst e9
    refine zX.out0 rfl ?_
    exact cOut.no hG0 (k := 0) (v := nI 0) (by unfold sForm; rw [hf]) rfl
  | some i =>
    have hi := sFind_lt hf
    obtain ⟨p, hp, hc0⟩ := hP.2.1.2.at hi
    refine zW.callV (r' := 2) (pc' := 5) dX1_format_2 rfl l_X1_133 rfl hx ⟨rfl, (Nat.le_of_ble_eq_true rfl)⟩ rfl (w_claim1 hx hP hB hf hp) (zcc rfl zc0) rfl (Nat.le_of_ble_eq_true rfl) (Nat.le_of_ble_eq_true rfl) (Nat.le_of_ble_eq_true rfl) (fun _ _ q9 => ?_) (fun _ _ q9 => by cases q9.1)
    obtain ⟨q8, e9⟩ := q9
    cases q8
    replace e9 := e9.symm
    subst e9
    obtain ⟨q0, q1, q2, q3, ⟨q4, q4'⟩, ⟨q5, q5'⟩, q6, q7, q8⟩ := hJ.1.at hi
    have n0 := hJ.1.1.2.1
    have t0 := hJ.1.1.1
    have hy := sFind_eq hf
    have hOp : ∀ H : zH, zfr Ob h H → H p.2 = some (2, cCl (sAt w.1.2.1 i)) := fun H z => z.at hc0 fun q => (lB _ q).1.2 (hP.2.2.2.2.2.2.2.2.1 p (List.mem_of_getElem? hp))
    generalize ecd : sAt w.1.2.1 i = cd at *
    have d0 := sDec_len (f := 4) (v := cd 0)
    have d1 := sDec_len (f := 0) (v := cd 1)
    have d2 := sDec_len (f := 0) (v := cd 2)
    have d3 := sDec_len (f := 3) (v := cd 3)
    have d4 := sDec_len (f := 5) (v := cd 4)
    have d5 := sDec_len (f := 0) (v := cd 5)
    have d6 := sDec_len (f := 0) (v := cd 6 - 1)
    have d7 := sDec_len (f := 0) (v := cd 7 - 1)
    have fin : ∀ (H : zH) (lx : List Nat), cBu h Ob H lb lx → lx = sLine cd → zW G mX1_format 40 0 160 [.ref x, .int y, .ref p.2] [] H (cOut x U h [eElt] (sForm w y)) := by
      intro H lx b el
      have hx := b.z.at hx0 nx
      obtain ⟨v9, k9, o9, ov9, z9⟩ := id b
      obtain ⟨fa, hlb⟩ := b.hd
      refine zW.aload_n (pc' := 161) dX1_format_160 rfl rfl zg0 rfl ?_
      refine zW.get (pc' := 164) dX1_format_161 rfl f_X1_30_0 hx ⟨rfl, (Nat.le_of_ble_eq_true rfl)⟩ rfl ?_
      refine zW.callV (r' := 0) (pc' := 167) dX1_format_164 rfl l_X1_377 rfl hlb ⟨rfl, (Nat.le_of_ble_eq_true rfl)⟩ rfl (w_sbLen k9) zc0 rfl (Nat.le_of_ble_eq_true rfl) (Nat.le_of_ble_eq_true rfl) (Nat.le_of_ble_eq_true rfl) (fun _ _ q9 => ?_) (fun _ _ q9 => by cases q9.1)
      obtain ⟨q8, e9⟩ := q9
      cases q8
      replace e9 := e9.symm
      subst e9
      refine zW.iret dX1_format_167 rfl (rfl) ?_
      have k3 := put _ v9 _ z9 k9 ov9
      refine cOut.ok ?_ (cReg.mk' (w' := (w.1, w.2.1, w.2.2.1, lx, w.2.2.2.2)) l lB hSt z9 k3)
      unfold sForm
      rw [hf]
      dsimp only
      rw [ecd, el]
    have fin3 : ∀ (H : zH) (lx : List Nat), cBu h Ob H lb lx → lx.length ≤ 40 → lx = sRk cd (sWv cd (sLn cd)) → zW G mX1_format 40 102 135 [.ref x, .int y, .ref p.2] [] H (cOut x U h [eElt] (sForm w y)) := by
      intro H lx b hlx el
      have hx := b.z.at hx0 nx
      have hc := cCl_l (hOp _ b.z)
      obtain ⟨fa, hlb⟩ := b.hd
      refine zW.aload_n (pc' := 136) dX1_format_135 rfl rfl (zgS (zgS (zg0))) rfl ?_
      refine zW.get (pc' := 139) dX1_format_136 rfl f_X1_203_2 hc ⟨rfl, (Nat.le_of_ble_eq_true rfl)⟩ rfl ?_
      refine zW.if_leN (pc' := 142) 160 dX1_format_139 rfl (by decide) (by omega) (fun b1 => ?_) (fun b1 => ?_)
      · refine zW.pay (r1 := 0) ?_ (Nat.zero_le _)
        exact fin H lx b (by unfold sLine sSk; rw [if_neg (by omega), el])
      · refine zW.aload_n (pc' := 143) dX1_format_142 rfl rfl zg0 rfl ?_
        refine zW.get (pc' := 146) dX1_format_143 rfl f_X1_30_0 hx ⟨rfl, (Nat.le_of_ble_eq_true rfl)⟩ rfl ?_
        refine zW.ldcSW (j := 3) (pc' := 149) dX1_format_146 rfl rfl ?_
        refine zW.callV (r' := 51) (pc' := 152) dX1_format_149 rfl l_X1_368 rfl hlb ⟨rfl, (Nat.le_of_ble_eq_true rfl)⟩ rfl (b_st hk hS b (j := 3) rfl (by show lx.length + 2 ≤ 100; omega)) (zcc rfl zc0) rfl (Nat.le_of_ble_eq_true rfl) (Nat.le_of_ble_eq_true rfl) (Nat.le_of_ble_eq_true rfl) (fun _ _ q9 => ?_) (fun _ _ q9 => absurd q9 zO.no)
        obtain ⟨_, q8, e1, b⟩ := q9
        cases q8
        subst e1
        have hx := b.z.at hx0 nx
        have hc := cCl_l (hOp _ b.z)
        obtain ⟨fa, hlb⟩ := b.hd
        refine zW.aload_n (pc' := 153) dX1_format_152 rfl rfl (zgS (zgS (zg0))) rfl ?_
        refine zW.get (pc' := 156) dX1_format_153 rfl f_X1_203_2 hc ⟨rfl, (Nat.le_of_ble_eq_true rfl)⟩ rfl ?_
        refine zW.callV (r' := 51) (pc' := 159) dX1_format_156 rfl l_X1_363 rfl hlb ⟨rfl, (Nat.le_of_ble_eq_true rfl)⟩ rfl (b_nu (f := 0) (k := cd 5) hk hD b (by decide) (by omega) (by rw [List.length_append]; show lx.length + 2 ≤ 94; omega)) (zcc rfl zc0) rfl (Nat.le_of_ble_eq_true rfl) (Nat.le_of_ble_eq_true rfl) (Nat.le_of_ble_eq_true rfl) (fun _ _ q9 => ?_) (fun _ _ q9 => absurd q9 zO.no)
        obtain ⟨_, q8, e1, b⟩ := q9
        cases q8
        subst e1
        have hx := b.z.at hx0 nx
        have hc := cCl_l (hOp _ b.z)
        obtain ⟨fa, hlb⟩ := b.hd
        refine zW.pop (pc' := 160) dX1_format_159 rfl rfl ?_
        exact fin _ _ b (by unfold sLine sSk; rw [if_pos (by omega), el])
    have fin2 : ∀ (H : zH) (lx : List Nat), cBu h Ob H lb lx → lx.length ≤ 35 → lx = sWv cd (sLn cd) → zW G mX1_format 40 204 110 [.ref x, .int y, .ref p.2] [] H (cOut x U h [eElt] (sForm w y)) := by
      intro H lx b hlx el
      have hx := b.z.at hx0 nx
      have hc := cCl_l (hOp _ b.z)
      obtain ⟨fa, hlb⟩ := b.hd
      refine zW.aload_n (pc' := 111) dX1_format_110 rfl rfl (zgS (zgS (zg0))) rfl ?_
      refine zW.callV (r' := 0) (pc' := 114) dX1_format_111 rfl l_X1_127 rfl hc ⟨rfl, (Nat.le_of_ble_eq_true rfl)⟩ rfl (w_clCosigned (hOp _ b.z) (by omega)) zc0 rfl (Nat.le_of_ble_eq_true rfl) (Nat.le_of_ble_eq_true rfl) (Nat.le_of_ble_eq_true rfl) (fun _ _ q9 => ?_) (fun _ _ q9 => by cases q9.1)
      obtain ⟨q8, e9⟩ := q9
      cases q8
      replace e9 := e9.symm
      subst e9
      by_cases qq : cd 7 = 0
      · rw [if_pos qq]
        refine zW.if_eqN (pc' := 117) 135 dX1_format_114 rfl (by decide) (by omega) (fun b9 => ?_) (fun b9 => absurd b9 (by omega))
        refine zW.pay (r1 := 102) ?_ (by decide)
        exact fin3 H lx b (by omega) (by unfold sRk; rw [if_neg (by omega), el])
      · rw [if_neg qq]
        refine zW.if_eqN (pc' := 117) 135 dX1_format_114 rfl (by decide) (by omega) (fun b9 => absurd b9 (by omega)) (fun b9 => ?_)
        refine zW.aload_n (pc' := 118) dX1_format_117 rfl rfl zg0 rfl ?_
        refine zW.get (pc' := 121) dX1_format_118 rfl f_X1_30_0 hx ⟨rfl, (Nat.le_of_ble_eq_true rfl)⟩ rfl ?_
        refine zW.ldcSW (j := 2) (pc' := 124) dX1_format_121 rfl rfl ?_
        refine zW.callV (r' := 51) (pc' := 127) dX1_format_124 rfl l_X1_368 rfl hlb ⟨rfl, (Nat.le_of_ble_eq_true rfl)⟩ rfl (b_st hk hS b (j := 2) rfl (by show lx.length + 2 ≤ 100; omega)) (zcc rfl zc0) rfl (Nat.le_of_ble_eq_true rfl) (Nat.le_of_ble_eq_true rfl) (Nat.le_of_ble_eq_true rfl) (fun _ _ q9 => ?_) (fun _ _ q9 => absurd q9 zO.no)
        obtain ⟨_, q8, e1, b⟩ := q9
        cases q8
        subst e1
        have hx := b.z.at hx0 nx
        have hc := cCl_l (hOp _ b.z)
        obtain ⟨fa, hlb⟩ := b.hd
        refine zW.aload_n (pc' := 128) dX1_format_127 rfl rfl (zgS (zgS (zg0))) rfl ?_
        refine zW.get (pc' := 131) dX1_format_128 rfl f_X1_155_2 hc ⟨rfl, (Nat.le_of_ble_eq_true rfl)⟩ rfl ?_
        rw [nI_s1 (by omega)]
        refine zW.callV (r' := 51) (pc' := 134) dX1_format_131 rfl l_X1_363 rfl hlb ⟨rfl, (Nat.le_of_ble_eq_true rfl)⟩ rfl (b_nu (f := 0) (k := cd 7 - 1) hk hD b (by decide) (by omega) (by rw [List.length_append]; show lx.length + 2 ≤ 94; omega)) (zcc rfl zc0) rfl (Nat.le_of_ble_eq_true rfl) (Nat.le_of_ble_eq_true rfl) (Nat.le_of_ble_eq_true rfl) (fun _ _ q9 => ?_) (fun _ _ q9 => absurd q9 zO.no)
        obtain ⟨_, q8, e1, b⟩ := q9
        cases q8
        subst e1
        have hx := b.z.at hx0 nx
        have hc := cCl_l (hOp _ b.z)
        obtain ⟨fa, hlb⟩ := b.hd
        refine zW.pop (pc' := 135) dX1_format_134 rfl rfl ?_
        exact fin3 _ _ b (by rw [List.length_append, List.length_append]; show lx.length + 2 + _ ≤ 40; omega) (by unfold sRk; rw [if_pos (by omega), el])
    have fin1 : ∀ (H : zH) (lx : List Nat), cBu h Ob H lb lx → lx.length ≤ 30 → lx = sLn cd → zW G mX1_format 40 306 85 [.ref x, .int y, .ref p.2] [] H (cOut x U h [eElt] (sForm w y)) := by
      intro H lx b hlx el
      have hx := b.z.at hx0 nx
      have hc := cCl_l (hOp _ b.z)
      obtain ⟨fa, hlb⟩ := b.hd
      refine zW.aload_n (pc' := 86) dX1_format_85 rfl rfl (zgS (zgS (zg0))) rfl ?_
      refine zW.callV (r' := 0) (pc' := 89) dX1_format_86 rfl l_X1_117 rfl hc ⟨rfl, (Nat.le_of_ble_eq_true rfl)⟩ rfl (w_clSigned (hOp _ b.z) (by omega)) zc0 rfl (Nat.le_of_ble_eq_true rfl) (Nat.le_of_ble_eq_true rfl) (Nat.le_of_ble_eq_true rfl) (fun _ _ q9 => ?_) (fun _ _ q9 => by cases q9.1)
      obtain ⟨q8, e9⟩ := q9
      cases q8
      replace e9 := e9.symm
      subst e9
      by_cases qq : cd 6 = 0
      · rw [if_pos qq]
        refine zW.if_eqN (pc' := 92) 110 dX1_format_89 rfl (by decide) (by omega) (fun b9 => ?_) (fun b9 => absurd b9 (by omega))
        refine zW.pay (r1 := 204) ?_ (by decide)
        exact fin2 H lx b (by omega) (by unfold sWv; rw [if_neg (by omega), el])
      · rw [if_neg qq]
        refine zW.if_eqN (pc' := 92) 110 dX1_format_89 rfl (by decide) (by omega) (fun b9 => absurd b9 (by omega)) (fun b9 => ?_)
        refine zW.aload_n (pc' := 93) dX1_format_92 rfl rfl zg0 rfl ?_
        refine zW.get (pc' := 96) dX1_format_93 rfl f_X1_30_0 hx ⟨rfl, (Nat.le_of_ble_eq_true rfl)⟩ rfl ?_
        refine zW.ldcSW (j := 1) (pc' := 99) dX1_format_96 rfl rfl ?_
        refine zW.callV (r' := 51) (pc' := 102) dX1_format_99 rfl l_X1_368 rfl hlb ⟨rfl, (Nat.le_of_ble_eq_true rfl)⟩ rfl (b_st hk hS b (j := 1) rfl (by show lx.length + 2 ≤ 100; omega)) (zcc rfl zc0) rfl (Nat.le_of_ble_eq_true rfl) (Nat.le_of_ble_eq_true rfl) (Nat.le_of_ble_eq_true rfl) (fun _ _ q9 => ?_) (fun _ _ q9 => absurd q9 zO.no)
        obtain ⟨_, q8, e1, b⟩ := q9
        cases q8
        subst e1
        have hx := b.z.at hx0 nx
        have hc := cCl_l (hOp _ b.z)
        obtain ⟨fa, hlb⟩ := b.hd
        refine zW.aload_n (pc' := 103) dX1_format_102 rfl rfl (zgS (zgS (zg0))) rfl ?_
        refine zW.get (pc' := 106) dX1_format_103 rfl f_X1_143_2 hc ⟨rfl, (Nat.le_of_ble_eq_true rfl)⟩ rfl ?_
        rw [nI_s1 (by omega)]
        refine zW.callV (r' := 51) (pc' := 109) dX1_format_106 rfl l_X1_363 rfl hlb ⟨rfl, (Nat.le_of_ble_eq_true rfl)⟩ rfl (b_nu (f := 0) (k := cd 6 - 1) hk hD b (by decide) (by omega) (by rw [List.length_append]; show lx.length + 2 ≤ 94; omega)) (zcc rfl zc0) rfl (Nat.le_of_ble_eq_true rfl) (Nat.le_of_ble_eq_true rfl) (Nat.le_of_ble_eq_true rfl) (fun _ _ q9 => ?_) (fun _ _ q9 => absurd q9 zO.no)
        obtain ⟨_, q8, e1, b⟩ := q9
        cases q8
        subst e1
        have hx := b.z.at hx0 nx
        have hc := cCl_l (hOp _ b.z)
        obtain ⟨fa, hlb⟩ := b.hd
        refine zW.pop (pc' := 110) dX1_format_109 rfl rfl ?_
        exact fin2 _ _ b (by rw [List.length_append, List.length_append]; show lx.length + 2 + _ ≤ 35; omega) (by unfold sWv; rw [if_pos (by omega), el])
    have b : cBu h Ob h lb w.2.2.2.1 := ⟨v, kS, oo.1, Or.inl oo.2, zfr.rf⟩
    obtain ⟨fa, hlb⟩ := b.hd
    refine zW.astore_n (pc' := 6) dX1_format_5 rfl rfl (Nat.le_of_ble_eq_true rfl) rfl (zsS (zsS (zs0))) ?_
    refine zW.aload_n (pc' := 7) dX1_format_6 rfl rfl zg0 rfl ?_
    refine zW.get (pc' := 10) dX1_format_7 rfl f_X1_30_0 hx ⟨rfl, (Nat.le_of_ble_eq_true rfl)⟩ rfl ?_
    refine zW.iconst (pc' := 11) (nI 0) dX1_format_10 rfl (by decide) ?_
    refine zW.callV (r' := 51) (pc' := 14) dX1_format_11 rfl l_X1_355 rfl hlb ⟨rfl, (Nat.le_of_ble_eq_true rfl)⟩ rfl (b_clear b) (zcc rfl zc0) rfl (Nat.le_of_ble_eq_true rfl) (Nat.le_of_ble_eq_true rfl) (Nat.le_of_ble_eq_true rfl) (fun _ _ q9 => ?_) (fun _ _ q9 => absurd q9 zO.no)
    obtain ⟨_, q8, e1, b⟩ := q9
    cases q8
    subst e1
    have hx := b.z.at hx0 nx
    have hc := cCl_l (hOp _ b.z)
    obtain ⟨fa, hlb⟩ := b.hd
    refine zW.aload_n (pc' := 15) dX1_format_14 rfl rfl zg0 rfl ?_
    refine zW.get (pc' := 18) dX1_format_15 rfl f_X1_30_0 hx ⟨rfl, (Nat.le_of_ble_eq_true rfl)⟩ rfl ?_
    refine zW.bipush (pc' := 20) (nI 35) dX1_format_18 rfl (by decide) ?_
    refine zW.callV (r' := 51) (pc' := 23) dX1_format_20 rfl l_X1_359 rfl hlb ⟨rfl, (Nat.le_of_ble_eq_true rfl)⟩ rfl (b_ch (n := 35) b (by simp only [List.length_append, List.length_cons, List.length_nil]; omega) (by decide)) (zcc rfl zc0) rfl (Nat.le_of_ble_eq_true rfl) (Nat.le_of_ble_eq_true rfl) (Nat.le_of_ble_eq_true rfl) (fun _ _ q9 => ?_) (fun _ _ q9 => absurd q9 zO.no)
    obtain ⟨_, q8, e1, b⟩ := q9
    cases q8
    subst e1
    have hx := b.z.at hx0 nx
    have hc := cCl_l (hOp _ b.z)
    obtain ⟨fa, hlb⟩ := b.hd
    refine zW.aload_n (pc' := 24) dX1_format_23 rfl rfl (zgS (zgS (zg0))) rfl ?_
    refine zW.get (pc' := 27) dX1_format_24 rfl f_X1_194_2 hc ⟨rfl, (Nat.le_of_ble_eq_true rfl)⟩ rfl ?_
    refine zW.callV (r' := 51) (pc' := 30) dX1_format_27 rfl l_X1_363 rfl hlb ⟨rfl, (Nat.le_of_ble_eq_true rfl)⟩ rfl (b_nu (f := 4) (k := cd 0) hk hD b (by decide) (by omega) (by simp only [List.length_append, List.length_cons, List.length_nil]; omega)) (zcc rfl zc0) rfl (Nat.le_of_ble_eq_true rfl) (Nat.le_of_ble_eq_true rfl) (Nat.le_of_ble_eq_true rfl) (fun _ _ q9 => ?_) (fun _ _ q9 => absurd q9 zO.no)
    obtain ⟨_, q8, e1, b⟩ := q9
    cases q8
    subst e1
    have hx := b.z.at hx0 nx
    have hc := cCl_l (hOp _ b.z)
    obtain ⟨fa, hlb⟩ := b.hd
    refine zW.bipush (pc' := 32) (nI 32) dX1_format_30 rfl (by decide) ?_
    refine zW.callV (r' := 51) (pc' := 35) dX1_format_32 rfl l_X1_359 rfl hlb ⟨rfl, (Nat.le_of_ble_eq_true rfl)⟩ rfl (b_ch (n := 32) b (by simp only [List.length_append, List.length_cons, List.length_nil]; omega) (by decide)) (zcc rfl zc0) rfl (Nat.le_of_ble_eq_true rfl) (Nat.le_of_ble_eq_true rfl) (Nat.le_of_ble_eq_true rfl) (fun _ _ q9 => ?_) (fun _ _ q9 => absurd q9 zO.no)
    obtain ⟨_, q8, e1, b⟩ := q9
    cases q8
    subst e1
    have hx := b.z.at hx0 nx
    have hc := cCl_l (hOp _ b.z)
    obtain ⟨fa, hlb⟩ := b.hd
    refine zW.aload_n (pc' := 36) dX1_format_35 rfl rfl (zgS (zgS (zg0))) rfl ?_
    refine zW.get (pc' := 39) dX1_format_36 rfl f_X1_197_2 hc ⟨rfl, (Nat.le_of_ble_eq_true rfl)⟩ rfl ?_
    refine zW.callV (r' := 51) (pc' := 42) dX1_format_39 rfl l_X1_363 rfl hlb ⟨rfl, (Nat.le_of_ble_eq_true rfl)⟩ rfl (b_nu (f := 0) (k := cd 1) hk hD b (by decide) (by omega) (by simp only [List.length_append, List.length_cons, List.length_nil]; omega)) (zcc rfl zc0) rfl (Nat.le_of_ble_eq_true rfl) (Nat.le_of_ble_eq_true rfl) (Nat.le_of_ble_eq_true rfl) (fun _ _ q9 => ?_) (fun _ _ q9 => absurd q9 zO.no)
    obtain ⟨_, q8, e1, b⟩ := q9
    cases q8
    subst e1
    have hx := b.z.at hx0 nx
    have hc := cCl_l (hOp _ b.z)
    obtain ⟨fa, hlb⟩ := b.hd
    refine zW.bipush (pc' := 44) (nI 62) dX1_format_42 rfl (by decide) ?_
    refine zW.callV (r' := 51) (pc' := 47) dX1_format_44 rfl l_X1_359 rfl hlb ⟨rfl, (Nat.le_of_ble_eq_true rfl)⟩ rfl (b_ch (n := 62) b (by simp only [List.length_append, List.length_cons, List.length_nil]; omega) (by decide)) (zcc rfl zc0) rfl (Nat.le_of_ble_eq_true rfl) (Nat.le_of_ble_eq_true rfl) (Nat.le_of_ble_eq_true rfl) (fun _ _ q9 => ?_) (fun _ _ q9 => absurd q9 zO.no)
    obtain ⟨_, q8, e1, b⟩ := q9
    cases q8
    subst e1
    have hx := b.z.at hx0 nx
    have hc := cCl_l (hOp _ b.z)
    obtain ⟨fa, hlb⟩ := b.hd
    refine zW.aload_n (pc' := 48) dX1_format_47 rfl rfl (zgS (zgS (zg0))) rfl ?_
    refine zW.get (pc' := 51) dX1_format_48 rfl f_X1_200_2 hc ⟨rfl, (Nat.le_of_ble_eq_true rfl)⟩ rfl ?_
    refine zW.callV (r' := 51) (pc' := 54) dX1_format_51 rfl l_X1_363 rfl hlb ⟨rfl, (Nat.le_of_ble_eq_true rfl)⟩ rfl (b_nu (f := 0) (k := cd 2) hk hD b (by decide) (by omega) (by simp only [List.length_append, List.length_cons, List.length_nil]; omega)) (zcc rfl zc0) rfl (Nat.le_of_ble_eq_true rfl) (Nat.le_of_ble_eq_true rfl) (Nat.le_of_ble_eq_true rfl) (fun _ _ q9 => ?_) (fun _ _ q9 => absurd q9 zO.no)
    obtain ⟨_, q8, e1, b⟩ := q9
    cases q8
    subst e1
    have hx := b.z.at hx0 nx
    have hc := cCl_l (hOp _ b.z)
    obtain ⟨fa, hlb⟩ := b.hd
    refine zW.pop (pc' := 55) dX1_format_54 rfl rfl ?_
    refine zW.aload_n (pc' := 56) dX1_format_55 rfl rfl zg0 rfl ?_
    refine zW.get (pc' := 59) dX1_format_56 rfl f_X1_30_0 hx ⟨rfl, (Nat.le_of_ble_eq_true rfl)⟩ rfl ?_
    refine zW.bipush (pc' := 61) (nI 32) dX1_format_59 rfl (by decide) ?_
    refine zW.callV (r' := 51) (pc' := 64) dX1_format_61 rfl l_X1_359 rfl hlb ⟨rfl, (Nat.le_of_ble_eq_true rfl)⟩ rfl (b_ch (n := 32) b (by simp only [List.length_append, List.length_cons, List.length_nil]; omega) (by decide)) (zcc rfl zc0) rfl (Nat.le_of_ble_eq_true rfl) (Nat.le_of_ble_eq_true rfl) (Nat.le_of_ble_eq_true rfl) (fun _ _ q9 => ?_) (fun _ _ q9 => absurd q9 zO.no)
    obtain ⟨_, q8, e1, b⟩ := q9
    cases q8
    subst e1
    have hx := b.z.at hx0 nx
    have hc := cCl_l (hOp _ b.z)
    obtain ⟨fa, hlb⟩ := b.hd
    refine zW.aload_n (pc' := 65) dX1_format_64 rfl rfl (zgS (zgS (zg0))) rfl ?_
    refine zW.get (pc' := 68) dX1_format_65 rfl f_X1_162_2 hc ⟨rfl, (Nat.le_of_ble_eq_true rfl)⟩ rfl ?_
    refine zW.callV (r' := 51) (pc' := 71) dX1_format_68 rfl l_X1_363 rfl hlb ⟨rfl, (Nat.le_of_ble_eq_true rfl)⟩ rfl (b_nu (f := 3) (k := cd 3) hk hD b (by decide) (by omega) (by simp only [List.length_append, List.length_cons, List.length_nil]; omega)) (zcc rfl zc0) rfl (Nat.le_of_ble_eq_true rfl) (Nat.le_of_ble_eq_true rfl) (Nat.le_of_ble_eq_true rfl) (fun _ _ q9 => ?_) (fun _ _ q9 => absurd q9 zO.no)
    obtain ⟨_, q8, e1, b⟩ := q9
    cases q8
    subst e1
    have hx := b.z.at hx0 nx
    have hc := cCl_l (hOp _ b.z)
    obtain ⟨fa, hlb⟩ := b.hd
    refine zW.ldcSW (j := 0) (pc' := 74) dX1_format_71 rfl rfl ?_
    refine zW.callV (r' := 51) (pc' := 77) dX1_format_74 rfl l_X1_368 rfl hlb ⟨rfl, (Nat.le_of_ble_eq_true rfl)⟩ rfl (b_st hk hS b (j := 0) rfl (by simp only [List.length_append, List.length_cons, List.length_nil]; omega)) (zcc rfl zc0) rfl (Nat.le_of_ble_eq_true rfl) (Nat.le_of_ble_eq_true rfl) (Nat.le_of_ble_eq_true rfl) (fun _ _ q9 => ?_) (fun _ _ q9 => absurd q9 zO.no)
    obtain ⟨_, q8, e1, b⟩ := q9
    cases q8
    subst e1
    have hx := b.z.at hx0 nx
    have hc := cCl_l (hOp _ b.z)
    obtain ⟨fa, hlb⟩ := b.hd
    refine zW.aload_n (pc' := 78) dX1_format_77 rfl rfl (zgS (zgS (zg0))) rfl ?_
    refine zW.get (pc' := 81) dX1_format_78 rfl f_X1_146_2 hc ⟨rfl, (Nat.le_of_ble_eq_true rfl)⟩ rfl ?_
    refine zW.callV (r' := 51) (pc' := 84) dX1_format_81 rfl l_X1_363 rfl hlb ⟨rfl, (Nat.le_of_ble_eq_true rfl)⟩ rfl (b_nu (f := 5) (k := cd 4) hk hD b (by decide) (by omega) (by simp only [List.length_append, List.length_cons, List.length_nil]; omega)) (zcc rfl zc0) rfl (Nat.le_of_ble_eq_true rfl) (Nat.le_of_ble_eq_true rfl) (Nat.le_of_ble_eq_true rfl) (fun _ _ q9 => ?_) (fun _ _ q9 => absurd q9 zO.no)
    obtain ⟨_, q8, e1, b⟩ := q9
    cases q8
    subst e1
    have hx := b.z.at hx0 nx
    have hc := cCl_l (hOp _ b.z)
    obtain ⟨fa, hlb⟩ := b.hd
    refine zW.pop (pc' := 85) dX1_format_84 rfl rfl ?_
    refine zW.pay (r1 := 306) ?_ (by omega)
    exact fin1 _ _ b (by simp only [List.length_append, List.length_cons, List.length_nil]; omega) rfl
end
