/-! THE REFERENCE: a claim's line -/
section
set_option maxRecDepth 100000
variable {G : zG} {h0 : zH} {a : tA} {T : tS} {tt nn n : Nat}
theorem sFind_eq {cs : List sC} {id : Int32} {i : Nat} (h : sFind cs id = some i) : nI (sAt cs i 0) = id := by
  obtain ⟨h1, h2, -⟩ := List.findIdx?_eq_some_iff_getElem.mp h
  have h3 := of_decide_eq_true h2
  unfold sAt
  rw [List.getD_eq_getElem?_getD, List.getElem?_eq_getElem h1]
  exact h3
def sLn (c : sC) : List Nat := [] ++ [35] ++ sDec 4 (c 0) ++ [32] ++ sDec 0 (c 1) ++ [62] ++ sDec 0 (c 2) ++ [32] ++ sDec 3 (c 3) ++ [32, 64] ++ sDec 5 (c 4)
def sWv (c : sC) (l : List Nat) : List Nat := if 0 < c 6 then l ++ [32, 115] ++ sDec 0 (c 6 - 1) else l
def sRk (c : sC) (l : List Nat) : List Nat := if 0 < c 7 then l ++ [32, 99] ++ sDec 0 (c 7 - 1) else l
def sSk (c : sC) (l : List Nat) : List Nat := if 0 < c 5 then l ++ [32, 33] ++ sDec 0 (c 5) else l
def sLine (c : sC) : List Nat := sSk c (sRk c (sWv c (sLn c)))
/-- a line's length and the world behind it -/
def sForm (w : sW) (id : Int32) : Nat × Int32 × sW := match sFind w.1.2.1 id with
  | none => (1, nI 0, w)
  | some i => (0, nI (sLine (sAt w.1.2.1 i)).length, (w.1, w.2.1, w.2.2.1, sLine (sAt w.1.2.1 i), w.2.2.2.2))
set_option maxHeartbeats 8000000 in
theorem w_format (hD : tD a) {w : sW} (hW : tW T w) (hI : sI tt nn n w.1) (hT : tt < 100000) (hN : nn ≤ 10000) {id : Int32} : zK G mX3_format 9 0 [.ref a.1, .int id] (tH h0 a T) (tO h0 a (sForm w id).1 (.int (sForm w id).2.1) (sForm w id).2.2) := by
  unfold sForm
  show zW G mX3_format 9 0 0 [.ref a.1, .int id, zho] [] (tH h0 a T) _
  rcases sFind_c hW.1 (id := id) with q | ⟨k, q, hk, hk2⟩
  · rw [q]
    refine zW.aload_n (pc' := 1) dX3_format_0 rfl rfl zg0 rfl ?_
    refine zW.iload_n (pc' := 2) dX3_format_1 rfl rfl (zgS (zg0)) ?_
    refine zT.call (pc' := 5) dX3_format_2 rfl l_X3_76 rfl rfl (w_find0 hD hW.1 q) (zcc rfl zc0) rfl (Nat.le_of_ble_eq_true rfl) (Nat.le_of_ble_eq_true rfl) (Nat.le_of_ble_eq_true rfl) (fun _ _ ⟨e1, e2⟩ => ?_)
    subst e1; rw [e2]
    refine zW.istore_n (pc' := 6) dX3_format_5 rfl rfl (Nat.le_of_ble_eq_true rfl) (zsS (zsS (zs0))) ?_
    refine zW.aload_n (pc' := 7) dX3_format_6 rfl rfl zg0 rfl ?_
    refine zW.iload_n (pc' := 8) dX3_format_7 rfl rfl (zgS (zgS (zg0))) ?_
    refine zW.if_lt (pc' := 11) 15 dX3_format_8 rfl (by decide) (fun b1 => ?_) (fun b1 => ?_)
    rotate_left
    · exact absurd (show (-1 : Int32) < 0 by decide) b1
    refine zW.iconst (pc' := 16) (nI 0) dX3_format_15 rfl (by decide) ?_
    refine zT.call (pc' := 19) dX3_format_16 rfl l_X3_124 rfl rfl (w_fine0) (zcc rfl zc0) rfl (Nat.le_of_ble_eq_true rfl) (Nat.le_of_ble_eq_true rfl) (Nat.le_of_ble_eq_true rfl) (fun _ _ ⟨e1, e2⟩ => ?_)
    subst e1; rw [e2]
    refine zW.if_neN (pc' := 22) 24 dX3_format_19 rfl (by decide) (by omega) (fun b9 => absurd b9 (by omega)) (fun b9 => ?_)
    refine zW.iconst (pc' := 23) (nI 0) dX3_format_22 rfl (by decide) ?_
    refine zW.iret dX3_format_23 rfl (rfl) ?_
    exact tO.q hW
  · rw [q]
    dsimp only
    have hid := sFind_eq q
    have hc := hI.at hk
    generalize hcd : sAt w.1.2.1 k = c at *
    obtain ⟨c0, c1, c2, c3, ⟨c4, c4'⟩, ⟨c5, c5'⟩, c6, c7, c8⟩ := hc
    have n0 := hI.1.2.1
    have t0 := hI.1.1
    subst hid
    have d0 := sDec_len (f := 4) (v := c 0)
    have d1 := sDec_len (f := 0) (v := c 1)
    have d2 := sDec_len (f := 0) (v := c 2)
    have d3 := sDec_len (f := 3) (v := c 3)
    have d4 := sDec_len (f := 5) (v := c 4)
    have d5 := sDec_len (f := 0) (v := c 5)
    have d6 := sDec_len (f := 0) (v := c 6 - 1)
    have d7 := sDec_len (f := 0) (v := c 7 - 1)
    have hF : ∀ f, f ≠ 0 → f ≠ 6 → zu (zu T.1 0 0) 6 0 f = T.1 f := fun f q1 q2 => (zu_n q2).trans (zu_n q1)
    have hR0 : tR (zu (zu T.1 0 0) 6 0, T.2).2.1 0 w.1 := hW.1
    have f171 : ∀ (T4 : tS) (l : List Nat), tL T4 l → tG (zu (zu T.1 0 0) 6 0, T.2) T4 → sLine c = l → zW G mX3_format 9 0 171 [.ref a.1, .int (nI (c 0)), .int (nI k)] [] (tH h0 a T4) (tO h0 a 0 (.int (nI (sLine c).length)) (w.1, w.2.1, w.2.2.1, sLine c, w.2.2.2.2)) := by
      intro T4 l hL hG e
      rw [e]
      refine zW.aload_n (pc' := 172) dX3_format_171 rfl rfl zg0 rfl ?_
      refine zT.get (pc' := 175) dX3_format_172 rfl f_X3_158_3 rfl ?_
      try dsimp only
      rw [hL.1]
      refine zW.iret dX3_format_175 rfl (rfl) ?_
      obtain ⟨⟨x1, x2, x3⟩, ⟨x4, x5⟩, -, ⟨x6, x7, x8⟩, x9, x10⟩ := hW.2
      have hg : ∀ f, f ≠ 0 → f ≠ 6 → T4.1 f = T.1 f := fun f q1 q2 => (hG.1 f q2).trans (hF f q1 q2)
      have h00 : zu (zu T.1 0 0) 6 0 0 = 0 := (zu_n (by decide)).trans zu_s
      exact ⟨_, T4, rfl, ⟨rfl, (hG.1 0 (by decide)).trans h00, hG.R hR0, ⟨(hg 2 (by decide) (by decide)).trans x1, x2, fun i S hS => hG.R (T1 := (zu (zu T.1 0 0) 6 0, T.2)) (x3 i S hS)⟩, ⟨(hg 3 (by decide) (by decide)).trans x4, fun S hS => hG.R (T1 := (zu (zu T.1 0 0) 6 0, T.2)) (x5 S hS)⟩, hL, ⟨(hg 8 (by decide) (by decide)).trans x6, x7, fun i x hx => by rw [show T4.2.2.2 = T.2.2.2 from hG.2.2]; exact x8 i x hx⟩, (hg 11 (by decide) (by decide)).trans x9, (hg 12 (by decide) (by decide)).trans x10⟩, rfl⟩
    have f150 : ∀ (T4 : tS) (l : List Nat), tL T4 l → l.length ≤ 29 → tG (zu (zu T.1 0 0) 6 0, T.2) T4 → sLine c = sSk c l → zW G mX3_format 9 0 150 [.ref a.1, .int (nI (c 0)), .int (nI k)] [] (tH h0 a T4) (tO h0 a 0 (.int (nI (sLine c).length)) (w.1, w.2.1, w.2.2.1, sLine c, w.2.2.2.2)) := by
      intro T4 l hL hl hG e
      unfold sSk at e
      refine zW.aload_n (pc' := 151) dX3_format_150 rfl rfl zg0 rfl ?_
      refine zW.iload_n (pc' := 152) dX3_format_151 rfl rfl (zgS (zgS (zg0))) ?_
      refine zW.iconst (pc' := 153) (nI 5) dX3_format_152 rfl (by decide) ?_
      refine zT.call (pc' := 156) dX3_format_153 rfl l_X3_43 rfl rfl (w_cS hD (hG.R hR0) hk (f := 5) (by decide)) (zcc rfl (zcc rfl zc0)) rfl (Nat.le_of_ble_eq_true rfl) (Nat.le_of_ble_eq_true rfl) (Nat.le_of_ble_eq_true rfl) (fun _ _ ⟨e1, e2⟩ => ?_)
      subst e1; rw [e2, hcd]
      refine zW.if_leN (pc' := 159) 171 dX3_format_156 rfl (by decide) (by omega) (fun b1 => ?_) (fun b1 => ?_)
      · rw [if_neg (by omega)] at e
        exact f171 T4 l hL hG e
      · rw [if_pos (by omega)] at e
        refine zW.aload_n (pc' := 160) dX3_format_159 rfl rfl zg0 rfl ?_
        refine zW.bipush (pc' := 162) (nI 33) dX3_format_160 rfl (by decide) ?_
        refine zW.aload_n (pc' := 163) dX3_format_162 rfl rfl zg0 rfl ?_
        refine zW.iload_n (pc' := 164) dX3_format_163 rfl rfl (zgS (zgS (zg0))) ?_
        refine zW.iconst (pc' := 165) (nI 5) dX3_format_164 rfl (by decide) ?_
        refine zT.call (pc' := 168) dX3_format_165 rfl l_X3_43 rfl rfl (w_cS hD (hG.R hR0) hk (f := 5) (by decide)) (zcc rfl (zcc rfl zc0)) rfl (Nat.le_of_ble_eq_true rfl) (Nat.le_of_ble_eq_true rfl) (Nat.le_of_ble_eq_true rfl) (fun _ _ ⟨e1, e2⟩ => ?_)
        subst e1; rw [e2, hcd]
        refine zT.call (pc' := 171) dX3_format_168 rfl l_X3_167 rfl rfl (w_writesBehind hD hL (f := 0) (c := 33) (v := c 5) (by decide) (by omega) (by decide) (by omega) (by omega)) (zcc rfl (zcc rfl zc0)) rfl (Nat.le_of_ble_eq_true rfl) (Nat.le_of_ble_eq_true rfl) (Nat.le_of_ble_eq_true rfl) (fun _ T5 ⟨e1, e3, e4⟩ => ?_)
        subst e1
        exact f171 T5 _ e3 (hG.tr e4) e
    have f125 : ∀ (T4 : tS) (l : List Nat), tL T4 l → l.length ≤ 26 → tG (zu (zu T.1 0 0) 6 0, T.2) T4 → sLine c = sSk c (sRk c l) → zW G mX3_format 9 0 125 [.ref a.1, .int (nI (c 0)), .int (nI k)] [] (tH h0 a T4) (tO h0 a 0 (.int (nI (sLine c).length)) (w.1, w.2.1, w.2.2.1, sLine c, w.2.2.2.2)) := by
      intro T4 l hL hl hG e
      unfold sRk at e
      refine zW.aload_n (pc' := 126) dX3_format_125 rfl rfl zg0 rfl ?_
      refine zW.iload_n (pc' := 127) dX3_format_126 rfl rfl (zgS (zgS (zg0))) ?_
      refine zW.bipush (pc' := 129) (nI 7) dX3_format_127 rfl (by decide) ?_
      refine zT.call (pc' := 132) dX3_format_129 rfl l_X3_43 rfl rfl (w_cS hD (hG.R hR0) hk (f := 7) (by decide)) (zcc rfl (zcc rfl zc0)) rfl (Nat.le_of_ble_eq_true rfl) (Nat.le_of_ble_eq_true rfl) (Nat.le_of_ble_eq_true rfl) (fun _ _ ⟨e1, e2⟩ => ?_)
      subst e1; rw [e2, hcd]
      refine zW.if_leN (pc' := 135) 150 dX3_format_132 rfl (by decide) (by omega) (fun b1 => ?_) (fun b1 => ?_)
      · rw [if_neg (by omega)] at e
        exact f150 T4 l hL (by omega) hG e
      · rw [if_pos (by omega)] at e
        refine zW.aload_n (pc' := 136) dX3_format_135 rfl rfl zg0 rfl ?_
        refine zW.bipush (pc' := 138) (nI 99) dX3_format_136 rfl (by decide) ?_
        refine zW.aload_n (pc' := 139) dX3_format_138 rfl rfl zg0 rfl ?_
        refine zW.iload_n (pc' := 140) dX3_format_139 rfl rfl (zgS (zgS (zg0))) ?_
        refine zW.bipush (pc' := 142) (nI 7) dX3_format_140 rfl (by decide) ?_
        refine zT.call (pc' := 145) dX3_format_142 rfl l_X3_43 rfl rfl (w_cS hD (hG.R hR0) hk (f := 7) (by decide)) (zcc rfl (zcc rfl zc0)) rfl (Nat.le_of_ble_eq_true rfl) (Nat.le_of_ble_eq_true rfl) (Nat.le_of_ble_eq_true rfl) (fun _ _ ⟨e1, e2⟩ => ?_)
        subst e1; rw [e2, hcd]
        refine zW.iconst (pc' := 146) (nI 1) dX3_format_145 rfl (by decide) ?_
        refine zW.isubN (pc' := 147) dX3_format_146 rfl (by omega) ?_
        refine zT.call (pc' := 150) dX3_format_147 rfl l_X3_167 rfl rfl (w_writesBehind hD hL (f := 0) (c := 99) (v := c 7 - 1) (by decide) (by omega) (by decide) (by omega) (by omega)) (zcc rfl (zcc rfl zc0)) rfl (Nat.le_of_ble_eq_true rfl) (Nat.le_of_ble_eq_true rfl) (Nat.le_of_ble_eq_true rfl) (fun _ T5 ⟨e1, e3, e4⟩ => ?_)
        subst e1
        exact f150 T5 _ e3 (by simp only [List.length_append, List.length_cons, List.length_nil]; omega) (hG.tr e4) e
    have f100 : ∀ (T4 : tS) (l : List Nat), tL T4 l → l.length ≤ 23 → tG (zu (zu T.1 0 0) 6 0, T.2) T4 → sLine c = sSk c (sRk c (sWv c l)) → zW G mX3_format 9 0 100 [.ref a.1, .int (nI (c 0)), .int (nI k)] [] (tH h0 a T4) (tO h0 a 0 (.int (nI (sLine c).length)) (w.1, w.2.1, w.2.2.1, sLine c, w.2.2.2.2)) := by
      intro T4 l hL hl hG e
      unfold sWv at e
      refine zW.aload_n (pc' := 101) dX3_format_100 rfl rfl zg0 rfl ?_
      refine zW.iload_n (pc' := 102) dX3_format_101 rfl rfl (zgS (zgS (zg0))) ?_
      refine zW.bipush (pc' := 104) (nI 6) dX3_format_102 rfl (by decide) ?_
      refine zT.call (pc' := 107) dX3_format_104 rfl l_X3_43 rfl rfl (w_cS hD (hG.R hR0) hk (f := 6) (by decide)) (zcc rfl (zcc rfl zc0)) rfl (Nat.le_of_ble_eq_true rfl) (Nat.le_of_ble_eq_true rfl) (Nat.le_of_ble_eq_true rfl) (fun _ _ ⟨e1, e2⟩ => ?_)
      subst e1; rw [e2, hcd]
      refine zW.if_leN (pc' := 110) 125 dX3_format_107 rfl (by decide) (by omega) (fun b1 => ?_) (fun b1 => ?_)
      · rw [if_neg (by omega)] at e
        exact f125 T4 l hL (by omega) hG e
      · rw [if_pos (by omega)] at e
        refine zW.aload_n (pc' := 111) dX3_format_110 rfl rfl zg0 rfl ?_
        refine zW.bipush (pc' := 113) (nI 115) dX3_format_111 rfl (by decide) ?_
        refine zW.aload_n (pc' := 114) dX3_format_113 rfl rfl zg0 rfl ?_
        refine zW.iload_n (pc' := 115) dX3_format_114 rfl rfl (zgS (zgS (zg0))) ?_
        refine zW.bipush (pc' := 117) (nI 6) dX3_format_115 rfl (by decide) ?_
        refine zT.call (pc' := 120) dX3_format_117 rfl l_X3_43 rfl rfl (w_cS hD (hG.R hR0) hk (f := 6) (by decide)) (zcc rfl (zcc rfl zc0)) rfl (Nat.le_of_ble_eq_true rfl) (Nat.le_of_ble_eq_true rfl) (Nat.le_of_ble_eq_true rfl) (fun _ _ ⟨e1, e2⟩ => ?_)
        subst e1; rw [e2, hcd]
        refine zW.iconst (pc' := 121) (nI 1) dX3_format_120 rfl (by decide) ?_
        refine zW.isubN (pc' := 122) dX3_format_121 rfl (by omega) ?_
        refine zT.call (pc' := 125) dX3_format_122 rfl l_X3_167 rfl rfl (w_writesBehind hD hL (f := 0) (c := 115) (v := c 6 - 1) (by decide) (by omega) (by decide) (by omega) (by omega)) (zcc rfl (zcc rfl zc0)) rfl (Nat.le_of_ble_eq_true rfl) (Nat.le_of_ble_eq_true rfl) (Nat.le_of_ble_eq_true rfl) (fun _ T5 ⟨e1, e3, e4⟩ => ?_)
        subst e1
        exact f125 T5 _ e3 (by simp only [List.length_append, List.length_cons, List.length_nil]; omega) (hG.tr e4) e
    refine zW.aload_n (pc' := 1) dX3_format_0 rfl rfl zg0 rfl ?_
    refine zW.iload_n (pc' := 2) dX3_format_1 rfl rfl (zgS (zg0)) ?_
    refine zT.call (pc' := 5) dX3_format_2 rfl l_X3_76 rfl rfl (w_find1 hD hW.1 q) (zcc rfl zc0) rfl (Nat.le_of_ble_eq_true rfl) (Nat.le_of_ble_eq_true rfl) (Nat.le_of_ble_eq_true rfl) (fun _ _ ⟨e1, e2⟩ => ?_)
    subst e1; rw [e2]
    refine zW.istore_n (pc' := 6) dX3_format_5 rfl rfl (Nat.le_of_ble_eq_true rfl) (zsS (zsS (zs0))) ?_
    refine zW.aload_n (pc' := 7) dX3_format_6 rfl rfl zg0 rfl ?_
    refine zW.iload_n (pc' := 8) dX3_format_7 rfl rfl (zgS (zgS (zg0))) ?_
    refine zW.if_ltN (pc' := 11) (tg := 15) dX3_format_8 rfl (by decide) (by omega) ?_
    refine zW.iconst (pc' := 12) (nI 1) dX3_format_11 rfl (by decide) ?_
    refine zW.goto 16 dX3_format_12 (by decide) ?_
    refine zT.call (pc' := 19) dX3_format_16 rfl l_X3_124 rfl rfl (w_fine1) (zcc rfl zc0) rfl (Nat.le_of_ble_eq_true rfl) (Nat.le_of_ble_eq_true rfl) (Nat.le_of_ble_eq_true rfl) (fun _ _ ⟨e1, e2⟩ => ?_)
    subst e1; rw [e2]
    refine zW.if_neN (pc' := 22) 24 dX3_format_19 rfl (by decide) (by omega) (fun b9 => ?_) (fun b9 => absurd b9 (by omega))
    refine zW.aload_n (pc' := 25) dX3_format_24 rfl rfl zg0 rfl ?_
    refine zW.iconst (pc' := 26) (nI 0) dX3_format_25 rfl (by decide) ?_
    refine zT.putN (pc' := 29) dX3_format_26 rfl f_X3_158_3 (zFw.of ft_3_6 rfl rfl) rfl ?_
    try dsimp only
    refine zW.aload_n (pc' := 30) dX3_format_29 rfl rfl zg0 rfl ?_
    refine zW.bipush (pc' := 32) (nI 35) dX3_format_30 rfl (by decide) ?_
    have hL0 : tL (zu (zu T.1 0 0) 6 0, T.2) [] := ⟨zu_s (f := zu T.1 0 0) (k := 6) (x := 0), Nat.zero_le _, fun i x hx => by cases hx⟩
    refine zT.call (pc' := 35) dX3_format_32 rfl l_X3_164 rfl rfl (w_writes hD hL0 (by decide) (c := 35) (by decide)) (zcc rfl zc0) rfl (Nat.le_of_ble_eq_true rfl) (Nat.le_of_ble_eq_true rfl) (Nat.le_of_ble_eq_true rfl) (fun _ T1 ⟨e1, l1, g1⟩ => ?_)
    subst e1
    refine zW.aload_n (pc' := 36) dX3_format_35 rfl rfl zg0 rfl ?_
    refine zW.iload_n (pc' := 37) dX3_format_36 rfl rfl (zgS (zg0)) ?_
    refine zT.call (pc' := 40) dX3_format_37 rfl l_X3_161 rfl rfl (w_writesNumber hD 4 T1 _ (c 0) l1 (by simp only [List.length_append, List.length_cons, List.length_nil]; omega) (by omega) (by omega)) (zcc rfl zc0) rfl (Nat.le_of_ble_eq_true rfl) (Nat.le_of_ble_eq_true rfl) (Nat.le_of_ble_eq_true rfl) (fun _ T2 ⟨e1, l2, g2⟩ => ?_)
    subst e1
    have g2 := g1.tr g2
    refine zW.aload_n (pc' := 41) dX3_format_40 rfl rfl zg0 rfl ?_
    refine zW.bipush (pc' := 43) (nI 32) dX3_format_41 rfl (by decide) ?_
    refine zT.call (pc' := 46) dX3_format_43 rfl l_X3_164 rfl rfl (w_writes hD l2 (by simp only [List.length_append, List.length_cons, List.length_nil]; omega) (c := 32) (by decide)) (zcc rfl zc0) rfl (Nat.le_of_ble_eq_true rfl) (Nat.le_of_ble_eq_true rfl) (Nat.le_of_ble_eq_true rfl) (fun _ T3 ⟨e1, l3, g3⟩ => ?_)
    subst e1
    have g3 := g2.tr g3
    refine zW.aload_n (pc' := 47) dX3_format_46 rfl rfl zg0 rfl ?_
    refine zW.aload_n (pc' := 48) dX3_format_47 rfl rfl zg0 rfl ?_
    refine zW.iload_n (pc' := 49) dX3_format_48 rfl rfl (zgS (zgS (zg0))) ?_
    refine zW.iconst (pc' := 50) (nI 1) dX3_format_49 rfl (by decide) ?_
    refine zT.call (pc' := 53) dX3_format_50 rfl l_X3_43 rfl rfl (w_cS hD (g3.R hR0) hk (f := 1) (by decide)) (zcc rfl (zcc rfl zc0)) rfl (Nat.le_of_ble_eq_true rfl) (Nat.le_of_ble_eq_true rfl) (Nat.le_of_ble_eq_true rfl) (fun _ _ ⟨e1, e2⟩ => ?_)
    subst e1; rw [e2, hcd]
    refine zT.call (pc' := 56) dX3_format_53 rfl l_X3_161 rfl rfl (w_writesNumber hD 0 T3 _ (c 1) l3 (by simp only [List.length_append, List.length_cons, List.length_nil]; omega) (by omega) (by omega)) (zcc rfl zc0) rfl (Nat.le_of_ble_eq_true rfl) (Nat.le_of_ble_eq_true rfl) (Nat.le_of_ble_eq_true rfl) (fun _ T4 ⟨e1, l4, g4⟩ => ?_)
    subst e1
    have g4 := g3.tr g4
    refine zW.aload_n (pc' := 57) dX3_format_56 rfl rfl zg0 rfl ?_
    refine zW.bipush (pc' := 59) (nI 62) dX3_format_57 rfl (by decide) ?_
    refine zT.call (pc' := 62) dX3_format_59 rfl l_X3_164 rfl rfl (w_writes hD l4 (by simp only [List.length_append, List.length_cons, List.length_nil]; omega) (c := 62) (by decide)) (zcc rfl zc0) rfl (Nat.le_of_ble_eq_true rfl) (Nat.le_of_ble_eq_true rfl) (Nat.le_of_ble_eq_true rfl) (fun _ T5 ⟨e1, l5, g5⟩ => ?_)
    subst e1
    have g5 := g4.tr g5
    refine zW.aload_n (pc' := 63) dX3_format_62 rfl rfl zg0 rfl ?_
    refine zW.aload_n (pc' := 64) dX3_format_63 rfl rfl zg0 rfl ?_
    refine zW.iload_n (pc' := 65) dX3_format_64 rfl rfl (zgS (zgS (zg0))) ?_
    refine zW.iconst (pc' := 66) (nI 2) dX3_format_65 rfl (by decide) ?_
    refine zT.call (pc' := 69) dX3_format_66 rfl l_X3_43 rfl rfl (w_cS hD (g5.R hR0) hk (f := 2) (by decide)) (zcc rfl (zcc rfl zc0)) rfl (Nat.le_of_ble_eq_true rfl) (Nat.le_of_ble_eq_true rfl) (Nat.le_of_ble_eq_true rfl) (fun _ _ ⟨e1, e2⟩ => ?_)
    subst e1; rw [e2, hcd]
    refine zT.call (pc' := 72) dX3_format_69 rfl l_X3_161 rfl rfl (w_writesNumber hD 0 T5 _ (c 2) l5 (by simp only [List.length_append, List.length_cons, List.length_nil]; omega) (by omega) (by omega)) (zcc rfl zc0) rfl (Nat.le_of_ble_eq_true rfl) (Nat.le_of_ble_eq_true rfl) (Nat.le_of_ble_eq_true rfl) (fun _ T6 ⟨e1, l6, g6⟩ => ?_)
    subst e1
    have g6 := g5.tr g6
    refine zW.aload_n (pc' := 73) dX3_format_72 rfl rfl zg0 rfl ?_
    refine zW.bipush (pc' := 75) (nI 32) dX3_format_73 rfl (by decide) ?_
    refine zT.call (pc' := 78) dX3_format_75 rfl l_X3_164 rfl rfl (w_writes hD l6 (by simp only [List.length_append, List.length_cons, List.length_nil]; omega) (c := 32) (by decide)) (zcc rfl zc0) rfl (Nat.le_of_ble_eq_true rfl) (Nat.le_of_ble_eq_true rfl) (Nat.le_of_ble_eq_true rfl) (fun _ T7 ⟨e1, l7, g7⟩ => ?_)
    subst e1
    have g7 := g6.tr g7
    refine zW.aload_n (pc' := 79) dX3_format_78 rfl rfl zg0 rfl ?_
    refine zW.aload_n (pc' := 80) dX3_format_79 rfl rfl zg0 rfl ?_
    refine zW.iload_n (pc' := 81) dX3_format_80 rfl rfl (zgS (zgS (zg0))) ?_
    refine zW.iconst (pc' := 82) (nI 3) dX3_format_81 rfl (by decide) ?_
    refine zT.call (pc' := 85) dX3_format_82 rfl l_X3_43 rfl rfl (w_cS hD (g7.R hR0) hk (f := 3) (by decide)) (zcc rfl (zcc rfl zc0)) rfl (Nat.le_of_ble_eq_true rfl) (Nat.le_of_ble_eq_true rfl) (Nat.le_of_ble_eq_true rfl) (fun _ _ ⟨e1, e2⟩ => ?_)
    subst e1; rw [e2, hcd]
    refine zT.call (pc' := 88) dX3_format_85 rfl l_X3_161 rfl rfl (w_writesNumber hD 3 T7 _ (c 3) l7 (by simp only [List.length_append, List.length_cons, List.length_nil]; omega) (by omega) (by omega)) (zcc rfl zc0) rfl (Nat.le_of_ble_eq_true rfl) (Nat.le_of_ble_eq_true rfl) (Nat.le_of_ble_eq_true rfl) (fun _ T8 ⟨e1, l8, g8⟩ => ?_)
    subst e1
    have g8 := g7.tr g8
    refine zW.aload_n (pc' := 89) dX3_format_88 rfl rfl zg0 rfl ?_
    refine zW.bipush (pc' := 91) (nI 64) dX3_format_89 rfl (by decide) ?_
    refine zW.aload_n (pc' := 92) dX3_format_91 rfl rfl zg0 rfl ?_
    refine zW.iload_n (pc' := 93) dX3_format_92 rfl rfl (zgS (zgS (zg0))) ?_
    refine zW.iconst (pc' := 94) (nI 4) dX3_format_93 rfl (by decide) ?_
    refine zT.call (pc' := 97) dX3_format_94 rfl l_X3_43 rfl rfl (w_cS hD (g8.R hR0) hk (f := 4) (by decide)) (zcc rfl (zcc rfl zc0)) rfl (Nat.le_of_ble_eq_true rfl) (Nat.le_of_ble_eq_true rfl) (Nat.le_of_ble_eq_true rfl) (fun _ _ ⟨e1, e2⟩ => ?_)
    subst e1; rw [e2, hcd]
    refine zT.call (pc' := 100) dX3_format_97 rfl l_X3_167 rfl rfl (w_writesBehind hD l8 (f := 5) (c := 64) (v := c 4) (by decide) (by simp only [List.length_append, List.length_cons, List.length_nil]; omega) (by decide) (by omega) (by omega)) (zcc rfl (zcc rfl zc0)) rfl (Nat.le_of_ble_eq_true rfl) (Nat.le_of_ble_eq_true rfl) (Nat.le_of_ble_eq_true rfl) (fun _ T9 ⟨e1, l9, g9⟩ => ?_)
    subst e1
    exact f100 T9 _ l9 (by simp only [List.length_append, List.length_cons, List.length_nil]; omega) (g8.tr g9) rfl
end
