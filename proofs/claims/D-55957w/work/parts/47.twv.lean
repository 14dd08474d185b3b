/-! THE REFERENCE's parser: next, needs, three, number, behind -/
section
set_option maxRecDepth 100000
variable {G : zG} {h0 : zH} {a : tA} {T : tS} {tt nn n : Nat}
/-- the parser over a text, at h, with an error's place + 1 -/
def tP (T : tS) (l : List Nat) (h e : Nat) : Prop := T.1 8 = l.length ∧ l.length ≤ 60 ∧ (∀ i x, l[i]? = some x → T.2.2.2.1 i = x) ∧ T.1 9 = h ∧ T.1 10 = e ∧ h ≤ l.length ∧ e ≤ l.length + 1 ∧ ∀ x ∈ l, x < 128
/-- all but the parser's place and error stands -/
def tPF (T T' : tS) : Prop := (∀ f, f ≠ 9 → f ≠ 10 → T'.1 f = T.1 f) ∧ T'.2 = T.2
theorem tPF.rf : tPF T T := ⟨fun _ _ _ => rfl, rfl⟩
theorem tPF.tr {T1 T2 T3 : tS} (h : tPF T1 T2) (g : tPF T2 T3) : tPF T1 T3 := ⟨fun f a b => (g.1 f a b).trans (h.1 f a b), g.2.trans h.2⟩
def pAt (l : List Nat) (h : Nat) : Int32 := match l[h]? with | some x => nI x | none => -1
theorem nI_e1 {n : Nat} : nI n = nI (n + 1) - 1 := by
  have := nI_sub (a := n + 1) (b := 1) (by omega)
  rw [Nat.add_sub_cancel] at this
  exact this.symm
theorem nI_elt {e : Nat} (he : e < 2 ^ 30) : nI e - 1 < 0 ↔ e = 0 := by
  constructor
  · intro h
    cases e with
    | zero => rfl
    | succ e =>
      rw [← nI_e1] at h
      exact absurd h (nI_pos (by omega))
  · intro h; subst h; decide
theorem w_next (hD : tD a) {l : List Nat} {h e : Nat} (hP : tP T l h e) : zK G mX3_next 1 0 [.ref a.1] (tH h0 a T) (tQ h0 a fun v T' => v = some (.int (pAt l h)) ∧ T' = T) := by
  obtain ⟨h1, h2, h3, h4, h5, h6, h7, h8⟩ := hP
  unfold pAt
  show zW G mX3_next 1 0 0 [.ref a.1] [] (tH h0 a T) _
  refine zW.aload_n (pc' := 1) dX3_next_0 rfl rfl zg0 rfl ?_
  refine zT.get (pc' := 4) dX3_next_1 rfl f_X3_173_3 rfl ?_
  try dsimp only
  rw [h4]
  refine zW.aload_n (pc' := 5) dX3_next_4 rfl rfl zg0 rfl ?_
  refine zT.get (pc' := 8) dX3_next_5 rfl f_X3_170_3 rfl ?_
  try dsimp only
  rw [h1]
  refine zW.icmp_geN (pc' := 11) 23 dX3_next_8 rfl (by decide) (by omega) (by omega) (fun b1 => ?_) (fun b1 => ?_)
  · rw [List.getElem?_eq_none b1]
    refine zW.iconst (pc' := 24) (-1) dX3_next_23 rfl (by decide) ?_
    refine zW.iret dX3_next_24 rfl (rfl) ?_
    exact ⟨_, _, rfl, ⟨rfl, rfl⟩, rfl⟩
  · have hl := h3 h _ (List.getElem?_eq_getElem b1)
    rw [List.getElem?_eq_getElem b1]
    refine zW.aload_n (pc' := 12) dX3_next_11 rfl rfl zg0 rfl ?_
    refine zT.get (pc' := 15) dX3_next_12 rfl f_X3_17_3 rfl ?_
    try dsimp only
    refine zW.aload_n (pc' := 16) dX3_next_15 rfl rfl zg0 rfl ?_
    refine zT.get (pc' := 19) dX3_next_16 rfl f_X3_173_3 rfl ?_
    try dsimp only
    rw [h4]
    first | refine zT.ald2 (pc' := 20) dX3_next_19 rfl hD (by omega) ?_ | refine zT.ald3 (pc' := 20) dX3_next_19 rfl hD (by omega) ?_
    try dsimp only
    rw [hl]
    refine zW.goto 24 dX3_next_20 (by decide) ?_
    refine zW.iret dX3_next_24 rfl (rfl) ?_
    exact ⟨_, _, rfl, ⟨rfl, rfl⟩, rfl⟩
def pNeeds (l : List Nat) (c : Nat) (p : Nat × Nat) : Nat × Nat := if p.2 = 0 then (if l[p.1]? = some c then (p.1 + 1, 0) else (p.1, p.1 + 1)) else p
theorem pAt_eq {l : List Nat} {h c : Nat} (hl : ∀ x ∈ l, x < 128) (hc : c < 128) : pAt l h = nI c ↔ l[h]? = some c := by
  unfold pAt
  cases e : l[h]? with
  | none => exact ⟨fun q => absurd q (by intro q; have := nI_pos (n := c) (by omega); rw [← q] at this; exact this (by decide)), fun q => by cases q⟩
  | some x =>
    have hx := hl x (List.mem_of_getElem? e)
    simp only
    rw [nI_eq (by omega) (by omega)]
    exact ⟨fun q => by rw [q], fun q => Option.some.inj q⟩
theorem w_needs (hD : tD a) {l : List Nat} {h e : Nat} (hP : tP T l h e) {c : Nat} (hc : c < 128) : zK G mX3_needs 2 0 [.ref a.1, .int (nI c)] (tH h0 a T) (tQ h0 a fun v T' => v = none ∧ tP T' l (pNeeds l c (h, e)).1 (pNeeds l c (h, e)).2 ∧ tPF T T') := by
  have hP' := hP
  obtain ⟨h1, h2, h3, h4, h5, h6, h7, h8⟩ := hP
  unfold pNeeds
  dsimp only
  show zW G mX3_needs 2 0 0 [.ref a.1, .int (nI c)] [] (tH h0 a T) _
  by_cases q : e = 0
  rotate_left
  · rw [if_neg q]
    refine zW.aload_n (pc' := 1) dX3_needs_0 rfl rfl zg0 rfl ?_
    refine zT.get (pc' := 4) dX3_needs_1 rfl f_X3_176_3 rfl ?_
    try dsimp only
    rw [h5]
    refine zW.if_lt (pc' := 7) 8 dX3_needs_4 rfl (by decide) (fun b1 => ?_) (fun b1 => ?_)
    · exact absurd ((nI_elt (by omega)).mp b1) q
    refine zW.vret dX3_needs_7 rfl ?_
    exact ⟨_, T, rfl, ⟨rfl, hP', tPF.rf⟩, rfl⟩
  · rw [if_pos q]
    subst q
    refine zW.aload_n (pc' := 1) dX3_needs_0 rfl rfl zg0 rfl ?_
    refine zT.get (pc' := 4) dX3_needs_1 rfl f_X3_176_3 rfl ?_
    try dsimp only
    rw [h5]
    refine zW.if_lt (pc' := 7) 8 dX3_needs_4 rfl (by decide) (fun b1 => ?_) (fun b1 => ?_)
    rotate_left
    · exact absurd ((nI_elt (e := 0) (by omega)).mpr rfl) b1
    refine zW.aload_n (pc' := 9) dX3_needs_8 rfl rfl zg0 rfl ?_
    refine zT.call (pc' := 12) dX3_needs_9 rfl l_X3_179 rfl rfl (w_next hD hP') zc0 rfl (Nat.le_of_ble_eq_true rfl) (Nat.le_of_ble_eq_true rfl) (Nat.le_of_ble_eq_true rfl) (fun _ _ ⟨e1, e2⟩ => ?_)
    subst e1; rw [e2]
    refine zW.iload_n (pc' := 13) dX3_needs_12 rfl rfl (zgS (zg0)) ?_
    refine zW.icmp_eq (pc' := 16) 25 dX3_needs_13 rfl (by decide) (fun b2 => ?_) (fun b2 => ?_)
    · have hq := (pAt_eq h8 hc).mp b2
      rw [if_pos hq]
      have hlt := (List.getElem?_eq_some_iff.mp hq).1
      refine zW.aload_n (pc' := 26) dX3_needs_25 rfl rfl zg0 rfl ?_
      refine zW.dup (pc' := 27) dX3_needs_26 rfl rfl ?_
      refine zT.get (pc' := 30) dX3_needs_27 rfl f_X3_173_3 rfl ?_
      try dsimp only
      rw [h4]
      refine zW.iconst (pc' := 31) (nI 1) dX3_needs_30 rfl (by decide) ?_
      refine zW.iaddN (pc' := 32) dX3_needs_31 rfl ?_
      refine zT.putN (pc' := 35) dX3_needs_32 rfl f_X3_173_3 (zFw.of ft_3_9 rfl rfl) rfl ?_
      try dsimp only
      refine zW.vret dX3_needs_35 rfl ?_
      refine ⟨_, (zu T.1 9 (h + 1), T.2), rfl, ⟨rfl, ⟨(zu_n (f := T.1) (k := 9) (x := h + 1) (j := 8) (by decide)).trans h1, h2, h3, zu_s (f := T.1) (k := 9), (zu_n (f := T.1) (k := 9) (x := h + 1) (j := 10) (by decide)).trans h5, by omega, by omega, h8⟩, fun f q1 q2 => zu_n q1, rfl⟩, rfl⟩
    · have hq : ¬ l[h]? = some c := fun q => b2 ((pAt_eq h8 hc).mpr q)
      rw [if_neg hq]
      refine zW.aload_n (pc' := 17) dX3_needs_16 rfl rfl zg0 rfl ?_
      refine zW.aload_n (pc' := 18) dX3_needs_17 rfl rfl zg0 rfl ?_
      refine zT.get (pc' := 21) dX3_needs_18 rfl f_X3_173_3 rfl ?_
      try dsimp only
      rw [h4, nI_e1 (n := h)]
      refine zT.putE (pc' := 24) dX3_needs_21 rfl f_X3_176_3 (zFw.of ft_3_10 rfl rfl) rfl ?_
      try dsimp only
      refine zW.vret dX3_needs_24 rfl ?_
      refine ⟨_, (zu T.1 10 (h + 1), T.2), rfl, ⟨rfl, ⟨(zu_n (f := T.1) (k := 10) (x := h + 1) (j := 8) (by decide)).trans h1, h2, h3, (zu_n (f := T.1) (k := 10) (x := h + 1) (j := 9) (by decide)).trans h4, zu_s (f := T.1) (k := 10), h6, by omega, h8⟩, fun f q1 q2 => zu_n q2, rfl⟩, rfl⟩
theorem w_three (hD : tD a) {l : List Nat} {h e : Nat} (hP : tP T l h e) {c1 c2 c3 : Nat} (hc1 : c1 < 128) (hc2 : c2 < 128) (hc3 : c3 < 128) : zK G mX3_three 3 0 [.ref a.1, .int (nI c1), .int (nI c2), .int (nI c3)] (tH h0 a T) (tQ h0 a fun v T' => v = none ∧ tP T' l (pNeeds l c3 (pNeeds l c2 (pNeeds l c1 (h, e)))).1 (pNeeds l c3 (pNeeds l c2 (pNeeds l c1 (h, e)))).2 ∧ tPF T T') := by
  show zW G mX3_three 3 0 0 [.ref a.1, .int (nI c1), .int (nI c2), .int (nI c3)] [] (tH h0 a T) _
  refine zW.aload_n (pc' := 1) dX3_three_0 rfl rfl zg0 rfl ?_
  refine zW.iload_n (pc' := 2) dX3_three_1 rfl rfl (zgS (zg0)) ?_
  refine zT.call (pc' := 5) dX3_three_2 rfl l_X3_182 rfl rfl (w_needs hD hP hc1) (zcc rfl zc0) rfl (Nat.le_of_ble_eq_true rfl) (Nat.le_of_ble_eq_true rfl) (Nat.le_of_ble_eq_true rfl) (fun _ T1 ⟨e1, e2, e3⟩ => ?_)
  subst e1
  refine zW.aload_n (pc' := 6) dX3_three_5 rfl rfl zg0 rfl ?_
  refine zW.iload_n (pc' := 7) dX3_three_6 rfl rfl (zgS (zgS (zg0))) ?_
  refine zT.call (pc' := 10) dX3_three_7 rfl l_X3_182 rfl rfl (w_needs hD e2 hc2) (zcc rfl zc0) rfl (Nat.le_of_ble_eq_true rfl) (Nat.le_of_ble_eq_true rfl) (Nat.le_of_ble_eq_true rfl) (fun _ T2 ⟨e1, e4, e5⟩ => ?_)
  subst e1
  refine zW.aload_n (pc' := 11) dX3_three_10 rfl rfl zg0 rfl ?_
  refine zW.iload_n (pc' := 12) dX3_three_11 rfl rfl (zgS (zgS (zgS (zg0)))) ?_
  refine zT.call (pc' := 15) dX3_three_12 rfl l_X3_182 rfl rfl (w_needs hD e4 hc3) (zcc rfl zc0) rfl (Nat.le_of_ble_eq_true rfl) (Nat.le_of_ble_eq_true rfl) (Nat.le_of_ble_eq_true rfl) (fun _ T3 ⟨e1, e6, e7⟩ => ?_)
  subst e1
  refine zW.vret dX3_three_15 rfl ?_
  exact ⟨_, T3, rfl, ⟨rfl, e6, e3.tr (e5.tr e7)⟩, rfl⟩
def pDig (l : List Nat) (h : Nat) : Bool := match l[h]? with | some x => decide (48 ≤ x ∧ x ≤ 57) | none => false
def pRun (l : List Nat) : Nat → Nat → Nat → Nat × Nat
  | 0, h, v => (v, h)
  | m + 1, h, v => if pDig l h = true then pRun l m (h + 1) (10 * v + (l.getD h 0 - 48)) else (v, h)
/-- a number of at most d digits: its value, the place, the error -/
def pNum (l : List Nat) (d : Nat) (p : Nat × Nat) : Nat × Nat × Nat := if p.2 = 0 then (if pDig l p.1 = true then ((pRun l d p.1 0).1, (pRun l d p.1 0).2, 0) else (0, p.1, p.1 + 1)) else (0, p)
theorem pDig_in {l : List Nat} {h : Nat} (hl : ∀ x ∈ l, x < 128) : sIn (pAt l h) (nI 48) (nI 57) = pDig l h := by
  unfold sIn pAt pDig
  cases e : l[h]? with
  | none => simp only; decide
  | some x =>
    have hx := hl x (List.mem_of_getElem? e)
    simp only
    apply Bool.eq_iff_iff.mpr
    rw [decide_eq_true_eq, decide_eq_true_eq, nI_leI (by omega) (by omega), nI_leI (by omega) (by omega)]
theorem pDig_at {l : List Nat} {h : Nat} (hq : pDig l h = true) : ∃ x, l[h]? = some x ∧ 48 ≤ x ∧ x ≤ 57 ∧ h < l.length ∧ pAt l h = nI x ∧ l.getD h 0 = x := by
  unfold pDig at hq
  cases e : l[h]? with
  | none => rw [e] at hq; simp at hq
  | some x =>
    rw [e] at hq
    have hx := of_decide_eq_true hq
    exact ⟨x, rfl, hx.1, hx.2, (List.getElem?_eq_some_iff.mp e).1, by unfold pAt; rw [e], by rw [List.getD_eq_getElem?_getD, e]; rfl⟩
theorem w_number (hD : tD a) {l : List Nat} {h e : Nat} (hP : tP T l h e) {d : Nat} (hd : d ≤ 3) : zK G mX3_number 3 0 [.ref a.1, .int (nI d)] (tH h0 a T) (tQ h0 a fun v T' => v = some (.int (nI (pNum l d (h, e)).1)) ∧ tP T' l (pNum l d (h, e)).2.1 (pNum l d (h, e)).2.2 ∧ tPF T T') := by
  have hP' := hP
  obtain ⟨h1, h2, h3, h4, h5, h6, h7, h8⟩ := hP
  unfold pNum
  dsimp only
  have loop : ∀ m k h v (T1 : tS), k + m = d → tP T1 l h 0 → tPF T T1 → v < 10 ^ k → zW G mX3_number 3 0 37 [.ref a.1, .int (nI d), .int (nI v), .int (nI k)] [] (tH h0 a T1) (tQ h0 a fun o T' => o = some (.int (nI (pRun l m h v).1)) ∧ tP T' l (pRun l m h v).2 0 ∧ tPF T T') := by
    intro m
    induction m with
    | zero =>
      intro k h v T1 hk hP hF hv
      have hk : k = d := by omega
      subst hk
      refine zW.iload_n (pc' := 38) dX3_number_37 rfl rfl (zgS (zgS (zgS (zg0)))) ?_
      refine zW.iload_n (pc' := 39) dX3_number_38 rfl rfl (zgS (zg0)) ?_
      refine zW.icmp_geN (pc' := 42) 85 dX3_number_39 rfl (by decide) (by omega) (by omega) (fun b9 => ?_) (fun b9 => absurd b9 (by omega))
      refine zW.iload_n (pc' := 86) dX3_number_85 rfl rfl (zgS (zgS (zg0))) ?_
      refine zW.iret dX3_number_86 rfl (rfl) ?_
      exact ⟨_, T1, rfl, ⟨rfl, hP, hF⟩, rfl⟩
    | succ m ih =>
      intro k h v T1 hk hP hF hv
      have hP' := hP
      obtain ⟨g1, g2, g3, g4, g5, g6, g7, g8⟩ := hP
      have hv3 : 10 ^ k ≤ 10 ^ 2 := Nat.pow_le_pow_right (by decide) (by omega)
      refine zW.iload_n (pc' := 38) dX3_number_37 rfl rfl (zgS (zgS (zgS (zg0)))) ?_
      refine zW.iload_n (pc' := 39) dX3_number_38 rfl rfl (zgS (zg0)) ?_
      refine zW.icmp_geN (pc' := 42) 85 dX3_number_39 rfl (by decide) (by omega) (by omega) (fun b9 => absurd b9 (by omega)) (fun b9 => ?_)
      refine zW.aload_n (pc' := 43) dX3_number_42 rfl rfl zg0 rfl ?_
      refine zT.call (pc' := 46) dX3_number_43 rfl l_X3_179 rfl rfl (w_next hD hP') zc0 rfl (Nat.le_of_ble_eq_true rfl) (Nat.le_of_ble_eq_true rfl) (Nat.le_of_ble_eq_true rfl) (fun _ _ ⟨e1, e2⟩ => ?_)
      subst e1; rw [e2]
      refine zW.bipush (pc' := 48) (nI 48) dX3_number_46 rfl (by decide) ?_
      refine zW.bipush (pc' := 50) (nI 57) dX3_number_48 rfl (by decide) ?_
      by_cases q : pDig l h = true
      · have hq : sIn (pAt l h) (nI 48) (nI 57) = true := by rw [pDig_in g8]; exact q
        obtain ⟨x, ex, x1, x2, x3, x4, x5⟩ := pDig_at q
        refine zW.callS (pc' := 53) dX3_number_50 rfl l_X3_55 rfl (w_in1 hq) (zcc rfl (zcc rfl (zcc rfl zc0))) rfl (Nat.le_of_ble_eq_true rfl) (Nat.le_of_ble_eq_true rfl) (Nat.le_of_ble_eq_true rfl) (fun _ _ ⟨e1, e3⟩ => ?_) (fun _ _ q9 => by cases q9.1)
        cases e1; subst e3
        refine zW.if_eqN (pc' := 56) 85 dX3_number_53 rfl (by decide) (by omega) (fun b9 => absurd b9 (by omega)) (fun b9 => ?_)
        refine zW.bipush (pc' := 58) (nI 10) dX3_number_56 rfl (by decide) ?_
        refine zW.iload_n (pc' := 59) dX3_number_58 rfl rfl (zgS (zgS (zg0))) ?_
        refine zW.imulN (pc' := 60) dX3_number_59 rfl ?_
        refine zW.aload_n (pc' := 61) dX3_number_60 rfl rfl zg0 rfl ?_
        refine zT.call (pc' := 64) dX3_number_61 rfl l_X3_179 rfl rfl (w_next hD hP') zc0 rfl (Nat.le_of_ble_eq_true rfl) (Nat.le_of_ble_eq_true rfl) (Nat.le_of_ble_eq_true rfl) (fun _ _ ⟨e1, e2⟩ => ?_)
        subst e1; rw [e2, x4]
        refine zW.iaddN (pc' := 65) dX3_number_64 rfl ?_
        refine zW.bipush (pc' := 67) (nI 48) dX3_number_65 rfl (by decide) ?_
        refine zW.isubN (pc' := 68) dX3_number_67 rfl (by omega) ?_
        refine zW.istore_n (pc' := 69) dX3_number_68 rfl rfl (Nat.le_of_ble_eq_true rfl) (zsS (zsS (zs0))) ?_
        refine zW.aload_n (pc' := 70) dX3_number_69 rfl rfl zg0 rfl ?_
        refine zW.dup (pc' := 71) dX3_number_70 rfl rfl ?_
        refine zT.get (pc' := 74) dX3_number_71 rfl f_X3_173_3 rfl ?_
        try dsimp only
        rw [g4]
        refine zW.iconst (pc' := 75) (nI 1) dX3_number_74 rfl (by decide) ?_
        refine zW.iaddN (pc' := 76) dX3_number_75 rfl ?_
        refine zT.putN (pc' := 79) dX3_number_76 rfl f_X3_173_3 (zFw.of ft_3_9 rfl rfl) rfl ?_
        try dsimp only
        refine zW.iincN (pc' := 82) (n := 1) dX3_number_79 rfl (Nat.le_of_ble_eq_true rfl) (zgS (zgS (zgS (zg0)))) (zsS (zsS (zsS (zs0)))) ?_
        refine zW.goto 37 dX3_number_82 (by decide) ?_
        have hs : pRun l (m + 1) h v = pRun l m (h + 1) (10 * v + x - 48) := by
          rw [pRun, if_pos q, x5]; congr 1; omega
        rw [hs]
        refine ih (k + 1) (h + 1) (10 * v + x - 48) (zu T1.1 9 (h + 1), T1.2) (by omega) ⟨(zu_n (f := T1.1) (k := 9) (x := h + 1) (j := 8) (by decide)).trans g1, g2, g3, zu_s (f := T1.1) (k := 9), (zu_n (f := T1.1) (k := 9) (x := h + 1) (j := 10) (by decide)).trans g5, by omega, by omega, g8⟩ ⟨fun f q1 q2 => (zu_n (f := T1.1) q1).trans (hF.1 f q1 q2), hF.2⟩ ?_
        rw [Nat.pow_succ]; omega
      · have hq : ¬ sIn (pAt l h) (nI 48) (nI 57) = true := by rw [pDig_in g8]; exact q
        refine zW.callS (pc' := 53) dX3_number_50 rfl l_X3_55 rfl (w_in0 hq) (zcc rfl (zcc rfl (zcc rfl zc0))) rfl (Nat.le_of_ble_eq_true rfl) (Nat.le_of_ble_eq_true rfl) (Nat.le_of_ble_eq_true rfl) (fun _ _ ⟨e1, e3⟩ => ?_) (fun _ _ q9 => by cases q9.1)
        cases e1; subst e3
        refine zW.if_eqN (pc' := 56) 85 dX3_number_53 rfl (by decide) (by omega) (fun b9 => ?_) (fun b9 => absurd b9 (by omega))
        refine zW.iload_n (pc' := 86) dX3_number_85 rfl rfl (zgS (zgS (zg0))) ?_
        refine zW.iret dX3_number_86 rfl (rfl) ?_
        have hs : pRun l (m + 1) h v = (v, h) := by rw [pRun, if_neg q]
        rw [hs]
        exact ⟨_, T1, rfl, ⟨rfl, hP', hF⟩, rfl⟩
  show zW G mX3_number 3 0 0 [.ref a.1, .int (nI d), zho, zho] [] (tH h0 a T) _
  by_cases q : e = 0
  rotate_left
  · rw [if_neg q]
    refine zW.aload_n (pc' := 1) dX3_number_0 rfl rfl zg0 rfl ?_
    refine zT.get (pc' := 4) dX3_number_1 rfl f_X3_176_3 rfl ?_
    try dsimp only
    rw [h5]
    refine zW.if_lt (pc' := 7) 9 dX3_number_4 rfl (by decide) (fun b1 => ?_) (fun b1 => ?_)
    · exact absurd ((nI_elt (by omega)).mp b1) q
    refine zW.iconst (pc' := 8) (nI 0) dX3_number_7 rfl (by decide) ?_
    refine zW.iret dX3_number_8 rfl (rfl) ?_
    exact ⟨_, T, rfl, ⟨rfl, hP', tPF.rf⟩, rfl⟩
  · rw [if_pos q]
    subst q
    refine zW.aload_n (pc' := 1) dX3_number_0 rfl rfl zg0 rfl ?_
    refine zT.get (pc' := 4) dX3_number_1 rfl f_X3_176_3 rfl ?_
    try dsimp only
    rw [h5]
    refine zW.if_lt (pc' := 7) 9 dX3_number_4 rfl (by decide) (fun b1 => ?_) (fun b1 => ?_)
    rotate_left
    · exact absurd ((nI_elt (e := 0) (by omega)).mpr rfl) b1
    refine zW.aload_n (pc' := 10) dX3_number_9 rfl rfl zg0 rfl ?_
    refine zT.call (pc' := 13) dX3_number_10 rfl l_X3_179 rfl rfl (w_next hD hP') zc0 rfl (Nat.le_of_ble_eq_true rfl) (Nat.le_of_ble_eq_true rfl) (Nat.le_of_ble_eq_true rfl) (fun _ _ ⟨e1, e2⟩ => ?_)
    subst e1; rw [e2]
    refine zW.bipush (pc' := 15) (nI 48) dX3_number_13 rfl (by decide) ?_
    refine zW.bipush (pc' := 17) (nI 57) dX3_number_15 rfl (by decide) ?_
    by_cases q : pDig l h = true
    · have hq : sIn (pAt l h) (nI 48) (nI 57) = true := by rw [pDig_in h8]; exact q
      rw [if_pos q]
      refine zW.callS (pc' := 20) dX3_number_17 rfl l_X3_55 rfl (w_in1 hq) (zcc rfl (zcc rfl (zcc rfl zc0))) rfl (Nat.le_of_ble_eq_true rfl) (Nat.le_of_ble_eq_true rfl) (Nat.le_of_ble_eq_true rfl) (fun _ _ ⟨e1, e3⟩ => ?_) (fun _ _ q9 => by cases q9.1)
      cases e1; subst e3
      refine zW.if_neN (pc' := 23) 33 dX3_number_20 rfl (by decide) (by omega) (fun b9 => ?_) (fun b9 => absurd b9 (by omega))
      refine zW.iconst (pc' := 34) (nI 0) dX3_number_33 rfl (by decide) ?_
      refine zW.istore_n (pc' := 35) dX3_number_34 rfl rfl (Nat.le_of_ble_eq_true rfl) (zsS (zsS (zs0))) ?_
      refine zW.iconst (pc' := 36) (nI 0) dX3_number_35 rfl (by decide) ?_
      refine zW.istore_n (pc' := 37) dX3_number_36 rfl rfl (Nat.le_of_ble_eq_true rfl) (zsS (zsS (zsS (zs0)))) ?_
      exact loop d 0 h 0 T (Nat.zero_add _) hP' tPF.rf (by decide)
    · have hq : ¬ sIn (pAt l h) (nI 48) (nI 57) = true := by rw [pDig_in h8]; exact q
      rw [if_neg q]
      refine zW.callS (pc' := 20) dX3_number_17 rfl l_X3_55 rfl (w_in0 hq) (zcc rfl (zcc rfl (zcc rfl zc0))) rfl (Nat.le_of_ble_eq_true rfl) (Nat.le_of_ble_eq_true rfl) (Nat.le_of_ble_eq_true rfl) (fun _ _ ⟨e1, e3⟩ => ?_) (fun _ _ q9 => by cases q9.1)
      cases e1; subst e3
      refine zW.if_neN (pc' := 23) 33 dX3_number_20 rfl (by decide) (by omega) (fun b9 => absurd b9 (by omega)) (fun b9 => ?_)
      refine zW.aload_n (pc' := 24) dX3_number_23 rfl rfl zg0 rfl ?_
      refine zW.aload_n (pc' := 25) dX3_number_24 rfl rfl zg0 rfl ?_
      refine zT.get (pc' := 28) dX3_number_25 rfl f_X3_173_3 rfl ?_
      try dsimp only
      rw [h4, nI_e1 (n := h)]
      refine zT.putE (pc' := 31) dX3_number_28 rfl f_X3_176_3 (zFw.of ft_3_10 rfl rfl) rfl ?_
      try dsimp only
      refine zW.iconst (pc' := 32) (nI 0) dX3_number_31 rfl (by decide) ?_
      refine zW.iret dX3_number_32 rfl (rfl) ?_
      refine ⟨_, (zu T.1 10 (h + 1), T.2), rfl, ⟨rfl, ⟨(zu_n (f := T.1) (k := 10) (x := h + 1) (j := 8) (by decide)).trans h1, h2, h3, (zu_n (f := T.1) (k := 10) (x := h + 1) (j := 9) (by decide)).trans h4, zu_s (f := T.1) (k := 10), h6, by omega, h8⟩, fun f q1 q2 => zu_n q2, rfl⟩, rfl⟩
def pBehind (l : List Nat) (d : Nat) (p : Nat × Nat) : Nat × Nat × Nat := pNum l d (pNeeds l 32 p)
theorem w_behind (hD : tD a) {l : List Nat} {h e : Nat} (hP : tP T l h e) {d : Nat} (hd : d ≤ 3) : zK G mX3_behind 4 0 [.ref a.1, .int (nI d)] (tH h0 a T) (tQ h0 a fun v T' => v = some (.int (nI (pBehind l d (h, e)).1)) ∧ tP T' l (pBehind l d (h, e)).2.1 (pBehind l d (h, e)).2.2 ∧ tPF T T') := by
  unfold pBehind
  show zW G mX3_behind 4 0 0 [.ref a.1, .int (nI d)] [] (tH h0 a T) _
  refine zW.aload_n (pc' := 1) dX3_behind_0 rfl rfl zg0 rfl ?_
  refine zW.bipush (pc' := 3) (nI 32) dX3_behind_1 rfl (by decide) ?_
  refine zT.call (pc' := 6) dX3_behind_3 rfl l_X3_182 rfl rfl (w_needs hD hP (c := 32) (by decide)) (zcc rfl zc0) rfl (Nat.le_of_ble_eq_true rfl) (Nat.le_of_ble_eq_true rfl) (Nat.le_of_ble_eq_true rfl) (fun _ T1 ⟨e1, e2, e3⟩ => ?_)
  subst e1
  refine zW.aload_n (pc' := 7) dX3_behind_6 rfl rfl zg0 rfl ?_
  refine zW.iload_n (pc' := 8) dX3_behind_7 rfl rfl (zgS (zg0)) ?_
  refine zT.call (pc' := 11) dX3_behind_8 rfl l_X3_185 rfl rfl (w_number hD e2 hd) (zcc rfl zc0) rfl (Nat.le_of_ble_eq_true rfl) (Nat.le_of_ble_eq_true rfl) (Nat.le_of_ble_eq_true rfl) (fun _ T2 ⟨e1, e4, e5⟩ => ?_)
  subst e1
  refine zW.iret dX3_behind_11 rfl (rfl) ?_
  exact ⟨_, T2, rfl, ⟨rfl, e4, e3.tr e5⟩, rfl⟩
end
