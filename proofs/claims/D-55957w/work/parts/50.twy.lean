/-! THE REFERENCE's parser: all commands -/
section
set_option maxRecDepth 100000
variable {G : zG} {h0 : zH} {a : tA} {T : tS} {tt nn n : Nat}
theorem pNeeds_le {l : List Nat} {c : Nat} {p : Nat × Nat} : p.1 ≤ (pNeeds l c p).1 := by
  unfold pNeeds
  split
  · split
    · exact Nat.le_succ _
    · exact Nat.le_refl _
  · exact Nat.le_refl _
theorem pThree_le {l : List Nat} {x y z : Nat} {p : Nat × Nat} : p.1 ≤ (pThree l x y z p).1 := Nat.le_trans pNeeds_le (Nat.le_trans pNeeds_le pNeeds_le)
theorem pNeeds_up {l : List Nat} {c n : Nat} {p : Nat × Nat} (h : n ≤ p.1) : n ≤ (pNeeds l c p).1 := Nat.le_trans h pNeeds_le
theorem pThree_up {l : List Nat} {x y z n : Nat} {p : Nat × Nat} (h : n ≤ p.1) : n ≤ (pThree l x y z p).1 := Nat.le_trans h pThree_le
theorem pWord_le {l : List Nat} {x : Nat} {p : Nat × Nat} : p.1 ≤ (pWord l x p).2.1 := by
  have r : p.1 ≤ p.1 := Nat.le_refl _
  unfold pWord
  split
  · exact pNeeds_up (pThree_up (pThree_up (pThree_up r)))
  · split
    · exact pThree_up r
    · split
      · exact pThree_up r
      · split
        · split
          · exact pNeeds_up (pThree_up r)
          · exact pNeeds_up (pNeeds_up r)
        · split
          · exact pNeeds_up (pNeeds_up (pThree_up r))
          · exact pThree_up r
theorem pRun_le {l : List Nat} : ∀ {m h v : Nat}, h ≤ (pRun l m h v).2 := by
  intro m
  induction m with
  | zero => intro h v; exact Nat.le_refl _
  | succ m ih =>
    intro h v
    rw [pRun]
    split
    · exact Nat.le_trans (Nat.le_succ _) ih
    · exact Nat.le_refl _
theorem pNum_le {l : List Nat} {d : Nat} {p : Nat × Nat} : p.1 ≤ (pNum l d p).2.1 := by
  unfold pNum
  split
  · split
    · exact pRun_le
    · exact Nat.le_refl _
  · exact Nat.le_refl _
theorem pBehind_le {l : List Nat} {d : Nat} {p : Nat × Nat} : p.1 ≤ (pBehind l d p).2.1 := Nat.le_trans pNeeds_le pNum_le
theorem pArgs_le {l : List Nat} {w : Nat × Nat × Nat} : w.2.1 ≤ (pArgs l w).2.1 := by
  unfold pArgs
  split
  · exact Nat.le_trans pBehind_le (Nat.le_trans pNum_le (Nat.le_trans pBehind_le pBehind_le))
  · split
    · exact Nat.le_trans pBehind_le pBehind_le
    · split
      · exact pBehind_le
      · split
        · split
          · exact pBehind_le
          · exact Nat.le_refl _
        · exact Nat.le_trans pBehind_le pBehind_le
theorem pCmd_le {l : List Nat} {h : Nat} : h ≤ (pCmd l h).2.1 := by
  unfold pCmd
  split
  · split
    · exact Nat.le_trans (Nat.le_succ h) (Nat.le_trans (pWord_le (p := (h + 1, 0))) pArgs_le)
    · exact Nat.le_refl _
  · exact Nat.le_refl _
/-- more commands, behind signs -/
def pLoop (l : List Nat) : Nat → Nat × Nat → List pC → List pC × Nat × Nat
  | 0, p, cs => (cs, p)
  | m + 1, p, cs => if p.2 = 0 ∧ l[p.1]? = some 59 then pLoop l m (pCmd l (p.1 + 1)).2 (cs ++ [(pCmd l (p.1 + 1)).1]) else (cs, p)
def pFin (l : List Nat) (r : List pC × Nat × Nat) : List pC × Nat := (r.1, if r.2.2 = 0 ∧ r.2.1 < l.length then r.2.1 + 1 else r.2.2)
/-- a program: its commands, an error's place + 1 -/
def pParse (l : List Nat) : List pC × Nat := pFin l (pLoop l 60 (pCmd l 0).2 [(pCmd l 0).1])
def tKs (Cm : Nat → Nat) (cs : List pC) : Prop := ∀ i c, cs[i]? = some c → tK Cm i c
theorem tKs.push {Cm Cm' : Nat → Nat} {cs : List pC} {c : pC} (h : tKs Cm cs) (hc : tK Cm' cs.length c) (hs : ∀ j, j < 5 * cs.length → Cm' j = Cm j) : tKs Cm' (cs ++ [c]) := by
  intro i d hd
  by_cases q : i < cs.length
  · rw [List.getElem?_append_left q] at hd
    obtain ⟨k0, k1, k2, k3, k4⟩ := h i d hd
    exact ⟨(hs _ (by omega)).trans k0, (hs _ (by omega)).trans k1, (hs _ (by omega)).trans k2, (hs _ (by omega)).trans k3, (hs _ (by omega)).trans k4⟩
  · rw [List.getElem?_append_right (by omega)] at hd
    have h1 := (List.getElem?_eq_some_iff.mp hd).1
    rw [List.length_singleton] at h1
    have h2 : i = cs.length := by omega
    subst h2
    rw [Nat.sub_self] at hd
    cases hd
    exact hc
/-- what a parse leaves -/
abbrev tPs (T : tS) (r : List pC × Nat) : Option Value → tS → Prop := fun v T' => v = none ∧ T'.1 10 = r.2 ∧ T'.1 14 = r.1.length ∧ tKs T'.2.2.2.2 r.1 ∧ tCF 0 T T' ∧ r.1.length ≤ 61 ∧ r.2 ≤ 61
theorem tCF.step {T1 T2 T3 : tS} {n : Nat} (h : tCF 0 T T1) (g : tCF n T2 T3) (e : ∀ f, f ≠ 9 → T2.1 f = T1.1 f) (e2 : T2.2 = T1.2) : tCF 0 T T3 :=
  ⟨fun f a b c => (g.1 f a b c).trans ((e f a).trans (h.1 f a b c)), by rw [g.2.1, e2]; exact h.2.1, by rw [g.2.2.1, e2]; exact h.2.2.1, by rw [g.2.2.2.1, e2]; exact h.2.2.2.1, fun j hj => absurd hj (by omega)⟩
set_option maxHeartbeats 8000000 in
theorem w_parse (hD : tD a) {l : List Nat} (h8 : T.1 8 = l.length) (hl : l.length ≤ 60) (hi : ∀ i x, l[i]? = some x → T.2.2.2.1 i = x) (hc : ∀ x ∈ l, x < 128) : zK G mX3_parse 6 0 [.ref a.1] (tH h0 a T) (tQ h0 a (tPs T (pParse l))) := by
  have fin : ∀ (T1 : tS) (r : List pC × Nat × Nat), tP T1 l r.2.1 r.2.2 → T1.1 14 = r.1.length → tKs T1.2.2.2.2 r.1 → tCF 0 T T1 → r.1.length ≤ 61 → zW G mX3_parse 6 0 52 [.ref a.1] [] (tH h0 a T1) (tQ h0 a (tPs T (pFin l r))) := by
    intro T1 r hP h14 hK hF hn
    obtain ⟨g1, g2, g3, g4, g5, g6, g7, g8⟩ := hP
    unfold pFin
    refine zW.aload_n (pc' := 53) dX3_parse_52 rfl rfl zg0 rfl ?_
    refine zT.get (pc' := 56) dX3_parse_53 rfl f_X3_176_3 rfl ?_
    try dsimp only
    rw [g5]
    refine zW.if_ge (pc' := 59) 78 dX3_parse_56 rfl (by decide) (fun b1 => ?_) (fun b1 => ?_)
    · have he : ¬ r.2.2 = 0 := fun q => by
        rw [q] at b1
        exact absurd b1 (by decide)
      rw [if_neg (fun q => he q.1)]
      refine zW.vret dX3_parse_78 rfl ?_
      exact ⟨_, T1, rfl, ⟨rfl, g5, h14, hK, hF, hn, by omega⟩, rfl⟩
    · have he : r.2.2 = 0 := (nI_elt (by omega)).mp (Int32.not_le.mp b1)
      refine zW.aload_n (pc' := 60) dX3_parse_59 rfl rfl zg0 rfl ?_
      refine zT.get (pc' := 63) dX3_parse_60 rfl f_X3_173_3 rfl ?_
      try dsimp only
      rw [g4]
      refine zW.aload_n (pc' := 64) dX3_parse_63 rfl rfl zg0 rfl ?_
      refine zT.get (pc' := 67) dX3_parse_64 rfl f_X3_170_3 rfl ?_
      try dsimp only
      rw [g1]
      refine zW.icmp_geN (pc' := 70) 78 dX3_parse_67 rfl (by decide) (by omega) (by omega) (fun b2 => ?_) (fun b2 => ?_)
      · rw [if_neg (fun q => absurd q.2 (by omega))]
        refine zW.vret dX3_parse_78 rfl ?_
        exact ⟨_, T1, rfl, ⟨rfl, g5, h14, hK, hF, hn, by omega⟩, rfl⟩
      · rw [if_pos ⟨he, by omega⟩]
        refine zW.aload_n (pc' := 71) dX3_parse_70 rfl rfl zg0 rfl ?_
        refine zW.aload_n (pc' := 72) dX3_parse_71 rfl rfl zg0 rfl ?_
        refine zT.get (pc' := 75) dX3_parse_72 rfl f_X3_173_3 rfl ?_
        try dsimp only
        rw [g4, nI_e1 (n := r.2.1)]
        refine zT.putE (pc' := 78) dX3_parse_75 rfl f_X3_176_3 (zFw.of ft_3_10 rfl rfl) rfl ?_
        try dsimp only
        refine zW.vret dX3_parse_78 rfl ?_
        have g : ∀ f, f ≠ 10 → zu T1.1 10 (r.2.1 + 1) f = T1.1 f := fun f hf => zu_n hf
        have g10 : zu T1.1 10 (r.2.1 + 1) 10 = r.2.1 + 1 := zu_s
        exact ⟨_, (zu T1.1 10 (r.2.1 + 1), T1.2), rfl, ⟨rfl, g10, (g 14 (by decide)).trans h14, hK, ⟨fun f q1 q2 q3 => (g f q2).trans (hF.1 f q1 q2 q3), hF.2⟩, hn, by show r.2.1 + 1 ≤ 61; omega⟩, rfl⟩
  have loop : ∀ m (T1 : tS) (p : Nat × Nat) (cs : List pC), 60 ≤ p.1 + m → tP T1 l p.1 p.2 → T1.1 14 = cs.length → tKs T1.2.2.2.2 cs → tCF 0 T T1 → cs.length ≤ p.1 + 1 → zW G mX3_parse 6 0 19 [.ref a.1] [] (tH h0 a T1) (tQ h0 a (tPs T (pFin l (pLoop l m p cs)))) := by
    intro m
    induction m with
    | zero =>
      intro T1 p cs hm hP h14 hK hF hn
      have hP' := hP
      obtain ⟨g1, g2, g3, g4, g5, g6, g7, g8⟩ := hP
      have hx : l[p.1]? = none := List.getElem?_eq_none (by omega)
      have f := fin T1 (cs, p) hP' h14 hK hF (by show cs.length ≤ 61; omega)
      rw [pLoop]
      refine zW.aload_n (pc' := 20) dX3_parse_19 rfl rfl zg0 rfl ?_
      refine zT.get (pc' := 23) dX3_parse_20 rfl f_X3_176_3 rfl ?_
      try dsimp only
      rw [g5]
      refine zW.if_ge (pc' := 26) 52 dX3_parse_23 rfl (by decide) (fun b1 => ?_) (fun b1 => ?_)
      · exact f
      · refine zW.aload_n (pc' := 27) dX3_parse_26 rfl rfl zg0 rfl ?_
        refine zT.call (pc' := 30) dX3_parse_27 rfl l_X3_179 rfl rfl (w_next hD hP') zc0 rfl (Nat.le_of_ble_eq_true rfl) (Nat.le_of_ble_eq_true rfl) (Nat.le_of_ble_eq_true rfl) (fun _ _ ⟨e1, e2⟩ => ?_)
        subst e1; rw [e2]
        refine zW.bipush (pc' := 32) (nI 59) dX3_parse_30 rfl (by decide) ?_
        refine zW.icmp_ne (pc' := 35) 52 dX3_parse_32 rfl (by decide) (fun b2 => ?_) (fun b2 => ?_)
        · exact f
        · have := (pAt_eq g8 (by decide)).mp b2
          rw [hx] at this
          cases this
    | succ m ih =>
      intro T1 p cs hm hP h14 hK hF hn
      have hP' := hP
      obtain ⟨g1, g2, g3, g4, g5, g6, g7, g8⟩ := hP
      have f := fin T1 (cs, p) hP' h14 hK hF (by show cs.length ≤ 61; omega)
      rw [pLoop]
      refine zW.aload_n (pc' := 20) dX3_parse_19 rfl rfl zg0 rfl ?_
      refine zT.get (pc' := 23) dX3_parse_20 rfl f_X3_176_3 rfl ?_
      try dsimp only
      rw [g5]
      refine zW.if_ge (pc' := 26) 52 dX3_parse_23 rfl (by decide) (fun b1 => ?_) (fun b1 => ?_)
      · have he : ¬ p.2 = 0 := fun q => by
          rw [q] at b1
          exact absurd b1 (by decide)
        rw [if_neg (fun q => he q.1)]
        exact f
      · have he : p.2 = 0 := (nI_elt (by omega)).mp (Int32.not_le.mp b1)
        refine zW.aload_n (pc' := 27) dX3_parse_26 rfl rfl zg0 rfl ?_
        refine zT.call (pc' := 30) dX3_parse_27 rfl l_X3_179 rfl rfl (w_next hD hP') zc0 rfl (Nat.le_of_ble_eq_true rfl) (Nat.le_of_ble_eq_true rfl) (Nat.le_of_ble_eq_true rfl) (fun _ _ ⟨e1, e2⟩ => ?_)
        subst e1; rw [e2]
        refine zW.bipush (pc' := 32) (nI 59) dX3_parse_30 rfl (by decide) ?_
        refine zW.icmp_ne (pc' := 35) 52 dX3_parse_32 rfl (by decide) (fun b2 => ?_) (fun b2 => ?_)
        · rw [if_neg (fun q => b2 ((pAt_eq g8 (by decide)).mpr q.2))]
          exact f
        · have hx := (pAt_eq g8 (by decide)).mp b2
          have hlt := (List.getElem?_eq_some_iff.mp hx).1
          rw [if_pos ⟨he, hx⟩]
          refine zW.aload_n (pc' := 36) dX3_parse_35 rfl rfl zg0 rfl ?_
          refine zW.dup (pc' := 37) dX3_parse_36 rfl rfl ?_
          refine zT.get (pc' := 40) dX3_parse_37 rfl f_X3_173_3 rfl ?_
          try dsimp only
          rw [g4]
          refine zW.iconst (pc' := 41) (nI 1) dX3_parse_40 rfl (by decide) ?_
          refine zW.iaddN (pc' := 42) dX3_parse_41 rfl ?_
          refine zT.putN (pc' := 45) dX3_parse_42 rfl f_X3_173_3 (zFw.of ft_3_9 rfl rfl) rfl ?_
          try dsimp only
          refine zW.aload_n (pc' := 46) dX3_parse_45 rfl rfl zg0 rfl ?_
          have g : ∀ f, f ≠ 9 → zu T1.1 9 (p.1 + 1) f = T1.1 f := fun f hf => zu_n hf
          have g9 : zu T1.1 9 (p.1 + 1) 9 = p.1 + 1 := zu_s
          have hP2 : tP (zu T1.1 9 (p.1 + 1), T1.2) l (p.1 + 1) 0 := ⟨(g 8 (by decide)).trans g1, g2, g3, g9, (g 10 (by decide)).trans (g5.trans he), by omega, by omega, g8⟩
          refine zT.call (pc' := 49) dX3_parse_46 rfl l_X3_200 rfl rfl (w_command hD hP2 ((g 14 (by decide)).trans h14) (by omega)) zc0 rfl (Nat.le_of_ble_eq_true rfl) (Nat.le_of_ble_eq_true rfl) (Nat.le_of_ble_eq_true rfl) (fun _ T3 ⟨e1, e3, e4, e5, e6⟩ => ?_)
          subst e1
          refine zW.goto 19 dX3_parse_49 (by decide) ?_
          have hle := pCmd_le (l := l) (h := p.1 + 1)
          refine ih T3 (pCmd l (p.1 + 1)).2 (cs ++ [(pCmd l (p.1 + 1)).1]) (by omega) e3 ?_ (hK.push e5 e6.2.2.2.2) (hF.step e6 g rfl) ?_
          · rw [List.length_append]; exact e4
          · rw [List.length_append, List.length_singleton]; omega
  unfold pParse
  show zW G mX3_parse 6 0 0 [.ref a.1] [] (tH h0 a T) _
  refine zW.aload_n (pc' := 1) dX3_parse_0 rfl rfl zg0 rfl ?_
  refine zW.iconst (pc' := 2) (nI 0) dX3_parse_1 rfl (by decide) ?_
  refine zT.putN (pc' := 5) dX3_parse_2 rfl f_X3_173_3 (zFw.of ft_3_9 rfl rfl) rfl ?_
  try dsimp only
  refine zW.aload_n (pc' := 6) dX3_parse_5 rfl rfl zg0 rfl ?_
  refine zW.iconst (pc' := 7) (-1) dX3_parse_6 rfl (by decide) ?_
  rw [show (-1 : Int32) = nI 0 - 1 by decide]
  refine zT.putE (pc' := 10) dX3_parse_7 rfl f_X3_176_3 (zFw.of ft_3_10 rfl rfl) rfl ?_
  try dsimp only
  refine zW.aload_n (pc' := 11) dX3_parse_10 rfl rfl zg0 rfl ?_
  refine zW.iconst (pc' := 12) (nI 0) dX3_parse_11 rfl (by decide) ?_
  refine zT.putN (pc' := 15) dX3_parse_12 rfl f_X3_191_3 (zFw.of ft_3_14 rfl rfl) rfl ?_
  try dsimp only
  refine zW.aload_n (pc' := 16) dX3_parse_15 rfl rfl zg0 rfl ?_
  have g : ∀ f, f ≠ 9 → f ≠ 10 → f ≠ 14 → zu (zu (zu T.1 9 0) 10 0) 14 0 f = T.1 f := fun f q1 q2 q3 => (zu_n q3).trans ((zu_n q2).trans (zu_n q1))
  have g9 : zu (zu (zu T.1 9 0) 10 0) 14 0 9 = 0 := (zu_n (by decide)).trans ((zu_n (by decide)).trans zu_s)
  have g10 : zu (zu (zu T.1 9 0) 10 0) 14 0 10 = 0 := (zu_n (by decide)).trans zu_s
  have g14 : zu (zu (zu T.1 9 0) 10 0) 14 0 14 = 0 := zu_s
  have hP : tP (zu (zu (zu T.1 9 0) 10 0) 14 0, T.2) l 0 0 := ⟨(g 8 (by decide) (by decide) (by decide)).trans h8, hl, hi, g9, g10, by omega, by omega, hc⟩
  refine zT.call (pc' := 19) dX3_parse_16 rfl l_X3_200 rfl rfl (w_command hD hP g14 (by decide)) zc0 rfl (Nat.le_of_ble_eq_true rfl) (Nat.le_of_ble_eq_true rfl) (Nat.le_of_ble_eq_true rfl) (fun _ T3 ⟨e1, e3, e4, e5, e6⟩ => ?_)
  subst e1
  refine loop 60 T3 (pCmd l 0).2 [(pCmd l 0).1] (by omega) e3 e4 (fun i c h => ?_) ⟨fun f a b c => (e6.1 f a b c).trans (g f a b c), e6.2⟩ (by show 1 ≤ _; omega)
  cases i with
  | zero => cases h; exact e5
  | succ i => cases h
end
