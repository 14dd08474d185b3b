/-! THE REFERENCE: adds, signs, countersigns, settles, setsRate -/
section
set_option maxRecDepth 100000
variable {G : zG} {h0 : zH} {a : tA} {T : tS}
/-- in(v, least, most) -/
theorem w_in {h : zH} {v lo hi : Int32} : zK G mX3_in 1 0 [.int v, .int lo, .int hi] h (fun o h' => o = .inl (some (.int (nI (if sIn v lo hi = true then 1 else 0)))) ∧ h' = h) := by
  unfold sIn
  show zW G mX3_in 1 0 0 [.int v, .int lo, .int hi] [] h _
  refine zW.iload_n (pc' := 1) dX3_in_0 rfl rfl zg0 ?_
  refine zW.iload_n (pc' := 2) dX3_in_1 rfl rfl (zgS (zg0)) ?_
  refine zW.icmp_lt (pc' := 5) 14 dX3_in_2 rfl (by decide) (fun h1 => ?_) (fun h1 => ?_)
  · refine zW.iconst (pc' := 15) (nI 0) dX3_in_14 rfl (by decide) ?_
    refine zW.iret dX3_in_15 rfl (rfl) ?_
    rw [if_neg (fun q => absurd h1 (Int32.not_lt.mpr (of_decide_eq_true q).1))]
    exact ⟨rfl, rfl⟩
  · refine zW.iload_n (pc' := 6) dX3_in_5 rfl rfl zg0 ?_
    refine zW.iload_n (pc' := 7) dX3_in_6 rfl rfl (zgS (zgS (zg0))) ?_
    refine zW.icmp_gt (pc' := 10) 14 dX3_in_7 rfl (by decide) (fun h2 => ?_) (fun h2 => ?_)
    · refine zW.iconst (pc' := 15) (nI 0) dX3_in_14 rfl (by decide) ?_
      refine zW.iret dX3_in_15 rfl (rfl) ?_
      rw [if_neg (fun q => absurd h2 (Int32.not_lt.mpr (of_decide_eq_true q).2))]
      exact ⟨rfl, rfl⟩
    · refine zW.iconst (pc' := 11) (nI 1) dX3_in_10 rfl (by decide) ?_
      refine zW.goto 15 dX3_in_11 (by decide) ?_
      refine zW.iret dX3_in_15 rfl (rfl) ?_
      rw [if_pos (decide_eq_true ⟨Int32.not_lt.mp h1, Int32.not_lt.mp h2⟩)]
      exact ⟨rfl, rfl⟩
theorem w_isPerson {h : zH} {v : Int32} : zK G mX3_isPerson 2 0 [.int v] h (fun o h' => o = .inl (some (.int (nI (if sIn v (nI 0) (nI 7) = true then 1 else 0)))) ∧ h' = h) := by
  show zW G mX3_isPerson 2 0 0 [.int v] [] h _
  refine zW.iload_n (pc' := 1) dX3_isPerson_0 rfl rfl zg0 ?_
  refine zW.iconst (pc' := 2) (nI 0) dX3_isPerson_1 rfl (by decide) ?_
  refine zW.bipush (pc' := 4) (nI 7) dX3_isPerson_2 rfl (by decide) ?_
  refine zW.callS (pc' := 7) dX3_isPerson_4 rfl l_X3_55 rfl (w_in) (zcc rfl (zcc rfl (zcc rfl zc0))) rfl (Nat.le_of_ble_eq_true rfl) (Nat.le_of_ble_eq_true rfl) (Nat.le_of_ble_eq_true rfl) (fun _ _ ⟨e1, e2⟩ => ?_) (fun _ _ q9 => by cases q9.1)
  cases e1; subst e2
  refine zW.iret dX3_isPerson_7 rfl (by split <;> decide) ?_
  exact ⟨rfl, rfl⟩
theorem sIn_nat {v : Int32} {lo hi : Nat} (h : sIn v (nI lo) (nI hi) = true) (hh : hi < 2 ^ 31) (hl : lo < 2 ^ 31) : ∃ n, v = nI n ∧ lo ≤ n ∧ n ≤ hi ∧ iN v = n := by
  have h1 := of_decide_eq_true h
  have h2 : ¬ v < 0 := fun q => by
    have q1 := Int32.lt_of_le_of_lt h1.1 q
    exact nI_pos hl q1
  obtain ⟨n, hn, rfl⟩ := nI_of h2
  exact ⟨n, rfl, (nI_leI hl hn).mp h1.1, (nI_leI hn hh).mp h1.2, nI_clamp hn⟩
theorem iN_nI {n : Nat} (h : n < 2 ^ 31) : iN (nI n) = n := nI_clamp h
theorem z01 {p : Prop} [Decidable p] : (if p then 1 else 0) < 2 ^ 31 := by split <;> decide
/-- the row behind an add -/
def tad (A : Nat → Nat) (to id d c w e : Nat) : Nat → Nat := zu (zu (zu (zu (zu (zu (tzf (zu (zu (zu A 1 (id + 1)) 2 (to + 1)) 4 (A 4 + w)) (22 + 8 * to) (22 + 8 * to + 8)) (22 + 8 * to + 0) id) (22 + 8 * to + 1) d) (22 + 8 * to + 2) c) (22 + 8 * to + 3) w) (22 + 8 * to + 4) e) (118 + to) id
theorem tR.add {A : Nat → Nat} {s : sS} (h : tR A 0 s) (hl : s.2.1.length < 12) {d c w e : Nat} : tR (tad A s.2.1.length (s.1 1) d c w e) 0 (zu (zu s.1 1 (s.1 1 + 1)) 4 (s.1 4 + w), s.2.1 ++ [sNew (s.1 1) d c w e], s.2.2.1 ++ [s.1 1], s.2.2.2) := by
  obtain ⟨h1, g2, h3, h4, h5, h6, h7, h8, h10⟩ := h
  have hz : ∀ j, j < 14 → tad A s.2.1.length (s.1 1) d c w e j = zu (zu (zu A 1 (s.1 1 + 1)) 2 (s.2.1.length + 1)) 4 (A 4 + w) j := fun j hj => by
    unfold tad
    rw [zu_n (by omega), zu_n (by omega), zu_n (by omega), zu_n (by omega), zu_n (by omega), zu_n (by omega)]
    unfold tzf
    rw [if_neg (by omega)]
  refine ⟨fun i hi a1 a2 => ?_, ?_, ?_, fun i x hc g hg => ?_, fun i x hx => ?_, fun i x hx => ?_, ?_, ?_, h10⟩
  · have h4' := h1 4 (by omega) (by omega) (by omega)
    have hi' := h1 i hi a1 a2
    rw [Nat.zero_add] at h4' hi' ⊢
    rw [hz i hi]
    show _ = zu (zu s.1 1 (s.1 1 + 1)) 4 (s.1 4 + w) i
    by_cases e4 : i = 4
    · subst e4; rw [zu_s, zu_s, h4']
    · rw [zu_n e4, zu_n e4, zu_n a1]
      by_cases e1 : i = 1
      · subst e1; rw [zu_s, zu_s]
      · rw [zu_n e1, zu_n e1, hi']
  · rw [Nat.zero_add, hz 2 (by omega), zu_n (by omega), zu_s]
    simp
  · rw [Nat.zero_add] at h3 ⊢
    rw [hz 9 (by omega), zu_n (by omega), zu_n (by omega), zu_n (by omega)]
    exact h3
  · simp only at hc
    by_cases hil : i < s.2.1.length
    · rw [List.getElem?_append_left hil] at hc
      unfold tad
      rw [zu_n (by omega), zu_n (by omega), zu_n (by omega), zu_n (by omega), zu_n (by omega), zu_n (by omega)]
      unfold tzf
      rw [if_neg (by omega), zu_n (by omega), zu_n (by omega), zu_n (by omega)]
      exact h4 i x hc g hg
    · rw [List.getElem?_append_right (by omega)] at hc
      have hi0 : i - s.2.1.length < 1 := (List.getElem?_eq_some_iff.mp hc).1
      have hi1 : i = s.2.1.length := by omega
      subst hi1
      rw [Nat.sub_self] at hc
      cases hc
      rw [show 0 + 22 + 8 * s.2.1.length + g = 22 + 8 * s.2.1.length + g by omega]
      unfold tad sNew
      rw [zu_n (by omega)]
      rcases (show g = 0 ∨ g = 1 ∨ g = 2 ∨ g = 3 ∨ g = 4 ∨ 5 ≤ g by omega) with q | q | q | q | q | q
      · subst q; rw [zu_n (by omega), zu_n (by omega), zu_n (by omega), zu_n (by omega), zu_s]; rfl
      · subst q; rw [zu_n (by omega), zu_n (by omega), zu_n (by omega), zu_s]; rfl
      · subst q; rw [zu_n (by omega), zu_n (by omega), zu_s]; rfl
      · subst q; rw [zu_n (by omega), zu_s]; rfl
      · subst q; rw [zu_s]; rfl
      · rw [zu_n (by omega), zu_n (by omega), zu_n (by omega), zu_n (by omega), zu_n (by omega)]
        unfold tzf
        rw [if_pos (by omega), if_neg (by omega), if_neg (by omega), if_neg (by omega), if_neg (by omega), if_neg (by omega)]
  · simp only at hx
    by_cases hil : i < s.2.2.1.length
    · rw [List.getElem?_append_left hil] at hx
      unfold tad
      rw [zu_n (by omega), zu_n (by omega), zu_n (by omega), zu_n (by omega), zu_n (by omega), zu_n (by omega)]
      unfold tzf
      rw [if_neg (by omega), zu_n (by omega), zu_n (by omega), zu_n (by omega)]
      exact h5 i x hx
    · rw [List.getElem?_append_right (by omega)] at hx
      have hi0 : i - s.2.2.1.length < 1 := (List.getElem?_eq_some_iff.mp hx).1
      have hi1 : i = s.2.2.1.length := by omega
      subst hi1
      rw [Nat.sub_self] at hx
      cases hx
      unfold tad
      rw [h8, show 0 + 118 + s.2.1.length = 118 + s.2.1.length by omega, zu_s]
  · have hil := (List.getElem?_eq_some_iff.mp hx).1
    have hil2 : i < s.2.2.2.length := hil
    unfold tad
    rw [zu_n (by omega), zu_n (by omega), zu_n (by omega), zu_n (by omega), zu_n (by omega), zu_n (by omega)]
    unfold tzf
    rw [if_neg (by omega), zu_n (by omega), zu_n (by omega), zu_n (by omega)]
    exact h6 i x hx
  · simp; omega
  · simp; omega
theorem tad_hi {A : Nat → Nat} {to id d c w e j : Nat} (ht : to < 12) (hj : 130 ≤ j) : tad A to id d c w e j = A j := by
  unfold tad
  rw [zu_n (by omega), zu_n (by omega), zu_n (by omega), zu_n (by omega), zu_n (by omega), zu_n (by omega)]
  unfold tzf
  rw [if_neg (by omega), zu_n (by omega), zu_n (by omega), zu_n (by omega)]
/-- what a change method of the reference leaves -/
abbrev tC (T : tS) (s : sS) (R : sR) : Option Value → tS → Prop := fun v T' => v = some (.int (nI R.1)) ∧ tR T'.2.1 0 R.2.2 ∧ (R.1 = 0 → T'.1 4 = R.2.1) ∧ (R.1 ≠ 0 → R.2.2 = s) ∧ tF T T'
theorem tC.bad {s : sS} (hR : tR T.2.1 0 s) {k : Nat} {R : sR} (e : R = (k, 0, s)) (hk : k ≠ 0) : tC T s R (some (.int (nI k))) T := by
  subst e
  exact ⟨rfl, hR, fun q => absurd q hk, fun _ => rfl, tF.rf⟩
theorem w_adds (hD : tD a) {s : sS} (hR : tR T.2.1 0 s) {d c w l : Int32} : zK G mX3_adds 4 0 [.ref a.1, .int d, .int c, .int w, .int l] (tH h0 a T) (tQ h0 a (tC T s (sAdd s d c w l))) := by
  have h12 := hR.2.2.2.2.2.2.1
  have hact := hR.act
  have bad : ¬ (sIn d (nI 0) (nI 7) = true ∧ sIn c (nI 0) (nI 7) = true ∧ d ≠ c ∧ sIn w (nI 1) (nI 999) = true ∧ sIn l (nI 1) (nI 50) = true) → zW G mX3_adds 4 0 41 [.ref a.1, .int d, .int c, .int w, .int l, zho, zho] [] (tH h0 a T) (tQ h0 a (tC T s (sAdd s d c w l))) := by
    intro hb
    refine zW.iconst (pc' := 42) (nI 2) dX3_adds_41 rfl (by decide) ?_
    refine zW.iret dX3_adds_42 rfl (rfl) ?_
    exact ⟨_, _, rfl, tC.bad hR (by unfold sAdd; rw [if_neg hb]) (by decide), rfl⟩
  show zW G mX3_adds 4 0 0 [.ref a.1, .int d, .int c, .int w, .int l, zho, zho] [] (tH h0 a T) _
  refine zW.iload_n (pc' := 1) dX3_adds_0 rfl rfl (zgS (zg0)) ?_
  refine zW.callS (pc' := 4) dX3_adds_1 rfl l_X3_59 rfl (w_isPerson) (zcc rfl zc0) rfl (Nat.le_of_ble_eq_true rfl) (Nat.le_of_ble_eq_true rfl) (Nat.le_of_ble_eq_true rfl) (fun _ _ ⟨e1, e2⟩ => ?_) (fun _ _ q9 => by cases q9.1)
  cases e1; subst e2
  refine zW.if_eqN (pc' := 7) 41 dX3_adds_4 rfl (by decide) (z01) (fun b1 => ?_) (fun b1 => ?_)
  · exact bad fun q => by rw [if_pos q.1] at b1; exact absurd b1 (by decide)
  have p1 : sIn d (nI 0) (nI 7) = true := by
    by_cases q : sIn d (nI 0) (nI 7) = true
    · exact q
    · rw [if_neg q] at b1; exact absurd rfl b1
  refine zW.iload_n (pc' := 8) dX3_adds_7 rfl rfl (zgS (zgS (zg0))) ?_
  refine zW.callS (pc' := 11) dX3_adds_8 rfl l_X3_59 rfl (w_isPerson) (zcc rfl zc0) rfl (Nat.le_of_ble_eq_true rfl) (Nat.le_of_ble_eq_true rfl) (Nat.le_of_ble_eq_true rfl) (fun _ _ ⟨e1, e2⟩ => ?_) (fun _ _ q9 => by cases q9.1)
  cases e1; subst e2
  refine zW.if_eqN (pc' := 14) 41 dX3_adds_11 rfl (by decide) (z01) (fun b2 => ?_) (fun b2 => ?_)
  · exact bad fun q => by rw [if_pos q.2.1] at b2; exact absurd b2 (by decide)
  have p2 : sIn c (nI 0) (nI 7) = true := by
    by_cases q : sIn c (nI 0) (nI 7) = true
    · exact q
    · rw [if_neg q] at b2; exact absurd rfl b2
  refine zW.iload_n (pc' := 15) dX3_adds_14 rfl rfl (zgS (zg0)) ?_
  refine zW.iload_n (pc' := 16) dX3_adds_15 rfl rfl (zgS (zgS (zg0))) ?_
  refine zW.icmp_eq (pc' := 19) 41 dX3_adds_16 rfl (by decide) (fun b3 => ?_) (fun b3 => ?_)
  · exact bad fun q => q.2.2.1 b3
  refine zW.iload_n (pc' := 20) dX3_adds_19 rfl rfl (zgS (zgS (zgS (zg0)))) ?_
  refine zW.iconst (pc' := 21) (nI 1) dX3_adds_20 rfl (by decide) ?_
  refine zW.sipush (pc' := 24) (nI 999) dX3_adds_21 rfl (by decide) ?_
  refine zW.callS (pc' := 27) dX3_adds_24 rfl l_X3_55 rfl (w_in) (zcc rfl (zcc rfl (zcc rfl zc0))) rfl (Nat.le_of_ble_eq_true rfl) (Nat.le_of_ble_eq_true rfl) (Nat.le_of_ble_eq_true rfl) (fun _ _ ⟨e1, e2⟩ => ?_) (fun _ _ q9 => by cases q9.1)
  cases e1; subst e2
  refine zW.if_eqN (pc' := 30) 41 dX3_adds_27 rfl (by decide) (z01) (fun b4 => ?_) (fun b4 => ?_)
  · exact bad fun q => by rw [if_pos q.2.2.2.1] at b4; exact absurd b4 (by decide)
  have p4 : sIn w (nI 1) (nI 999) = true := by
    by_cases q : sIn w (nI 1) (nI 999) = true
    · exact q
    · rw [if_neg q] at b4; exact absurd rfl b4
  refine zW.iload (pc' := 32) dX3_adds_30 rfl (zgS (zgS (zgS (zgS (zg0))))) ?_
  refine zW.iconst (pc' := 33) (nI 1) dX3_adds_32 rfl (by decide) ?_
  refine zW.bipush (pc' := 35) (nI 50) dX3_adds_33 rfl (by decide) ?_
  refine zW.callS (pc' := 38) dX3_adds_35 rfl l_X3_55 rfl (w_in) (zcc rfl (zcc rfl (zcc rfl zc0))) rfl (Nat.le_of_ble_eq_true rfl) (Nat.le_of_ble_eq_true rfl) (Nat.le_of_ble_eq_true rfl) (fun _ _ ⟨e1, e2⟩ => ?_) (fun _ _ q9 => by cases q9.1)
  cases e1; subst e2
  by_cases p5 : sIn l (nI 1) (nI 50) = true
  rotate_left
  · rw [if_neg p5]
    refine zW.if_neN (pc' := 41) 43 dX3_adds_38 rfl (by decide) (by omega) (fun b5 => ?_) (fun b5 => ?_)
    · exact absurd rfl b5
    · exact bad fun q => p5 q.2.2.2.2
  rw [if_pos p5]
  have hadd : sAdd s d c w l = (if s.2.1.length = 12 then (3, 0, s) else (0, s.1 1, (zu (zu s.1 1 (s.1 1 + 1)) 4 (s.1 4 + iN w), s.2.1 ++ [sNew (s.1 1) (iN d) (iN c) (iN w) (s.1 0 + iN l)], s.2.2.1 ++ [s.1 1], s.2.2.2))) := by
    unfold sAdd; rw [if_pos ⟨p1, p2, b3, p4, p5⟩]
  rw [hadd]
  obtain ⟨nd, ed, -, -, id⟩ := sIn_nat p1 (by decide) (by decide)
  obtain ⟨nc, ec, -, -, ic⟩ := sIn_nat p2 (by decide) (by decide)
  obtain ⟨nw, ew, -, -, iw⟩ := sIn_nat p4 (by decide) (by decide)
  obtain ⟨nl, el, -, -, il⟩ := sIn_nat p5 (by decide) (by decide)
  rw [id, ic, iw, il]
  clear bad b1 b2 b3 b4 p1 p2 p4 p5 hadd id ic iw il
  subst ed ec ew el
  refine zW.if_neN (pc' := 41) 43 dX3_adds_38 rfl (by decide) (by omega) (fun b5 => ?_) (fun b5 => ?_)
  · refine zW.aload_n (pc' := 44) dX3_adds_43 rfl rfl zg0 rfl ?_
    refine zT.get (pc' := 47) dX3_adds_44 rfl f_X3_9_3 rfl ?_
    try dsimp only
    refine zW.iconst (pc' := 48) (nI 2) dX3_adds_47 rfl (by decide) ?_
    first | refine zT.ald1 (pc' := 49) dX3_adds_48 rfl hD (by omega) ?_ | refine zT.ald4 (pc' := 49) dX3_adds_48 rfl hD (by omega) ?_
    try dsimp only
    refine zW.istore (pc' := 51) dX3_adds_49 rfl (Nat.le_of_ble_eq_true rfl) (zsS (zsS (zsS (zsS (zsS (zs0)))))) ?_
    refine zW.iload (pc' := 53) dX3_adds_51 rfl (zgS (zgS (zgS (zgS (zgS (zg0)))))) ?_
    refine zW.bipush (pc' := 55) (nI 12) dX3_adds_53 rfl (by decide) ?_
    rw [hact]
    refine zW.icmp_neN (pc' := 58) 60 dX3_adds_55 rfl (by decide) (by omega) (by omega) (fun b6 => ?_) (fun b6 => ?_)
    · rw [if_neg b6]
      refine zW.aload_n (pc' := 61) dX3_adds_60 rfl rfl zg0 rfl ?_
      refine zW.aload_n (pc' := 62) dX3_adds_61 rfl rfl zg0 rfl ?_
      refine zT.get (pc' := 65) dX3_adds_62 rfl f_X3_9_3 rfl ?_
      try dsimp only
      refine zW.iconst (pc' := 66) (nI 1) dX3_adds_65 rfl (by decide) ?_
      first | refine zT.ald1 (pc' := 67) dX3_adds_66 rfl hD (by omega) ?_ | refine zT.ald4 (pc' := 67) dX3_adds_66 rfl hD (by omega) ?_
      try dsimp only
      refine zT.putN (pc' := 70) dX3_adds_67 rfl f_X3_40_3 (zFw.of ft_3_4 rfl rfl) rfl ?_
      try dsimp only
      refine zW.aload_n (pc' := 71) dX3_adds_70 rfl rfl zg0 rfl ?_
      refine zT.get (pc' := 74) dX3_adds_71 rfl f_X3_9_3 rfl ?_
      try dsimp only
      refine zW.iconst (pc' := 75) (nI 1) dX3_adds_74 rfl (by decide) ?_
      refine zW.dup2 (pc' := 76) dX3_adds_75 rfl rfl rfl ?_
      first | refine zT.ald1 (pc' := 77) dX3_adds_76 rfl hD (by omega) ?_ | refine zT.ald4 (pc' := 77) dX3_adds_76 rfl hD (by omega) ?_
      try dsimp only
      refine zW.iconst (pc' := 78) (nI 1) dX3_adds_77 rfl (by decide) ?_
      refine zW.iaddN (pc' := 79) dX3_adds_78 rfl ?_
      first | refine zT.ast1 (pc' := 80) dX3_adds_79 rfl hD (by omega) ?_ | refine zT.ast4 (pc' := 80) dX3_adds_79 rfl hD (by omega) ?_
      try dsimp only
      refine zW.aload_n (pc' := 81) dX3_adds_80 rfl rfl zg0 rfl ?_
      refine zT.get (pc' := 84) dX3_adds_81 rfl f_X3_9_3 rfl ?_
      try dsimp only
      refine zW.iconst (pc' := 85) (nI 2) dX3_adds_84 rfl (by decide) ?_
      refine zW.dup2 (pc' := 86) dX3_adds_85 rfl rfl rfl ?_
      first | refine zT.ald1 (pc' := 87) dX3_adds_86 rfl hD (by omega) ?_ | refine zT.ald4 (pc' := 87) dX3_adds_86 rfl hD (by omega) ?_
      try dsimp only
      refine zW.iconst (pc' := 88) (nI 1) dX3_adds_87 rfl (by decide) ?_
      refine zW.iaddN (pc' := 89) dX3_adds_88 rfl ?_
      first | refine zT.ast1 (pc' := 90) dX3_adds_89 rfl hD (by omega) ?_ | refine zT.ast4 (pc' := 90) dX3_adds_89 rfl hD (by omega) ?_
      try dsimp only
      refine zW.aload_n (pc' := 91) dX3_adds_90 rfl rfl zg0 rfl ?_
      refine zT.get (pc' := 94) dX3_adds_91 rfl f_X3_9_3 rfl ?_
      try dsimp only
      refine zW.iconst (pc' := 95) (nI 4) dX3_adds_94 rfl (by decide) ?_
      refine zW.dup2 (pc' := 96) dX3_adds_95 rfl rfl rfl ?_
      first | refine zT.ald1 (pc' := 97) dX3_adds_96 rfl hD (by omega) ?_ | refine zT.ald4 (pc' := 97) dX3_adds_96 rfl hD (by omega) ?_
      try dsimp only
      refine zW.iload_n (pc' := 98) dX3_adds_97 rfl rfl (zgS (zgS (zgS (zg0)))) ?_
      refine zW.iaddN (pc' := 99) dX3_adds_98 rfl ?_
      first | refine zT.ast1 (pc' := 100) dX3_adds_99 rfl hD (by omega) ?_ | refine zT.ast4 (pc' := 100) dX3_adds_99 rfl hD (by omega) ?_
      try dsimp only
      refine zW.iconst (pc' := 101) (nI 0) dX3_adds_100 rfl (by decide) ?_
      refine zW.istore (pc' := 103) dX3_adds_101 rfl (Nat.le_of_ble_eq_true rfl) (zsS (zsS (zsS (zsS (zsS (zsS (zs0))))))) ?_
      have loop : ∀ (F A : Nat → Nat) n j, j + n = 8 → zW G mX3_adds 4 0 103 [.ref a.1, .int (nI nd), .int (nI nc), .int (nI nw), .int (nI nl), .int (nI s.2.1.length), .int (nI j)] [] (tH h0 a (F, tzf A (22 + 8 * s.2.1.length) (22 + 8 * s.2.1.length + j), T.2.2)) (tQ h0 a fun v T' => v = some (.int (nI 0)) ∧ T' = (F, zu (zu (zu (zu (zu (zu (tzf A (22 + 8 * s.2.1.length) (22 + 8 * s.2.1.length + 8)) (22 + 8 * s.2.1.length + 0) (F 4)) (22 + 8 * s.2.1.length + 1) nd) (22 + 8 * s.2.1.length + 2) nc) (22 + 8 * s.2.1.length + 3) nw) (22 + 8 * s.2.1.length + 4) (A 0 + nl)) (118 + s.2.1.length) (F 4), T.2.2)) := by
        intro F A n
        induction n with
        | zero =>
          intro j hj
          have hj : j = 8 := by omega
          subst hj
          refine zW.iload (pc' := 105) dX3_adds_103 rfl (zgS (zgS (zgS (zgS (zgS (zgS (zg0))))))) ?_
          refine zW.bipush (pc' := 107) (nI 8) dX3_adds_105 rfl (by decide) ?_
          refine zW.icmp_geN (pc' := 110) 125 dX3_adds_107 rfl (by decide) (by omega) (by omega) (fun h1 => ?_) (fun h1 => ?_)
          · refine zW.aload_n (pc' := 126) dX3_adds_125 rfl rfl zg0 rfl ?_
            refine zW.iload (pc' := 128) dX3_adds_126 rfl (zgS (zgS (zgS (zgS (zgS (zg0)))))) ?_
            refine zW.iconst (pc' := 129) (nI 0) dX3_adds_128 rfl (by decide) ?_
            refine zW.aload_n (pc' := 130) dX3_adds_129 rfl rfl zg0 rfl ?_
            refine zT.get (pc' := 133) dX3_adds_130 rfl f_X3_40_3 rfl ?_
            try dsimp only
            refine zT.call (pc' := 136) dX3_adds_133 rfl l_X3_51 rfl rfl (w_set hD (by omega)) (zcc rfl (zcc rfl (zcc rfl zc0))) rfl (Nat.le_of_ble_eq_true rfl) (Nat.le_of_ble_eq_true rfl) (Nat.le_of_ble_eq_true rfl) (fun _ _ ⟨e1, e2⟩ => ?_)
            subst e1; rw [e2]
            refine zW.aload_n (pc' := 137) dX3_adds_136 rfl rfl zg0 rfl ?_
            refine zW.iload (pc' := 139) dX3_adds_137 rfl (zgS (zgS (zgS (zgS (zgS (zg0)))))) ?_
            refine zW.iconst (pc' := 140) (nI 1) dX3_adds_139 rfl (by decide) ?_
            refine zW.iload_n (pc' := 141) dX3_adds_140 rfl rfl (zgS (zg0)) ?_
            refine zT.call (pc' := 144) dX3_adds_141 rfl l_X3_51 rfl rfl (w_set hD (by omega)) (zcc rfl (zcc rfl (zcc rfl zc0))) rfl (Nat.le_of_ble_eq_true rfl) (Nat.le_of_ble_eq_true rfl) (Nat.le_of_ble_eq_true rfl) (fun _ _ ⟨e1, e2⟩ => ?_)
            subst e1; rw [e2]
            refine zW.aload_n (pc' := 145) dX3_adds_144 rfl rfl zg0 rfl ?_
            refine zW.iload (pc' := 147) dX3_adds_145 rfl (zgS (zgS (zgS (zgS (zgS (zg0)))))) ?_
            refine zW.iconst (pc' := 148) (nI 2) dX3_adds_147 rfl (by decide) ?_
            refine zW.iload_n (pc' := 149) dX3_adds_148 rfl rfl (zgS (zgS (zg0))) ?_
            refine zT.call (pc' := 152) dX3_adds_149 rfl l_X3_51 rfl rfl (w_set hD (by omega)) (zcc rfl (zcc rfl (zcc rfl zc0))) rfl (Nat.le_of_ble_eq_true rfl) (Nat.le_of_ble_eq_true rfl) (Nat.le_of_ble_eq_true rfl) (fun _ _ ⟨e1, e2⟩ => ?_)
            subst e1; rw [e2]
            refine zW.aload_n (pc' := 153) dX3_adds_152 rfl rfl zg0 rfl ?_
            refine zW.iload (pc' := 155) dX3_adds_153 rfl (zgS (zgS (zgS (zgS (zgS (zg0)))))) ?_
            refine zW.iconst (pc' := 156) (nI 3) dX3_adds_155 rfl (by decide) ?_
            refine zW.iload_n (pc' := 157) dX3_adds_156 rfl rfl (zgS (zgS (zgS (zg0)))) ?_
            refine zT.call (pc' := 160) dX3_adds_157 rfl l_X3_51 rfl rfl (w_set hD (by omega)) (zcc rfl (zcc rfl (zcc rfl zc0))) rfl (Nat.le_of_ble_eq_true rfl) (Nat.le_of_ble_eq_true rfl) (Nat.le_of_ble_eq_true rfl) (fun _ _ ⟨e1, e2⟩ => ?_)
            subst e1; rw [e2]
            refine zW.aload_n (pc' := 161) dX3_adds_160 rfl rfl zg0 rfl ?_
            refine zW.iload (pc' := 163) dX3_adds_161 rfl (zgS (zgS (zgS (zgS (zgS (zg0)))))) ?_
            refine zW.iconst (pc' := 164) (nI 4) dX3_adds_163 rfl (by decide) ?_
            refine zW.aload_n (pc' := 165) dX3_adds_164 rfl rfl zg0 rfl ?_
            refine zT.get (pc' := 168) dX3_adds_165 rfl f_X3_9_3 rfl ?_
            try dsimp only
            refine zW.iconst (pc' := 169) (nI 0) dX3_adds_168 rfl (by decide) ?_
            first | refine zT.ald1 (pc' := 170) dX3_adds_169 rfl hD (by omega) ?_ | refine zT.ald4 (pc' := 170) dX3_adds_169 rfl hD (by omega) ?_
            try dsimp only
            have e0 : zu (zu (zu (zu (tzf A (22 + 8 * s.2.1.length) (22 + 8 * s.2.1.length + 8)) (22 + 8 * s.2.1.length + 0) (F 4)) (22 + 8 * s.2.1.length + 1) nd) (22 + 8 * s.2.1.length + 2) nc) (22 + 8 * s.2.1.length + 3) nw 0 = A 0 := by
              rw [zu_n (by omega), zu_n (by omega), zu_n (by omega), zu_n (by omega)]
              unfold tzf
              rw [if_neg (by omega)]
            rw [e0]
            refine zW.iload (pc' := 172) dX3_adds_170 rfl (zgS (zgS (zgS (zgS (zg0))))) ?_
            refine zW.iaddN (pc' := 173) dX3_adds_172 rfl ?_
            refine zT.call (pc' := 176) dX3_adds_173 rfl l_X3_51 rfl rfl (w_set hD (by omega)) (zcc rfl (zcc rfl (zcc rfl zc0))) rfl (Nat.le_of_ble_eq_true rfl) (Nat.le_of_ble_eq_true rfl) (Nat.le_of_ble_eq_true rfl) (fun _ _ ⟨e1, e2⟩ => ?_)
            subst e1; rw [e2]
            refine zW.aload_n (pc' := 177) dX3_adds_176 rfl rfl zg0 rfl ?_
            refine zT.get (pc' := 180) dX3_adds_177 rfl f_X3_9_3 rfl ?_
            try dsimp only
            refine zW.bipush (pc' := 182) (nI 118) dX3_adds_180 rfl (by decide) ?_
            refine zW.iload (pc' := 184) dX3_adds_182 rfl (zgS (zgS (zgS (zgS (zgS (zg0)))))) ?_
            refine zW.iaddN (pc' := 185) dX3_adds_184 rfl ?_
            refine zW.aload_n (pc' := 186) dX3_adds_185 rfl rfl zg0 rfl ?_
            refine zT.get (pc' := 189) dX3_adds_186 rfl f_X3_40_3 rfl ?_
            try dsimp only
            first | refine zT.ast1 (pc' := 190) dX3_adds_189 rfl hD (by omega) ?_ | refine zT.ast4 (pc' := 190) dX3_adds_189 rfl hD (by omega) ?_
            try dsimp only
            refine zW.iconst (pc' := 191) (nI 0) dX3_adds_190 rfl (by decide) ?_
            refine zW.iret dX3_adds_191 rfl (rfl) ?_
            exact ⟨_, _, rfl, ⟨rfl, rfl⟩, rfl⟩
          · exact absurd h1 (by omega)
        | succ n ih =>
          intro j hj
          refine zW.iload (pc' := 105) dX3_adds_103 rfl (zgS (zgS (zgS (zgS (zgS (zgS (zg0))))))) ?_
          refine zW.bipush (pc' := 107) (nI 8) dX3_adds_105 rfl (by decide) ?_
          refine zW.icmp_geN (pc' := 110) 125 dX3_adds_107 rfl (by decide) (by omega) (by omega) (fun h1 => ?_) (fun h1 => ?_)
          · exact absurd h1 (by omega)
          · refine zW.aload_n (pc' := 111) dX3_adds_110 rfl rfl zg0 rfl ?_
            refine zW.iload (pc' := 113) dX3_adds_111 rfl (zgS (zgS (zgS (zgS (zgS (zg0)))))) ?_
            refine zW.iload (pc' := 115) dX3_adds_113 rfl (zgS (zgS (zgS (zgS (zgS (zgS (zg0))))))) ?_
            refine zW.iconst (pc' := 116) (nI 0) dX3_adds_115 rfl (by decide) ?_
            refine zT.call (pc' := 119) dX3_adds_116 rfl l_X3_51 rfl rfl (w_set hD (by omega)) (zcc rfl (zcc rfl (zcc rfl zc0))) rfl (Nat.le_of_ble_eq_true rfl) (Nat.le_of_ble_eq_true rfl) (Nat.le_of_ble_eq_true rfl) (fun _ _ ⟨e1, e2⟩ => ?_)
            subst e1; rw [e2]
            refine zW.iincN (pc' := 122) (n := 1) dX3_adds_119 rfl (Nat.le_of_ble_eq_true rfl) (zgS (zgS (zgS (zgS (zgS (zgS (zg0))))))) (zsS (zsS (zsS (zsS (zsS (zsS (zs0))))))) ?_
            refine zW.goto 103 dX3_adds_122 (by decide) ?_
            refine zW.congr (ih (j + 1) (by omega)) rfl rfl ?_
            rw [show 22 + 8 * s.2.1.length + (j + 1) = 22 + 8 * s.2.1.length + j + 1 by omega, ← tzf_S (by omega)]
      have e1 : T.2.1 1 = s.1 1 := hR.sc (by omega) (by omega) (by omega)
      have e4 : T.2.1 4 = s.1 4 := hR.sc (by omega) (by omega) (by omega)
      have e0 : T.2.1 0 = s.1 0 := hR.sc (by omega) (by omega) (by omega)
      refine zW.post (zW.congr (loop (zu T.1 4 (T.2.1 1)) (zu (zu (zu T.2.1 1 (T.2.1 1 + 1)) 2 (s.2.1.length + 1)) 4 (T.2.1 4 + nw)) 8 0 rfl) rfl rfl ?_) ?_
      · show _ = tH h0 a (_, tzf _ (22 + 8 * s.2.1.length) (22 + 8 * s.2.1.length), _)
        rw [tzf_0]
        rw [zu_n (show (2 : Nat) ≠ 1 by omega), hact, zu_n (show (4 : Nat) ≠ 2 by omega), zu_n (show (4 : Nat) ≠ 1 by omega)]
      · rintro o h' ⟨v, T', q1, ⟨q2, q3⟩, q4⟩
        have e5 : zu (zu (zu T.2.1 1 (T.2.1 1 + 1)) 2 (s.2.1.length + 1)) 4 (T.2.1 4 + nw) 0 = s.1 0 := by
          rw [zu_n (by omega), zu_n (by omega), zu_n (by omega), e0]
        rw [zu_s, e5] at q3
        have hadd := hR.add (d := nd) (c := nc) (w := nw) (e := s.1 0 + nl) (by omega)
        refine ⟨v, (zu T.1 4 (T.2.1 1), tad T.2.1 s.2.1.length (T.2.1 1) nd nc nw (s.1 0 + nl), T.2.2), q1, ⟨q2, ?_, fun _ => ?_, fun q => absurd rfl q, ⟨fun j hj => ?_, fun f hf => zu_n hf, rfl⟩⟩, ?_⟩
        · show tR (tad _ _ _ _ _ _ _) 0 _
          rw [e1]
          exact hadd
        · show zu T.1 4 (T.2.1 1) 4 = s.1 1
          rw [zu_s, e1]
        · exact tad_hi (by omega) hj
        · rw [q4, q3]; rfl
    · rw [if_pos b6]
      refine zW.iconst (pc' := 59) (nI 3) dX3_adds_58 rfl (by decide) ?_
      refine zW.iret dX3_adds_59 rfl (rfl) ?_
      exact ⟨_, _, rfl, tC.bad hR rfl (by decide), rfl⟩
  · exact absurd b5 (by decide)
end
