/-! THE REFERENCE's parser: a command, whole -/
section
set_option maxRecDepth 100000
variable {G : zG} {h0 : zH} {a : tA} {T : tS} {tt nn n : Nat}
set_option maxHeartbeats 8000000 in
theorem w_command (hD : tD a) {l : List Nat} {h n : Nat} (hP : tP T l h 0) (hn : T.1 14 = n) (hn6 : n ≤ 60) : zK G mX3_command 5 0 [.ref a.1] (tH h0 a T) (tQ h0 a (tCm T l n (pCmd l h))) := by
  obtain ⟨h1, h2, h3, h4, h5, h6, h7, h8⟩ := hP
  have e8 : ∀ x, zu T.1 14 x 8 = T.1 8 := fun x => zu_n (by decide)
  have e9 : ∀ x, zu T.1 14 x 9 = T.1 9 := fun x => zu_n (by decide)
  have e10 : ∀ x, zu T.1 14 x 10 = T.1 10 := fun x => zu_n (by decide)
  have e14 : ∀ x, zu T.1 14 x 14 = x := fun x => zu_s
  have hP1 : tP (zu T.1 14 (n + 1), T.2) l h 0 := ⟨(e8 (n + 1)).trans h1, h2, h3, (e9 (n + 1)).trans h4, (e10 (n + 1)).trans h5, h6, h7, h8⟩
  have body : ∀ Cm : Nat → Nat, (∀ j, j < 5 → Cm (5 * n + j) = 0) → (∀ j, j < 5 * n → Cm j = T.2.2.2.2 j) → zW G mX3_command 5 0 44 [.ref a.1, .int (nI (5 * n)), .int (pAt l h), .int (nI 5)] [] (tH h0 a (zu T.1 14 (n + 1), T.2.1, T.2.2.1, T.2.2.2.1, Cm)) (tQ h0 a (tCm T l n (pCmd l h))) := by
    intro Cm hz hs
    have hK : tK Cm n (0, 0, 0, 0, 0) := ⟨hz 0 (by decide), hz 1 (by decide), hz 2 (by decide), hz 3 (by decide), hz 4 (by decide)⟩
    have bad : pCmd l h = ((0, 0, 0, 0, 0), h, h + 1) → zW G mX3_command 5 0 74 [.ref a.1, .int (nI (5 * n)), .int (pAt l h), .int (nI 5)] [] (tH h0 a (zu T.1 14 (n + 1), T.2.1, T.2.2.1, T.2.2.2.1, Cm)) (tQ h0 a (tCm T l n (pCmd l h))) := by
      intro hA
      rw [hA]
      refine zW.aload_n (pc' := 75) dX3_command_74 rfl rfl zg0 rfl ?_
      refine zW.aload_n (pc' := 76) dX3_command_75 rfl rfl zg0 rfl ?_
      refine zT.get (pc' := 79) dX3_command_76 rfl f_X3_173_3 rfl ?_
      try dsimp only
      rw [e9, h4, nI_e1 (n := h)]
      refine zT.putE (pc' := 82) dX3_command_79 rfl f_X3_176_3 (zFw.of ft_3_10 rfl rfl) rfl ?_
      try dsimp only
      refine zW.vret dX3_command_82 rfl ?_
      have g : ∀ f, f ≠ 10 → zu (zu T.1 14 (n + 1)) 10 (h + 1) f = zu T.1 14 (n + 1) f := fun f hf => zu_n hf
      have g10 : zu (zu T.1 14 (n + 1)) 10 (h + 1) 10 = h + 1 := zu_s
      refine ⟨_, (zu (zu T.1 14 (n + 1)) 10 (h + 1), T.2.1, T.2.2.1, T.2.2.2.1, Cm), rfl, ⟨rfl, ⟨(g 8 (by decide)).trans ((e8 (n + 1)).trans h1), h2, h3, (g 9 (by decide)).trans ((e9 (n + 1)).trans h4), g10, h6, Nat.succ_le_succ h6, h8⟩, (g 14 (by decide)).trans (e14 (n + 1)), hK, fun f q1 q2 q3 => (g f q2).trans (zu_n q3), rfl, rfl, rfl, hs⟩, rfl⟩
    have good : ∀ x, l[h]? = some x → (x = 97 ∨ x = 115 ∨ x = 99 ∨ x = 116 ∨ x = 114) → zW G mX3_command 5 0 83 [.ref a.1, .int (nI (5 * n)), .int (nI x), .int (nI 5)] [] (tH h0 a (zu T.1 14 (n + 1), T.2.1, T.2.2.1, T.2.2.2.1, Cm)) (tQ h0 a (tCm T l n (pCmd l h))) := by
      intro x hx hf
      have hlt := (List.getElem?_eq_some_iff.mp hx).1
      have hA : pCmd l h = pArgs l (pWord l x (h + 1, 0)) := by
        unfold pCmd
        rw [hx]
        exact if_pos hf
      rw [hA]
      refine zW.aload_n (pc' := 84) dX3_command_83 rfl rfl zg0 rfl ?_
      refine zW.dup (pc' := 85) dX3_command_84 rfl rfl ?_
      refine zT.get (pc' := 88) dX3_command_85 rfl f_X3_173_3 rfl ?_
      try dsimp only
      rw [e9, h4]
      refine zW.iconst (pc' := 89) (nI 1) dX3_command_88 rfl (by decide) ?_
      refine zW.iaddN (pc' := 90) dX3_command_89 rfl ?_
      refine zT.putN (pc' := 93) dX3_command_90 rfl f_X3_173_3 (zFw.of ft_3_9 rfl rfl) rfl ?_
      try dsimp only
      refine zW.aload_n (pc' := 94) dX3_command_93 rfl rfl zg0 rfl ?_
      refine zW.iload_n (pc' := 95) dX3_command_94 rfl rfl (zgS (zgS (zg0))) ?_
      have g : ∀ f, f ≠ 9 → zu (zu T.1 14 (n + 1)) 9 (h + 1) f = zu T.1 14 (n + 1) f := fun f hf => zu_n hf
      have g9 : zu (zu T.1 14 (n + 1)) 9 (h + 1) 9 = h + 1 := zu_s
      have hP2 : tP (zu (zu T.1 14 (n + 1)) 9 (h + 1), T.2.1, T.2.2.1, T.2.2.2.1, Cm) l (h + 1, 0).1 (h + 1, 0).2 := ⟨(g 8 (by decide)).trans ((e8 (n + 1)).trans h1), h2, h3, g9, (g 10 (by decide)).trans ((e10 (n + 1)).trans h5), by show h + 1 ≤ _; omega, h7, h8⟩
      have hC : tCx T (zu (zu T.1 14 (n + 1)) 9 (h + 1), T.2.1, T.2.2.1, T.2.2.2.1, Cm) l n (h + 1, 0) (0, 0, 0, 0, 0) := ⟨hP2, (g 14 (by decide)).trans (e14 (n + 1)), hK, fun f q1 q2 q3 => (g f q1).trans (zu_n q3), rfl, rfl, rfl, hs⟩
      refine zT.call (pc' := 98) dX3_command_95 rfl l_X3_194 rfl rfl (w_word hD hP2 hf) (zcc rfl zc0) rfl (Nat.le_of_ble_eq_true rfl) (Nat.le_of_ble_eq_true rfl) (Nat.le_of_ble_eq_true rfl) (fun _ T2 ⟨e1, e2, e3⟩ => ?_)
      subst e1
      have hC2 := hC.pf e2 e3
      refine zW.istore_n (pc' := 99) dX3_command_98 rfl rfl (Nat.le_of_ble_eq_true rfl) (zsS (zsS (zsS (zs0)))) ?_
      refine zW.aload_n (pc' := 100) dX3_command_99 rfl rfl zg0 rfl ?_
      refine zT.get (pc' := 103) dX3_command_100 rfl f_X3_27_3 rfl ?_
      try dsimp only
      refine zW.iload_n (pc' := 104) dX3_command_103 rfl rfl (zgS (zg0)) ?_
      refine zW.iload_n (pc' := 105) dX3_command_104 rfl rfl (zgS (zgS (zgS (zg0)))) ?_
      first | refine zT.ast1 (pc' := 106) dX3_command_105 rfl hD (by omega) ?_ | refine zT.ast4 (pc' := 106) dX3_command_105 rfl hD (by omega) ?_
      try dsimp only
      exact w_cmdTail hD hn6 (hC2.put (j := 5 * n) (x := (pWord l x (h + 1, 0)).1) (by omega) hC2.2.2.1.s0) pWord_k
    cases hx : l[h]? with
    | none =>
      have hp : pAt l h = -1 := by unfold pAt; rw [hx]
      have hb := bad (by unfold pCmd; rw [hx])
      rw [hp] at hb ⊢
      refine zW.iload_n (pc' := 45) dX3_command_44 rfl rfl (zgS (zgS (zg0))) ?_
      refine zW.bipush (pc' := 47) (nI 97) dX3_command_45 rfl (by decide) ?_
      refine zW.icmp_eq (pc' := 50) 83 dX3_command_47 rfl (by decide) (fun b1 => ?_) (fun b1 => ?_)
      · exact absurd b1 (by decide)
      refine zW.iload_n (pc' := 51) dX3_command_50 rfl rfl (zgS (zgS (zg0))) ?_
      refine zW.bipush (pc' := 53) (nI 115) dX3_command_51 rfl (by decide) ?_
      refine zW.icmp_eq (pc' := 56) 83 dX3_command_53 rfl (by decide) (fun b1 => ?_) (fun b1 => ?_)
      · exact absurd b1 (by decide)
      refine zW.iload_n (pc' := 57) dX3_command_56 rfl rfl (zgS (zgS (zg0))) ?_
      refine zW.bipush (pc' := 59) (nI 99) dX3_command_57 rfl (by decide) ?_
      refine zW.icmp_eq (pc' := 62) 83 dX3_command_59 rfl (by decide) (fun b1 => ?_) (fun b1 => ?_)
      · exact absurd b1 (by decide)
      refine zW.iload_n (pc' := 63) dX3_command_62 rfl rfl (zgS (zgS (zg0))) ?_
      refine zW.bipush (pc' := 65) (nI 116) dX3_command_63 rfl (by decide) ?_
      refine zW.icmp_eq (pc' := 68) 83 dX3_command_65 rfl (by decide) (fun b1 => ?_) (fun b1 => ?_)
      · exact absurd b1 (by decide)
      refine zW.iload_n (pc' := 69) dX3_command_68 rfl rfl (zgS (zgS (zg0))) ?_
      refine zW.bipush (pc' := 71) (nI 114) dX3_command_69 rfl (by decide) ?_
      refine zW.icmp_eq (pc' := 74) 83 dX3_command_71 rfl (by decide) (fun b1 => ?_) (fun b1 => ?_)
      · exact absurd b1 (by decide)
      exact hb
    | some x =>
      have hp : pAt l h = nI x := by unfold pAt; rw [hx]
      have hx8 := h8 x (List.mem_of_getElem? hx)
      have hg := good x hx
      have hb : ¬ (x = 97 ∨ x = 115 ∨ x = 99 ∨ x = 116 ∨ x = 114) → _ := fun q => bad (by
        unfold pCmd
        rw [hx]
        exact if_neg q)
      rw [hp] at hb ⊢
      refine zW.iload_n (pc' := 45) dX3_command_44 rfl rfl (zgS (zgS (zg0))) ?_
      refine zW.bipush (pc' := 47) (nI 97) dX3_command_45 rfl (by decide) ?_
      refine zW.icmp_eqN (pc' := 50) 83 dX3_command_47 rfl (by decide) (by omega) (by omega) (fun b1 => ?_) (fun b1 => ?_)
      · exact hg (by omega)
      refine zW.iload_n (pc' := 51) dX3_command_50 rfl rfl (zgS (zgS (zg0))) ?_
      refine zW.bipush (pc' := 53) (nI 115) dX3_command_51 rfl (by decide) ?_
      refine zW.icmp_eqN (pc' := 56) 83 dX3_command_53 rfl (by decide) (by omega) (by omega) (fun b2 => ?_) (fun b2 => ?_)
      · exact hg (by omega)
      refine zW.iload_n (pc' := 57) dX3_command_56 rfl rfl (zgS (zgS (zg0))) ?_
      refine zW.bipush (pc' := 59) (nI 99) dX3_command_57 rfl (by decide) ?_
      refine zW.icmp_eqN (pc' := 62) 83 dX3_command_59 rfl (by decide) (by omega) (by omega) (fun b3 => ?_) (fun b3 => ?_)
      · exact hg (by omega)
      refine zW.iload_n (pc' := 63) dX3_command_62 rfl rfl (zgS (zgS (zg0))) ?_
      refine zW.bipush (pc' := 65) (nI 116) dX3_command_63 rfl (by decide) ?_
      refine zW.icmp_eqN (pc' := 68) 83 dX3_command_65 rfl (by decide) (by omega) (by omega) (fun b4 => ?_) (fun b4 => ?_)
      · exact hg (by omega)
      refine zW.iload_n (pc' := 69) dX3_command_68 rfl rfl (zgS (zgS (zg0))) ?_
      refine zW.bipush (pc' := 71) (nI 114) dX3_command_69 rfl (by decide) ?_
      refine zW.icmp_eqN (pc' := 74) 83 dX3_command_71 rfl (by decide) (by omega) (by omega) (fun b5 => ?_) (fun b5 => ?_)
      · exact hg (by omega)
      exact hb (by omega)
  have loop : ∀ m k (Cm : Nat → Nat), k + m = 5 → (∀ j, j < k → Cm (5 * n + j) = 0) → (∀ j, j < 5 * n → Cm j = T.2.2.2.2 j) → zW G mX3_command 5 0 24 [.ref a.1, .int (nI (5 * n)), .int (pAt l h), .int (nI k)] [] (tH h0 a (zu T.1 14 (n + 1), T.2.1, T.2.2.1, T.2.2.2.1, Cm)) (tQ h0 a (tCm T l n (pCmd l h))) := by
    intro m
    induction m with
    | zero =>
      intro k Cm hk hz hs
      have hk : k = 5 := by omega
      subst hk
      refine zW.iload_n (pc' := 25) dX3_command_24 rfl rfl (zgS (zgS (zgS (zg0)))) ?_
      refine zW.iconst (pc' := 26) (nI 5) dX3_command_25 rfl (by decide) ?_
      refine zW.icmp_geN (pc' := 29) 44 dX3_command_26 rfl (by decide) (by omega) (by omega) (fun b9 => ?_) (fun b9 => absurd b9 (by omega))
      exact body Cm hz hs
    | succ m ih =>
      intro k Cm hk hz hs
      refine zW.iload_n (pc' := 25) dX3_command_24 rfl rfl (zgS (zgS (zgS (zg0)))) ?_
      refine zW.iconst (pc' := 26) (nI 5) dX3_command_25 rfl (by decide) ?_
      refine zW.icmp_geN (pc' := 29) 44 dX3_command_26 rfl (by decide) (by omega) (by omega) (fun b9 => absurd b9 (by omega)) (fun b9 => ?_)
      refine zW.aload_n (pc' := 30) dX3_command_29 rfl rfl zg0 rfl ?_
      refine zT.get (pc' := 33) dX3_command_30 rfl f_X3_27_3 rfl ?_
      try dsimp only
      refine zW.iload_n (pc' := 34) dX3_command_33 rfl rfl (zgS (zg0)) ?_
      refine zW.iload_n (pc' := 35) dX3_command_34 rfl rfl (zgS (zgS (zgS (zg0)))) ?_
      refine zW.iaddN (pc' := 36) dX3_command_35 rfl ?_
      refine zW.iconst (pc' := 37) (nI 0) dX3_command_36 rfl (by decide) ?_
      first | refine zT.ast1 (pc' := 38) dX3_command_37 rfl hD (by omega) ?_ | refine zT.ast4 (pc' := 38) dX3_command_37 rfl hD (by omega) ?_
      try dsimp only
      refine zW.iincN (pc' := 41) (n := 1) dX3_command_38 rfl (Nat.le_of_ble_eq_true rfl) (zgS (zgS (zgS (zg0)))) (zsS (zsS (zsS (zs0)))) ?_
      refine zW.goto 24 dX3_command_41 (by decide) ?_
      refine ih (k + 1) (zu Cm (5 * n + k) 0) (by omega) (fun j hj => ?_) (fun j hj => ?_)
      · by_cases q : j = k
        · subst q; exact zu_s
        · rw [zu_n (by omega)]; exact hz j (by omega)
      · rw [zu_n (by omega)]; exact hs j hj
  show zW G mX3_command 5 0 0 [.ref a.1, zho, zho, zho] [] (tH h0 a T) _
  refine zW.iconst (pc' := 1) (nI 5) dX3_command_0 rfl (by decide) ?_
  refine zW.aload_n (pc' := 2) dX3_command_1 rfl rfl zg0 rfl ?_
  refine zT.get (pc' := 5) dX3_command_2 rfl f_X3_191_3 rfl ?_
  try dsimp only
  rw [hn]
  refine zW.imulN (pc' := 6) dX3_command_5 rfl ?_
  refine zW.istore_n (pc' := 7) dX3_command_6 rfl rfl (Nat.le_of_ble_eq_true rfl) (zsS (zs0)) ?_
  refine zW.aload_n (pc' := 8) dX3_command_7 rfl rfl zg0 rfl ?_
  refine zW.dup (pc' := 9) dX3_command_8 rfl rfl ?_
  refine zT.get (pc' := 12) dX3_command_9 rfl f_X3_191_3 rfl ?_
  try dsimp only
  rw [hn]
  refine zW.iconst (pc' := 13) (nI 1) dX3_command_12 rfl (by decide) ?_
  refine zW.iaddN (pc' := 14) dX3_command_13 rfl ?_
  refine zT.putN (pc' := 17) dX3_command_14 rfl f_X3_191_3 (zFw.of ft_3_14 rfl rfl) rfl ?_
  try dsimp only
  refine zW.aload_n (pc' := 18) dX3_command_17 rfl rfl zg0 rfl ?_
  refine zT.call (pc' := 21) dX3_command_18 rfl l_X3_179 rfl rfl (w_next hD hP1) zc0 rfl (Nat.le_of_ble_eq_true rfl) (Nat.le_of_ble_eq_true rfl) (Nat.le_of_ble_eq_true rfl) (fun _ _ ⟨e1, e2⟩ => ?_)
  subst e1; rw [e2]
  refine zW.istore_n (pc' := 22) dX3_command_21 rfl rfl (Nat.le_of_ble_eq_true rfl) (zsS (zsS (zs0))) ?_
  refine zW.iconst (pc' := 23) (nI 0) dX3_command_22 rfl (by decide) ?_
  refine zW.istore_n (pc' := 24) dX3_command_23 rfl rfl (Nat.le_of_ble_eq_true rfl) (zsS (zsS (zsS (zs0)))) ?_
  exact loop 5 0 T.2.2.2.2 rfl (fun j hj => absurd hj (by omega)) (fun _ _ => rfl)
end
