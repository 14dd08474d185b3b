/-! THE LAW: its cases (printed by mk9zh.py) -/
section
set_option maxRecDepth 100000
variable {G : zG} {h : zH} {Q : zR → zH → Prop} {x o b i R r : Nat} {a : tA} {w : sW} {S : tS} {xs : List Value} {lv : Int64}
theorem y_settledCount {q : Nat × Int32 × sW} (hb : zg_k G b = some (1100, xs)) (hi : i < 200) (M0 : lwM G x o a w w (fun _ => True) S h) (hcl : ∀ U, cReg x 0 [] w h U → zK G mX1_settledCount 40 R [.ref x] h (cOut x U h [] q)) (hml : ∀ h0, zK G mX3_settledCount 9 0 [.ref a.1] (tH h0 a S) (tO h0 a q.1 (.int q.2.1) q.2.2)) (kont : ∀ (h' : zH) (S' : tS) (v5 v6 : Value), lwM G x o a q.2.2 q.2.2 (fun _ => True) S' h' → zW G mL_law 42 r 3347 [.ref b, .ref x, .ref a.1, .ref o, .int (nI i), v5, v6] [] h' Q) {v5 v6 : Value} : zW G mL_law 42 (r + R) 2850 [.ref b, .ref x, .ref a.1, .ref o, .int (nI i), v5, v6] [] h Q := by
  obtain ⟨U, v, ⟨hG, hl⟩, hd, hT, ⟨ho, -⟩, hk⟩ := id M0
  obtain ⟨fs, hx⟩ := hG.cell
  refine zW.aload_n (pc' := 2851) dL_law_2850 rfl rfl (zgS (zg0)) rfl ?_
  refine zW.callV (r' := R) (pc' := 2854) dL_law_2851 rfl l_X0_337 rfl hx ⟨rfl, (Nat.le_of_ble_eq_true rfl)⟩ rfl ((hcl U hG)) zc0 rfl (Nat.le_of_ble_eq_true rfl) (Nat.le_of_ble_eq_true rfl) (Nat.le_of_ble_eq_true rfl) ?_ ?_
  rotate_left
  · intro E h9 q9
    obtain ⟨-, n, -, e1⟩ := q9.r
    cases e1
  intro v9 h9 q9
  obtain ⟨⟨g1, g2⟩, e0, e1⟩ := q9.l
  subst e1
  have M1 : lwM G x o a q.2.2 w (fun _ => True) S h9 := lwM.step hd hT ho hk g1 (g2.mono fun b hb => Or.inl (Or.inl hb)) ⟨g2.at ho hd.1, trivial⟩
  refine zW.aload_n (pc' := 2855) dL_law_2854 rfl rfl (zgS (zgS (zg0))) rfl ?_
  refine zW.congr ?_ rfl rfl M1.eq
  refine zT.call (pc' := 2858) dL_law_2855 rfl l_X0_340 rfl rfl (hml _) zc0 rfl (Nat.le_of_ble_eq_true rfl) (Nat.le_of_ble_eq_true rfl) (Nat.le_of_ble_eq_true rfl) (fun _ T2 ⟨e1, e2, e3⟩ => ?_)
  subst e1
  have M2 := M1.mdl e3
  refine zW.icmp_eq (pc' := 2861) 3347 dL_law_2858 rfl (by decide) (fun b1 => ?_) (fun b1 => ?_)
  rotate_left
  · exact absurd rfl b1
  exact kont _ _ _ _ (M2.wk fun _ _ => trivial)
theorem y_voidedCount {q : Nat × Int32 × sW} (hb : zg_k G b = some (1100, xs)) (hi : i < 200) (M0 : lwM G x o a w w (fun _ => True) S h) (hcl : ∀ U, cReg x 0 [] w h U → zK G mX1_voidedCount 40 R [.ref x] h (cOut x U h [] q)) (hml : ∀ h0, zK G mX3_voidedCount 9 0 [.ref a.1] (tH h0 a S) (tO h0 a q.1 (.int q.2.1) q.2.2)) (kont : ∀ (h' : zH) (S' : tS) (v5 v6 : Value), lwM G x o a q.2.2 q.2.2 (fun _ => True) S' h' → zW G mL_law 42 r 3347 [.ref b, .ref x, .ref a.1, .ref o, .int (nI i), v5, v6] [] h' Q) {v5 v6 : Value} : zW G mL_law 42 (r + R) 2863 [.ref b, .ref x, .ref a.1, .ref o, .int (nI i), v5, v6] [] h Q := by
  obtain ⟨U, v, ⟨hG, hl⟩, hd, hT, ⟨ho, -⟩, hk⟩ := id M0
  obtain ⟨fs, hx⟩ := hG.cell
  refine zW.aload_n (pc' := 2864) dL_law_2863 rfl rfl (zgS (zg0)) rfl ?_
  refine zW.callV (r' := R) (pc' := 2867) dL_law_2864 rfl l_X0_341 rfl hx ⟨rfl, (Nat.le_of_ble_eq_true rfl)⟩ rfl ((hcl U hG)) zc0 rfl (Nat.le_of_ble_eq_true rfl) (Nat.le_of_ble_eq_true rfl) (Nat.le_of_ble_eq_true rfl) ?_ ?_
  rotate_left
  · intro E h9 q9
    obtain ⟨-, n, -, e1⟩ := q9.r
    cases e1
  intro v9 h9 q9
  obtain ⟨⟨g1, g2⟩, e0, e1⟩ := q9.l
  subst e1
  have M1 : lwM G x o a q.2.2 w (fun _ => True) S h9 := lwM.step hd hT ho hk g1 (g2.mono fun b hb => Or.inl (Or.inl hb)) ⟨g2.at ho hd.1, trivial⟩
  refine zW.aload_n (pc' := 2868) dL_law_2867 rfl rfl (zgS (zgS (zg0))) rfl ?_
  refine zW.congr ?_ rfl rfl M1.eq
  refine zT.call (pc' := 2871) dL_law_2868 rfl l_X0_344 rfl rfl (hml _) zc0 rfl (Nat.le_of_ble_eq_true rfl) (Nat.le_of_ble_eq_true rfl) (Nat.le_of_ble_eq_true rfl) (fun _ T2 ⟨e1, e2, e3⟩ => ?_)
  subst e1
  have M2 := M1.mdl e3
  refine zW.icmp_eq (pc' := 2874) 3347 dL_law_2871 rfl (by decide) (fun b1 => ?_) (fun b1 => ?_)
  rotate_left
  · exact absurd rfl b1
  exact kont _ _ _ _ (M2.wk fun _ _ => trivial)
theorem y_interestTotal (hb : zg_k G b = some (1100, xs)) (hi : i < 200) (M0 : lwM G x o a w w (fun _ => True) S h) (hcl : zK G mX1_interestTotal 40 R [.ref x] h (zPu h (some (.long lv)))) (hml : ∀ h0, zK G mX3_interestTotal 9 0 [.ref a.1] (tH h0 a S) (tO h0 a 0 (.long lv) w)) (kont : ∀ (h' : zH) (S' : tS) (v5 v6 : Value), lwM G x o a w w (fun _ => True) S' h' → zW G mL_law 42 r 3347 [.ref b, .ref x, .ref a.1, .ref o, .int (nI i), v5, v6] [] h' Q) {v5 v6 : Value} : zW G mL_law 42 (r + R) 2876 [.ref b, .ref x, .ref a.1, .ref o, .int (nI i), v5, v6] [] h Q := by
  obtain ⟨U, v, ⟨hG, hl⟩, hd, hT, ⟨ho, -⟩, hk⟩ := id M0
  obtain ⟨fs, hx⟩ := hG.cell
  refine zW.aload_n (pc' := 2877) dL_law_2876 rfl rfl (zgS (zg0)) rfl ?_
  refine zW.callV (r' := R) (pc' := 2880) dL_law_2877 rfl l_X0_345 rfl hx ⟨rfl, (Nat.le_of_ble_eq_true rfl)⟩ rfl (hcl) zc0 rfl (Nat.le_of_ble_eq_true rfl) (Nat.le_of_ble_eq_true rfl) (Nat.le_of_ble_eq_true rfl) (fun _ _ q9 => ?_) (fun _ _ q9 => by cases q9.1)
  obtain ⟨q8, e9⟩ := q9
  cases q8
  replace e9 := e9.symm
  subst e9
  have M1 := M0
  refine zW.aload_n (pc' := 2881) dL_law_2880 rfl rfl (zgS (zgS (zg0))) rfl ?_
  refine zW.congr ?_ rfl rfl M1.eq
  refine zT.call (pc' := 2884) dL_law_2881 rfl l_X0_349 rfl rfl (hml _) zc0 rfl (Nat.le_of_ble_eq_true rfl) (Nat.le_of_ble_eq_true rfl) (Nat.le_of_ble_eq_true rfl) (fun _ T2 ⟨e1, e2, e3⟩ => ?_)
  subst e1
  have M2 := M1.mdl e3
  refine zW.lcmp (pc' := 2885) dL_law_2884 rfl ?_
  rw [zlc]
  refine zW.if_eq (pc' := 2888) 3347 dL_law_2885 rfl (by decide) (fun b1 => ?_) (fun b1 => ?_)
  rotate_left
  · exact absurd rfl b1
  exact kont _ _ _ _ (M2.wk fun _ _ => trivial)
theorem y_activeWeight (hb : zg_k G b = some (1100, xs)) (hi : i < 200) (M0 : lwM G x o a w w (fun _ => True) S h) (hcl : zK G mX1_activeWeight 40 R [.ref x] h (zPu h (some (.long lv)))) (hml : ∀ h0, zK G mX3_activeWeight 9 0 [.ref a.1] (tH h0 a S) (tO h0 a 0 (.long lv) w)) (kont : ∀ (h' : zH) (S' : tS) (v5 v6 : Value), lwM G x o a w w (fun _ => True) S' h' → zW G mL_law 42 r 3347 [.ref b, .ref x, .ref a.1, .ref o, .int (nI i), v5, v6] [] h' Q) {v5 v6 : Value} : zW G mL_law 42 (r + R) 2890 [.ref b, .ref x, .ref a.1, .ref o, .int (nI i), v5, v6] [] h Q := by
  obtain ⟨U, v, ⟨hG, hl⟩, hd, hT, ⟨ho, -⟩, hk⟩ := id M0
  obtain ⟨fs, hx⟩ := hG.cell
  refine zW.aload_n (pc' := 2891) dL_law_2890 rfl rfl (zgS (zg0)) rfl ?_
  refine zW.callV (r' := R) (pc' := 2894) dL_law_2891 rfl l_X0_350 rfl hx ⟨rfl, (Nat.le_of_ble_eq_true rfl)⟩ rfl (hcl) zc0 rfl (Nat.le_of_ble_eq_true rfl) (Nat.le_of_ble_eq_true rfl) (Nat.le_of_ble_eq_true rfl) (fun _ _ q9 => ?_) (fun _ _ q9 => by cases q9.1)
  obtain ⟨q8, e9⟩ := q9
  cases q8
  replace e9 := e9.symm
  subst e9
  have M1 := M0
  refine zW.aload_n (pc' := 2895) dL_law_2894 rfl rfl (zgS (zgS (zg0))) rfl ?_
  refine zW.congr ?_ rfl rfl M1.eq
  refine zT.call (pc' := 2898) dL_law_2895 rfl l_X0_353 rfl rfl (hml _) zc0 rfl (Nat.le_of_ble_eq_true rfl) (Nat.le_of_ble_eq_true rfl) (Nat.le_of_ble_eq_true rfl) (fun _ T2 ⟨e1, e2, e3⟩ => ?_)
  subst e1
  have M2 := M1.mdl e3
  refine zW.lcmp (pc' := 2899) dL_law_2898 rfl ?_
  rw [zlc]
  refine zW.if_eq (pc' := 2902) 3347 dL_law_2899 rfl (by decide) (fun b1 => ?_) (fun b1 => ?_)
  rotate_left
  · exact absurd rfl b1
  exact kont _ _ _ _ (M2.wk fun _ _ => trivial)
theorem y_closedWeight (hb : zg_k G b = some (1100, xs)) (hi : i < 200) (M0 : lwM G x o a w w (fun _ => True) S h) (hcl : zK G mX1_closedWeight 40 R [.ref x] h (zPu h (some (.long lv)))) (hml : ∀ h0, zK G mX3_closedWeight 9 0 [.ref a.1] (tH h0 a S) (tO h0 a 0 (.long lv) w)) (kont : ∀ (h' : zH) (S' : tS) (v5 v6 : Value), lwM G x o a w w (fun _ => True) S' h' → zW G mL_law 42 r 3347 [.ref b, .ref x, .ref a.1, .ref o, .int (nI i), v5, v6] [] h' Q) {v5 v6 : Value} : zW G mL_law 42 (r + R) 2904 [.ref b, .ref x, .ref a.1, .ref o, .int (nI i), v5, v6] [] h Q := by
  obtain ⟨U, v, ⟨hG, hl⟩, hd, hT, ⟨ho, -⟩, hk⟩ := id M0
  obtain ⟨fs, hx⟩ := hG.cell
  refine zW.aload_n (pc' := 2905) dL_law_2904 rfl rfl (zgS (zg0)) rfl ?_
  refine zW.callV (r' := R) (pc' := 2908) dL_law_2905 rfl l_X0_354 rfl hx ⟨rfl, (Nat.le_of_ble_eq_true rfl)⟩ rfl (hcl) zc0 rfl (Nat.le_of_ble_eq_true rfl) (Nat.le_of_ble_eq_true rfl) (Nat.le_of_ble_eq_true rfl) (fun _ _ q9 => ?_) (fun _ _ q9 => by cases q9.1)
  obtain ⟨q8, e9⟩ := q9
  cases q8
  replace e9 := e9.symm
  subst e9
  have M1 := M0
  refine zW.aload_n (pc' := 2909) dL_law_2908 rfl rfl (zgS (zgS (zg0))) rfl ?_
  refine zW.congr ?_ rfl rfl M1.eq
  refine zT.call (pc' := 2912) dL_law_2909 rfl l_X0_357 rfl rfl (hml _) zc0 rfl (Nat.le_of_ble_eq_true rfl) (Nat.le_of_ble_eq_true rfl) (Nat.le_of_ble_eq_true rfl) (fun _ T2 ⟨e1, e2, e3⟩ => ?_)
  subst e1
  have M2 := M1.mdl e3
  refine zW.lcmp (pc' := 2913) dL_law_2912 rfl ?_
  rw [zlc]
  refine zW.if_eq (pc' := 2916) 3347 dL_law_2913 rfl (by decide) (fun b1 => ?_) (fun b1 => ?_)
  rotate_left
  · exact absurd rfl b1
  exact kont _ _ _ _ (M2.wk fun _ _ => trivial)
theorem y_isConsistent {q : Nat × Int32 × sW} (hb : zg_k G b = some (1100, xs)) (hi : i < 200) (M0 : lwM G x o a w w (fun _ => True) S h) (hcl : ∀ U, cReg x 0 [] w h U → zK G mX1_isConsistent 40 R [.ref x] h (cOut x U h [] q)) (hml : ∀ h0, zK G mX3_isConsistent 9 0 [.ref a.1] (tH h0 a S) (tO h0 a q.1 (.int q.2.1) q.2.2)) (kont : ∀ (h' : zH) (S' : tS) (v5 v6 : Value), lwM G x o a q.2.2 q.2.2 (fun _ => True) S' h' → zW G mL_law 42 r 3347 [.ref b, .ref x, .ref a.1, .ref o, .int (nI i), v5, v6] [] h' Q) {v5 v6 : Value} : zW G mL_law 42 (r + R) 2918 [.ref b, .ref x, .ref a.1, .ref o, .int (nI i), v5, v6] [] h Q := by
  obtain ⟨U, v, ⟨hG, hl⟩, hd, hT, ⟨ho, -⟩, hk⟩ := id M0
  obtain ⟨fs, hx⟩ := hG.cell
  refine zW.aload_n (pc' := 2919) dL_law_2918 rfl rfl (zgS (zg0)) rfl ?_
  refine zW.callV (r' := R) (pc' := 2922) dL_law_2919 rfl l_X0_358 rfl hx ⟨rfl, (Nat.le_of_ble_eq_true rfl)⟩ rfl ((hcl U hG)) zc0 rfl (Nat.le_of_ble_eq_true rfl) (Nat.le_of_ble_eq_true rfl) (Nat.le_of_ble_eq_true rfl) ?_ ?_
  rotate_left
  · intro E h9 q9
    obtain ⟨-, n, -, e1⟩ := q9.r
    cases e1
  intro v9 h9 q9
  obtain ⟨⟨g1, g2⟩, e0, e1⟩ := q9.l
  subst e1
  have M1 : lwM G x o a q.2.2 w (fun _ => True) S h9 := lwM.step hd hT ho hk g1 (g2.mono fun b hb => Or.inl (Or.inl hb)) ⟨g2.at ho hd.1, trivial⟩
  refine zW.aload_n (pc' := 2923) dL_law_2922 rfl rfl (zgS (zgS (zg0))) rfl ?_
  refine zW.congr ?_ rfl rfl M1.eq
  refine zT.call (pc' := 2926) dL_law_2923 rfl l_X0_361 rfl rfl (hml _) zc0 rfl (Nat.le_of_ble_eq_true rfl) (Nat.le_of_ble_eq_true rfl) (Nat.le_of_ble_eq_true rfl) (fun _ T2 ⟨e1, e2, e3⟩ => ?_)
  subst e1
  have M2 := M1.mdl e3
  refine zW.icmp_eq (pc' := 2929) 3347 dL_law_2926 rfl (by decide) (fun b1 => ?_) (fun b1 => ?_)
  rotate_left
  · exact absurd rfl b1
  exact kont _ _ _ _ (M2.wk fun _ _ => trivial)
theorem y_format {y1 : Int32} {q : Nat × Int32 × sW} (hb : zg_k G b = some (1100, xs)) (hy1 : xs[i + 1]? = some (.int y1)) (hi : i < 200) (M0 : lwM G x o a w w (fun _ => True) S h) (hcl : ∀ U, cReg x 0 [] w h U → zK G mX1_format 40 R [.ref x, .int y1] h (cOut x U h [eElt] q)) (hml : ∀ h0, zK G mX3_format 9 0 [.ref a.1, .int y1] (tH h0 a S) (tO h0 a q.1 (.int q.2.1) q.2.2)) (kont : ∀ (h' : zH) (S' : tS) (v5 v6 : Value), lwM G x o a q.2.2 q.2.2 (fun _ => True) S' h' → zW G mL_law 42 r 3347 [.ref b, .ref x, .ref a.1, .ref o, .int (nI i), v5, v6] [] h' Q) {v5 v6 : Value} : zW G mL_law 42 (r + R) 2931 [.ref b, .ref x, .ref a.1, .ref o, .int (nI i), v5, v6] [] h Q := by
  obtain ⟨U, v, ⟨hG, hl⟩, hd, hT, ⟨ho, -⟩, hk⟩ := id M0
  obtain ⟨fs, hx⟩ := hG.cell
  have hbh := M0.scr hb
  refine zW.aload_n (pc' := 2932) dL_law_2931 rfl rfl (zgS (zg0)) rfl ?_
  refine zW.aload_n (pc' := 2933) dL_law_2932 rfl rfl zg0 rfl ?_
  refine zW.iload (pc' := 2935) dL_law_2933 rfl (zgS (zgS (zgS (zgS (zg0))))) ?_
  refine zW.iconst (pc' := 2936) (nI 1) dL_law_2935 rfl (by decide) ?_
  refine zW.iaddN (pc' := 2937) dL_law_2936 rfl ?_
  refine zW.scr (pc' := 2938) dL_law_2937 rfl hbh hy1 (by omega) ?_
  refine zW.aload_n (pc' := 2939) dL_law_2938 rfl rfl (zgS (zgS (zgS (zg0)))) rfl ?_
  refine zW.callSH (r' := R) (pc' := 2942) dL_law_2939 rfl l_X0_362 rfl (x_format hx ho hd.1 (hcl U hG)) (zcc rfl (zcc rfl (zcc rfl zc0))) rfl (Nat.le_of_ble_eq_true rfl) (Nat.le_of_ble_eq_true rfl) (Nat.le_of_ble_eq_true rfl) ?_ ?_
  rotate_left
  · intro E h9 q9
    cases q9.1
  intro v9 h9 q9
  obtain ⟨e1, q3, g1, g2, v1, ho1, hv1⟩ := q9
  cases e1
  have M1 : lwM G x o a q.2.2 w (fun v => q.1 = 0 → v = q.2.1.toInt64) S h9 := lwM.step hd hT ho hk g1 g2 ⟨ho1, hv1⟩
  have hbh := M1.scr hb
  refine zW.istore (pc' := 2944) dL_law_2942 rfl (Nat.le_of_ble_eq_true rfl) (zsS (zsS (zsS (zsS (zsS (zs0)))))) ?_
  refine zW.aload_n (pc' := 2945) dL_law_2944 rfl rfl (zgS (zgS (zg0))) rfl ?_
  refine zW.aload_n (pc' := 2946) dL_law_2945 rfl rfl zg0 rfl ?_
  refine zW.iload (pc' := 2948) dL_law_2946 rfl (zgS (zgS (zgS (zgS (zg0))))) ?_
  refine zW.iconst (pc' := 2949) (nI 1) dL_law_2948 rfl (by decide) ?_
  refine zW.iaddN (pc' := 2950) dL_law_2949 rfl ?_
  refine zW.scr (pc' := 2951) dL_law_2950 rfl hbh hy1 (by omega) ?_
  refine zW.congr ?_ rfl rfl M1.eq
  refine zT.call (pc' := 2954) dL_law_2951 rfl l_X0_364 rfl rfl (hml _) (zcc rfl zc0) rfl (Nat.le_of_ble_eq_true rfl) (Nat.le_of_ble_eq_true rfl) (Nat.le_of_ble_eq_true rfl) (fun _ T2 ⟨e1, e2, e3⟩ => ?_)
  subst e1
  have M2 := M1.mdl e3
  obtain ⟨v2, ho2, hv2⟩ := M2.out
  refine zW.istore (pc' := 2956) dL_law_2954 rfl (Nat.le_of_ble_eq_true rfl) (zsS (zsS (zsS (zsS (zsS (zsS (zs0))))))) ?_
  refine zW.aload_n (pc' := 2957) dL_law_2956 rfl rfl (zgS (zgS (zg0))) rfl ?_
  refine zT.call (pc' := 2960) dL_law_2957 rfl l_X0_182 rfl rfl w_thrown zc0 rfl (Nat.le_of_ble_eq_true rfl) (Nat.le_of_ble_eq_true rfl) (Nat.le_of_ble_eq_true rfl) (fun _ T3 ⟨e1, e4⟩ => ?_)
  subst e1
  subst e4
  rw [e2]
  refine zW.iload (pc' := 2962) dL_law_2960 rfl (zgS (zgS (zgS (zgS (zgS (zg0)))))) ?_
  refine zW.icmp_eq (pc' := 2965) 2967 dL_law_2962 rfl (by decide) (fun b1 => ?_) (fun b1 => ?_)
  rotate_left
  · exact absurd rfl b1
  by_cases z : q.1 = 0
  · rw [z]
    refine zW.iload (pc' := 2969) dL_law_2967 rfl (zgS (zgS (zgS (zgS (zgS (zg0)))))) ?_
    refine zW.if_neN (pc' := 2972) 2984 dL_law_2969 rfl (by decide) (by omega) (fun b9 => absurd b9 (by omega)) (fun b9 => ?_)
    refine zW.aload_n (pc' := 2973) dL_law_2972 rfl rfl (zgS (zgS (zgS (zg0)))) rfl ?_
    refine zW.iconst (pc' := 2974) (nI 0) dL_law_2973 rfl (by decide) ?_
    refine zW.lald (pc' := 2975) dL_law_2974 rfl ho2 rfl (by decide) rfl ?_
    rw [hv2 z]
    refine zW.iload (pc' := 2977) dL_law_2975 rfl (zgS (zgS (zgS (zgS (zgS (zgS (zg0))))))) ?_
    refine zW.i2l (pc' := 2978) dL_law_2977 rfl ?_
    refine zW.lcmp (pc' := 2979) dL_law_2978 rfl ?_
    rw [zlc]
    refine zW.if_eq (pc' := 2982) 2984 dL_law_2979 rfl (by decide) (fun b1 => ?_) (fun b1 => ?_)
    rotate_left
    · exact absurd rfl b1
    refine zW.goto 3347 dL_law_2984 (by decide) ?_
    exact kont _ _ _ _ (M2.wk fun _ _ => trivial)
  · refine zW.iload (pc' := 2969) dL_law_2967 rfl (zgS (zgS (zgS (zgS (zgS (zg0)))))) ?_
    refine zW.if_neN (pc' := 2972) 2984 dL_law_2969 rfl (by decide) (by omega) (fun b9 => ?_) (fun b9 => absurd b9 (by omega))
    refine zW.goto 3347 dL_law_2984 (by decide) ?_
    exact kont _ _ _ _ (M2.wk fun _ _ => trivial)
theorem y_lineChar {y1 : Int32} {q : Nat × Int32 × sW} (hb : zg_k G b = some (1100, xs)) (hy1 : xs[i + 1]? = some (.int y1)) (hi : i < 200) (M0 : lwM G x o a w w (fun _ => True) S h) (hcl : ∀ U, cReg x 0 [] w h U → zK G mX1_lineChar 40 R [.ref x, .int y1] h (cOut x U h [eIdx] q)) (hml : ∀ h0, zK G mX3_lineChar 9 0 [.ref a.1, .int y1] (tH h0 a S) (tO h0 a q.1 (.int q.2.1) q.2.2)) (kont : ∀ (h' : zH) (S' : tS) (v5 v6 : Value), lwM G x o a q.2.2 q.2.2 (fun _ => True) S' h' → zW G mL_law 42 r 3347 [.ref b, .ref x, .ref a.1, .ref o, .int (nI i), v5, v6] [] h' Q) {v5 v6 : Value} : zW G mL_law 42 (r + R) 2987 [.ref b, .ref x, .ref a.1, .ref o, .int (nI i), v5, v6] [] h Q := by
  obtain ⟨U, v, ⟨hG, hl⟩, hd, hT, ⟨ho, -⟩, hk⟩ := id M0
  obtain ⟨fs, hx⟩ := hG.cell
  have hbh := M0.scr hb
  refine zW.aload_n (pc' := 2988) dL_law_2987 rfl rfl (zgS (zg0)) rfl ?_
  refine zW.aload_n (pc' := 2989) dL_law_2988 rfl rfl zg0 rfl ?_
  refine zW.iload (pc' := 2991) dL_law_2989 rfl (zgS (zgS (zgS (zgS (zg0))))) ?_
  refine zW.iconst (pc' := 2992) (nI 1) dL_law_2991 rfl (by decide) ?_
  refine zW.iaddN (pc' := 2993) dL_law_2992 rfl ?_
  refine zW.scr (pc' := 2994) dL_law_2993 rfl hbh hy1 (by omega) ?_
  refine zW.aload_n (pc' := 2995) dL_law_2994 rfl rfl (zgS (zgS (zgS (zg0)))) rfl ?_
  refine zW.callSH (r' := R) (pc' := 2998) dL_law_2995 rfl l_X0_365 rfl (x_lineChar hx ho hd.1 (hcl U hG)) (zcc rfl (zcc rfl (zcc rfl zc0))) rfl (Nat.le_of_ble_eq_true rfl) (Nat.le_of_ble_eq_true rfl) (Nat.le_of_ble_eq_true rfl) ?_ ?_
  rotate_left
  · intro E h9 q9
    cases q9.1
  intro v9 h9 q9
  obtain ⟨e1, q3, g1, g2, v1, ho1, hv1⟩ := q9
  cases e1
  have M1 : lwM G x o a q.2.2 w (fun v => q.1 = 0 → v = q.2.1.toInt64) S h9 := lwM.step hd hT ho hk g1 g2 ⟨ho1, hv1⟩
  have hbh := M1.scr hb
  refine zW.istore (pc' := 3000) dL_law_2998 rfl (Nat.le_of_ble_eq_true rfl) (zsS (zsS (zsS (zsS (zsS (zs0)))))) ?_
  refine zW.aload_n (pc' := 3001) dL_law_3000 rfl rfl (zgS (zgS (zg0))) rfl ?_
  refine zW.aload_n (pc' := 3002) dL_law_3001 rfl rfl zg0 rfl ?_
  refine zW.iload (pc' := 3004) dL_law_3002 rfl (zgS (zgS (zgS (zgS (zg0))))) ?_
  refine zW.iconst (pc' := 3005) (nI 1) dL_law_3004 rfl (by decide) ?_
  refine zW.iaddN (pc' := 3006) dL_law_3005 rfl ?_
  refine zW.scr (pc' := 3007) dL_law_3006 rfl hbh hy1 (by omega) ?_
  refine zW.congr ?_ rfl rfl M1.eq
  refine zT.call (pc' := 3010) dL_law_3007 rfl l_X0_367 rfl rfl (hml _) (zcc rfl zc0) rfl (Nat.le_of_ble_eq_true rfl) (Nat.le_of_ble_eq_true rfl) (Nat.le_of_ble_eq_true rfl) (fun _ T2 ⟨e1, e2, e3⟩ => ?_)
  subst e1
  have M2 := M1.mdl e3
  obtain ⟨v2, ho2, hv2⟩ := M2.out
  refine zW.istore (pc' := 3012) dL_law_3010 rfl (Nat.le_of_ble_eq_true rfl) (zsS (zsS (zsS (zsS (zsS (zsS (zs0))))))) ?_
  refine zW.aload_n (pc' := 3013) dL_law_3012 rfl rfl (zgS (zgS (zg0))) rfl ?_
  refine zT.call (pc' := 3016) dL_law_3013 rfl l_X0_182 rfl rfl w_thrown zc0 rfl (Nat.le_of_ble_eq_true rfl) (Nat.le_of_ble_eq_true rfl) (Nat.le_of_ble_eq_true rfl) (fun _ T3 ⟨e1, e4⟩ => ?_)
  subst e1
  subst e4
  rw [e2]
  refine zW.iload (pc' := 3018) dL_law_3016 rfl (zgS (zgS (zgS (zgS (zgS (zg0)))))) ?_
  refine zW.icmp_eq (pc' := 3021) 3023 dL_law_3018 rfl (by decide) (fun b1 => ?_) (fun b1 => ?_)
  rotate_left
  · exact absurd rfl b1
  by_cases z : q.1 = 0
  · rw [z]
    refine zW.iload (pc' := 3025) dL_law_3023 rfl (zgS (zgS (zgS (zgS (zgS (zg0)))))) ?_
    refine zW.if_neN (pc' := 3028) 3040 dL_law_3025 rfl (by decide) (by omega) (fun b9 => absurd b9 (by omega)) (fun b9 => ?_)
    refine zW.aload_n (pc' := 3029) dL_law_3028 rfl rfl (zgS (zgS (zgS (zg0)))) rfl ?_
    refine zW.iconst (pc' := 3030) (nI 0) dL_law_3029 rfl (by decide) ?_
    refine zW.lald (pc' := 3031) dL_law_3030 rfl ho2 rfl (by decide) rfl ?_
    rw [hv2 z]
    refine zW.iload (pc' := 3033) dL_law_3031 rfl (zgS (zgS (zgS (zgS (zgS (zgS (zg0))))))) ?_
    refine zW.i2l (pc' := 3034) dL_law_3033 rfl ?_
    refine zW.lcmp (pc' := 3035) dL_law_3034 rfl ?_
    rw [zlc]
    refine zW.if_eq (pc' := 3038) 3040 dL_law_3035 rfl (by decide) (fun b1 => ?_) (fun b1 => ?_)
    rotate_left
    · exact absurd rfl b1
    refine zW.goto 3347 dL_law_3040 (by decide) ?_
    exact kont _ _ _ _ (M2.wk fun _ _ => trivial)
  · refine zW.iload (pc' := 3025) dL_law_3023 rfl (zgS (zgS (zgS (zgS (zgS (zg0)))))) ?_
    refine zW.if_neN (pc' := 3028) 3040 dL_law_3025 rfl (by decide) (by omega) (fun b9 => ?_) (fun b9 => absurd b9 (by omega))
    refine zW.goto 3347 dL_law_3040 (by decide) ?_
    exact kont _ _ _ _ (M2.wk fun _ _ => trivial)
end
