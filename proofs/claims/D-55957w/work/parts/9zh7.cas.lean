/-! THE LAW: its cases (printed by mk9zh.py) -/
section
set_option maxRecDepth 100000
variable {G : zG} {h : zH} {Q : zR → zH → Prop} {x o b i R r : Nat} {a : tA} {w : sW} {S : tS} {xs : List Value} {lv : Int64}
theorem y_append {y1 : Int32} {q : Nat × Int32 × sW} (hb : zg_k G b = some (1100, xs)) (hy1 : xs[i + 1]? = some (.int y1)) (hi : i < 200) (M0 : lwM G x o a w w (fun _ => True) S h) (hcl : ∀ U, cReg x 0 [] w h U → zK G mX1_append 40 R [.ref x, .int ((y1.toUInt32 % 65536).toInt32)] h (cOut x U h [eArg, eSta] q)) (hml : ∀ h0, zK G mX3_append 9 0 [.ref a.1, .int ((y1.toUInt32 % 65536).toInt32)] (tH h0 a S) (tO h0 a q.1 (.int q.2.1) q.2.2)) (kont : ∀ (h' : zH) (S' : tS) (v5 v6 : Value), lwM G x o a q.2.2 q.2.2 (fun _ => True) S' h' → zW G mL_law 42 r 3347 [.ref b, .ref x, .ref a.1, .ref o, .int (nI i), v5, v6] [] h' Q) {v5 v6 : Value} : zW G mL_law 42 (r + R) 3043 [.ref b, .ref x, .ref a.1, .ref o, .int (nI i), v5, v6] [] h Q := by
  obtain ⟨U, v, ⟨hG, hl⟩, hd, hT, ⟨ho, -⟩, hk⟩ := id M0
  obtain ⟨fs, hx⟩ := hG.cell
  have hbh := M0.scr hb
  refine zW.aload_n (pc' := 3044) dL_law_3043 rfl rfl (zgS (zg0)) rfl ?_
  refine zW.aload_n (pc' := 3045) dL_law_3044 rfl rfl zg0 rfl ?_
  refine zW.iload (pc' := 3047) dL_law_3045 rfl (zgS (zgS (zgS (zgS (zg0))))) ?_
  refine zW.iconst (pc' := 3048) (nI 1) dL_law_3047 rfl (by decide) ?_
  refine zW.iaddN (pc' := 3049) dL_law_3048 rfl ?_
  refine zW.scr (pc' := 3050) dL_law_3049 rfl hbh hy1 (by omega) ?_
  refine zW.i2c (pc' := 3051) ((y1.toUInt32 % 65536).toInt32) dL_law_3050 rfl (rfl) ?_
  refine zW.aload_n (pc' := 3052) dL_law_3051 rfl rfl (zgS (zgS (zgS (zg0)))) rfl ?_
  refine zW.callSH (r' := R) (pc' := 3055) dL_law_3052 rfl l_X0_368 rfl (x_append hx ho hd.1 (hcl U hG)) (zcc rfl (zcc rfl (zcc rfl zc0))) rfl (Nat.le_of_ble_eq_true rfl) (Nat.le_of_ble_eq_true rfl) (Nat.le_of_ble_eq_true rfl) ?_ ?_
  rotate_left
  · intro E h9 q9
    cases q9.1
  intro v9 h9 q9
  obtain ⟨e1, q3, g1, g2, v1, ho1, hv1⟩ := q9
  cases e1
  have M1 : lwM G x o a q.2.2 w (fun v => q.1 = 0 → v = q.2.1.toInt64) S h9 := lwM.step hd hT ho hk g1 g2 ⟨ho1, hv1⟩
  have hbh := M1.scr hb
  refine zW.istore (pc' := 3057) dL_law_3055 rfl (Nat.le_of_ble_eq_true rfl) (zsS (zsS (zsS (zsS (zsS (zs0)))))) ?_
  refine zW.aload_n (pc' := 3058) dL_law_3057 rfl rfl (zgS (zgS (zg0))) rfl ?_
  refine zW.aload_n (pc' := 3059) dL_law_3058 rfl rfl zg0 rfl ?_
  refine zW.iload (pc' := 3061) dL_law_3059 rfl (zgS (zgS (zgS (zgS (zg0))))) ?_
  refine zW.iconst (pc' := 3062) (nI 1) dL_law_3061 rfl (by decide) ?_
  refine zW.iaddN (pc' := 3063) dL_law_3062 rfl ?_
  refine zW.scr (pc' := 3064) dL_law_3063 rfl hbh hy1 (by omega) ?_
  refine zW.i2c (pc' := 3065) ((y1.toUInt32 % 65536).toInt32) dL_law_3064 rfl (rfl) ?_
  refine zW.congr ?_ rfl rfl M1.eq
  refine zT.call (pc' := 3068) dL_law_3065 rfl l_X0_371 rfl rfl (hml _) (zcc rfl zc0) rfl (Nat.le_of_ble_eq_true rfl) (Nat.le_of_ble_eq_true rfl) (Nat.le_of_ble_eq_true rfl) (fun _ T2 ⟨e1, e2, e3⟩ => ?_)
  subst e1
  have M2 := M1.mdl e3
  obtain ⟨v2, ho2, hv2⟩ := M2.out
  refine zW.istore (pc' := 3070) dL_law_3068 rfl (Nat.le_of_ble_eq_true rfl) (zsS (zsS (zsS (zsS (zsS (zsS (zs0))))))) ?_
  refine zW.aload_n (pc' := 3071) dL_law_3070 rfl rfl (zgS (zgS (zg0))) rfl ?_
  refine zT.call (pc' := 3074) dL_law_3071 rfl l_X0_182 rfl rfl w_thrown zc0 rfl (Nat.le_of_ble_eq_true rfl) (Nat.le_of_ble_eq_true rfl) (Nat.le_of_ble_eq_true rfl) (fun _ T3 ⟨e1, e4⟩ => ?_)
  subst e1
  subst e4
  rw [e2]
  refine zW.iload (pc' := 3076) dL_law_3074 rfl (zgS (zgS (zgS (zgS (zgS (zg0)))))) ?_
  refine zW.icmp_eq (pc' := 3079) 3081 dL_law_3076 rfl (by decide) (fun b1 => ?_) (fun b1 => ?_)
  rotate_left
  · exact absurd rfl b1
  by_cases z : q.1 = 0
  · rw [z]
    refine zW.iload (pc' := 3083) dL_law_3081 rfl (zgS (zgS (zgS (zgS (zgS (zg0)))))) ?_
    refine zW.if_neN (pc' := 3086) 3098 dL_law_3083 rfl (by decide) (by omega) (fun b9 => absurd b9 (by omega)) (fun b9 => ?_)
    refine zW.aload_n (pc' := 3087) dL_law_3086 rfl rfl (zgS (zgS (zgS (zg0)))) rfl ?_
    refine zW.iconst (pc' := 3088) (nI 0) dL_law_3087 rfl (by decide) ?_
    refine zW.lald (pc' := 3089) dL_law_3088 rfl ho2 rfl (by decide) rfl ?_
    rw [hv2 z]
    refine zW.iload (pc' := 3091) dL_law_3089 rfl (zgS (zgS (zgS (zgS (zgS (zgS (zg0))))))) ?_
    refine zW.i2l (pc' := 3092) dL_law_3091 rfl ?_
    refine zW.lcmp (pc' := 3093) dL_law_3092 rfl ?_
    rw [zlc]
    refine zW.if_eq (pc' := 3096) 3098 dL_law_3093 rfl (by decide) (fun b1 => ?_) (fun b1 => ?_)
    rotate_left
    · exact absurd rfl b1
    refine zW.goto 3347 dL_law_3098 (by decide) ?_
    exact kont _ _ _ _ (M2.wk fun _ _ => trivial)
  · refine zW.iload (pc' := 3083) dL_law_3081 rfl (zgS (zgS (zgS (zgS (zgS (zg0)))))) ?_
    refine zW.if_neN (pc' := 3086) 3098 dL_law_3083 rfl (by decide) (by omega) (fun b9 => ?_) (fun b9 => absurd b9 (by omega))
    refine zW.goto 3347 dL_law_3098 (by decide) ?_
    exact kont _ _ _ _ (M2.wk fun _ _ => trivial)
theorem y_run {q : Nat × Int32 × sW} (hb : zg_k G b = some (1100, xs)) (hi : i < 200) (M0 : lwM G x o a w w (fun _ => True) S h) (hcl : ∀ U, cReg x 0 [] w h U → zK G mX1_run 40 R [.ref x] h (cOut x U h [eArg, eSta] q)) (hml : ∀ h0, zK G mX3_run 9 0 [.ref a.1] (tH h0 a S) (tO h0 a q.1 (.int q.2.1) q.2.2)) (kont : ∀ (h' : zH) (S' : tS) (v5 v6 : Value), lwM G x o a q.2.2 q.2.2 (fun _ => True) S' h' → zW G mL_law 42 r 3347 [.ref b, .ref x, .ref a.1, .ref o, .int (nI i), v5, v6] [] h' Q) {v5 v6 : Value} : zW G mL_law 42 (r + R) 3101 [.ref b, .ref x, .ref a.1, .ref o, .int (nI i), v5, v6] [] h Q := by
  obtain ⟨U, v, ⟨hG, hl⟩, hd, hT, ⟨ho, -⟩, hk⟩ := id M0
  obtain ⟨fs, hx⟩ := hG.cell
  refine zW.aload_n (pc' := 3102) dL_law_3101 rfl rfl (zgS (zg0)) rfl ?_
  refine zW.aload_n (pc' := 3103) dL_law_3102 rfl rfl (zgS (zgS (zgS (zg0)))) rfl ?_
  refine zW.callSH (r' := R) (pc' := 3106) dL_law_3103 rfl l_X0_372 rfl (x_run hx ho hd.1 (hcl U hG)) (zcc rfl (zcc rfl zc0)) rfl (Nat.le_of_ble_eq_true rfl) (Nat.le_of_ble_eq_true rfl) (Nat.le_of_ble_eq_true rfl) ?_ ?_
  rotate_left
  · intro E h9 q9
    cases q9.1
  intro v9 h9 q9
  obtain ⟨e1, q3, g1, g2, v1, ho1, hv1⟩ := q9
  cases e1
  have M1 : lwM G x o a q.2.2 w (fun v => q.1 = 0 → v = q.2.1.toInt64) S h9 := lwM.step hd hT ho hk g1 g2 ⟨ho1, hv1⟩
  refine zW.istore (pc' := 3108) dL_law_3106 rfl (Nat.le_of_ble_eq_true rfl) (zsS (zsS (zsS (zsS (zsS (zs0)))))) ?_
  refine zW.aload_n (pc' := 3109) dL_law_3108 rfl rfl (zgS (zgS (zg0))) rfl ?_
  refine zW.congr ?_ rfl rfl M1.eq
  refine zT.call (pc' := 3112) dL_law_3109 rfl l_X0_374 rfl rfl (hml _) zc0 rfl (Nat.le_of_ble_eq_true rfl) (Nat.le_of_ble_eq_true rfl) (Nat.le_of_ble_eq_true rfl) (fun _ T2 ⟨e1, e2, e3⟩ => ?_)
  subst e1
  have M2 := M1.mdl e3
  obtain ⟨v2, ho2, hv2⟩ := M2.out
  refine zW.istore (pc' := 3114) dL_law_3112 rfl (Nat.le_of_ble_eq_true rfl) (zsS (zsS (zsS (zsS (zsS (zsS (zs0))))))) ?_
  refine zW.aload_n (pc' := 3115) dL_law_3114 rfl rfl (zgS (zgS (zg0))) rfl ?_
  refine zT.call (pc' := 3118) dL_law_3115 rfl l_X0_182 rfl rfl w_thrown zc0 rfl (Nat.le_of_ble_eq_true rfl) (Nat.le_of_ble_eq_true rfl) (Nat.le_of_ble_eq_true rfl) (fun _ T3 ⟨e1, e4⟩ => ?_)
  subst e1
  subst e4
  rw [e2]
  refine zW.iload (pc' := 3120) dL_law_3118 rfl (zgS (zgS (zgS (zgS (zgS (zg0)))))) ?_
  refine zW.icmp_eq (pc' := 3123) 3125 dL_law_3120 rfl (by decide) (fun b1 => ?_) (fun b1 => ?_)
  rotate_left
  · exact absurd rfl b1
  by_cases z : q.1 = 0
  · rw [z]
    refine zW.iload (pc' := 3127) dL_law_3125 rfl (zgS (zgS (zgS (zgS (zgS (zg0)))))) ?_
    refine zW.if_neN (pc' := 3130) 3142 dL_law_3127 rfl (by decide) (by omega) (fun b9 => absurd b9 (by omega)) (fun b9 => ?_)
    refine zW.aload_n (pc' := 3131) dL_law_3130 rfl rfl (zgS (zgS (zgS (zg0)))) rfl ?_
    refine zW.iconst (pc' := 3132) (nI 0) dL_law_3131 rfl (by decide) ?_
    refine zW.lald (pc' := 3133) dL_law_3132 rfl ho2 rfl (by decide) rfl ?_
    rw [hv2 z]
    refine zW.iload (pc' := 3135) dL_law_3133 rfl (zgS (zgS (zgS (zgS (zgS (zgS (zg0))))))) ?_
    refine zW.i2l (pc' := 3136) dL_law_3135 rfl ?_
    refine zW.lcmp (pc' := 3137) dL_law_3136 rfl ?_
    rw [zlc]
    refine zW.if_eq (pc' := 3140) 3142 dL_law_3137 rfl (by decide) (fun b1 => ?_) (fun b1 => ?_)
    rotate_left
    · exact absurd rfl b1
    refine zW.goto 3347 dL_law_3142 (by decide) ?_
    exact kont _ _ _ _ (M2.wk fun _ _ => trivial)
  · refine zW.iload (pc' := 3127) dL_law_3125 rfl (zgS (zgS (zgS (zgS (zgS (zg0)))))) ?_
    refine zW.if_neN (pc' := 3130) 3142 dL_law_3127 rfl (by decide) (by omega) (fun b9 => ?_) (fun b9 => absurd b9 (by omega))
    refine zW.goto 3347 dL_law_3142 (by decide) ?_
    exact kont _ _ _ _ (M2.wk fun _ _ => trivial)
theorem y_errorPosition {q : Nat × Int32 × sW} (hb : zg_k G b = some (1100, xs)) (hi : i < 200) (M0 : lwM G x o a w w (fun _ => True) S h) (hcl : ∀ U, cReg x 0 [] w h U → zK G mX1_errorPosition 40 R [.ref x] h (cOut x U h [eElt] q)) (hml : ∀ h0, zK G mX3_errorPosition 9 0 [.ref a.1] (tH h0 a S) (tO h0 a q.1 (.int q.2.1) q.2.2)) (kont : ∀ (h' : zH) (S' : tS) (v5 v6 : Value), lwM G x o a q.2.2 q.2.2 (fun _ => True) S' h' → zW G mL_law 42 r 3347 [.ref b, .ref x, .ref a.1, .ref o, .int (nI i), v5, v6] [] h' Q) {v5 v6 : Value} : zW G mL_law 42 (r + R) 3145 [.ref b, .ref x, .ref a.1, .ref o, .int (nI i), v5, v6] [] h Q := by
  obtain ⟨U, v, ⟨hG, hl⟩, hd, hT, ⟨ho, -⟩, hk⟩ := id M0
  obtain ⟨fs, hx⟩ := hG.cell
  refine zW.aload_n (pc' := 3146) dL_law_3145 rfl rfl (zgS (zg0)) rfl ?_
  refine zW.aload_n (pc' := 3147) dL_law_3146 rfl rfl (zgS (zgS (zgS (zg0)))) rfl ?_
  refine zW.callSH (r' := R) (pc' := 3150) dL_law_3147 rfl l_X0_375 rfl (x_errorPosition hx ho hd.1 (hcl U hG)) (zcc rfl (zcc rfl zc0)) rfl (Nat.le_of_ble_eq_true rfl) (Nat.le_of_ble_eq_true rfl) (Nat.le_of_ble_eq_true rfl) ?_ ?_
  rotate_left
  · intro E h9 q9
    cases q9.1
  intro v9 h9 q9
  obtain ⟨e1, q3, g1, g2, v1, ho1, hv1⟩ := q9
  cases e1
  have M1 : lwM G x o a q.2.2 w (fun v => q.1 = 0 → v = q.2.1.toInt64) S h9 := lwM.step hd hT ho hk g1 g2 ⟨ho1, hv1⟩
  refine zW.istore (pc' := 3152) dL_law_3150 rfl (Nat.le_of_ble_eq_true rfl) (zsS (zsS (zsS (zsS (zsS (zs0)))))) ?_
  refine zW.aload_n (pc' := 3153) dL_law_3152 rfl rfl (zgS (zgS (zg0))) rfl ?_
  refine zW.congr ?_ rfl rfl M1.eq
  refine zT.call (pc' := 3156) dL_law_3153 rfl l_X0_377 rfl rfl (hml _) zc0 rfl (Nat.le_of_ble_eq_true rfl) (Nat.le_of_ble_eq_true rfl) (Nat.le_of_ble_eq_true rfl) (fun _ T2 ⟨e1, e2, e3⟩ => ?_)
  subst e1
  have M2 := M1.mdl e3
  obtain ⟨v2, ho2, hv2⟩ := M2.out
  refine zW.istore (pc' := 3158) dL_law_3156 rfl (Nat.le_of_ble_eq_true rfl) (zsS (zsS (zsS (zsS (zsS (zsS (zs0))))))) ?_
  refine zW.aload_n (pc' := 3159) dL_law_3158 rfl rfl (zgS (zgS (zg0))) rfl ?_
  refine zT.call (pc' := 3162) dL_law_3159 rfl l_X0_182 rfl rfl w_thrown zc0 rfl (Nat.le_of_ble_eq_true rfl) (Nat.le_of_ble_eq_true rfl) (Nat.le_of_ble_eq_true rfl) (fun _ T3 ⟨e1, e4⟩ => ?_)
  subst e1
  subst e4
  rw [e2]
  refine zW.iload (pc' := 3164) dL_law_3162 rfl (zgS (zgS (zgS (zgS (zgS (zg0)))))) ?_
  refine zW.icmp_eq (pc' := 3167) 3169 dL_law_3164 rfl (by decide) (fun b1 => ?_) (fun b1 => ?_)
  rotate_left
  · exact absurd rfl b1
  by_cases z : q.1 = 0
  · rw [z]
    refine zW.iload (pc' := 3171) dL_law_3169 rfl (zgS (zgS (zgS (zgS (zgS (zg0)))))) ?_
    refine zW.if_neN (pc' := 3174) 3186 dL_law_3171 rfl (by decide) (by omega) (fun b9 => absurd b9 (by omega)) (fun b9 => ?_)
    refine zW.aload_n (pc' := 3175) dL_law_3174 rfl rfl (zgS (zgS (zgS (zg0)))) rfl ?_
    refine zW.iconst (pc' := 3176) (nI 0) dL_law_3175 rfl (by decide) ?_
    refine zW.lald (pc' := 3177) dL_law_3176 rfl ho2 rfl (by decide) rfl ?_
    rw [hv2 z]
    refine zW.iload (pc' := 3179) dL_law_3177 rfl (zgS (zgS (zgS (zgS (zgS (zgS (zg0))))))) ?_
    refine zW.i2l (pc' := 3180) dL_law_3179 rfl ?_
    refine zW.lcmp (pc' := 3181) dL_law_3180 rfl ?_
    rw [zlc]
    refine zW.if_eq (pc' := 3184) 3186 dL_law_3181 rfl (by decide) (fun b1 => ?_) (fun b1 => ?_)
    rotate_left
    · exact absurd rfl b1
    refine zW.goto 3347 dL_law_3186 (by decide) ?_
    exact kont _ _ _ _ (M2.wk fun _ _ => trivial)
  · refine zW.iload (pc' := 3171) dL_law_3169 rfl (zgS (zgS (zgS (zgS (zgS (zg0)))))) ?_
    refine zW.if_neN (pc' := 3174) 3186 dL_law_3171 rfl (by decide) (by omega) (fun b9 => ?_) (fun b9 => absurd b9 (by omega))
    refine zW.goto 3347 dL_law_3186 (by decide) ?_
    exact kont _ _ _ _ (M2.wk fun _ _ => trivial)
theorem y_failedCommand {q : Nat × Int32 × sW} (hb : zg_k G b = some (1100, xs)) (hi : i < 200) (M0 : lwM G x o a w w (fun _ => True) S h) (hcl : ∀ U, cReg x 0 [] w h U → zK G mX1_failedCommand 40 R [.ref x] h (cOut x U h [eElt] q)) (hml : ∀ h0, zK G mX3_failedCommand 9 0 [.ref a.1] (tH h0 a S) (tO h0 a q.1 (.int q.2.1) q.2.2)) (kont : ∀ (h' : zH) (S' : tS) (v5 v6 : Value), lwM G x o a q.2.2 q.2.2 (fun _ => True) S' h' → zW G mL_law 42 r 3347 [.ref b, .ref x, .ref a.1, .ref o, .int (nI i), v5, v6] [] h' Q) {v5 v6 : Value} : zW G mL_law 42 (r + R) 3189 [.ref b, .ref x, .ref a.1, .ref o, .int (nI i), v5, v6] [] h Q := by
  obtain ⟨U, v, ⟨hG, hl⟩, hd, hT, ⟨ho, -⟩, hk⟩ := id M0
  obtain ⟨fs, hx⟩ := hG.cell
  refine zW.aload_n (pc' := 3190) dL_law_3189 rfl rfl (zgS (zg0)) rfl ?_
  refine zW.aload_n (pc' := 3191) dL_law_3190 rfl rfl (zgS (zgS (zgS (zg0)))) rfl ?_
  refine zW.callSH (r' := R) (pc' := 3194) dL_law_3191 rfl l_X0_378 rfl (x_failedCommand hx ho hd.1 (hcl U hG)) (zcc rfl (zcc rfl zc0)) rfl (Nat.le_of_ble_eq_true rfl) (Nat.le_of_ble_eq_true rfl) (Nat.le_of_ble_eq_true rfl) ?_ ?_
  rotate_left
  · intro E h9 q9
    cases q9.1
  intro v9 h9 q9
  obtain ⟨e1, q3, g1, g2, v1, ho1, hv1⟩ := q9
  cases e1
  have M1 : lwM G x o a q.2.2 w (fun v => q.1 = 0 → v = q.2.1.toInt64) S h9 := lwM.step hd hT ho hk g1 g2 ⟨ho1, hv1⟩
  refine zW.istore (pc' := 3196) dL_law_3194 rfl (Nat.le_of_ble_eq_true rfl) (zsS (zsS (zsS (zsS (zsS (zs0)))))) ?_
  refine zW.aload_n (pc' := 3197) dL_law_3196 rfl rfl (zgS (zgS (zg0))) rfl ?_
  refine zW.congr ?_ rfl rfl M1.eq
  refine zT.call (pc' := 3200) dL_law_3197 rfl l_X0_380 rfl rfl (hml _) zc0 rfl (Nat.le_of_ble_eq_true rfl) (Nat.le_of_ble_eq_true rfl) (Nat.le_of_ble_eq_true rfl) (fun _ T2 ⟨e1, e2, e3⟩ => ?_)
  subst e1
  have M2 := M1.mdl e3
  obtain ⟨v2, ho2, hv2⟩ := M2.out
  refine zW.istore (pc' := 3202) dL_law_3200 rfl (Nat.le_of_ble_eq_true rfl) (zsS (zsS (zsS (zsS (zsS (zsS (zs0))))))) ?_
  refine zW.aload_n (pc' := 3203) dL_law_3202 rfl rfl (zgS (zgS (zg0))) rfl ?_
  refine zT.call (pc' := 3206) dL_law_3203 rfl l_X0_182 rfl rfl w_thrown zc0 rfl (Nat.le_of_ble_eq_true rfl) (Nat.le_of_ble_eq_true rfl) (Nat.le_of_ble_eq_true rfl) (fun _ T3 ⟨e1, e4⟩ => ?_)
  subst e1
  subst e4
  rw [e2]
  refine zW.iload (pc' := 3208) dL_law_3206 rfl (zgS (zgS (zgS (zgS (zgS (zg0)))))) ?_
  refine zW.icmp_eq (pc' := 3211) 3213 dL_law_3208 rfl (by decide) (fun b1 => ?_) (fun b1 => ?_)
  rotate_left
  · exact absurd rfl b1
  by_cases z : q.1 = 0
  · rw [z]
    refine zW.iload (pc' := 3215) dL_law_3213 rfl (zgS (zgS (zgS (zgS (zgS (zg0)))))) ?_
    refine zW.if_neN (pc' := 3218) 3230 dL_law_3215 rfl (by decide) (by omega) (fun b9 => absurd b9 (by omega)) (fun b9 => ?_)
    refine zW.aload_n (pc' := 3219) dL_law_3218 rfl rfl (zgS (zgS (zgS (zg0)))) rfl ?_
    refine zW.iconst (pc' := 3220) (nI 0) dL_law_3219 rfl (by decide) ?_
    refine zW.lald (pc' := 3221) dL_law_3220 rfl ho2 rfl (by decide) rfl ?_
    rw [hv2 z]
    refine zW.iload (pc' := 3223) dL_law_3221 rfl (zgS (zgS (zgS (zgS (zgS (zgS (zg0))))))) ?_
    refine zW.i2l (pc' := 3224) dL_law_3223 rfl ?_
    refine zW.lcmp (pc' := 3225) dL_law_3224 rfl ?_
    rw [zlc]
    refine zW.if_eq (pc' := 3228) 3230 dL_law_3225 rfl (by decide) (fun b1 => ?_) (fun b1 => ?_)
    rotate_left
    · exact absurd rfl b1
    refine zW.goto 3347 dL_law_3230 (by decide) ?_
    exact kont _ _ _ _ (M2.wk fun _ _ => trivial)
  · refine zW.iload (pc' := 3215) dL_law_3213 rfl (zgS (zgS (zgS (zgS (zgS (zg0)))))) ?_
    refine zW.if_neN (pc' := 3218) 3230 dL_law_3215 rfl (by decide) (by omega) (fun b9 => ?_) (fun b9 => absurd b9 (by omega))
    refine zW.goto 3347 dL_law_3230 (by decide) ?_
    exact kont _ _ _ _ (M2.wk fun _ _ => trivial)
theorem y_undoableCount {q : Nat × Int32 × sW} (hb : zg_k G b = some (1100, xs)) (hi : i < 200) (M0 : lwM G x o a w w (fun _ => True) S h) (hcl : ∀ U, cReg x 0 [] w h U → zK G mX1_undoableCount 40 R [.ref x] h (cOut x U h [] q)) (hml : ∀ h0, zK G mX3_undoableCount 9 0 [.ref a.1] (tH h0 a S) (tO h0 a q.1 (.int q.2.1) q.2.2)) (kont : ∀ (h' : zH) (S' : tS) (v5 v6 : Value), lwM G x o a q.2.2 q.2.2 (fun _ => True) S' h' → zW G mL_law 42 r 3347 [.ref b, .ref x, .ref a.1, .ref o, .int (nI i), v5, v6] [] h' Q) {v5 v6 : Value} : zW G mL_law 42 (r + R) 3233 [.ref b, .ref x, .ref a.1, .ref o, .int (nI i), v5, v6] [] h Q := by
  obtain ⟨U, v, ⟨hG, hl⟩, hd, hT, ⟨ho, -⟩, hk⟩ := id M0
  obtain ⟨fs, hx⟩ := hG.cell
  refine zW.aload_n (pc' := 3234) dL_law_3233 rfl rfl (zgS (zg0)) rfl ?_
  refine zW.callV (r' := R) (pc' := 3237) dL_law_3234 rfl l_X0_381 rfl hx ⟨rfl, (Nat.le_of_ble_eq_true rfl)⟩ rfl ((hcl U hG)) zc0 rfl (Nat.le_of_ble_eq_true rfl) (Nat.le_of_ble_eq_true rfl) (Nat.le_of_ble_eq_true rfl) ?_ ?_
  rotate_left
  · intro E h9 q9
    obtain ⟨-, n, -, e1⟩ := q9.r
    cases e1
  intro v9 h9 q9
  obtain ⟨⟨g1, g2⟩, e0, e1⟩ := q9.l
  subst e1
  have M1 : lwM G x o a q.2.2 w (fun _ => True) S h9 := lwM.step hd hT ho hk g1 (g2.mono fun b hb => Or.inl (Or.inl hb)) ⟨g2.at ho hd.1, trivial⟩
  refine zW.aload_n (pc' := 3238) dL_law_3237 rfl rfl (zgS (zgS (zg0))) rfl ?_
  refine zW.congr ?_ rfl rfl M1.eq
  refine zT.call (pc' := 3241) dL_law_3238 rfl l_X0_384 rfl rfl (hml _) zc0 rfl (Nat.le_of_ble_eq_true rfl) (Nat.le_of_ble_eq_true rfl) (Nat.le_of_ble_eq_true rfl) (fun _ T2 ⟨e1, e2, e3⟩ => ?_)
  subst e1
  have M2 := M1.mdl e3
  refine zW.icmp_eq (pc' := 3244) 3347 dL_law_3241 rfl (by decide) (fun b1 => ?_) (fun b1 => ?_)
  rotate_left
  · exact absurd rfl b1
  exact kont _ _ _ _ (M2.wk fun _ _ => trivial)
theorem y_undo {q : Nat × Int32 × sW} (hb : zg_k G b = some (1100, xs)) (hi : i < 200) (M0 : lwM G x o a w w (fun _ => True) S h) (hcl : ∀ U, cReg x 0 [] w h U → zK G mX1_undo 40 R [.ref x] h (cOut x U h [eSta] q)) (hml : ∀ h0, zK G mX3_undo 9 0 [.ref a.1] (tH h0 a S) (tO h0 a q.1 (.int q.2.1) q.2.2)) (kont : ∀ (h' : zH) (S' : tS) (v5 v6 : Value), lwM G x o a q.2.2 q.2.2 (fun _ => True) S' h' → zW G mL_law 42 r 3347 [.ref b, .ref x, .ref a.1, .ref o, .int (nI i), v5, v6] [] h' Q) {v5 v6 : Value} : zW G mL_law 42 (r + R) 3246 [.ref b, .ref x, .ref a.1, .ref o, .int (nI i), v5, v6] [] h Q := by
  obtain ⟨U, v, ⟨hG, hl⟩, hd, hT, ⟨ho, -⟩, hk⟩ := id M0
  obtain ⟨fs, hx⟩ := hG.cell
  refine zW.aload_n (pc' := 3247) dL_law_3246 rfl rfl (zgS (zg0)) rfl ?_
  refine zW.aload_n (pc' := 3248) dL_law_3247 rfl rfl (zgS (zgS (zgS (zg0)))) rfl ?_
  refine zW.callSH (r' := R) (pc' := 3251) dL_law_3248 rfl l_X0_385 rfl (x_undo hx ho hd.1 (hcl U hG)) (zcc rfl (zcc rfl zc0)) rfl (Nat.le_of_ble_eq_true rfl) (Nat.le_of_ble_eq_true rfl) (Nat.le_of_ble_eq_true rfl) ?_ ?_
  rotate_left
  · intro E h9 q9
    cases q9.1
  intro v9 h9 q9
  obtain ⟨e1, q3, g1, g2, v1, ho1, hv1⟩ := q9
  cases e1
  have M1 : lwM G x o a q.2.2 w (fun v => q.1 = 0 → v = q.2.1.toInt64) S h9 := lwM.step hd hT ho hk g1 g2 ⟨ho1, hv1⟩
  refine zW.istore (pc' := 3253) dL_law_3251 rfl (Nat.le_of_ble_eq_true rfl) (zsS (zsS (zsS (zsS (zsS (zs0)))))) ?_
  refine zW.aload_n (pc' := 3254) dL_law_3253 rfl rfl (zgS (zgS (zg0))) rfl ?_
  refine zW.congr ?_ rfl rfl M1.eq
  refine zT.call (pc' := 3257) dL_law_3254 rfl l_X0_387 rfl rfl (hml _) zc0 rfl (Nat.le_of_ble_eq_true rfl) (Nat.le_of_ble_eq_true rfl) (Nat.le_of_ble_eq_true rfl) (fun _ T2 ⟨e1, e2, e3⟩ => ?_)
  subst e1
  have M2 := M1.mdl e3
  obtain ⟨v2, ho2, hv2⟩ := M2.out
  refine zW.istore (pc' := 3259) dL_law_3257 rfl (Nat.le_of_ble_eq_true rfl) (zsS (zsS (zsS (zsS (zsS (zsS (zs0))))))) ?_
  refine zW.aload_n (pc' := 3260) dL_law_3259 rfl rfl (zgS (zgS (zg0))) rfl ?_
  refine zT.call (pc' := 3263) dL_law_3260 rfl l_X0_182 rfl rfl w_thrown zc0 rfl (Nat.le_of_ble_eq_true rfl) (Nat.le_of_ble_eq_true rfl) (Nat.le_of_ble_eq_true rfl) (fun _ T3 ⟨e1, e4⟩ => ?_)
  subst e1
  subst e4
  rw [e2]
  refine zW.iload (pc' := 3265) dL_law_3263 rfl (zgS (zgS (zgS (zgS (zgS (zg0)))))) ?_
  refine zW.icmp_eq (pc' := 3268) 3270 dL_law_3265 rfl (by decide) (fun b1 => ?_) (fun b1 => ?_)
  rotate_left
  · exact absurd rfl b1
  by_cases z : q.1 = 0
  · rw [z]
    refine zW.iload (pc' := 3272) dL_law_3270 rfl (zgS (zgS (zgS (zgS (zgS (zg0)))))) ?_
    refine zW.if_neN (pc' := 3275) 3287 dL_law_3272 rfl (by decide) (by omega) (fun b9 => absurd b9 (by omega)) (fun b9 => ?_)
    refine zW.aload_n (pc' := 3276) dL_law_3275 rfl rfl (zgS (zgS (zgS (zg0)))) rfl ?_
    refine zW.iconst (pc' := 3277) (nI 0) dL_law_3276 rfl (by decide) ?_
    refine zW.lald (pc' := 3278) dL_law_3277 rfl ho2 rfl (by decide) rfl ?_
    rw [hv2 z]
    refine zW.iload (pc' := 3280) dL_law_3278 rfl (zgS (zgS (zgS (zgS (zgS (zgS (zg0))))))) ?_
    refine zW.i2l (pc' := 3281) dL_law_3280 rfl ?_
    refine zW.lcmp (pc' := 3282) dL_law_3281 rfl ?_
    rw [zlc]
    refine zW.if_eq (pc' := 3285) 3287 dL_law_3282 rfl (by decide) (fun b1 => ?_) (fun b1 => ?_)
    rotate_left
    · exact absurd rfl b1
    refine zW.goto 3347 dL_law_3287 (by decide) ?_
    exact kont _ _ _ _ (M2.wk fun _ _ => trivial)
  · refine zW.iload (pc' := 3272) dL_law_3270 rfl (zgS (zgS (zgS (zgS (zgS (zg0)))))) ?_
    refine zW.if_neN (pc' := 3275) 3287 dL_law_3272 rfl (by decide) (by omega) (fun b9 => ?_) (fun b9 => absurd b9 (by omega))
    refine zW.goto 3347 dL_law_3287 (by decide) ?_
    exact kont _ _ _ _ (M2.wk fun _ _ => trivial)
theorem y_save {q : Nat × Int32 × sW} (hb : zg_k G b = some (1100, xs)) (hi : i < 200) (M0 : lwM G x o a w w (fun _ => True) S h) (hcl : ∀ U, cReg x 0 [] w h U → zK G mX1_save 40 R [.ref x] h (cOut x U h [] q)) (hml : ∀ h0, zK G mX3_save 9 0 [.ref a.1] (tH h0 a S) (tO h0 a q.1 (.int q.2.1) q.2.2)) (kont : ∀ (h' : zH) (S' : tS) (v5 v6 : Value), lwM G x o a q.2.2 q.2.2 (fun _ => True) S' h' → zW G mL_law 42 r 3347 [.ref b, .ref x, .ref a.1, .ref o, .int (nI i), v5, v6] [] h' Q) {v5 v6 : Value} : zW G mL_law 42 (r + R) 3290 [.ref b, .ref x, .ref a.1, .ref o, .int (nI i), v5, v6] [] h Q := by
  obtain ⟨U, v, ⟨hG, hl⟩, hd, hT, ⟨ho, -⟩, hk⟩ := id M0
  obtain ⟨fs, hx⟩ := hG.cell
  refine zW.aload_n (pc' := 3291) dL_law_3290 rfl rfl (zgS (zg0)) rfl ?_
  refine zW.callV (r' := R) (pc' := 3294) dL_law_3291 rfl l_X0_388 rfl hx ⟨rfl, (Nat.le_of_ble_eq_true rfl)⟩ rfl ((hcl U hG)) zc0 rfl (Nat.le_of_ble_eq_true rfl) (Nat.le_of_ble_eq_true rfl) (Nat.le_of_ble_eq_true rfl) ?_ ?_
  rotate_left
  · intro E h9 q9
    obtain ⟨-, n, -, e1⟩ := q9.r
    cases e1
  intro v9 h9 q9
  obtain ⟨⟨g1, g2⟩, e0, e1⟩ := q9.l
  subst e1
  have M1 : lwM G x o a q.2.2 w (fun _ => True) S h9 := lwM.step hd hT ho hk g1 (g2.mono fun b hb => Or.inl (Or.inl hb)) ⟨g2.at ho hd.1, trivial⟩
  refine zW.aload_n (pc' := 3295) dL_law_3294 rfl rfl (zgS (zgS (zg0))) rfl ?_
  refine zW.congr ?_ rfl rfl M1.eq
  refine zT.call (pc' := 3298) dL_law_3295 rfl l_X0_391 rfl rfl (hml _) zc0 rfl (Nat.le_of_ble_eq_true rfl) (Nat.le_of_ble_eq_true rfl) (Nat.le_of_ble_eq_true rfl) (fun _ T2 ⟨e1, e2, e3⟩ => ?_)
  subst e1
  have M2 := M1.mdl e3
  refine zW.icmp_eq (pc' := 3301) 3347 dL_law_3298 rfl (by decide) (fun b1 => ?_) (fun b1 => ?_)
  rotate_left
  · exact absurd rfl b1
  exact kont _ _ _ _ (M2.wk fun _ _ => trivial)
theorem y_restore {q : Nat × Int32 × sW} (hb : zg_k G b = some (1100, xs)) (hi : i < 200) (M0 : lwM G x o a w w (fun _ => True) S h) (hcl : ∀ U, cReg x 0 [] w h U → zK G mX1_restore 40 R [.ref x] h (cOut x U h [eSta] q)) (hml : ∀ h0, zK G mX3_restore 9 0 [.ref a.1] (tH h0 a S) (tO h0 a q.1 (.int q.2.1) q.2.2)) (kont : ∀ (h' : zH) (S' : tS) (v5 v6 : Value), lwM G x o a q.2.2 q.2.2 (fun _ => True) S' h' → zW G mL_law 42 r 3347 [.ref b, .ref x, .ref a.1, .ref o, .int (nI i), v5, v6] [] h' Q) {v5 v6 : Value} : zW G mL_law 42 (r + R) 3303 [.ref b, .ref x, .ref a.1, .ref o, .int (nI i), v5, v6] [] h Q := by
  obtain ⟨U, v, ⟨hG, hl⟩, hd, hT, ⟨ho, -⟩, hk⟩ := id M0
  obtain ⟨fs, hx⟩ := hG.cell
  refine zW.aload_n (pc' := 3304) dL_law_3303 rfl rfl (zgS (zg0)) rfl ?_
  refine zW.aload_n (pc' := 3305) dL_law_3304 rfl rfl (zgS (zgS (zgS (zg0)))) rfl ?_
  refine zW.callSH (r' := R) (pc' := 3308) dL_law_3305 rfl l_X0_392 rfl (x_restore hx ho hd.1 (hcl U hG)) (zcc rfl (zcc rfl zc0)) rfl (Nat.le_of_ble_eq_true rfl) (Nat.le_of_ble_eq_true rfl) (Nat.le_of_ble_eq_true rfl) ?_ ?_
  rotate_left
  · intro E h9 q9
    cases q9.1
  intro v9 h9 q9
  obtain ⟨e1, q3, g1, g2, v1, ho1, hv1⟩ := q9
  cases e1
  have M1 : lwM G x o a q.2.2 w (fun v => q.1 = 0 → v = q.2.1.toInt64) S h9 := lwM.step hd hT ho hk g1 g2 ⟨ho1, hv1⟩
  refine zW.istore (pc' := 3310) dL_law_3308 rfl (Nat.le_of_ble_eq_true rfl) (zsS (zsS (zsS (zsS (zsS (zs0)))))) ?_
  refine zW.aload_n (pc' := 3311) dL_law_3310 rfl rfl (zgS (zgS (zg0))) rfl ?_
  refine zW.congr ?_ rfl rfl M1.eq
  refine zT.call (pc' := 3314) dL_law_3311 rfl l_X0_394 rfl rfl (hml _) zc0 rfl (Nat.le_of_ble_eq_true rfl) (Nat.le_of_ble_eq_true rfl) (Nat.le_of_ble_eq_true rfl) (fun _ T2 ⟨e1, e2, e3⟩ => ?_)
  subst e1
  have M2 := M1.mdl e3
  obtain ⟨v2, ho2, hv2⟩ := M2.out
  refine zW.istore (pc' := 3316) dL_law_3314 rfl (Nat.le_of_ble_eq_true rfl) (zsS (zsS (zsS (zsS (zsS (zsS (zs0))))))) ?_
  refine zW.aload_n (pc' := 3317) dL_law_3316 rfl rfl (zgS (zgS (zg0))) rfl ?_
  refine zT.call (pc' := 3320) dL_law_3317 rfl l_X0_182 rfl rfl w_thrown zc0 rfl (Nat.le_of_ble_eq_true rfl) (Nat.le_of_ble_eq_true rfl) (Nat.le_of_ble_eq_true rfl) (fun _ T3 ⟨e1, e4⟩ => ?_)
  subst e1
  subst e4
  rw [e2]
  refine zW.iload (pc' := 3322) dL_law_3320 rfl (zgS (zgS (zgS (zgS (zgS (zg0)))))) ?_
  refine zW.icmp_eq (pc' := 3325) 3327 dL_law_3322 rfl (by decide) (fun b1 => ?_) (fun b1 => ?_)
  rotate_left
  · exact absurd rfl b1
  by_cases z : q.1 = 0
  · rw [z]
    refine zW.iload (pc' := 3329) dL_law_3327 rfl (zgS (zgS (zgS (zgS (zgS (zg0)))))) ?_
    refine zW.if_neN (pc' := 3332) 3344 dL_law_3329 rfl (by decide) (by omega) (fun b9 => absurd b9 (by omega)) (fun b9 => ?_)
    refine zW.aload_n (pc' := 3333) dL_law_3332 rfl rfl (zgS (zgS (zgS (zg0)))) rfl ?_
    refine zW.iconst (pc' := 3334) (nI 0) dL_law_3333 rfl (by decide) ?_
    refine zW.lald (pc' := 3335) dL_law_3334 rfl ho2 rfl (by decide) rfl ?_
    rw [hv2 z]
    refine zW.iload (pc' := 3337) dL_law_3335 rfl (zgS (zgS (zgS (zgS (zgS (zgS (zg0))))))) ?_
    refine zW.i2l (pc' := 3338) dL_law_3337 rfl ?_
    refine zW.lcmp (pc' := 3339) dL_law_3338 rfl ?_
    rw [zlc]
    refine zW.if_eq (pc' := 3342) 3344 dL_law_3339 rfl (by decide) (fun b1 => ?_) (fun b1 => ?_)
    rotate_left
    · exact absurd rfl b1
    refine zW.goto 3347 dL_law_3344 (by decide) ?_
    exact kont _ _ _ _ (M2.wk fun _ _ => trivial)
  · refine zW.iload (pc' := 3329) dL_law_3327 rfl (zgS (zgS (zgS (zgS (zgS (zg0)))))) ?_
    refine zW.if_neN (pc' := 3332) 3344 dL_law_3329 rfl (by decide) (by omega) (fun b9 => ?_) (fun b9 => absurd b9 (by omega))
    refine zW.goto 3347 dL_law_3344 (by decide) ?_
    exact kont _ _ _ _ (M2.wk fun _ _ => trivial)
end
