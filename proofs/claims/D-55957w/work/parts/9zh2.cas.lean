/-! THE LAW: its cases (printed by mk9zh.py) -/
section
set_option maxRecDepth 100000
variable {G : zG} {h : zH} {Q : zR → zH → Prop} {x o b i R r : Nat} {a : tA} {w : sW} {S : tS} {xs : List Value} {lv : Int64}
theorem y_weight {y1 : Int32} {q : Nat × Int32 × sW} (hb : zg_k G b = some (1100, xs)) (hy1 : xs[i + 1]? = some (.int y1)) (hi : i < 200) (M0 : lwM G x o a w w (fun _ => True) S h) (hcl : ∀ U, cReg x 0 [] w h U → zK G mX1_weight 40 R [.ref x, .int y1] h (cOut x U h [eElt] q)) (hml : ∀ h0, zK G mX3_weight 9 0 [.ref a.1, .int y1] (tH h0 a S) (tO h0 a q.1 (.int q.2.1) q.2.2)) (kont : ∀ (h' : zH) (S' : tS) (v5 v6 : Value), lwM G x o a q.2.2 q.2.2 (fun _ => True) S' h' → zW G mL_law 42 r 3347 [.ref b, .ref x, .ref a.1, .ref o, .int (nI i), v5, v6] [] h' Q) {v5 v6 : Value} : zW G mL_law 42 (r + R) 1073 [.ref b, .ref x, .ref a.1, .ref o, .int (nI i), v5, v6] [] h Q := by
  obtain ⟨U, v, ⟨hG, hl⟩, hd, hT, ⟨ho, -⟩, hk⟩ := id M0
  obtain ⟨fs, hx⟩ := hG.cell
  have hbh := M0.scr hb
  refine zW.aload_n (pc' := 1074) dL_law_1073 rfl rfl (zgS (zg0)) rfl ?_
  refine zW.aload_n (pc' := 1075) dL_law_1074 rfl rfl zg0 rfl ?_
  refine zW.iload (pc' := 1077) dL_law_1075 rfl (zgS (zgS (zgS (zgS (zg0))))) ?_
  refine zW.iconst (pc' := 1078) (nI 1) dL_law_1077 rfl (by decide) ?_
  refine zW.iaddN (pc' := 1079) dL_law_1078 rfl ?_
  refine zW.scr (pc' := 1080) dL_law_1079 rfl hbh hy1 (by omega) ?_
  refine zW.aload_n (pc' := 1081) dL_law_1080 rfl rfl (zgS (zgS (zgS (zg0)))) rfl ?_
  refine zW.callSH (r' := R) (pc' := 1084) dL_law_1081 rfl l_X0_237 rfl (x_weight hx ho hd.1 (hcl U hG)) (zcc rfl (zcc rfl (zcc rfl zc0))) rfl (Nat.le_of_ble_eq_true rfl) (Nat.le_of_ble_eq_true rfl) (Nat.le_of_ble_eq_true rfl) ?_ ?_
  rotate_left
  · intro E h9 q9
    cases q9.1
  intro v9 h9 q9
  obtain ⟨e1, q3, g1, g2, v1, ho1, hv1⟩ := q9
  cases e1
  have M1 : lwM G x o a q.2.2 w (fun v => q.1 = 0 → v = q.2.1.toInt64) S h9 := lwM.step hd hT ho hk g1 g2 ⟨ho1, hv1⟩
  have hbh := M1.scr hb
  refine zW.istore (pc' := 1086) dL_law_1084 rfl (Nat.le_of_ble_eq_true rfl) (zsS (zsS (zsS (zsS (zsS (zs0)))))) ?_
  refine zW.aload_n (pc' := 1087) dL_law_1086 rfl rfl (zgS (zgS (zg0))) rfl ?_
  refine zW.aload_n (pc' := 1088) dL_law_1087 rfl rfl zg0 rfl ?_
  refine zW.iload (pc' := 1090) dL_law_1088 rfl (zgS (zgS (zgS (zgS (zg0))))) ?_
  refine zW.iconst (pc' := 1091) (nI 1) dL_law_1090 rfl (by decide) ?_
  refine zW.iaddN (pc' := 1092) dL_law_1091 rfl ?_
  refine zW.scr (pc' := 1093) dL_law_1092 rfl hbh hy1 (by omega) ?_
  refine zW.congr ?_ rfl rfl M1.eq
  refine zT.call (pc' := 1096) dL_law_1093 rfl l_X0_239 rfl rfl (hml _) (zcc rfl zc0) rfl (Nat.le_of_ble_eq_true rfl) (Nat.le_of_ble_eq_true rfl) (Nat.le_of_ble_eq_true rfl) (fun _ T2 ⟨e1, e2, e3⟩ => ?_)
  subst e1
  have M2 := M1.mdl e3
  obtain ⟨v2, ho2, hv2⟩ := M2.out
  refine zW.istore (pc' := 1098) dL_law_1096 rfl (Nat.le_of_ble_eq_true rfl) (zsS (zsS (zsS (zsS (zsS (zsS (zs0))))))) ?_
  refine zW.aload_n (pc' := 1099) dL_law_1098 rfl rfl (zgS (zgS (zg0))) rfl ?_
  refine zT.call (pc' := 1102) dL_law_1099 rfl l_X0_182 rfl rfl w_thrown zc0 rfl (Nat.le_of_ble_eq_true rfl) (Nat.le_of_ble_eq_true rfl) (Nat.le_of_ble_eq_true rfl) (fun _ T3 ⟨e1, e4⟩ => ?_)
  subst e1
  subst e4
  rw [e2]
  refine zW.iload (pc' := 1104) dL_law_1102 rfl (zgS (zgS (zgS (zgS (zgS (zg0)))))) ?_
  refine zW.icmp_eq (pc' := 1107) 1109 dL_law_1104 rfl (by decide) (fun b1 => ?_) (fun b1 => ?_)
  rotate_left
  · exact absurd rfl b1
  by_cases z : q.1 = 0
  · rw [z]
    refine zW.iload (pc' := 1111) dL_law_1109 rfl (zgS (zgS (zgS (zgS (zgS (zg0)))))) ?_
    refine zW.if_neN (pc' := 1114) 1126 dL_law_1111 rfl (by decide) (by omega) (fun b9 => absurd b9 (by omega)) (fun b9 => ?_)
    refine zW.aload_n (pc' := 1115) dL_law_1114 rfl rfl (zgS (zgS (zgS (zg0)))) rfl ?_
    refine zW.iconst (pc' := 1116) (nI 0) dL_law_1115 rfl (by decide) ?_
    refine zW.lald (pc' := 1117) dL_law_1116 rfl ho2 rfl (by decide) rfl ?_
    rw [hv2 z]
    refine zW.iload (pc' := 1119) dL_law_1117 rfl (zgS (zgS (zgS (zgS (zgS (zgS (zg0))))))) ?_
    refine zW.i2l (pc' := 1120) dL_law_1119 rfl ?_
    refine zW.lcmp (pc' := 1121) dL_law_1120 rfl ?_
    rw [zlc]
    refine zW.if_eq (pc' := 1124) 1126 dL_law_1121 rfl (by decide) (fun b1 => ?_) (fun b1 => ?_)
    rotate_left
    · exact absurd rfl b1
    refine zW.goto 3347 dL_law_1126 (by decide) ?_
    exact kont _ _ _ _ (M2.wk fun _ _ => trivial)
  · refine zW.iload (pc' := 1111) dL_law_1109 rfl (zgS (zgS (zgS (zgS (zgS (zg0)))))) ?_
    refine zW.if_neN (pc' := 1114) 1126 dL_law_1111 rfl (by decide) (by omega) (fun b9 => ?_) (fun b9 => absurd b9 (by omega))
    refine zW.goto 3347 dL_law_1126 (by decide) ?_
    exact kont _ _ _ _ (M2.wk fun _ _ => trivial)
theorem y_expiry {y1 : Int32} {q : Nat × Int32 × sW} (hb : zg_k G b = some (1100, xs)) (hy1 : xs[i + 1]? = some (.int y1)) (hi : i < 200) (M0 : lwM G x o a w w (fun _ => True) S h) (hcl : ∀ U, cReg x 0 [] w h U → zK G mX1_expiry 40 R [.ref x, .int y1] h (cOut x U h [eElt] q)) (hml : ∀ h0, zK G mX3_expiry 9 0 [.ref a.1, .int y1] (tH h0 a S) (tO h0 a q.1 (.int q.2.1) q.2.2)) (kont : ∀ (h' : zH) (S' : tS) (v5 v6 : Value), lwM G x o a q.2.2 q.2.2 (fun _ => True) S' h' → zW G mL_law 42 r 3347 [.ref b, .ref x, .ref a.1, .ref o, .int (nI i), v5, v6] [] h' Q) {v5 v6 : Value} : zW G mL_law 42 (r + R) 1129 [.ref b, .ref x, .ref a.1, .ref o, .int (nI i), v5, v6] [] h Q := by
  obtain ⟨U, v, ⟨hG, hl⟩, hd, hT, ⟨ho, -⟩, hk⟩ := id M0
  obtain ⟨fs, hx⟩ := hG.cell
  have hbh := M0.scr hb
  refine zW.aload_n (pc' := 1130) dL_law_1129 rfl rfl (zgS (zg0)) rfl ?_
  refine zW.aload_n (pc' := 1131) dL_law_1130 rfl rfl zg0 rfl ?_
  refine zW.iload (pc' := 1133) dL_law_1131 rfl (zgS (zgS (zgS (zgS (zg0))))) ?_
  refine zW.iconst (pc' := 1134) (nI 1) dL_law_1133 rfl (by decide) ?_
  refine zW.iaddN (pc' := 1135) dL_law_1134 rfl ?_
  refine zW.scr (pc' := 1136) dL_law_1135 rfl hbh hy1 (by omega) ?_
  refine zW.aload_n (pc' := 1137) dL_law_1136 rfl rfl (zgS (zgS (zgS (zg0)))) rfl ?_
  refine zW.callSH (r' := R) (pc' := 1140) dL_law_1137 rfl l_X0_240 rfl (x_expiry hx ho hd.1 (hcl U hG)) (zcc rfl (zcc rfl (zcc rfl zc0))) rfl (Nat.le_of_ble_eq_true rfl) (Nat.le_of_ble_eq_true rfl) (Nat.le_of_ble_eq_true rfl) ?_ ?_
  rotate_left
  · intro E h9 q9
    cases q9.1
  intro v9 h9 q9
  obtain ⟨e1, q3, g1, g2, v1, ho1, hv1⟩ := q9
  cases e1
  have M1 : lwM G x o a q.2.2 w (fun v => q.1 = 0 → v = q.2.1.toInt64) S h9 := lwM.step hd hT ho hk g1 g2 ⟨ho1, hv1⟩
  have hbh := M1.scr hb
  refine zW.istore (pc' := 1142) dL_law_1140 rfl (Nat.le_of_ble_eq_true rfl) (zsS (zsS (zsS (zsS (zsS (zs0)))))) ?_
  refine zW.aload_n (pc' := 1143) dL_law_1142 rfl rfl (zgS (zgS (zg0))) rfl ?_
  refine zW.aload_n (pc' := 1144) dL_law_1143 rfl rfl zg0 rfl ?_
  refine zW.iload (pc' := 1146) dL_law_1144 rfl (zgS (zgS (zgS (zgS (zg0))))) ?_
  refine zW.iconst (pc' := 1147) (nI 1) dL_law_1146 rfl (by decide) ?_
  refine zW.iaddN (pc' := 1148) dL_law_1147 rfl ?_
  refine zW.scr (pc' := 1149) dL_law_1148 rfl hbh hy1 (by omega) ?_
  refine zW.congr ?_ rfl rfl M1.eq
  refine zT.call (pc' := 1152) dL_law_1149 rfl l_X0_242 rfl rfl (hml _) (zcc rfl zc0) rfl (Nat.le_of_ble_eq_true rfl) (Nat.le_of_ble_eq_true rfl) (Nat.le_of_ble_eq_true rfl) (fun _ T2 ⟨e1, e2, e3⟩ => ?_)
  subst e1
  have M2 := M1.mdl e3
  obtain ⟨v2, ho2, hv2⟩ := M2.out
  refine zW.istore (pc' := 1154) dL_law_1152 rfl (Nat.le_of_ble_eq_true rfl) (zsS (zsS (zsS (zsS (zsS (zsS (zs0))))))) ?_
  refine zW.aload_n (pc' := 1155) dL_law_1154 rfl rfl (zgS (zgS (zg0))) rfl ?_
  refine zT.call (pc' := 1158) dL_law_1155 rfl l_X0_182 rfl rfl w_thrown zc0 rfl (Nat.le_of_ble_eq_true rfl) (Nat.le_of_ble_eq_true rfl) (Nat.le_of_ble_eq_true rfl) (fun _ T3 ⟨e1, e4⟩ => ?_)
  subst e1
  subst e4
  rw [e2]
  refine zW.iload (pc' := 1160) dL_law_1158 rfl (zgS (zgS (zgS (zgS (zgS (zg0)))))) ?_
  refine zW.icmp_eq (pc' := 1163) 1165 dL_law_1160 rfl (by decide) (fun b1 => ?_) (fun b1 => ?_)
  rotate_left
  · exact absurd rfl b1
  by_cases z : q.1 = 0
  · rw [z]
    refine zW.iload (pc' := 1167) dL_law_1165 rfl (zgS (zgS (zgS (zgS (zgS (zg0)))))) ?_
    refine zW.if_neN (pc' := 1170) 1182 dL_law_1167 rfl (by decide) (by omega) (fun b9 => absurd b9 (by omega)) (fun b9 => ?_)
    refine zW.aload_n (pc' := 1171) dL_law_1170 rfl rfl (zgS (zgS (zgS (zg0)))) rfl ?_
    refine zW.iconst (pc' := 1172) (nI 0) dL_law_1171 rfl (by decide) ?_
    refine zW.lald (pc' := 1173) dL_law_1172 rfl ho2 rfl (by decide) rfl ?_
    rw [hv2 z]
    refine zW.iload (pc' := 1175) dL_law_1173 rfl (zgS (zgS (zgS (zgS (zgS (zgS (zg0))))))) ?_
    refine zW.i2l (pc' := 1176) dL_law_1175 rfl ?_
    refine zW.lcmp (pc' := 1177) dL_law_1176 rfl ?_
    rw [zlc]
    refine zW.if_eq (pc' := 1180) 1182 dL_law_1177 rfl (by decide) (fun b1 => ?_) (fun b1 => ?_)
    rotate_left
    · exact absurd rfl b1
    refine zW.goto 3347 dL_law_1182 (by decide) ?_
    exact kont _ _ _ _ (M2.wk fun _ _ => trivial)
  · refine zW.iload (pc' := 1167) dL_law_1165 rfl (zgS (zgS (zgS (zgS (zgS (zg0)))))) ?_
    refine zW.if_neN (pc' := 1170) 1182 dL_law_1167 rfl (by decide) (by omega) (fun b9 => ?_) (fun b9 => absurd b9 (by omega))
    refine zW.goto 3347 dL_law_1182 (by decide) ?_
    exact kont _ _ _ _ (M2.wk fun _ _ => trivial)
theorem y_strikes {y1 : Int32} {q : Nat × Int32 × sW} (hb : zg_k G b = some (1100, xs)) (hy1 : xs[i + 1]? = some (.int y1)) (hi : i < 200) (M0 : lwM G x o a w w (fun _ => True) S h) (hcl : ∀ U, cReg x 0 [] w h U → zK G mX1_strikes 40 R [.ref x, .int y1] h (cOut x U h [eElt] q)) (hml : ∀ h0, zK G mX3_strikes 9 0 [.ref a.1, .int y1] (tH h0 a S) (tO h0 a q.1 (.int q.2.1) q.2.2)) (kont : ∀ (h' : zH) (S' : tS) (v5 v6 : Value), lwM G x o a q.2.2 q.2.2 (fun _ => True) S' h' → zW G mL_law 42 r 3347 [.ref b, .ref x, .ref a.1, .ref o, .int (nI i), v5, v6] [] h' Q) {v5 v6 : Value} : zW G mL_law 42 (r + R) 1185 [.ref b, .ref x, .ref a.1, .ref o, .int (nI i), v5, v6] [] h Q := by
  obtain ⟨U, v, ⟨hG, hl⟩, hd, hT, ⟨ho, -⟩, hk⟩ := id M0
  obtain ⟨fs, hx⟩ := hG.cell
  have hbh := M0.scr hb
  refine zW.aload_n (pc' := 1186) dL_law_1185 rfl rfl (zgS (zg0)) rfl ?_
  refine zW.aload_n (pc' := 1187) dL_law_1186 rfl rfl zg0 rfl ?_
  refine zW.iload (pc' := 1189) dL_law_1187 rfl (zgS (zgS (zgS (zgS (zg0))))) ?_
  refine zW.iconst (pc' := 1190) (nI 1) dL_law_1189 rfl (by decide) ?_
  refine zW.iaddN (pc' := 1191) dL_law_1190 rfl ?_
  refine zW.scr (pc' := 1192) dL_law_1191 rfl hbh hy1 (by omega) ?_
  refine zW.aload_n (pc' := 1193) dL_law_1192 rfl rfl (zgS (zgS (zgS (zg0)))) rfl ?_
  refine zW.callSH (r' := R) (pc' := 1196) dL_law_1193 rfl l_X0_243 rfl (x_strikes hx ho hd.1 (hcl U hG)) (zcc rfl (zcc rfl (zcc rfl zc0))) rfl (Nat.le_of_ble_eq_true rfl) (Nat.le_of_ble_eq_true rfl) (Nat.le_of_ble_eq_true rfl) ?_ ?_
  rotate_left
  · intro E h9 q9
    cases q9.1
  intro v9 h9 q9
  obtain ⟨e1, q3, g1, g2, v1, ho1, hv1⟩ := q9
  cases e1
  have M1 : lwM G x o a q.2.2 w (fun v => q.1 = 0 → v = q.2.1.toInt64) S h9 := lwM.step hd hT ho hk g1 g2 ⟨ho1, hv1⟩
  have hbh := M1.scr hb
  refine zW.istore (pc' := 1198) dL_law_1196 rfl (Nat.le_of_ble_eq_true rfl) (zsS (zsS (zsS (zsS (zsS (zs0)))))) ?_
  refine zW.aload_n (pc' := 1199) dL_law_1198 rfl rfl (zgS (zgS (zg0))) rfl ?_
  refine zW.aload_n (pc' := 1200) dL_law_1199 rfl rfl zg0 rfl ?_
  refine zW.iload (pc' := 1202) dL_law_1200 rfl (zgS (zgS (zgS (zgS (zg0))))) ?_
  refine zW.iconst (pc' := 1203) (nI 1) dL_law_1202 rfl (by decide) ?_
  refine zW.iaddN (pc' := 1204) dL_law_1203 rfl ?_
  refine zW.scr (pc' := 1205) dL_law_1204 rfl hbh hy1 (by omega) ?_
  refine zW.congr ?_ rfl rfl M1.eq
  refine zT.call (pc' := 1208) dL_law_1205 rfl l_X0_245 rfl rfl (hml _) (zcc rfl zc0) rfl (Nat.le_of_ble_eq_true rfl) (Nat.le_of_ble_eq_true rfl) (Nat.le_of_ble_eq_true rfl) (fun _ T2 ⟨e1, e2, e3⟩ => ?_)
  subst e1
  have M2 := M1.mdl e3
  obtain ⟨v2, ho2, hv2⟩ := M2.out
  refine zW.istore (pc' := 1210) dL_law_1208 rfl (Nat.le_of_ble_eq_true rfl) (zsS (zsS (zsS (zsS (zsS (zsS (zs0))))))) ?_
  refine zW.aload_n (pc' := 1211) dL_law_1210 rfl rfl (zgS (zgS (zg0))) rfl ?_
  refine zT.call (pc' := 1214) dL_law_1211 rfl l_X0_182 rfl rfl w_thrown zc0 rfl (Nat.le_of_ble_eq_true rfl) (Nat.le_of_ble_eq_true rfl) (Nat.le_of_ble_eq_true rfl) (fun _ T3 ⟨e1, e4⟩ => ?_)
  subst e1
  subst e4
  rw [e2]
  refine zW.iload (pc' := 1216) dL_law_1214 rfl (zgS (zgS (zgS (zgS (zgS (zg0)))))) ?_
  refine zW.icmp_eq (pc' := 1219) 1221 dL_law_1216 rfl (by decide) (fun b1 => ?_) (fun b1 => ?_)
  rotate_left
  · exact absurd rfl b1
  by_cases z : q.1 = 0
  · rw [z]
    refine zW.iload (pc' := 1223) dL_law_1221 rfl (zgS (zgS (zgS (zgS (zgS (zg0)))))) ?_
    refine zW.if_neN (pc' := 1226) 1238 dL_law_1223 rfl (by decide) (by omega) (fun b9 => absurd b9 (by omega)) (fun b9 => ?_)
    refine zW.aload_n (pc' := 1227) dL_law_1226 rfl rfl (zgS (zgS (zgS (zg0)))) rfl ?_
    refine zW.iconst (pc' := 1228) (nI 0) dL_law_1227 rfl (by decide) ?_
    refine zW.lald (pc' := 1229) dL_law_1228 rfl ho2 rfl (by decide) rfl ?_
    rw [hv2 z]
    refine zW.iload (pc' := 1231) dL_law_1229 rfl (zgS (zgS (zgS (zgS (zgS (zgS (zg0))))))) ?_
    refine zW.i2l (pc' := 1232) dL_law_1231 rfl ?_
    refine zW.lcmp (pc' := 1233) dL_law_1232 rfl ?_
    rw [zlc]
    refine zW.if_eq (pc' := 1236) 1238 dL_law_1233 rfl (by decide) (fun b1 => ?_) (fun b1 => ?_)
    rotate_left
    · exact absurd rfl b1
    refine zW.goto 3347 dL_law_1238 (by decide) ?_
    exact kont _ _ _ _ (M2.wk fun _ _ => trivial)
  · refine zW.iload (pc' := 1223) dL_law_1221 rfl (zgS (zgS (zgS (zgS (zgS (zg0)))))) ?_
    refine zW.if_neN (pc' := 1226) 1238 dL_law_1223 rfl (by decide) (by omega) (fun b9 => ?_) (fun b9 => absurd b9 (by omega))
    refine zW.goto 3347 dL_law_1238 (by decide) ?_
    exact kont _ _ _ _ (M2.wk fun _ _ => trivial)
theorem y_isSigned {y1 : Int32} {q : Nat × Int32 × sW} (hb : zg_k G b = some (1100, xs)) (hy1 : xs[i + 1]? = some (.int y1)) (hi : i < 200) (M0 : lwM G x o a w w (fun _ => True) S h) (hcl : ∀ U, cReg x 0 [] w h U → zK G mX1_isSigned 40 R [.ref x, .int y1] h (cOut x U h [eElt] q)) (hml : ∀ h0, zK G mX3_isSigned 9 0 [.ref a.1, .int y1] (tH h0 a S) (tO h0 a q.1 (.int q.2.1) q.2.2)) (h01 : q.1 = 0 → q.2.1 = nI 0 ∨ q.2.1 = nI 1) (kont : ∀ (h' : zH) (S' : tS) (v5 v6 : Value), lwM G x o a q.2.2 q.2.2 (fun _ => True) S' h' → zW G mL_law 42 r 3347 [.ref b, .ref x, .ref a.1, .ref o, .int (nI i), v5, v6] [] h' Q) {v5 v6 : Value} : zW G mL_law 42 (r + R) 1241 [.ref b, .ref x, .ref a.1, .ref o, .int (nI i), v5, v6] [] h Q := by
  obtain ⟨U, v, ⟨hG, hl⟩, hd, hT, ⟨ho, -⟩, hk⟩ := id M0
  obtain ⟨fs, hx⟩ := hG.cell
  have hbh := M0.scr hb
  refine zW.aload_n (pc' := 1242) dL_law_1241 rfl rfl (zgS (zg0)) rfl ?_
  refine zW.aload_n (pc' := 1243) dL_law_1242 rfl rfl zg0 rfl ?_
  refine zW.iload (pc' := 1245) dL_law_1243 rfl (zgS (zgS (zgS (zgS (zg0))))) ?_
  refine zW.iconst (pc' := 1246) (nI 1) dL_law_1245 rfl (by decide) ?_
  refine zW.iaddN (pc' := 1247) dL_law_1246 rfl ?_
  refine zW.scr (pc' := 1248) dL_law_1247 rfl hbh hy1 (by omega) ?_
  refine zW.aload_n (pc' := 1249) dL_law_1248 rfl rfl (zgS (zgS (zgS (zg0)))) rfl ?_
  refine zW.callSH (r' := R) (pc' := 1252) dL_law_1249 rfl l_X0_246 rfl (x_isSigned hx ho hd.1 h01 (hcl U hG)) (zcc rfl (zcc rfl (zcc rfl zc0))) rfl (Nat.le_of_ble_eq_true rfl) (Nat.le_of_ble_eq_true rfl) (Nat.le_of_ble_eq_true rfl) ?_ ?_
  rotate_left
  · intro E h9 q9
    cases q9.1
  intro v9 h9 q9
  obtain ⟨e1, q3, g1, g2, v1, ho1, hv1⟩ := q9
  cases e1
  have M1 : lwM G x o a q.2.2 w (fun v => q.1 = 0 → v = q.2.1.toInt64) S h9 := lwM.step hd hT ho hk g1 g2 ⟨ho1, hv1⟩
  have hbh := M1.scr hb
  refine zW.istore (pc' := 1254) dL_law_1252 rfl (Nat.le_of_ble_eq_true rfl) (zsS (zsS (zsS (zsS (zsS (zs0)))))) ?_
  refine zW.aload_n (pc' := 1255) dL_law_1254 rfl rfl (zgS (zgS (zg0))) rfl ?_
  refine zW.aload_n (pc' := 1256) dL_law_1255 rfl rfl zg0 rfl ?_
  refine zW.iload (pc' := 1258) dL_law_1256 rfl (zgS (zgS (zgS (zgS (zg0))))) ?_
  refine zW.iconst (pc' := 1259) (nI 1) dL_law_1258 rfl (by decide) ?_
  refine zW.iaddN (pc' := 1260) dL_law_1259 rfl ?_
  refine zW.scr (pc' := 1261) dL_law_1260 rfl hbh hy1 (by omega) ?_
  refine zW.congr ?_ rfl rfl M1.eq
  refine zT.call (pc' := 1264) dL_law_1261 rfl l_X0_248 rfl rfl (hml _) (zcc rfl zc0) rfl (Nat.le_of_ble_eq_true rfl) (Nat.le_of_ble_eq_true rfl) (Nat.le_of_ble_eq_true rfl) (fun _ T2 ⟨e1, e2, e3⟩ => ?_)
  subst e1
  have M2 := M1.mdl e3
  obtain ⟨v2, ho2, hv2⟩ := M2.out
  refine zW.istore (pc' := 1266) dL_law_1264 rfl (Nat.le_of_ble_eq_true rfl) (zsS (zsS (zsS (zsS (zsS (zsS (zs0))))))) ?_
  refine zW.aload_n (pc' := 1267) dL_law_1266 rfl rfl (zgS (zgS (zg0))) rfl ?_
  refine zT.call (pc' := 1270) dL_law_1267 rfl l_X0_182 rfl rfl w_thrown zc0 rfl (Nat.le_of_ble_eq_true rfl) (Nat.le_of_ble_eq_true rfl) (Nat.le_of_ble_eq_true rfl) (fun _ T3 ⟨e1, e4⟩ => ?_)
  subst e1
  subst e4
  rw [e2]
  refine zW.iload (pc' := 1272) dL_law_1270 rfl (zgS (zgS (zgS (zgS (zgS (zg0)))))) ?_
  refine zW.icmp_eq (pc' := 1275) 1277 dL_law_1272 rfl (by decide) (fun b1 => ?_) (fun b1 => ?_)
  rotate_left
  · exact absurd rfl b1
  by_cases z : q.1 = 0
  · rw [z]
    refine zW.iload (pc' := 1279) dL_law_1277 rfl (zgS (zgS (zgS (zgS (zgS (zg0)))))) ?_
    refine zW.if_neN (pc' := 1282) 1301 dL_law_1279 rfl (by decide) (by omega) (fun b9 => absurd b9 (by omega)) (fun b9 => ?_)
    refine zW.aload_n (pc' := 1283) dL_law_1282 rfl rfl (zgS (zgS (zgS (zg0)))) rfl ?_
    refine zW.iconst (pc' := 1284) (nI 0) dL_law_1283 rfl (by decide) ?_
    refine zW.lald (pc' := 1285) dL_law_1284 rfl ho2 rfl (by decide) rfl ?_
    rcases h01 z with e5 | e5
    · rw [hv2 z, e5, show (nI 0).toInt64 = 0 by decide]
      refine zW.iload (pc' := 1287) dL_law_1285 rfl (zgS (zgS (zgS (zgS (zgS (zgS (zg0))))))) ?_
      refine zW.if_eqN (pc' := 1290) 1294 dL_law_1287 rfl (by decide) (by omega) (fun b9 => ?_) (fun b9 => absurd b9 (by omega))
      refine zW.lconst (pc' := 1295) 0 dL_law_1294 rfl (by decide) ?_
      refine zW.lcmp (pc' := 1296) dL_law_1295 rfl ?_
      rw [zlc]
      refine zW.if_eq (pc' := 1299) 1301 dL_law_1296 rfl (by decide) (fun b1 => ?_) (fun b1 => ?_)
      rotate_left
      · exact absurd rfl b1
      refine zW.goto 3347 dL_law_1301 (by decide) ?_
      exact kont _ _ _ _ (M2.wk fun _ _ => trivial)
    · rw [hv2 z, e5, show (nI 1).toInt64 = 1 by decide]
      refine zW.iload (pc' := 1287) dL_law_1285 rfl (zgS (zgS (zgS (zgS (zgS (zgS (zg0))))))) ?_
      refine zW.if_eqN (pc' := 1290) 1294 dL_law_1287 rfl (by decide) (by omega) (fun b9 => absurd b9 (by omega)) (fun b9 => ?_)
      refine zW.lconst (pc' := 1291) 1 dL_law_1290 rfl (by decide) ?_
      refine zW.goto 1295 dL_law_1291 (by decide) ?_
      refine zW.lcmp (pc' := 1296) dL_law_1295 rfl ?_
      rw [zlc]
      refine zW.if_eq (pc' := 1299) 1301 dL_law_1296 rfl (by decide) (fun b1 => ?_) (fun b1 => ?_)
      rotate_left
      · exact absurd rfl b1
      refine zW.goto 3347 dL_law_1301 (by decide) ?_
      exact kont _ _ _ _ (M2.wk fun _ _ => trivial)
  · refine zW.iload (pc' := 1279) dL_law_1277 rfl (zgS (zgS (zgS (zgS (zgS (zg0)))))) ?_
    refine zW.if_neN (pc' := 1282) 1301 dL_law_1279 rfl (by decide) (by omega) (fun b9 => ?_) (fun b9 => absurd b9 (by omega))
    refine zW.goto 3347 dL_law_1301 (by decide) ?_
    exact kont _ _ _ _ (M2.wk fun _ _ => trivial)
theorem y_isCountersigned {y1 : Int32} {q : Nat × Int32 × sW} (hb : zg_k G b = some (1100, xs)) (hy1 : xs[i + 1]? = some (.int y1)) (hi : i < 200) (M0 : lwM G x o a w w (fun _ => True) S h) (hcl : ∀ U, cReg x 0 [] w h U → zK G mX1_isCountersigned 40 R [.ref x, .int y1] h (cOut x U h [eElt] q)) (hml : ∀ h0, zK G mX3_isCountersigned 9 0 [.ref a.1, .int y1] (tH h0 a S) (tO h0 a q.1 (.int q.2.1) q.2.2)) (h01 : q.1 = 0 → q.2.1 = nI 0 ∨ q.2.1 = nI 1) (kont : ∀ (h' : zH) (S' : tS) (v5 v6 : Value), lwM G x o a q.2.2 q.2.2 (fun _ => True) S' h' → zW G mL_law 42 r 3347 [.ref b, .ref x, .ref a.1, .ref o, .int (nI i), v5, v6] [] h' Q) {v5 v6 : Value} : zW G mL_law 42 (r + R) 1304 [.ref b, .ref x, .ref a.1, .ref o, .int (nI i), v5, v6] [] h Q := by
  obtain ⟨U, v, ⟨hG, hl⟩, hd, hT, ⟨ho, -⟩, hk⟩ := id M0
  obtain ⟨fs, hx⟩ := hG.cell
  have hbh := M0.scr hb
  refine zW.aload_n (pc' := 1305) dL_law_1304 rfl rfl (zgS (zg0)) rfl ?_
  refine zW.aload_n (pc' := 1306) dL_law_1305 rfl rfl zg0 rfl ?_
  refine zW.iload (pc' := 1308) dL_law_1306 rfl (zgS (zgS (zgS (zgS (zg0))))) ?_
  refine zW.iconst (pc' := 1309) (nI 1) dL_law_1308 rfl (by decide) ?_
  refine zW.iaddN (pc' := 1310) dL_law_1309 rfl ?_
  refine zW.scr (pc' := 1311) dL_law_1310 rfl hbh hy1 (by omega) ?_
  refine zW.aload_n (pc' := 1312) dL_law_1311 rfl rfl (zgS (zgS (zgS (zg0)))) rfl ?_
  refine zW.callSH (r' := R) (pc' := 1315) dL_law_1312 rfl l_X0_249 rfl (x_isCountersigned hx ho hd.1 h01 (hcl U hG)) (zcc rfl (zcc rfl (zcc rfl zc0))) rfl (Nat.le_of_ble_eq_true rfl) (Nat.le_of_ble_eq_true rfl) (Nat.le_of_ble_eq_true rfl) ?_ ?_
  rotate_left
  · intro E h9 q9
    cases q9.1
  intro v9 h9 q9
  obtain ⟨e1, q3, g1, g2, v1, ho1, hv1⟩ := q9
  cases e1
  have M1 : lwM G x o a q.2.2 w (fun v => q.1 = 0 → v = q.2.1.toInt64) S h9 := lwM.step hd hT ho hk g1 g2 ⟨ho1, hv1⟩
  have hbh := M1.scr hb
  refine zW.istore (pc' := 1317) dL_law_1315 rfl (Nat.le_of_ble_eq_true rfl) (zsS (zsS (zsS (zsS (zsS (zs0)))))) ?_
  refine zW.aload_n (pc' := 1318) dL_law_1317 rfl rfl (zgS (zgS (zg0))) rfl ?_
  refine zW.aload_n (pc' := 1319) dL_law_1318 rfl rfl zg0 rfl ?_
  refine zW.iload (pc' := 1321) dL_law_1319 rfl (zgS (zgS (zgS (zgS (zg0))))) ?_
  refine zW.iconst (pc' := 1322) (nI 1) dL_law_1321 rfl (by decide) ?_
  refine zW.iaddN (pc' := 1323) dL_law_1322 rfl ?_
  refine zW.scr (pc' := 1324) dL_law_1323 rfl hbh hy1 (by omega) ?_
  refine zW.congr ?_ rfl rfl M1.eq
  refine zT.call (pc' := 1327) dL_law_1324 rfl l_X0_251 rfl rfl (hml _) (zcc rfl zc0) rfl (Nat.le_of_ble_eq_true rfl) (Nat.le_of_ble_eq_true rfl) (Nat.le_of_ble_eq_true rfl) (fun _ T2 ⟨e1, e2, e3⟩ => ?_)
  subst e1
  have M2 := M1.mdl e3
  obtain ⟨v2, ho2, hv2⟩ := M2.out
  refine zW.istore (pc' := 1329) dL_law_1327 rfl (Nat.le_of_ble_eq_true rfl) (zsS (zsS (zsS (zsS (zsS (zsS (zs0))))))) ?_
  refine zW.aload_n (pc' := 1330) dL_law_1329 rfl rfl (zgS (zgS (zg0))) rfl ?_
  refine zT.call (pc' := 1333) dL_law_1330 rfl l_X0_182 rfl rfl w_thrown zc0 rfl (Nat.le_of_ble_eq_true rfl) (Nat.le_of_ble_eq_true rfl) (Nat.le_of_ble_eq_true rfl) (fun _ T3 ⟨e1, e4⟩ => ?_)
  subst e1
  subst e4
  rw [e2]
  refine zW.iload (pc' := 1335) dL_law_1333 rfl (zgS (zgS (zgS (zgS (zgS (zg0)))))) ?_
  refine zW.icmp_eq (pc' := 1338) 1340 dL_law_1335 rfl (by decide) (fun b1 => ?_) (fun b1 => ?_)
  rotate_left
  · exact absurd rfl b1
  by_cases z : q.1 = 0
  · rw [z]
    refine zW.iload (pc' := 1342) dL_law_1340 rfl (zgS (zgS (zgS (zgS (zgS (zg0)))))) ?_
    refine zW.if_neN (pc' := 1345) 1364 dL_law_1342 rfl (by decide) (by omega) (fun b9 => absurd b9 (by omega)) (fun b9 => ?_)
    refine zW.aload_n (pc' := 1346) dL_law_1345 rfl rfl (zgS (zgS (zgS (zg0)))) rfl ?_
    refine zW.iconst (pc' := 1347) (nI 0) dL_law_1346 rfl (by decide) ?_
    refine zW.lald (pc' := 1348) dL_law_1347 rfl ho2 rfl (by decide) rfl ?_
    rcases h01 z with e5 | e5
    · rw [hv2 z, e5, show (nI 0).toInt64 = 0 by decide]
      refine zW.iload (pc' := 1350) dL_law_1348 rfl (zgS (zgS (zgS (zgS (zgS (zgS (zg0))))))) ?_
      refine zW.if_eqN (pc' := 1353) 1357 dL_law_1350 rfl (by decide) (by omega) (fun b9 => ?_) (fun b9 => absurd b9 (by omega))
      refine zW.lconst (pc' := 1358) 0 dL_law_1357 rfl (by decide) ?_
      refine zW.lcmp (pc' := 1359) dL_law_1358 rfl ?_
      rw [zlc]
      refine zW.if_eq (pc' := 1362) 1364 dL_law_1359 rfl (by decide) (fun b1 => ?_) (fun b1 => ?_)
      rotate_left
      · exact absurd rfl b1
      refine zW.goto 3347 dL_law_1364 (by decide) ?_
      exact kont _ _ _ _ (M2.wk fun _ _ => trivial)
    · rw [hv2 z, e5, show (nI 1).toInt64 = 1 by decide]
      refine zW.iload (pc' := 1350) dL_law_1348 rfl (zgS (zgS (zgS (zgS (zgS (zgS (zg0))))))) ?_
      refine zW.if_eqN (pc' := 1353) 1357 dL_law_1350 rfl (by decide) (by omega) (fun b9 => absurd b9 (by omega)) (fun b9 => ?_)
      refine zW.lconst (pc' := 1354) 1 dL_law_1353 rfl (by decide) ?_
      refine zW.goto 1358 dL_law_1354 (by decide) ?_
      refine zW.lcmp (pc' := 1359) dL_law_1358 rfl ?_
      rw [zlc]
      refine zW.if_eq (pc' := 1362) 1364 dL_law_1359 rfl (by decide) (fun b1 => ?_) (fun b1 => ?_)
      rotate_left
      · exact absurd rfl b1
      refine zW.goto 3347 dL_law_1364 (by decide) ?_
      exact kont _ _ _ _ (M2.wk fun _ _ => trivial)
  · refine zW.iload (pc' := 1342) dL_law_1340 rfl (zgS (zgS (zgS (zgS (zgS (zg0)))))) ?_
    refine zW.if_neN (pc' := 1345) 1364 dL_law_1342 rfl (by decide) (by omega) (fun b9 => ?_) (fun b9 => absurd b9 (by omega))
    refine zW.goto 3347 dL_law_1364 (by decide) ?_
    exact kont _ _ _ _ (M2.wk fun _ _ => trivial)
theorem y_signer {y1 : Int32} {q : Nat × Int32 × sW} (hb : zg_k G b = some (1100, xs)) (hy1 : xs[i + 1]? = some (.int y1)) (hi : i < 200) (M0 : lwM G x o a w w (fun _ => True) S h) (hcl : ∀ U, cReg x 0 [] w h U → zK G mX1_signer 40 R [.ref x, .int y1] h (cOut x U h [eElt, eSta] q)) (hml : ∀ h0, zK G mX3_signer 9 0 [.ref a.1, .int y1] (tH h0 a S) (tO h0 a q.1 (.int q.2.1) q.2.2)) (kont : ∀ (h' : zH) (S' : tS) (v5 v6 : Value), lwM G x o a q.2.2 q.2.2 (fun _ => True) S' h' → zW G mL_law 42 r 3347 [.ref b, .ref x, .ref a.1, .ref o, .int (nI i), v5, v6] [] h' Q) {v5 v6 : Value} : zW G mL_law 42 (r + R) 1367 [.ref b, .ref x, .ref a.1, .ref o, .int (nI i), v5, v6] [] h Q := by
  obtain ⟨U, v, ⟨hG, hl⟩, hd, hT, ⟨ho, -⟩, hk⟩ := id M0
  obtain ⟨fs, hx⟩ := hG.cell
  have hbh := M0.scr hb
  refine zW.aload_n (pc' := 1368) dL_law_1367 rfl rfl (zgS (zg0)) rfl ?_
  refine zW.aload_n (pc' := 1369) dL_law_1368 rfl rfl zg0 rfl ?_
  refine zW.iload (pc' := 1371) dL_law_1369 rfl (zgS (zgS (zgS (zgS (zg0))))) ?_
  refine zW.iconst (pc' := 1372) (nI 1) dL_law_1371 rfl (by decide) ?_
  refine zW.iaddN (pc' := 1373) dL_law_1372 rfl ?_
  refine zW.scr (pc' := 1374) dL_law_1373 rfl hbh hy1 (by omega) ?_
  refine zW.aload_n (pc' := 1375) dL_law_1374 rfl rfl (zgS (zgS (zgS (zg0)))) rfl ?_
  refine zW.callSH (r' := R) (pc' := 1378) dL_law_1375 rfl l_X0_252 rfl (x_signer hx ho hd.1 (hcl U hG)) (zcc rfl (zcc rfl (zcc rfl zc0))) rfl (Nat.le_of_ble_eq_true rfl) (Nat.le_of_ble_eq_true rfl) (Nat.le_of_ble_eq_true rfl) ?_ ?_
  rotate_left
  · intro E h9 q9
    cases q9.1
  intro v9 h9 q9
  obtain ⟨e1, q3, g1, g2, v1, ho1, hv1⟩ := q9
  cases e1
  have M1 : lwM G x o a q.2.2 w (fun v => q.1 = 0 → v = q.2.1.toInt64) S h9 := lwM.step hd hT ho hk g1 g2 ⟨ho1, hv1⟩
  have hbh := M1.scr hb
  refine zW.istore (pc' := 1380) dL_law_1378 rfl (Nat.le_of_ble_eq_true rfl) (zsS (zsS (zsS (zsS (zsS (zs0)))))) ?_
  refine zW.aload_n (pc' := 1381) dL_law_1380 rfl rfl (zgS (zgS (zg0))) rfl ?_
  refine zW.aload_n (pc' := 1382) dL_law_1381 rfl rfl zg0 rfl ?_
  refine zW.iload (pc' := 1384) dL_law_1382 rfl (zgS (zgS (zgS (zgS (zg0))))) ?_
  refine zW.iconst (pc' := 1385) (nI 1) dL_law_1384 rfl (by decide) ?_
  refine zW.iaddN (pc' := 1386) dL_law_1385 rfl ?_
  refine zW.scr (pc' := 1387) dL_law_1386 rfl hbh hy1 (by omega) ?_
  refine zW.congr ?_ rfl rfl M1.eq
  refine zT.call (pc' := 1390) dL_law_1387 rfl l_X0_254 rfl rfl (hml _) (zcc rfl zc0) rfl (Nat.le_of_ble_eq_true rfl) (Nat.le_of_ble_eq_true rfl) (Nat.le_of_ble_eq_true rfl) (fun _ T2 ⟨e1, e2, e3⟩ => ?_)
  subst e1
  have M2 := M1.mdl e3
  obtain ⟨v2, ho2, hv2⟩ := M2.out
  refine zW.istore (pc' := 1392) dL_law_1390 rfl (Nat.le_of_ble_eq_true rfl) (zsS (zsS (zsS (zsS (zsS (zsS (zs0))))))) ?_
  refine zW.aload_n (pc' := 1393) dL_law_1392 rfl rfl (zgS (zgS (zg0))) rfl ?_
  refine zT.call (pc' := 1396) dL_law_1393 rfl l_X0_182 rfl rfl w_thrown zc0 rfl (Nat.le_of_ble_eq_true rfl) (Nat.le_of_ble_eq_true rfl) (Nat.le_of_ble_eq_true rfl) (fun _ T3 ⟨e1, e4⟩ => ?_)
  subst e1
  subst e4
  rw [e2]
  refine zW.iload (pc' := 1398) dL_law_1396 rfl (zgS (zgS (zgS (zgS (zgS (zg0)))))) ?_
  refine zW.icmp_eq (pc' := 1401) 1403 dL_law_1398 rfl (by decide) (fun b1 => ?_) (fun b1 => ?_)
  rotate_left
  · exact absurd rfl b1
  by_cases z : q.1 = 0
  · rw [z]
    refine zW.iload (pc' := 1405) dL_law_1403 rfl (zgS (zgS (zgS (zgS (zgS (zg0)))))) ?_
    refine zW.if_neN (pc' := 1408) 1420 dL_law_1405 rfl (by decide) (by omega) (fun b9 => absurd b9 (by omega)) (fun b9 => ?_)
    refine zW.aload_n (pc' := 1409) dL_law_1408 rfl rfl (zgS (zgS (zgS (zg0)))) rfl ?_
    refine zW.iconst (pc' := 1410) (nI 0) dL_law_1409 rfl (by decide) ?_
    refine zW.lald (pc' := 1411) dL_law_1410 rfl ho2 rfl (by decide) rfl ?_
    rw [hv2 z]
    refine zW.iload (pc' := 1413) dL_law_1411 rfl (zgS (zgS (zgS (zgS (zgS (zgS (zg0))))))) ?_
    refine zW.i2l (pc' := 1414) dL_law_1413 rfl ?_
    refine zW.lcmp (pc' := 1415) dL_law_1414 rfl ?_
    rw [zlc]
    refine zW.if_eq (pc' := 1418) 1420 dL_law_1415 rfl (by decide) (fun b1 => ?_) (fun b1 => ?_)
    rotate_left
    · exact absurd rfl b1
    refine zW.goto 3347 dL_law_1420 (by decide) ?_
    exact kont _ _ _ _ (M2.wk fun _ _ => trivial)
  · refine zW.iload (pc' := 1405) dL_law_1403 rfl (zgS (zgS (zgS (zgS (zgS (zg0)))))) ?_
    refine zW.if_neN (pc' := 1408) 1420 dL_law_1405 rfl (by decide) (by omega) (fun b9 => ?_) (fun b9 => absurd b9 (by omega))
    refine zW.goto 3347 dL_law_1420 (by decide) ?_
    exact kont _ _ _ _ (M2.wk fun _ _ => trivial)
theorem y_countersigner {y1 : Int32} {q : Nat × Int32 × sW} (hb : zg_k G b = some (1100, xs)) (hy1 : xs[i + 1]? = some (.int y1)) (hi : i < 200) (M0 : lwM G x o a w w (fun _ => True) S h) (hcl : ∀ U, cReg x 0 [] w h U → zK G mX1_countersigner 40 R [.ref x, .int y1] h (cOut x U h [eElt, eSta] q)) (hml : ∀ h0, zK G mX3_countersigner 9 0 [.ref a.1, .int y1] (tH h0 a S) (tO h0 a q.1 (.int q.2.1) q.2.2)) (kont : ∀ (h' : zH) (S' : tS) (v5 v6 : Value), lwM G x o a q.2.2 q.2.2 (fun _ => True) S' h' → zW G mL_law 42 r 3347 [.ref b, .ref x, .ref a.1, .ref o, .int (nI i), v5, v6] [] h' Q) {v5 v6 : Value} : zW G mL_law 42 (r + R) 1423 [.ref b, .ref x, .ref a.1, .ref o, .int (nI i), v5, v6] [] h Q := by
  obtain ⟨U, v, ⟨hG, hl⟩, hd, hT, ⟨ho, -⟩, hk⟩ := id M0
  obtain ⟨fs, hx⟩ := hG.cell
  have hbh := M0.scr hb
  refine zW.aload_n (pc' := 1424) dL_law_1423 rfl rfl (zgS (zg0)) rfl ?_
  refine zW.aload_n (pc' := 1425) dL_law_1424 rfl rfl zg0 rfl ?_
  refine zW.iload (pc' := 1427) dL_law_1425 rfl (zgS (zgS (zgS (zgS (zg0))))) ?_
  refine zW.iconst (pc' := 1428) (nI 1) dL_law_1427 rfl (by decide) ?_
  refine zW.iaddN (pc' := 1429) dL_law_1428 rfl ?_
  refine zW.scr (pc' := 1430) dL_law_1429 rfl hbh hy1 (by omega) ?_
  refine zW.aload_n (pc' := 1431) dL_law_1430 rfl rfl (zgS (zgS (zgS (zg0)))) rfl ?_
  refine zW.callSH (r' := R) (pc' := 1434) dL_law_1431 rfl l_X0_255 rfl (x_countersigner hx ho hd.1 (hcl U hG)) (zcc rfl (zcc rfl (zcc rfl zc0))) rfl (Nat.le_of_ble_eq_true rfl) (Nat.le_of_ble_eq_true rfl) (Nat.le_of_ble_eq_true rfl) ?_ ?_
  rotate_left
  · intro E h9 q9
    cases q9.1
  intro v9 h9 q9
  obtain ⟨e1, q3, g1, g2, v1, ho1, hv1⟩ := q9
  cases e1
  have M1 : lwM G x o a q.2.2 w (fun v => q.1 = 0 → v = q.2.1.toInt64) S h9 := lwM.step hd hT ho hk g1 g2 ⟨ho1, hv1⟩
  have hbh := M1.scr hb
  refine zW.istore (pc' := 1436) dL_law_1434 rfl (Nat.le_of_ble_eq_true rfl) (zsS (zsS (zsS (zsS (zsS (zs0)))))) ?_
  refine zW.aload_n (pc' := 1437) dL_law_1436 rfl rfl (zgS (zgS (zg0))) rfl ?_
  refine zW.aload_n (pc' := 1438) dL_law_1437 rfl rfl zg0 rfl ?_
  refine zW.iload (pc' := 1440) dL_law_1438 rfl (zgS (zgS (zgS (zgS (zg0))))) ?_
  refine zW.iconst (pc' := 1441) (nI 1) dL_law_1440 rfl (by decide) ?_
  refine zW.iaddN (pc' := 1442) dL_law_1441 rfl ?_
  refine zW.scr (pc' := 1443) dL_law_1442 rfl hbh hy1 (by omega) ?_
  refine zW.congr ?_ rfl rfl M1.eq
  refine zT.call (pc' := 1446) dL_law_1443 rfl l_X0_257 rfl rfl (hml _) (zcc rfl zc0) rfl (Nat.le_of_ble_eq_true rfl) (Nat.le_of_ble_eq_true rfl) (Nat.le_of_ble_eq_true rfl) (fun _ T2 ⟨e1, e2, e3⟩ => ?_)
  subst e1
  have M2 := M1.mdl e3
  obtain ⟨v2, ho2, hv2⟩ := M2.out
  refine zW.istore (pc' := 1448) dL_law_1446 rfl (Nat.le_of_ble_eq_true rfl) (zsS (zsS (zsS (zsS (zsS (zsS (zs0))))))) ?_
  refine zW.aload_n (pc' := 1449) dL_law_1448 rfl rfl (zgS (zgS (zg0))) rfl ?_
  refine zT.call (pc' := 1452) dL_law_1449 rfl l_X0_182 rfl rfl w_thrown zc0 rfl (Nat.le_of_ble_eq_true rfl) (Nat.le_of_ble_eq_true rfl) (Nat.le_of_ble_eq_true rfl) (fun _ T3 ⟨e1, e4⟩ => ?_)
  subst e1
  subst e4
  rw [e2]
  refine zW.iload (pc' := 1454) dL_law_1452 rfl (zgS (zgS (zgS (zgS (zgS (zg0)))))) ?_
  refine zW.icmp_eq (pc' := 1457) 1459 dL_law_1454 rfl (by decide) (fun b1 => ?_) (fun b1 => ?_)
  rotate_left
  · exact absurd rfl b1
  by_cases z : q.1 = 0
  · rw [z]
    refine zW.iload (pc' := 1461) dL_law_1459 rfl (zgS (zgS (zgS (zgS (zgS (zg0)))))) ?_
    refine zW.if_neN (pc' := 1464) 1476 dL_law_1461 rfl (by decide) (by omega) (fun b9 => absurd b9 (by omega)) (fun b9 => ?_)
    refine zW.aload_n (pc' := 1465) dL_law_1464 rfl rfl (zgS (zgS (zgS (zg0)))) rfl ?_
    refine zW.iconst (pc' := 1466) (nI 0) dL_law_1465 rfl (by decide) ?_
    refine zW.lald (pc' := 1467) dL_law_1466 rfl ho2 rfl (by decide) rfl ?_
    rw [hv2 z]
    refine zW.iload (pc' := 1469) dL_law_1467 rfl (zgS (zgS (zgS (zgS (zgS (zgS (zg0))))))) ?_
    refine zW.i2l (pc' := 1470) dL_law_1469 rfl ?_
    refine zW.lcmp (pc' := 1471) dL_law_1470 rfl ?_
    rw [zlc]
    refine zW.if_eq (pc' := 1474) 1476 dL_law_1471 rfl (by decide) (fun b1 => ?_) (fun b1 => ?_)
    rotate_left
    · exact absurd rfl b1
    refine zW.goto 3347 dL_law_1476 (by decide) ?_
    exact kont _ _ _ _ (M2.wk fun _ _ => trivial)
  · refine zW.iload (pc' := 1461) dL_law_1459 rfl (zgS (zgS (zgS (zgS (zgS (zg0)))))) ?_
    refine zW.if_neN (pc' := 1464) 1476 dL_law_1461 rfl (by decide) (by omega) (fun b9 => ?_) (fun b9 => absurd b9 (by omega))
    refine zW.goto 3347 dL_law_1476 (by decide) ?_
    exact kont _ _ _ _ (M2.wk fun _ _ => trivial)
theorem y_signaturesOf {y1 : Int32} {q : Nat × Int32 × sW} (hb : zg_k G b = some (1100, xs)) (hy1 : xs[i + 1]? = some (.int y1)) (hi : i < 200) (M0 : lwM G x o a w w (fun _ => True) S h) (hcl : ∀ U, cReg x 0 [] w h U → zK G mX1_signaturesOf 40 R [.ref x, .int y1] h (cOut x U h [eArg] q)) (hml : ∀ h0, zK G mX3_signaturesOf 9 0 [.ref a.1, .int y1] (tH h0 a S) (tO h0 a q.1 (.int q.2.1) q.2.2)) (kont : ∀ (h' : zH) (S' : tS) (v5 v6 : Value), lwM G x o a q.2.2 q.2.2 (fun _ => True) S' h' → zW G mL_law 42 r 3347 [.ref b, .ref x, .ref a.1, .ref o, .int (nI i), v5, v6] [] h' Q) {v5 v6 : Value} : zW G mL_law 42 (r + R) 1479 [.ref b, .ref x, .ref a.1, .ref o, .int (nI i), v5, v6] [] h Q := by
  obtain ⟨U, v, ⟨hG, hl⟩, hd, hT, ⟨ho, -⟩, hk⟩ := id M0
  obtain ⟨fs, hx⟩ := hG.cell
  have hbh := M0.scr hb
  refine zW.aload_n (pc' := 1480) dL_law_1479 rfl rfl (zgS (zg0)) rfl ?_
  refine zW.aload_n (pc' := 1481) dL_law_1480 rfl rfl zg0 rfl ?_
  refine zW.iload (pc' := 1483) dL_law_1481 rfl (zgS (zgS (zgS (zgS (zg0))))) ?_
  refine zW.iconst (pc' := 1484) (nI 1) dL_law_1483 rfl (by decide) ?_
  refine zW.iaddN (pc' := 1485) dL_law_1484 rfl ?_
  refine zW.scr (pc' := 1486) dL_law_1485 rfl hbh hy1 (by omega) ?_
  refine zW.aload_n (pc' := 1487) dL_law_1486 rfl rfl (zgS (zgS (zgS (zg0)))) rfl ?_
  refine zW.callSH (r' := R) (pc' := 1490) dL_law_1487 rfl l_X0_258 rfl (x_signaturesOf hx ho hd.1 (hcl U hG)) (zcc rfl (zcc rfl (zcc rfl zc0))) rfl (Nat.le_of_ble_eq_true rfl) (Nat.le_of_ble_eq_true rfl) (Nat.le_of_ble_eq_true rfl) ?_ ?_
  rotate_left
  · intro E h9 q9
    cases q9.1
  intro v9 h9 q9
  obtain ⟨e1, q3, g1, g2, v1, ho1, hv1⟩ := q9
  cases e1
  have M1 : lwM G x o a q.2.2 w (fun v => q.1 = 0 → v = q.2.1.toInt64) S h9 := lwM.step hd hT ho hk g1 g2 ⟨ho1, hv1⟩
  have hbh := M1.scr hb
  refine zW.istore (pc' := 1492) dL_law_1490 rfl (Nat.le_of_ble_eq_true rfl) (zsS (zsS (zsS (zsS (zsS (zs0)))))) ?_
  refine zW.aload_n (pc' := 1493) dL_law_1492 rfl rfl (zgS (zgS (zg0))) rfl ?_
  refine zW.aload_n (pc' := 1494) dL_law_1493 rfl rfl zg0 rfl ?_
  refine zW.iload (pc' := 1496) dL_law_1494 rfl (zgS (zgS (zgS (zgS (zg0))))) ?_
  refine zW.iconst (pc' := 1497) (nI 1) dL_law_1496 rfl (by decide) ?_
  refine zW.iaddN (pc' := 1498) dL_law_1497 rfl ?_
  refine zW.scr (pc' := 1499) dL_law_1498 rfl hbh hy1 (by omega) ?_
  refine zW.congr ?_ rfl rfl M1.eq
  refine zT.call (pc' := 1502) dL_law_1499 rfl l_X0_260 rfl rfl (hml _) (zcc rfl zc0) rfl (Nat.le_of_ble_eq_true rfl) (Nat.le_of_ble_eq_true rfl) (Nat.le_of_ble_eq_true rfl) (fun _ T2 ⟨e1, e2, e3⟩ => ?_)
  subst e1
  have M2 := M1.mdl e3
  obtain ⟨v2, ho2, hv2⟩ := M2.out
  refine zW.istore (pc' := 1504) dL_law_1502 rfl (Nat.le_of_ble_eq_true rfl) (zsS (zsS (zsS (zsS (zsS (zsS (zs0))))))) ?_
  refine zW.aload_n (pc' := 1505) dL_law_1504 rfl rfl (zgS (zgS (zg0))) rfl ?_
  refine zT.call (pc' := 1508) dL_law_1505 rfl l_X0_182 rfl rfl w_thrown zc0 rfl (Nat.le_of_ble_eq_true rfl) (Nat.le_of_ble_eq_true rfl) (Nat.le_of_ble_eq_true rfl) (fun _ T3 ⟨e1, e4⟩ => ?_)
  subst e1
  subst e4
  rw [e2]
  refine zW.iload (pc' := 1510) dL_law_1508 rfl (zgS (zgS (zgS (zgS (zgS (zg0)))))) ?_
  refine zW.icmp_eq (pc' := 1513) 1515 dL_law_1510 rfl (by decide) (fun b1 => ?_) (fun b1 => ?_)
  rotate_left
  · exact absurd rfl b1
  by_cases z : q.1 = 0
  · rw [z]
    refine zW.iload (pc' := 1517) dL_law_1515 rfl (zgS (zgS (zgS (zgS (zgS (zg0)))))) ?_
    refine zW.if_neN (pc' := 1520) 1532 dL_law_1517 rfl (by decide) (by omega) (fun b9 => absurd b9 (by omega)) (fun b9 => ?_)
    refine zW.aload_n (pc' := 1521) dL_law_1520 rfl rfl (zgS (zgS (zgS (zg0)))) rfl ?_
    refine zW.iconst (pc' := 1522) (nI 0) dL_law_1521 rfl (by decide) ?_
    refine zW.lald (pc' := 1523) dL_law_1522 rfl ho2 rfl (by decide) rfl ?_
    rw [hv2 z]
    refine zW.iload (pc' := 1525) dL_law_1523 rfl (zgS (zgS (zgS (zgS (zgS (zgS (zg0))))))) ?_
    refine zW.i2l (pc' := 1526) dL_law_1525 rfl ?_
    refine zW.lcmp (pc' := 1527) dL_law_1526 rfl ?_
    rw [zlc]
    refine zW.if_eq (pc' := 1530) 1532 dL_law_1527 rfl (by decide) (fun b1 => ?_) (fun b1 => ?_)
    rotate_left
    · exact absurd rfl b1
    refine zW.goto 3347 dL_law_1532 (by decide) ?_
    exact kont _ _ _ _ (M2.wk fun _ _ => trivial)
  · refine zW.iload (pc' := 1517) dL_law_1515 rfl (zgS (zgS (zgS (zgS (zgS (zg0)))))) ?_
    refine zW.if_neN (pc' := 1520) 1532 dL_law_1517 rfl (by decide) (by omega) (fun b9 => ?_) (fun b9 => absurd b9 (by omega))
    refine zW.goto 3347 dL_law_1532 (by decide) ?_
    exact kont _ _ _ _ (M2.wk fun _ _ => trivial)
end
