/-! THE CLASS's execute (printed by mk9z8.py) -/
section
set_option maxRecDepth 100000
variable {G : zG} {h h' h0 h1 H H' : zH} {U : Nat → Prop} {x cm tt nn : Nat} {X : List zA} {w : sW} {c : pC}
/-- a command's end: its keyword's hash may have been kept -/
def cExe (h h0 : zH) (x : Nat) (X : List zA) (U : Nat → Prop) (w : sW) (R : sR) : zR → zH → Prop := fun o h' => ∃ (kc kv : Nat) (q : List Nat) (H1 : zH), (cNew h kc kv q ∧ h0 kc = none) ∧ zfr (fun b => b = kc) h H1 ∧ cNew H1 kc kv q ∧ ((R.1 = 0 ∧ o = .inl none ∧ cReg x 1 X (R.2.2, w.2) h' (zext U H1) ∧ zfr U H1 h') ∨ (R.1 ≠ 0 ∧ o = .inr (cEx R.1) ∧ h' = H1))
theorem w_execute (hk : zkn G h) (hZ : zkI G) (hS : zkS G) (hL : zkL G) (hG : cReg x 1 X w h U) (nU : ∀ b, h0 b = none → ¬ U b) (hJ : sJ tt nn w.1) (hN : nn ≤ 10000) (hT : tt + 50 < 100000) (hc : cCmd h h0 cm c) : zK G mX1_execute 31 1500 [.ref x, .ref cm] h (cExe h h0 x X U w (sDo w.1 c)) := by
  obtain ⟨kc, kv, ar, g, hcm, kk, har, gg, hkk, f1, f2, f3, f4⟩ := hc
  obtain ⟨g0, g1⟩ := gg
  have hlen : 2 ≤ (kWd c.1).length ∧ (kWd c.1).length < 128 ∧ sHash (kWd c.1) ≠ 0 := by
    rcases hkk with e | e | e | e | e | e | e <;> (rw [e]; decide +kernel)
  obtain ⟨st, O, hSt, l, k⟩ := id hG
  obtain ⟨fs, hx, -⟩ := k.hx
  have fadd : c.1 = 97 → ∀ (H1 : zH) (v4 : Value), zfr (fun b => b = kc) h H1 → cNew H1 kc kv (kWd c.1) → zW G mX1_execute 31 1500 208 [.ref x, .ref cm, .ref ar, .ref kc, v4] [] H1 (cExe h h0 x X U w (sDo w.1 c)) := by
    intro ek H1 v4 z1 k1
    have eS : sDo w.1 c = sAdd w.1 (nI c.2.1) (nI c.2.2.1) (nI c.2.2.2.1) (nI c.2.2.2.2) := by unfold sDo; rw [if_pos ek]
    obtain ⟨g1, g2, g3⟩ := g1.resolve_left (by omega)
    have hG1 : cReg x 1 X w H1 U := hG.fr z1 fun b hb _ e => nU b (by rw [e]; exact f2) hb
    have hkc := kk.choose_spec.1
    have har1 := z1.at har (zne har hkc (by decide))
    have hx1 := z1.at hx (zne hx hkc (by decide))
    refine zW.aload_n (pc' := 209) dX1_execute_208 rfl rfl zg0 rfl ?_
    refine zW.aload_n (pc' := 210) dX1_execute_209 rfl rfl (zgS (zgS (zg0))) rfl ?_
    refine zW.iconst (pc' := 211) (nI 0) dX1_execute_210 rfl (by decide) ?_
    refine zW.ialdN (pc' := 212) dX1_execute_211 rfl har1 rfl (by omega) (Nat.le_of_ble_eq_true rfl) ?_
    refine zW.aload_n (pc' := 213) dX1_execute_212 rfl rfl (zgS (zgS (zg0))) rfl ?_
    refine zW.iconst (pc' := 214) (nI 1) dX1_execute_213 rfl (by decide) ?_
    refine zW.ialdN (pc' := 215) dX1_execute_214 rfl har1 rfl (by omega) (Nat.le_of_ble_eq_true rfl) ?_
    refine zW.aload_n (pc' := 216) dX1_execute_215 rfl rfl (zgS (zgS (zg0))) rfl ?_
    refine zW.iconst (pc' := 217) (nI 2) dX1_execute_216 rfl (by decide) ?_
    refine zW.ialdN (pc' := 218) dX1_execute_217 rfl har1 rfl (by omega) (Nat.le_of_ble_eq_true rfl) ?_
    refine zW.aload_n (pc' := 219) dX1_execute_218 rfl rfl (zgS (zgS (zg0))) rfl ?_
    refine zW.iconst (pc' := 220) (nI 3) dX1_execute_219 rfl (by decide) ?_
    refine zW.ialdN (pc' := 221) dX1_execute_220 rfl har1 rfl (by omega) (Nat.le_of_ble_eq_true rfl) ?_
    rw [g0, g1, g2, g3]
    rw [eS]
    refine zW.callV (r' := 1500) (pc' := 224) dX1_execute_221 rfl l_X1_410 rfl hx1 ⟨rfl, (Nat.le_of_ble_eq_true rfl)⟩ rfl (c_add (z1.kn hk) hZ hG1 (Nat.le_refl _) hJ hN hT) (zcc rfl (zcc rfl (zcc rfl (zcc rfl zc0)))) rfl (Nat.le_of_ble_eq_true rfl) (Nat.le_of_ble_eq_true rfl) (Nat.le_of_ble_eq_true rfl) ?_ ?_
    · intro v9 h9 q9
      rcases q9 with ⟨k1a, k2a, k3a, k4a⟩ | ⟨k1a, k2a, k3a⟩
      · cases k2a
        refine zW.pop (pc' := 225) dX1_execute_224 rfl rfl ?_
        refine zW.goto 300 dX1_execute_225 (by decide) ?_
        refine zW.vret dX1_execute_300 rfl ?_
        exact ⟨kc, kv, _, H1, ⟨kk, f2⟩, z1, k1, Or.inl ⟨k1a, rfl, k3a, k4a⟩⟩
      · cases k2a
    · intro v9 h9 q9
      rcases q9 with ⟨k1a, k2a, k3a, k4a⟩ | ⟨k1a, k2a, k3a⟩
      · cases k2a
      · cases k2a
        refine zX.out0 rfl ?_
        exact ⟨kc, kv, _, H1, ⟨kk, f2⟩, z1, k1, Or.inr ⟨k1a, rfl, k3a⟩⟩
  have fsign : c.1 = 115 → ∀ (H1 : zH) (v4 : Value), zfr (fun b => b = kc) h H1 → cNew H1 kc kv (kWd c.1) → zW G mX1_execute 31 1500 228 [.ref x, .ref cm, .ref ar, .ref kc, v4] [] H1 (cExe h h0 x X U w (sDo w.1 c)) := by
    intro ek H1 v4 z1 k1
    have eS : sDo w.1 c = sSign w.1 (nI c.2.1) (nI c.2.2.1) := by unfold sDo; rw [if_neg (by omega), if_pos ek]
    obtain ⟨g1, g2, g3⟩ := g1.resolve_left (by omega)
    have hG1 : cReg x 1 X w H1 U := hG.fr z1 fun b hb _ e => nU b (by rw [e]; exact f2) hb
    have hkc := kk.choose_spec.1
    have har1 := z1.at har (zne har hkc (by decide))
    have hx1 := z1.at hx (zne hx hkc (by decide))
    refine zW.aload_n (pc' := 229) dX1_execute_228 rfl rfl zg0 rfl ?_
    refine zW.aload_n (pc' := 230) dX1_execute_229 rfl rfl (zgS (zgS (zg0))) rfl ?_
    refine zW.iconst (pc' := 231) (nI 0) dX1_execute_230 rfl (by decide) ?_
    refine zW.ialdN (pc' := 232) dX1_execute_231 rfl har1 rfl (by omega) (Nat.le_of_ble_eq_true rfl) ?_
    refine zW.aload_n (pc' := 233) dX1_execute_232 rfl rfl (zgS (zgS (zg0))) rfl ?_
    refine zW.iconst (pc' := 234) (nI 1) dX1_execute_233 rfl (by decide) ?_
    refine zW.ialdN (pc' := 235) dX1_execute_234 rfl har1 rfl (by omega) (Nat.le_of_ble_eq_true rfl) ?_
    rw [g0, g1]
    rw [eS]
    refine zW.callV (r' := 1500) (pc' := 238) dX1_execute_235 rfl l_X1_411 rfl hx1 ⟨rfl, (Nat.le_of_ble_eq_true rfl)⟩ rfl (c_sign (z1.kn hk) hZ hG1 (Nat.le_refl _) hJ hN hT) (zcc rfl (zcc rfl zc0)) rfl (Nat.le_of_ble_eq_true rfl) (Nat.le_of_ble_eq_true rfl) (Nat.le_of_ble_eq_true rfl) ?_ ?_
    · intro v9 h9 q9
      rcases q9 with ⟨k1a, k2a, k3a, k4a⟩ | ⟨k1a, k2a, k3a⟩
      · cases k2a
        refine zW.pop (pc' := 239) dX1_execute_238 rfl rfl ?_
        refine zW.goto 300 dX1_execute_239 (by decide) ?_
        refine zW.vret dX1_execute_300 rfl ?_
        exact ⟨kc, kv, _, H1, ⟨kk, f2⟩, z1, k1, Or.inl ⟨k1a, rfl, k3a, k4a⟩⟩
      · cases k2a
    · intro v9 h9 q9
      rcases q9 with ⟨k1a, k2a, k3a, k4a⟩ | ⟨k1a, k2a, k3a⟩
      · cases k2a
      · cases k2a
        refine zX.out0 rfl ?_
        exact ⟨kc, kv, _, H1, ⟨kk, f2⟩, z1, k1, Or.inr ⟨k1a, rfl, k3a⟩⟩
  have fcounter : c.1 = 99 → ∀ (H1 : zH) (v4 : Value), zfr (fun b => b = kc) h H1 → cNew H1 kc kv (kWd c.1) → zW G mX1_execute 31 1500 242 [.ref x, .ref cm, .ref ar, .ref kc, v4] [] H1 (cExe h h0 x X U w (sDo w.1 c)) := by
    intro ek H1 v4 z1 k1
    have eS : sDo w.1 c = sCosign w.1 (nI c.2.1) (nI c.2.2.1) := by unfold sDo; rw [if_neg (by omega), if_neg (by omega), if_pos ek]
    obtain ⟨g1, g2, g3⟩ := g1.resolve_left (by omega)
    have hG1 : cReg x 1 X w H1 U := hG.fr z1 fun b hb _ e => nU b (by rw [e]; exact f2) hb
    have hkc := kk.choose_spec.1
    have har1 := z1.at har (zne har hkc (by decide))
    have hx1 := z1.at hx (zne hx hkc (by decide))
    refine zW.aload_n (pc' := 243) dX1_execute_242 rfl rfl zg0 rfl ?_
    refine zW.aload_n (pc' := 244) dX1_execute_243 rfl rfl (zgS (zgS (zg0))) rfl ?_
    refine zW.iconst (pc' := 245) (nI 0) dX1_execute_244 rfl (by decide) ?_
    refine zW.ialdN (pc' := 246) dX1_execute_245 rfl har1 rfl (by omega) (Nat.le_of_ble_eq_true rfl) ?_
    refine zW.aload_n (pc' := 247) dX1_execute_246 rfl rfl (zgS (zgS (zg0))) rfl ?_
    refine zW.iconst (pc' := 248) (nI 1) dX1_execute_247 rfl (by decide) ?_
    refine zW.ialdN (pc' := 249) dX1_execute_248 rfl har1 rfl (by omega) (Nat.le_of_ble_eq_true rfl) ?_
    rw [g0, g1]
    rw [eS]
    refine zW.callV (r' := 1500) (pc' := 252) dX1_execute_249 rfl l_X1_413 rfl hx1 ⟨rfl, (Nat.le_of_ble_eq_true rfl)⟩ rfl (c_countersign (z1.kn hk) hZ hG1 (Nat.le_refl _) hJ hN hT) (zcc rfl (zcc rfl zc0)) rfl (Nat.le_of_ble_eq_true rfl) (Nat.le_of_ble_eq_true rfl) (Nat.le_of_ble_eq_true rfl) ?_ ?_
    · intro v9 h9 q9
      rcases q9 with ⟨k1a, k2a, k3a, k4a⟩ | ⟨k1a, k2a, k3a⟩
      · cases k2a
        refine zW.pop (pc' := 253) dX1_execute_252 rfl rfl ?_
        refine zW.goto 300 dX1_execute_253 (by decide) ?_
        refine zW.vret dX1_execute_300 rfl ?_
        exact ⟨kc, kv, _, H1, ⟨kk, f2⟩, z1, k1, Or.inl ⟨k1a, rfl, k3a, k4a⟩⟩
      · cases k2a
    · intro v9 h9 q9
      rcases q9 with ⟨k1a, k2a, k3a, k4a⟩ | ⟨k1a, k2a, k3a⟩
      · cases k2a
      · cases k2a
        refine zX.out0 rfl ?_
        exact ⟨kc, kv, _, H1, ⟨kk, f2⟩, z1, k1, Or.inr ⟨k1a, rfl, k3a⟩⟩
  have fsettle : c.1 = 101 → ∀ (H1 : zH) (v4 : Value), zfr (fun b => b = kc) h H1 → cNew H1 kc kv (kWd c.1) → zW G mX1_execute 31 1500 256 [.ref x, .ref cm, .ref ar, .ref kc, v4] [] H1 (cExe h h0 x X U w (sDo w.1 c)) := by
    intro ek H1 v4 z1 k1
    have eS : sDo w.1 c = sSettle w.1 (nI c.2.1) := by unfold sDo; rw [if_neg (by omega), if_neg (by omega), if_neg (by omega), if_pos ek]
    have hG1 : cReg x 1 X w H1 U := hG.fr z1 fun b hb _ e => nU b (by rw [e]; exact f2) hb
    have hkc := kk.choose_spec.1
    have har1 := z1.at har (zne har hkc (by decide))
    have hx1 := z1.at hx (zne hx hkc (by decide))
    refine zW.aload_n (pc' := 257) dX1_execute_256 rfl rfl zg0 rfl ?_
    refine zW.aload_n (pc' := 258) dX1_execute_257 rfl rfl (zgS (zgS (zg0))) rfl ?_
    refine zW.iconst (pc' := 259) (nI 0) dX1_execute_258 rfl (by decide) ?_
    refine zW.ialdN (pc' := 260) dX1_execute_259 rfl har1 rfl (by omega) (Nat.le_of_ble_eq_true rfl) ?_
    rw [g0]
    rw [eS]
    refine zW.callV (r' := 1500) (pc' := 263) dX1_execute_260 rfl l_X1_415 rfl hx1 ⟨rfl, (Nat.le_of_ble_eq_true rfl)⟩ rfl (c_settle (z1.kn hk) hZ hG1 (Nat.le_refl _) hJ hN) (zcc rfl zc0) rfl (Nat.le_of_ble_eq_true rfl) (Nat.le_of_ble_eq_true rfl) (Nat.le_of_ble_eq_true rfl) ?_ ?_
    · intro v9 h9 q9
      rcases q9 with ⟨k1a, k2a, k3a, k4a⟩ | ⟨k1a, k2a, k3a⟩
      · cases k2a
        refine zW.pop (pc' := 264) dX1_execute_263 rfl rfl ?_
        refine zW.goto 300 dX1_execute_264 (by decide) ?_
        refine zW.vret dX1_execute_300 rfl ?_
        exact ⟨kc, kv, _, H1, ⟨kk, f2⟩, z1, k1, Or.inl ⟨k1a, rfl, k3a, k4a⟩⟩
      · cases k2a
    · intro v9 h9 q9
      rcases q9 with ⟨k1a, k2a, k3a, k4a⟩ | ⟨k1a, k2a, k3a⟩
      · cases k2a
      · cases k2a
        refine zX.out0 rfl ?_
        exact ⟨kc, kv, _, H1, ⟨kk, f2⟩, z1, k1, Or.inr ⟨k1a, rfl, k3a⟩⟩
  have ftick : c.1 = 116 → ∀ (H1 : zH) (v4 : Value), zfr (fun b => b = kc) h H1 → cNew H1 kc kv (kWd c.1) → zW G mX1_execute 31 1500 267 [.ref x, .ref cm, .ref ar, .ref kc, v4] [] H1 (cExe h h0 x X U w (sDo w.1 c)) := by
    intro ek H1 v4 z1 k1
    have eS : sDo w.1 c = sAdvance w.1 (nI c.2.1) := by unfold sDo; rw [if_neg (by omega), if_neg (by omega), if_neg (by omega), if_neg (by omega), if_neg (by omega), if_pos ek]
    have hG1 : cReg x 1 X w H1 U := hG.fr z1 fun b hb _ e => nU b (by rw [e]; exact f2) hb
    have hkc := kk.choose_spec.1
    have har1 := z1.at har (zne har hkc (by decide))
    have hx1 := z1.at hx (zne hx hkc (by decide))
    refine zW.aload_n (pc' := 268) dX1_execute_267 rfl rfl zg0 rfl ?_
    refine zW.aload_n (pc' := 269) dX1_execute_268 rfl rfl (zgS (zgS (zg0))) rfl ?_
    refine zW.iconst (pc' := 270) (nI 0) dX1_execute_269 rfl (by decide) ?_
    refine zW.ialdN (pc' := 271) dX1_execute_270 rfl har1 rfl (by omega) (Nat.le_of_ble_eq_true rfl) ?_
    rw [g0]
    rw [eS]
    refine zW.callV (r' := 1500) (pc' := 274) dX1_execute_271 rfl l_X1_417 rfl hx1 ⟨rfl, (Nat.le_of_ble_eq_true rfl)⟩ rfl (c_advance (z1.kn hk) hZ hG1 (Nat.le_refl _) hJ hN hT) (zcc rfl zc0) rfl (Nat.le_of_ble_eq_true rfl) (Nat.le_of_ble_eq_true rfl) (Nat.le_of_ble_eq_true rfl) ?_ ?_
    · intro v9 h9 q9
      rcases q9 with ⟨k1a, k2a, k3a, k4a⟩ | ⟨k1a, k2a, k3a⟩
      · cases k2a
        refine zW.pop (pc' := 275) dX1_execute_274 rfl rfl ?_
        refine zW.goto 300 dX1_execute_275 (by decide) ?_
        refine zW.vret dX1_execute_300 rfl ?_
        exact ⟨kc, kv, _, H1, ⟨kk, f2⟩, z1, k1, Or.inl ⟨k1a, rfl, k3a, k4a⟩⟩
      · cases k2a
    · intro v9 h9 q9
      rcases q9 with ⟨k1a, k2a, k3a, k4a⟩ | ⟨k1a, k2a, k3a⟩
      · cases k2a
      · cases k2a
        refine zX.out0 rfl ?_
        exact ⟨kc, kv, _, H1, ⟨kk, f2⟩, z1, k1, Or.inr ⟨k1a, rfl, k3a⟩⟩
  have faudit : c.1 = 117 → ∀ (H1 : zH) (v4 : Value), zfr (fun b => b = kc) h H1 → cNew H1 kc kv (kWd c.1) → zW G mX1_execute 31 1500 278 [.ref x, .ref cm, .ref ar, .ref kc, v4] [] H1 (cExe h h0 x X U w (sDo w.1 c)) := by
    intro ek H1 v4 z1 k1
    have eS : sDo w.1 c = sAudit w.1 (nI c.2.1) := by unfold sDo; rw [if_neg (by omega), if_neg (by omega), if_neg (by omega), if_neg (by omega), if_pos ek]
    have hG1 : cReg x 1 X w H1 U := hG.fr z1 fun b hb _ e => nU b (by rw [e]; exact f2) hb
    have hkc := kk.choose_spec.1
    have har1 := z1.at har (zne har hkc (by decide))
    have hx1 := z1.at hx (zne hx hkc (by decide))
    refine zW.aload_n (pc' := 279) dX1_execute_278 rfl rfl zg0 rfl ?_
    refine zW.aload_n (pc' := 280) dX1_execute_279 rfl rfl (zgS (zgS (zg0))) rfl ?_
    refine zW.iconst (pc' := 281) (nI 0) dX1_execute_280 rfl (by decide) ?_
    refine zW.ialdN (pc' := 282) dX1_execute_281 rfl har1 rfl (by omega) (Nat.le_of_ble_eq_true rfl) ?_
    rw [g0]
    rw [eS]
    refine zW.callV (r' := 1500) (pc' := 285) dX1_execute_282 rfl l_X1_418 rfl hx1 ⟨rfl, (Nat.le_of_ble_eq_true rfl)⟩ rfl (c_audit (z1.kn hk) hZ hG1 (Nat.le_refl _) hJ hN) (zcc rfl zc0) rfl (Nat.le_of_ble_eq_true rfl) (Nat.le_of_ble_eq_true rfl) (Nat.le_of_ble_eq_true rfl) ?_ ?_
    · intro v9 h9 q9
      rcases q9 with ⟨k1a, k2a, k3a, k4a⟩ | ⟨k1a, k2a, k3a⟩
      · cases k2a
        refine zW.pop (pc' := 286) dX1_execute_285 rfl rfl ?_
        refine zW.goto 300 dX1_execute_286 (by decide) ?_
        refine zW.vret dX1_execute_300 rfl ?_
        exact ⟨kc, kv, _, H1, ⟨kk, f2⟩, z1, k1, Or.inl ⟨k1a, rfl, k3a, k4a⟩⟩
      · cases k2a
    · intro v9 h9 q9
      rcases q9 with ⟨k1a, k2a, k3a, k4a⟩ | ⟨k1a, k2a, k3a⟩
      · cases k2a
      · cases k2a
        refine zX.out0 rfl ?_
        exact ⟨kc, kv, _, H1, ⟨kk, f2⟩, z1, k1, Or.inr ⟨k1a, rfl, k3a⟩⟩
  have frate : c.1 = 114 → ∀ (H1 : zH) (v4 : Value), zfr (fun b => b = kc) h H1 → cNew H1 kc kv (kWd c.1) → zW G mX1_execute 31 1500 289 [.ref x, .ref cm, .ref ar, .ref kc, v4] [] H1 (cExe h h0 x X U w (sDo w.1 c)) := by
    intro ek H1 v4 z1 k1
    have eS : sDo w.1 c = sSetRate w.1 (nI c.2.1) (nI c.2.2.1) := by unfold sDo; rw [if_neg (by omega), if_neg (by omega), if_neg (by omega), if_neg (by omega), if_neg (by omega), if_neg (by omega)]
    obtain ⟨g1, g2, g3⟩ := g1.resolve_left (by omega)
    have hG1 : cReg x 1 X w H1 U := hG.fr z1 fun b hb _ e => nU b (by rw [e]; exact f2) hb
    have hkc := kk.choose_spec.1
    have har1 := z1.at har (zne har hkc (by decide))
    have hx1 := z1.at hx (zne hx hkc (by decide))
    refine zW.aload_n (pc' := 290) dX1_execute_289 rfl rfl zg0 rfl ?_
    refine zW.aload_n (pc' := 291) dX1_execute_290 rfl rfl (zgS (zgS (zg0))) rfl ?_
    refine zW.iconst (pc' := 292) (nI 0) dX1_execute_291 rfl (by decide) ?_
    refine zW.ialdN (pc' := 293) dX1_execute_292 rfl har1 rfl (by omega) (Nat.le_of_ble_eq_true rfl) ?_
    refine zW.aload_n (pc' := 294) dX1_execute_293 rfl rfl (zgS (zgS (zg0))) rfl ?_
    refine zW.iconst (pc' := 295) (nI 1) dX1_execute_294 rfl (by decide) ?_
    refine zW.ialdN (pc' := 296) dX1_execute_295 rfl har1 rfl (by omega) (Nat.le_of_ble_eq_true rfl) ?_
    rw [g0, g1]
    rw [eS]
    refine zW.callV (r' := 1500) (pc' := 299) dX1_execute_296 rfl l_X1_419 rfl hx1 ⟨rfl, (Nat.le_of_ble_eq_true rfl)⟩ rfl (c_setRate (z1.kn hk) hZ hG1 (Nat.le_refl _) hJ hN) (zcc rfl (zcc rfl zc0)) rfl (Nat.le_of_ble_eq_true rfl) (Nat.le_of_ble_eq_true rfl) (Nat.le_of_ble_eq_true rfl) ?_ ?_
    · intro v9 h9 q9
      rcases q9 with ⟨k1a, k2a, k3a, k4a⟩ | ⟨k1a, k2a, k3a⟩
      · cases k2a
        refine zW.pop (pc' := 300) dX1_execute_299 rfl rfl ?_
        refine zW.vret dX1_execute_300 rfl ?_
        exact ⟨kc, kv, _, H1, ⟨kk, f2⟩, z1, k1, Or.inl ⟨k1a, rfl, k3a, k4a⟩⟩
      · cases k2a
    · intro v9 h9 q9
      rcases q9 with ⟨k1a, k2a, k3a, k4a⟩ | ⟨k1a, k2a, k3a⟩
      · cases k2a
      · cases k2a
        refine zX.out0 rfl ?_
        exact ⟨kc, kv, _, H1, ⟨kk, f2⟩, z1, k1, Or.inr ⟨k1a, rfl, k3a⟩⟩
  have hkc := kk.choose_spec.1
  show zW G mX1_execute 31 1500 0 [.ref x, .ref cm, zho, zho, zho] [] h _
  refine zW.aload_n (pc' := 1) dX1_execute_0 rfl rfl (zgS (zg0)) rfl ?_
  refine zW.get (pc' := 4) dX1_execute_1 rfl f_X1_384_5 hcm ⟨rfl, (Nat.le_of_ble_eq_true rfl)⟩ rfl ?_
  refine zW.astore_n (pc' := 5) dX1_execute_4 rfl rfl (Nat.le_of_ble_eq_true rfl) rfl (zsS (zsS (zs0))) ?_
  refine zW.aload_n (pc' := 6) dX1_execute_5 rfl rfl (zgS (zg0)) rfl ?_
  refine zW.get (pc' := 9) dX1_execute_6 rfl f_X1_389_5 hcm ⟨rfl, (Nat.le_of_ble_eq_true rfl)⟩ rfl ?_
  refine zW.astore_n (pc' := 10) dX1_execute_9 rfl rfl (Nat.le_of_ble_eq_true rfl) rfl (zsS (zsS (zsS (zs0)))) ?_
  refine zW.iconst (pc' := 11) (-1) dX1_execute_10 rfl (by decide) ?_
  refine zW.istore (pc' := 13) dX1_execute_11 rfl (Nat.le_of_ble_eq_true rfl) (zsS (zsS (zsS (zsS (zs0))))) ?_
  refine zW.aload_n (pc' := 14) dX1_execute_13 rfl rfl (zgS (zgS (zgS (zg0)))) rfl ?_
  refine zW.callV (r' := 0) (pc' := 17) dX1_execute_14 rfl l_X1_393 rfl hkc ⟨rfl, (Nat.le_of_ble_eq_true rfl)⟩ rfl (w_strHash kk hlen.1 hlen.2.1 hlen.2.2) zc0 rfl (Nat.le_of_ble_eq_true rfl) (Nat.le_of_ble_eq_true rfl) (Nat.le_of_ble_eq_true rfl) (fun _ H1 q9 => ?_) (fun _ _ q9 => absurd q9 zO.no)
  obtain ⟨_, q8, e1, k1, z1⟩ := q9
  cases q8
  cases e1
  have hkc1 := k1.choose_spec.1
  rcases hkk with e | e | e | e | e | e | e
  · refine zW.lookup (off := 59) 76 dX1_execute_17 (by decide) (by rw [e]; decide +kernel) (by decide) ?_
    refine zW.aload_n (pc' := 77) dX1_execute_76 rfl rfl (zgS (zgS (zgS (zg0)))) rfl ?_
    refine zW.ldcSW (j := 4) (pc' := 80) dX1_execute_77 rfl rfl ?_
    refine zW.callV (r' := 0) (pc' := 83) dX1_execute_80 rfl l_X1_399 rfl hkc1 ⟨rfl, (Nat.le_of_ble_eq_true rfl)⟩ rfl (w_strEq k1.str (hS.str (z1.kn hk) (j := 4) rfl)) (zcc rfl zc0) rfl (Nat.le_of_ble_eq_true rfl) (Nat.le_of_ble_eq_true rfl) (Nat.le_of_ble_eq_true rfl) (fun _ _ q9 => ?_) (fun _ _ q9 => by cases q9.1)
    obtain ⟨q8, e9⟩ := q9
    cases q8
    replace e9 := e9.symm
    subst e9
    rw [if_pos (by rw [e]; decide)]
    refine zW.if_eqN (pc' := 86) 169 dX1_execute_83 rfl (by decide) (by omega) (fun b9 => absurd b9 (by omega)) (fun b9 => ?_)
    refine zW.iconst (pc' := 87) (nI 0) dX1_execute_86 rfl (by decide) ?_
    refine zW.istore (pc' := 89) dX1_execute_87 rfl (Nat.le_of_ble_eq_true rfl) (zsS (zsS (zsS (zsS (zs0))))) ?_
    refine zW.goto 169 dX1_execute_89 (by decide) ?_
    refine zW.iload (pc' := 171) dX1_execute_169 rfl (zgS (zgS (zgS (zgS (zg0))))) ?_
    refine zW.tableIn (off := 37) 208 dX1_execute_171 (by decide) (by decide) (by decide) (by decide) ?_
    exact fadd e H1 _ z1 k1
  · refine zW.lookup (off := 75) 92 dX1_execute_17 (by decide) (by rw [e]; decide +kernel) (by decide) ?_
    refine zW.aload_n (pc' := 93) dX1_execute_92 rfl rfl (zgS (zgS (zgS (zg0)))) rfl ?_
    refine zW.ldcSW (j := 5) (pc' := 96) dX1_execute_93 rfl rfl ?_
    refine zW.callV (r' := 0) (pc' := 99) dX1_execute_96 rfl l_X1_399 rfl hkc1 ⟨rfl, (Nat.le_of_ble_eq_true rfl)⟩ rfl (w_strEq k1.str (hS.str (z1.kn hk) (j := 5) rfl)) (zcc rfl zc0) rfl (Nat.le_of_ble_eq_true rfl) (Nat.le_of_ble_eq_true rfl) (Nat.le_of_ble_eq_true rfl) (fun _ _ q9 => ?_) (fun _ _ q9 => by cases q9.1)
    obtain ⟨q8, e9⟩ := q9
    cases q8
    replace e9 := e9.symm
    subst e9
    rw [if_pos (by rw [e]; decide)]
    refine zW.if_eqN (pc' := 102) 169 dX1_execute_99 rfl (by decide) (by omega) (fun b9 => absurd b9 (by omega)) (fun b9 => ?_)
    refine zW.iconst (pc' := 103) (nI 1) dX1_execute_102 rfl (by decide) ?_
    refine zW.istore (pc' := 105) dX1_execute_103 rfl (Nat.le_of_ble_eq_true rfl) (zsS (zsS (zsS (zsS (zs0))))) ?_
    refine zW.goto 169 dX1_execute_105 (by decide) ?_
    refine zW.iload (pc' := 171) dX1_execute_169 rfl (zgS (zgS (zgS (zgS (zg0))))) ?_
    refine zW.tableIn (off := 57) 228 dX1_execute_171 (by decide) (by decide) (by decide) (by decide) ?_
    exact fsign e H1 _ z1 k1
  · refine zW.lookup (off := 91) 108 dX1_execute_17 (by decide) (by rw [e]; decide +kernel) (by decide) ?_
    refine zW.aload_n (pc' := 109) dX1_execute_108 rfl rfl (zgS (zgS (zgS (zg0)))) rfl ?_
    refine zW.ldcSW (j := 6) (pc' := 112) dX1_execute_109 rfl rfl ?_
    refine zW.callV (r' := 0) (pc' := 115) dX1_execute_112 rfl l_X1_399 rfl hkc1 ⟨rfl, (Nat.le_of_ble_eq_true rfl)⟩ rfl (w_strEq k1.str (hS.str (z1.kn hk) (j := 6) rfl)) (zcc rfl zc0) rfl (Nat.le_of_ble_eq_true rfl) (Nat.le_of_ble_eq_true rfl) (Nat.le_of_ble_eq_true rfl) (fun _ _ q9 => ?_) (fun _ _ q9 => by cases q9.1)
    obtain ⟨q8, e9⟩ := q9
    cases q8
    replace e9 := e9.symm
    subst e9
    rw [if_pos (by rw [e]; decide)]
    refine zW.if_eqN (pc' := 118) 169 dX1_execute_115 rfl (by decide) (by omega) (fun b9 => absurd b9 (by omega)) (fun b9 => ?_)
    refine zW.iconst (pc' := 119) (nI 2) dX1_execute_118 rfl (by decide) ?_
    refine zW.istore (pc' := 121) dX1_execute_119 rfl (Nat.le_of_ble_eq_true rfl) (zsS (zsS (zsS (zsS (zs0))))) ?_
    refine zW.goto 169 dX1_execute_121 (by decide) ?_
    refine zW.iload (pc' := 171) dX1_execute_169 rfl (zgS (zgS (zgS (zgS (zg0))))) ?_
    refine zW.tableIn (off := 71) 242 dX1_execute_171 (by decide) (by decide) (by decide) (by decide) ?_
    exact fcounter e H1 _ z1 k1
  · refine zW.lookup (off := 107) 124 dX1_execute_17 (by decide) (by rw [e]; decide +kernel) (by decide) ?_
    refine zW.aload_n (pc' := 125) dX1_execute_124 rfl rfl (zgS (zgS (zgS (zg0)))) rfl ?_
    refine zW.ldcSW (j := 7) (pc' := 128) dX1_execute_125 rfl rfl ?_
    refine zW.callV (r' := 0) (pc' := 131) dX1_execute_128 rfl l_X1_399 rfl hkc1 ⟨rfl, (Nat.le_of_ble_eq_true rfl)⟩ rfl (w_strEq k1.str (hS.str (z1.kn hk) (j := 7) rfl)) (zcc rfl zc0) rfl (Nat.le_of_ble_eq_true rfl) (Nat.le_of_ble_eq_true rfl) (Nat.le_of_ble_eq_true rfl) (fun _ _ q9 => ?_) (fun _ _ q9 => by cases q9.1)
    obtain ⟨q8, e9⟩ := q9
    cases q8
    replace e9 := e9.symm
    subst e9
    rw [if_pos (by rw [e]; decide)]
    refine zW.if_eqN (pc' := 134) 169 dX1_execute_131 rfl (by decide) (by omega) (fun b9 => absurd b9 (by omega)) (fun b9 => ?_)
    refine zW.iconst (pc' := 135) (nI 3) dX1_execute_134 rfl (by decide) ?_
    refine zW.istore (pc' := 137) dX1_execute_135 rfl (Nat.le_of_ble_eq_true rfl) (zsS (zsS (zsS (zsS (zs0))))) ?_
    refine zW.goto 169 dX1_execute_137 (by decide) ?_
    refine zW.iload (pc' := 171) dX1_execute_169 rfl (zgS (zgS (zgS (zgS (zg0))))) ?_
    refine zW.tableIn (off := 85) 256 dX1_execute_171 (by decide) (by decide) (by decide) (by decide) ?_
    exact fsettle e H1 _ z1 k1
  · refine zW.lookup (off := 139) 156 dX1_execute_17 (by decide) (by rw [e]; decide +kernel) (by decide) ?_
    refine zW.aload_n (pc' := 157) dX1_execute_156 rfl rfl (zgS (zgS (zgS (zg0)))) rfl ?_
    refine zW.ldcSW (j := 9) (pc' := 160) dX1_execute_157 rfl rfl ?_
    refine zW.callV (r' := 0) (pc' := 163) dX1_execute_160 rfl l_X1_399 rfl hkc1 ⟨rfl, (Nat.le_of_ble_eq_true rfl)⟩ rfl (w_strEq k1.str (hS.str (z1.kn hk) (j := 9) rfl)) (zcc rfl zc0) rfl (Nat.le_of_ble_eq_true rfl) (Nat.le_of_ble_eq_true rfl) (Nat.le_of_ble_eq_true rfl) (fun _ _ q9 => ?_) (fun _ _ q9 => by cases q9.1)
    obtain ⟨q8, e9⟩ := q9
    cases q8
    replace e9 := e9.symm
    subst e9
    rw [if_pos (by rw [e]; decide)]
    refine zW.if_eqN (pc' := 166) 169 dX1_execute_163 rfl (by decide) (by omega) (fun b9 => absurd b9 (by omega)) (fun b9 => ?_)
    refine zW.iconst (pc' := 167) (nI 5) dX1_execute_166 rfl (by decide) ?_
    refine zW.istore (pc' := 169) dX1_execute_167 rfl (Nat.le_of_ble_eq_true rfl) (zsS (zsS (zsS (zsS (zs0))))) ?_
    refine zW.iload (pc' := 171) dX1_execute_169 rfl (zgS (zgS (zgS (zgS (zg0))))) ?_
    refine zW.tableIn (off := 107) 278 dX1_execute_171 (by decide) (by decide) (by decide) (by decide) ?_
    exact faudit e H1 _ z1 k1
  · refine zW.lookup (off := 123) 140 dX1_execute_17 (by decide) (by rw [e]; decide +kernel) (by decide) ?_
    refine zW.aload_n (pc' := 141) dX1_execute_140 rfl rfl (zgS (zgS (zgS (zg0)))) rfl ?_
    refine zW.ldcSW (j := 8) (pc' := 144) dX1_execute_141 rfl rfl ?_
    refine zW.callV (r' := 0) (pc' := 147) dX1_execute_144 rfl l_X1_399 rfl hkc1 ⟨rfl, (Nat.le_of_ble_eq_true rfl)⟩ rfl (w_strEq k1.str (hS.str (z1.kn hk) (j := 8) rfl)) (zcc rfl zc0) rfl (Nat.le_of_ble_eq_true rfl) (Nat.le_of_ble_eq_true rfl) (Nat.le_of_ble_eq_true rfl) (fun _ _ q9 => ?_) (fun _ _ q9 => by cases q9.1)
    obtain ⟨q8, e9⟩ := q9
    cases q8
    replace e9 := e9.symm
    subst e9
    rw [if_pos (by rw [e]; decide)]
    refine zW.if_eqN (pc' := 150) 169 dX1_execute_147 rfl (by decide) (by omega) (fun b9 => absurd b9 (by omega)) (fun b9 => ?_)
    refine zW.iconst (pc' := 151) (nI 4) dX1_execute_150 rfl (by decide) ?_
    refine zW.istore (pc' := 153) dX1_execute_151 rfl (Nat.le_of_ble_eq_true rfl) (zsS (zsS (zsS (zsS (zs0))))) ?_
    refine zW.goto 169 dX1_execute_153 (by decide) ?_
    refine zW.iload (pc' := 171) dX1_execute_169 rfl (zgS (zgS (zgS (zgS (zg0))))) ?_
    refine zW.tableIn (off := 96) 267 dX1_execute_171 (by decide) (by decide) (by decide) (by decide) ?_
    exact ftick e H1 _ z1 k1
  · refine zW.lookup (off := 152) 169 dX1_execute_17 (by decide) (by rw [e]; decide +kernel) (by decide) ?_
    refine zW.iload (pc' := 171) dX1_execute_169 rfl (zgS (zgS (zgS (zgS (zg0))))) ?_
    refine zW.tableOut 289 dX1_execute_171 (by decide) (by decide) ?_
    exact frate e H1 _ z1 k1
end
