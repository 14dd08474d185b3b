/-! THE PARSER: a command's numbers (printed by mk9z4.py) -/
section
set_option maxRecDepth 100000
variable {G : zG} {h h' h1 H H' : zH} {p kw ka c w al kc kv ar cm s : Nat} {l q : List Nat} {e e' : Nat × Nat} {g : Nat → Nat}
theorem cNew.hash {c2 w2 : Nat} {l2 : List Nat} (k : cNew h kc kv q) (k1 : cNew h1 kc kv q) (z : zfr (fun b => b = kc) h h1) (k2 : cNew h c2 w2 l2) : cNew h1 c2 w2 l2 := by
  by_cases e : c2 = kc
  · subst e
    obtain ⟨hs, h1, h2, h3, h4⟩ := id k
    obtain ⟨hs2, g1, g2, g3, g4⟩ := id k2
    have ew : kv = w2 := by
      have := (List.cons.inj (Prod.mk.inj (Option.some.inj (h1.symm.trans g1))).2).1
      injection this
    subst ew
    have el : q = l2 := k.str.inj k2.str
    subst el
    exact k1
  · obtain ⟨hs2, g1, g2, g3, g4⟩ := k2
    obtain ⟨hs, f1, -⟩ := k
    exact ⟨hs2, z.at g1 e, g2, z.at g3 (zne g3 f1 (by decide)), g4⟩
/-- the numbers that were read -/
def cGot (c : pC) (g : Nat → Nat) : Prop := g 0 = c.2.1 ∧ (c.1 = 116 ∨ (g 1 = c.2.2.1 ∧ g 2 = c.2.2.2.1 ∧ g 3 = c.2.2.2.2))
def cPst (h : zH) (p kw c w al kc kv ar : Nat) (l q : List Nat) (H : zH) (e : Nat × Nat) (g : Nat → Nat) : Prop := cPo H p kw c al e ∧ cNew H c w l ∧ H ar = some (100, ztab 4 g) ∧ cNew H kc kv q ∧ zfr (fun b => b = p ∨ b = kc ∨ b = ar) h H
theorem cPst.call (t : cPst h p kw c w al kc kv ar l q H e g) (z : zfr (fun b => b = p) H H') (hP : cPo H' p kw c al e') : cPst h p kw c w al kc kv ar l q H' e' g := by
  obtain ⟨t1, t2, t3, t4, t5⟩ := t
  have n : ∀ {c w : Nat} {l : List Nat}, cNew H c w l → cNew H' c w l := fun k => by
    obtain ⟨hs, h1, h2, h3, h4⟩ := id k
    exact k.fr z (zne h1 t1 (by decide)) (zne h3 t1 (by decide))
  exact ⟨hP, n t2, z.at t3 (zne t3 t1 (by decide)), n t4, t5.tr z fun b hb => Or.inl (Or.inl hb)⟩
theorem cPst.put {k v : Nat} (t : cPst h p kw c w al kc kv ar l q H e g) (e9 : H' = zup H ar (100, ztab 4 (zu g k v))) : cPst h p kw c w al kc kv ar l q H' e (zu g k v) := by
  obtain ⟨t1, t2, t3, t4, t5⟩ := t
  have n : ∀ {c w : Nat} {l : List Nat}, cNew H c w l → cNew H' c w l := fun k => by
    obtain ⟨hs, h1, h2, h3, h4⟩ := k
    exact ⟨hs, zpres e9 (zne h1 t3 (by decide)) h1, h2, zpres e9 (zne h3 t3 (by decide)) h3, h4⟩
  exact ⟨zpres e9 (zne t1 t3 (by decide)) t1, n t2, by rw [e9]; exact zup_s, n t4, t5.put e9 t3 (by decide) (Or.inl (Or.inr (Or.inr rfl)))⟩
abbrev cPa (h : zH) (p kw c w al kc kv ar : Nat) (l q : List Nat) (r : pC × Nat × Nat) : zR → zH → Prop := zO fun o h' => o = none ∧ ∃ g, cPst h p kw c w al kc kv ar l q h' r.2 g ∧ cGot r.1 g
theorem cPa.mk {r : pC × Nat × Nat} (t : cPst h p kw c w al kc kv ar l q H e g) (e1 : r.2 = e) (e2 : cGot r.1 g) : cPa h p kw c w al kc kv ar l q r (.inl none) H := ⟨_, rfl, rfl, g, by rw [e1]; exact t, e2⟩
theorem w_pArgs (hk : zkn G h) (hS : zkS G) (hP : cPo h p kw c al (s, 0)) (ks : cNew h c w l) (hs : s ≤ l.length) (hcm : h cm = some (5, [.ref kc, .ref ar])) (har : h ar = some (100, ztab 4 fun _ => 0)) {k : Nat} (kk : cNew h kc kv (kWd k)) (hkk : k = 97 ∨ k = 115 ∨ k = 99 ∨ k = 101 ∨ k = 117 ∨ k = 116 ∨ k = 114) : zK G mX5_parseArguments 11 0 [.ref p, .ref cm] h (cPa h p kw c w al kc kv ar l (kWd k) (pArgs l (k, s, 0))) := by
  have hlen : 2 ≤ (kWd k).length ∧ (kWd k).length < 128 ∧ sHash (kWd k) ≠ 0 := by
    rcases hkk with rfl | rfl | rfl | rfl | rfl | rfl | rfl <;> decide +kernel
  have fAdd : k = 97 → ∀ (H : zH) (v4 : Value), cPst h p kw c w al kc kv ar l (kWd k) H (s, 0) (fun _ => 0) → zW G mX5_parseArguments 11 0 176 [.ref p, .ref cm, .ref ar, .ref kc, v4] [] H (cPa h p kw c w al kc kv ar l (kWd k) (pArgs l (k, s, 0))) := by
    intro ek H v4 t
    have hp := t.1
    unfold cPo at hp
    have har := t.2.2.1
    refine zW.aload_n (pc' := 177) dX5_parseArguments_176 rfl rfl (zgS (zgS (zg0))) rfl ?_
    refine zW.iconst (pc' := 178) (nI 0) dX5_parseArguments_177 rfl (by decide) ?_
    refine zW.aload_n (pc' := 179) dX5_parseArguments_178 rfl rfl zg0 rfl ?_
    refine zW.callV (r' := 0) (pc' := 182) dX5_parseArguments_179 rfl l_X5_125 rfl hp ⟨rfl, (Nat.le_of_ble_eq_true rfl)⟩ rfl (w_digAB t.1 t.2.1 hs) zc0 rfl (Nat.le_of_ble_eq_true rfl) (Nat.le_of_ble_eq_true rfl) (Nat.le_of_ble_eq_true rfl) (fun _ H1 q9 => ?_) (fun _ _ q9 => absurd q9 zO.no)
    obtain ⟨_, q8, e1, hP2, z2⟩ := q9
    cases q8
    cases e1
    have t := t.call z2 hP2
    have har := t.2.2.1
    refine zW.iastNK (pc' := 183) dX5_parseArguments_182 rfl har (by decide) (Nat.le_of_ble_eq_true rfl) (fun _ e9 k9 => ?_)
    have t := t.put e9
    clear e9 k9
    have hp := t.1
    unfold cPo at hp
    have har := t.2.2.1
    refine zW.aload_n (pc' := 184) dX5_parseArguments_183 rfl rfl (zgS (zgS (zg0))) rfl ?_
    refine zW.iconst (pc' := 185) (nI 1) dX5_parseArguments_184 rfl (by decide) ?_
    refine zW.aload_n (pc' := 186) dX5_parseArguments_185 rfl rfl zg0 rfl ?_
    refine zW.iconst (pc' := 187) (nI 1) dX5_parseArguments_186 rfl (by decide) ?_
    refine zW.callV (r' := 0) (pc' := 190) dX5_parseArguments_187 rfl l_X5_106 rfl hp ⟨rfl, (Nat.le_of_ble_eq_true rfl)⟩ rfl (w_digits t.1 t.2.1.str (pBehind_ub hs) (d := 1) (by decide) (by decide)) (zcc rfl zc0) rfl (Nat.le_of_ble_eq_true rfl) (Nat.le_of_ble_eq_true rfl) (Nat.le_of_ble_eq_true rfl) (fun _ H1 q9 => ?_) (fun _ _ q9 => absurd q9 zO.no)
    obtain ⟨_, q8, e1, hP2, z2⟩ := q9
    cases q8
    cases e1
    have t := t.call z2 hP2
    have har := t.2.2.1
    refine zW.iastNK (pc' := 191) dX5_parseArguments_190 rfl har (by decide) (Nat.le_of_ble_eq_true rfl) (fun _ e9 k9 => ?_)
    have t := t.put e9
    clear e9 k9
    have hp := t.1
    unfold cPo at hp
    have har := t.2.2.1
    refine zW.aload_n (pc' := 192) dX5_parseArguments_191 rfl rfl (zgS (zgS (zg0))) rfl ?_
    refine zW.iconst (pc' := 193) (nI 2) dX5_parseArguments_192 rfl (by decide) ?_
    refine zW.aload_n (pc' := 194) dX5_parseArguments_193 rfl rfl zg0 rfl ?_
    refine zW.callV (r' := 0) (pc' := 197) dX5_parseArguments_194 rfl l_X5_128 rfl hp ⟨rfl, (Nat.le_of_ble_eq_true rfl)⟩ rfl (w_numAB t.1 t.2.1 (pNum_ub (pBehind_ub hs))) zc0 rfl (Nat.le_of_ble_eq_true rfl) (Nat.le_of_ble_eq_true rfl) (Nat.le_of_ble_eq_true rfl) (fun _ H1 q9 => ?_) (fun _ _ q9 => absurd q9 zO.no)
    obtain ⟨_, q8, e1, hP2, z2⟩ := q9
    cases q8
    cases e1
    have t := t.call z2 hP2
    have har := t.2.2.1
    refine zW.iastNK (pc' := 198) dX5_parseArguments_197 rfl har (by decide) (Nat.le_of_ble_eq_true rfl) (fun _ e9 k9 => ?_)
    have t := t.put e9
    clear e9 k9
    have hp := t.1
    unfold cPo at hp
    have har := t.2.2.1
    refine zW.aload_n (pc' := 199) dX5_parseArguments_198 rfl rfl (zgS (zgS (zg0))) rfl ?_
    refine zW.iconst (pc' := 200) (nI 3) dX5_parseArguments_199 rfl (by decide) ?_
    refine zW.aload_n (pc' := 201) dX5_parseArguments_200 rfl rfl zg0 rfl ?_
    refine zW.callV (r' := 0) (pc' := 204) dX5_parseArguments_201 rfl l_X5_128 rfl hp ⟨rfl, (Nat.le_of_ble_eq_true rfl)⟩ rfl (w_numAB t.1 t.2.1 (pBehind_ub (pNum_ub (pBehind_ub hs)))) zc0 rfl (Nat.le_of_ble_eq_true rfl) (Nat.le_of_ble_eq_true rfl) (Nat.le_of_ble_eq_true rfl) (fun _ H1 q9 => ?_) (fun _ _ q9 => absurd q9 zO.no)
    obtain ⟨_, q8, e1, hP2, z2⟩ := q9
    cases q8
    cases e1
    have t := t.call z2 hP2
    have har := t.2.2.1
    refine zW.iastNK (pc' := 205) dX5_parseArguments_204 rfl har (by decide) (Nat.le_of_ble_eq_true rfl) (fun _ e9 k9 => ?_)
    have t := t.put e9
    clear e9 k9
    refine zW.goto 289 dX5_parseArguments_205 (by decide) ?_
    refine zW.vret dX5_parseArguments_289 rfl ?_
    refine cPa.mk t ?_ ?_
    · unfold pArgs; rw [if_pos ek]
    · unfold pArgs; rw [if_pos ek]; exact ⟨rfl, Or.inr ⟨rfl, rfl, rfl⟩⟩
  have fSign : k = 115 ∨ k = 99 → ∀ (H : zH) (v4 : Value), cPst h p kw c w al kc kv ar l (kWd k) H (s, 0) (fun _ => 0) → zW G mX5_parseArguments 11 0 208 [.ref p, .ref cm, .ref ar, .ref kc, v4] [] H (cPa h p kw c w al kc kv ar l (kWd k) (pArgs l (k, s, 0))) := by
    intro ek H v4 t
    have n1 : ¬ k = 97 := by omega
    have hp := t.1
    unfold cPo at hp
    have har := t.2.2.1
    refine zW.aload_n (pc' := 209) dX5_parseArguments_208 rfl rfl (zgS (zgS (zg0))) rfl ?_
    refine zW.iconst (pc' := 210) (nI 0) dX5_parseArguments_209 rfl (by decide) ?_
    refine zW.aload_n (pc' := 211) dX5_parseArguments_210 rfl rfl zg0 rfl ?_
    refine zW.callV (r' := 0) (pc' := 214) dX5_parseArguments_211 rfl l_X5_128 rfl hp ⟨rfl, (Nat.le_of_ble_eq_true rfl)⟩ rfl (w_numAB t.1 t.2.1 hs) zc0 rfl (Nat.le_of_ble_eq_true rfl) (Nat.le_of_ble_eq_true rfl) (Nat.le_of_ble_eq_true rfl) (fun _ H1 q9 => ?_) (fun _ _ q9 => absurd q9 zO.no)
    obtain ⟨_, q8, e1, hP2, z2⟩ := q9
    cases q8
    cases e1
    have t := t.call z2 hP2
    have har := t.2.2.1
    refine zW.iastNK (pc' := 215) dX5_parseArguments_214 rfl har (by decide) (Nat.le_of_ble_eq_true rfl) (fun _ e9 k9 => ?_)
    have t := t.put e9
    clear e9 k9
    have hp := t.1
    unfold cPo at hp
    have har := t.2.2.1
    refine zW.aload_n (pc' := 216) dX5_parseArguments_215 rfl rfl (zgS (zgS (zg0))) rfl ?_
    refine zW.iconst (pc' := 217) (nI 1) dX5_parseArguments_216 rfl (by decide) ?_
    refine zW.aload_n (pc' := 218) dX5_parseArguments_217 rfl rfl zg0 rfl ?_
    refine zW.callV (r' := 0) (pc' := 221) dX5_parseArguments_218 rfl l_X5_125 rfl hp ⟨rfl, (Nat.le_of_ble_eq_true rfl)⟩ rfl (w_digAB t.1 t.2.1 (pBehind_ub hs)) zc0 rfl (Nat.le_of_ble_eq_true rfl) (Nat.le_of_ble_eq_true rfl) (Nat.le_of_ble_eq_true rfl) (fun _ H1 q9 => ?_) (fun _ _ q9 => absurd q9 zO.no)
    obtain ⟨_, q8, e1, hP2, z2⟩ := q9
    cases q8
    cases e1
    have t := t.call z2 hP2
    have har := t.2.2.1
    refine zW.iastNK (pc' := 222) dX5_parseArguments_221 rfl har (by decide) (Nat.le_of_ble_eq_true rfl) (fun _ e9 k9 => ?_)
    have t := t.put e9
    clear e9 k9
    refine zW.goto 289 dX5_parseArguments_222 (by decide) ?_
    refine zW.vret dX5_parseArguments_289 rfl ?_
    refine cPa.mk t ?_ ?_
    · unfold pArgs; rw [if_neg n1, if_pos ek]
    · unfold pArgs; rw [if_neg n1, if_pos ek]; exact ⟨rfl, Or.inr ⟨rfl, rfl, rfl⟩⟩
  have fRate : k = 114 → ∀ (H : zH) (v4 : Value), cPst h p kw c w al kc kv ar l (kWd k) H (s, 0) (fun _ => 0) → zW G mX5_parseArguments 11 0 225 [.ref p, .ref cm, .ref ar, .ref kc, v4] [] H (cPa h p kw c w al kc kv ar l (kWd k) (pArgs l (k, s, 0))) := by
    intro ek H v4 t
    have n1 : ¬ k = 97 ∧ ¬ (k = 115 ∨ k = 99) ∧ ¬ (k = 101 ∨ k = 117) ∧ ¬ k = 116 := by omega
    have hp := t.1
    unfold cPo at hp
    have har := t.2.2.1
    refine zW.aload_n (pc' := 226) dX5_parseArguments_225 rfl rfl (zgS (zgS (zg0))) rfl ?_
    refine zW.iconst (pc' := 227) (nI 0) dX5_parseArguments_226 rfl (by decide) ?_
    refine zW.aload_n (pc' := 228) dX5_parseArguments_227 rfl rfl zg0 rfl ?_
    refine zW.callV (r' := 0) (pc' := 231) dX5_parseArguments_228 rfl l_X5_125 rfl hp ⟨rfl, (Nat.le_of_ble_eq_true rfl)⟩ rfl (w_digAB t.1 t.2.1 hs) zc0 rfl (Nat.le_of_ble_eq_true rfl) (Nat.le_of_ble_eq_true rfl) (Nat.le_of_ble_eq_true rfl) (fun _ H1 q9 => ?_) (fun _ _ q9 => absurd q9 zO.no)
    obtain ⟨_, q8, e1, hP2, z2⟩ := q9
    cases q8
    cases e1
    have t := t.call z2 hP2
    have har := t.2.2.1
    refine zW.iastNK (pc' := 232) dX5_parseArguments_231 rfl har (by decide) (Nat.le_of_ble_eq_true rfl) (fun _ e9 k9 => ?_)
    have t := t.put e9
    clear e9 k9
    have hp := t.1
    unfold cPo at hp
    have har := t.2.2.1
    refine zW.aload_n (pc' := 233) dX5_parseArguments_232 rfl rfl (zgS (zgS (zg0))) rfl ?_
    refine zW.iconst (pc' := 234) (nI 1) dX5_parseArguments_233 rfl (by decide) ?_
    refine zW.aload_n (pc' := 235) dX5_parseArguments_234 rfl rfl zg0 rfl ?_
    refine zW.callV (r' := 0) (pc' := 238) dX5_parseArguments_235 rfl l_X5_128 rfl hp ⟨rfl, (Nat.le_of_ble_eq_true rfl)⟩ rfl (w_numAB t.1 t.2.1 (pBehind_ub hs)) zc0 rfl (Nat.le_of_ble_eq_true rfl) (Nat.le_of_ble_eq_true rfl) (Nat.le_of_ble_eq_true rfl) (fun _ H1 q9 => ?_) (fun _ _ q9 => absurd q9 zO.no)
    obtain ⟨_, q8, e1, hP2, z2⟩ := q9
    cases q8
    cases e1
    have t := t.call z2 hP2
    have har := t.2.2.1
    refine zW.iastNK (pc' := 239) dX5_parseArguments_238 rfl har (by decide) (Nat.le_of_ble_eq_true rfl) (fun _ e9 k9 => ?_)
    have t := t.put e9
    clear e9 k9
    refine zW.goto 289 dX5_parseArguments_239 (by decide) ?_
    refine zW.vret dX5_parseArguments_289 rfl ?_
    refine cPa.mk t ?_ ?_
    · unfold pArgs; rw [if_neg n1.1, if_neg n1.2.1, if_neg n1.2.2.1, if_neg n1.2.2.2]
    · unfold pArgs; rw [if_neg n1.1, if_neg n1.2.1, if_neg n1.2.2.1, if_neg n1.2.2.2]; exact ⟨rfl, Or.inr ⟨rfl, rfl, rfl⟩⟩
  have fOne : k = 101 ∨ k = 117 → ∀ (H : zH) (v4 : Value), cPst h p kw c w al kc kv ar l (kWd k) H (s, 0) (fun _ => 0) → zW G mX5_parseArguments 11 0 282 [.ref p, .ref cm, .ref ar, .ref kc, v4] [] H (cPa h p kw c w al kc kv ar l (kWd k) (pArgs l (k, s, 0))) := by
    intro ek H v4 t
    have n1 : ¬ k = 97 ∧ ¬ (k = 115 ∨ k = 99) := by omega
    have hp := t.1
    unfold cPo at hp
    have har := t.2.2.1
    refine zW.aload_n (pc' := 283) dX5_parseArguments_282 rfl rfl (zgS (zgS (zg0))) rfl ?_
    refine zW.iconst (pc' := 284) (nI 0) dX5_parseArguments_283 rfl (by decide) ?_
    refine zW.aload_n (pc' := 285) dX5_parseArguments_284 rfl rfl zg0 rfl ?_
    refine zW.callV (r' := 0) (pc' := 288) dX5_parseArguments_285 rfl l_X5_128 rfl hp ⟨rfl, (Nat.le_of_ble_eq_true rfl)⟩ rfl (w_numAB t.1 t.2.1 hs) zc0 rfl (Nat.le_of_ble_eq_true rfl) (Nat.le_of_ble_eq_true rfl) (Nat.le_of_ble_eq_true rfl) (fun _ H1 q9 => ?_) (fun _ _ q9 => absurd q9 zO.no)
    obtain ⟨_, q8, e1, hP2, z2⟩ := q9
    cases q8
    cases e1
    have t := t.call z2 hP2
    have har := t.2.2.1
    refine zW.iastNK (pc' := 289) dX5_parseArguments_288 rfl har (by decide) (Nat.le_of_ble_eq_true rfl) (fun _ e9 k9 => ?_)
    have t := t.put e9
    clear e9 k9
    refine zW.vret dX5_parseArguments_289 rfl ?_
    refine cPa.mk t ?_ ?_
    · unfold pArgs; rw [if_neg n1.1, if_neg n1.2, if_pos ek]
    · unfold pArgs; rw [if_neg n1.1, if_neg n1.2, if_pos ek]; exact ⟨rfl, Or.inr ⟨rfl, rfl, rfl⟩⟩
  have fTick : k = 116 → ∀ (H : zH) (v4 : Value), cPst h p kw c w al kc kv ar l (kWd k) H (s, 0) (fun _ => 0) → zW G mX5_parseArguments 11 0 242 [.ref p, .ref cm, .ref ar, .ref kc, v4] [] H (cPa h p kw c w al kc kv ar l (kWd k) (pArgs l (k, s, 0))) := by
    intro ek H v4 t
    have n1 : ¬ k = 97 ∧ ¬ (k = 115 ∨ k = 99) ∧ ¬ (k = 101 ∨ k = 117) := by omega
    by_cases y : l[s]? = some 32
    · have hp := t.1
      unfold cPo at hp
      refine zW.aload_n (pc' := 243) dX5_parseArguments_242 rfl rfl (zgS (zgS (zg0))) rfl ?_
      refine zW.iconst (pc' := 244) (nI 1) dX5_parseArguments_243 rfl (by decide) ?_
      refine zW.aload_n (pc' := 245) dX5_parseArguments_244 rfl rfl zg0 rfl ?_
      refine zW.bipush (pc' := 247) (nI 32) dX5_parseArguments_245 rfl (by decide) ?_
      refine zW.callV (r' := 0) (pc' := 250) dX5_parseArguments_247 rfl l_X5_66 rfl hp ⟨rfl, (Nat.le_of_ble_eq_true rfl)⟩ rfl (w_isNext t.1 t.2.1.str hs (x := 32) (by decide)) (zcc rfl zc0) rfl (Nat.le_of_ble_eq_true rfl) (Nat.le_of_ble_eq_true rfl) (Nat.le_of_ble_eq_true rfl) (fun _ _ q9 => ?_) (fun _ _ q9 => by cases q9.1)
      obtain ⟨q8, e9⟩ := q9
      cases q8
      replace e9 := e9.symm
      subst e9
      rw [if_pos y]
      refine zW.if_eqN (pc' := 253) 257 dX5_parseArguments_250 rfl (by decide) (by omega) (fun b9 => absurd b9 (by omega)) (fun b9 => ?_)
      refine zW.iconst (pc' := 254) (nI 1) dX5_parseArguments_253 rfl (by decide) ?_
      refine zW.goto 258 dX5_parseArguments_254 (by decide) ?_
      have har := t.2.2.1
      refine zW.iastNK (pc' := 259) dX5_parseArguments_258 rfl har (by decide) (Nat.le_of_ble_eq_true rfl) (fun _ e9 k9 => ?_)
      have t := t.put e9
      clear e9 k9
      have hp := t.1
      unfold cPo at hp
      refine zW.aload_n (pc' := 260) dX5_parseArguments_259 rfl rfl (zgS (zgS (zg0))) rfl ?_
      refine zW.iconst (pc' := 261) (nI 0) dX5_parseArguments_260 rfl (by decide) ?_
      refine zW.aload_n (pc' := 262) dX5_parseArguments_261 rfl rfl zg0 rfl ?_
      refine zW.bipush (pc' := 264) (nI 32) dX5_parseArguments_262 rfl (by decide) ?_
      refine zW.callV (r' := 0) (pc' := 267) dX5_parseArguments_264 rfl l_X5_66 rfl hp ⟨rfl, (Nat.le_of_ble_eq_true rfl)⟩ rfl (w_isNext t.1 t.2.1.str hs (x := 32) (by decide)) (zcc rfl zc0) rfl (Nat.le_of_ble_eq_true rfl) (Nat.le_of_ble_eq_true rfl) (Nat.le_of_ble_eq_true rfl) (fun _ _ q9 => ?_) (fun _ _ q9 => by cases q9.1)
      obtain ⟨q8, e9⟩ := q9
      cases q8
      replace e9 := e9.symm
      subst e9
      rw [if_pos y]
      refine zW.if_eqN (pc' := 270) 277 dX5_parseArguments_267 rfl (by decide) (by omega) (fun b9 => absurd b9 (by omega)) (fun b9 => ?_)
      have hp := t.1
      unfold cPo at hp
      refine zW.aload_n (pc' := 271) dX5_parseArguments_270 rfl rfl zg0 rfl ?_
      refine zW.callV (r' := 0) (pc' := 274) dX5_parseArguments_271 rfl l_X5_128 rfl hp ⟨rfl, (Nat.le_of_ble_eq_true rfl)⟩ rfl (w_numAB t.1 t.2.1 hs) zc0 rfl (Nat.le_of_ble_eq_true rfl) (Nat.le_of_ble_eq_true rfl) (Nat.le_of_ble_eq_true rfl) (fun _ H1 q9 => ?_) (fun _ _ q9 => absurd q9 zO.no)
      obtain ⟨_, q8, e1, hP2, z2⟩ := q9
      cases q8
      cases e1
      have t := t.call z2 hP2
      refine zW.goto 278 dX5_parseArguments_274 (by decide) ?_
      have har := t.2.2.1
      refine zW.iastNK (pc' := 279) dX5_parseArguments_278 rfl har (by decide) (Nat.le_of_ble_eq_true rfl) (fun _ e9 k9 => ?_)
      have t := t.put e9
      clear e9 k9
      refine zW.goto 289 dX5_parseArguments_279 (by decide) ?_
      refine zW.vret dX5_parseArguments_289 rfl ?_
      refine cPa.mk t ?_ ?_
      · unfold pArgs; rw [if_neg n1.1, if_neg n1.2.1, if_neg n1.2.2, if_pos ek, if_pos ⟨rfl, y⟩]
      · unfold pArgs; rw [if_neg n1.1, if_neg n1.2.1, if_neg n1.2.2, if_pos ek, if_pos ⟨rfl, y⟩]; exact ⟨rfl, Or.inl rfl⟩
    · have hp := t.1
      unfold cPo at hp
      refine zW.aload_n (pc' := 243) dX5_parseArguments_242 rfl rfl (zgS (zgS (zg0))) rfl ?_
      refine zW.iconst (pc' := 244) (nI 1) dX5_parseArguments_243 rfl (by decide) ?_
      refine zW.aload_n (pc' := 245) dX5_parseArguments_244 rfl rfl zg0 rfl ?_
      refine zW.bipush (pc' := 247) (nI 32) dX5_parseArguments_245 rfl (by decide) ?_
      refine zW.callV (r' := 0) (pc' := 250) dX5_parseArguments_247 rfl l_X5_66 rfl hp ⟨rfl, (Nat.le_of_ble_eq_true rfl)⟩ rfl (w_isNext t.1 t.2.1.str hs (x := 32) (by decide)) (zcc rfl zc0) rfl (Nat.le_of_ble_eq_true rfl) (Nat.le_of_ble_eq_true rfl) (Nat.le_of_ble_eq_true rfl) (fun _ _ q9 => ?_) (fun _ _ q9 => by cases q9.1)
      obtain ⟨q8, e9⟩ := q9
      cases q8
      replace e9 := e9.symm
      subst e9
      rw [if_neg y]
      refine zW.if_eqN (pc' := 253) 257 dX5_parseArguments_250 rfl (by decide) (by omega) (fun b9 => ?_) (fun b9 => absurd b9 (by omega))
      refine zW.iconst (pc' := 258) (nI 0) dX5_parseArguments_257 rfl (by decide) ?_
      have har := t.2.2.1
      refine zW.iastNK (pc' := 259) dX5_parseArguments_258 rfl har (by decide) (Nat.le_of_ble_eq_true rfl) (fun _ e9 k9 => ?_)
      have t := t.put e9
      clear e9 k9
      have hp := t.1
      unfold cPo at hp
      refine zW.aload_n (pc' := 260) dX5_parseArguments_259 rfl rfl (zgS (zgS (zg0))) rfl ?_
      refine zW.iconst (pc' := 261) (nI 0) dX5_parseArguments_260 rfl (by decide) ?_
      refine zW.aload_n (pc' := 262) dX5_parseArguments_261 rfl rfl zg0 rfl ?_
      refine zW.bipush (pc' := 264) (nI 32) dX5_parseArguments_262 rfl (by decide) ?_
      refine zW.callV (r' := 0) (pc' := 267) dX5_parseArguments_264 rfl l_X5_66 rfl hp ⟨rfl, (Nat.le_of_ble_eq_true rfl)⟩ rfl (w_isNext t.1 t.2.1.str hs (x := 32) (by decide)) (zcc rfl zc0) rfl (Nat.le_of_ble_eq_true rfl) (Nat.le_of_ble_eq_true rfl) (Nat.le_of_ble_eq_true rfl) (fun _ _ q9 => ?_) (fun _ _ q9 => by cases q9.1)
      obtain ⟨q8, e9⟩ := q9
      cases q8
      replace e9 := e9.symm
      subst e9
      rw [if_neg y]
      refine zW.if_eqN (pc' := 270) 277 dX5_parseArguments_267 rfl (by decide) (by omega) (fun b9 => ?_) (fun b9 => absurd b9 (by omega))
      refine zW.iconst (pc' := 278) (nI 1) dX5_parseArguments_277 rfl (by decide) ?_
      have har := t.2.2.1
      refine zW.iastNK (pc' := 279) dX5_parseArguments_278 rfl har (by decide) (Nat.le_of_ble_eq_true rfl) (fun _ e9 k9 => ?_)
      have t := t.put e9
      clear e9 k9
      refine zW.goto 289 dX5_parseArguments_279 (by decide) ?_
      refine zW.vret dX5_parseArguments_289 rfl ?_
      refine cPa.mk t ?_ ?_
      · unfold pArgs; rw [if_neg n1.1, if_neg n1.2.1, if_neg n1.2.2, if_pos ek, if_neg (fun q => y q.2)]
      · unfold pArgs; rw [if_neg n1.1, if_neg n1.2.1, if_neg n1.2.2, if_pos ek, if_neg (fun q => y q.2)]; exact ⟨rfl, Or.inl rfl⟩
  show zW G mX5_parseArguments 11 0 0 [.ref p, .ref cm, zho, zho, zho] [] h _
  refine zW.aload_n (pc' := 1) dX5_parseArguments_0 rfl rfl (zgS (zg0)) rfl ?_
  refine zW.get (pc' := 4) dX5_parseArguments_1 rfl f_X5_110_5 hcm ⟨rfl, (Nat.le_of_ble_eq_true rfl)⟩ rfl ?_
  refine zW.astore_n (pc' := 5) dX5_parseArguments_4 rfl rfl (Nat.le_of_ble_eq_true rfl) rfl (zsS (zsS (zs0))) ?_
  refine zW.aload_n (pc' := 6) dX5_parseArguments_5 rfl rfl (zgS (zg0)) rfl ?_
  refine zW.get (pc' := 9) dX5_parseArguments_6 rfl f_X5_116_5 hcm ⟨rfl, (Nat.le_of_ble_eq_true rfl)⟩ rfl ?_
  refine zW.astore_n (pc' := 10) dX5_parseArguments_9 rfl rfl (Nat.le_of_ble_eq_true rfl) rfl (zsS (zsS (zsS (zs0)))) ?_
  refine zW.iconst (pc' := 11) (-1) dX5_parseArguments_10 rfl (by decide) ?_
  refine zW.istore (pc' := 13) dX5_parseArguments_11 rfl (Nat.le_of_ble_eq_true rfl) (zsS (zsS (zsS (zsS (zs0))))) ?_
  refine zW.aload_n (pc' := 14) dX5_parseArguments_13 rfl rfl (zgS (zgS (zgS (zg0)))) rfl ?_
  have hkc := kk.choose_spec.1
  refine zW.callV (r' := 0) (pc' := 17) dX5_parseArguments_14 rfl l_X5_119 rfl hkc ⟨rfl, (Nat.le_of_ble_eq_true rfl)⟩ rfl (w_strHash kk hlen.1 hlen.2.1 hlen.2.2) zc0 rfl (Nat.le_of_ble_eq_true rfl) (Nat.le_of_ble_eq_true rfl) (Nat.le_of_ble_eq_true rfl) (fun _ H1 q9 => ?_) (fun _ _ q9 => absurd q9 zO.no)
  obtain ⟨_, q8, e1, kk1, z1⟩ := q9
  cases q8
  cases e1
  have hkc1 := kk1.choose_spec.1
  have ks1 := kk.hash kk1 z1 ks
  have t : cPst h p kw c w al kc kv ar l (kWd k) H1 (s, 0) (fun _ => 0) := ⟨z1.at hP (zne hP hkc (by decide)), ks1, z1.at har (zne har hkc (by decide)), kk1, z1.mono fun b hb => Or.inl (Or.inr (Or.inl hb))⟩
  rcases hkk with rfl | rfl | rfl | rfl | rfl | rfl | rfl
  · refine zW.lookup (off := 51) 68 dX5_parseArguments_17 (by decide) (by decide +kernel) (by decide) ?_
    refine zW.aload_n (pc' := 69) dX5_parseArguments_68 rfl rfl (zgS (zgS (zgS (zg0)))) rfl ?_
    refine zW.ldcS (j := 10) (pc' := 71) dX5_parseArguments_69 rfl rfl ?_
    refine zW.callV (r' := 0) (pc' := 74) dX5_parseArguments_71 rfl l_X5_122 rfl hkc1 ⟨rfl, (Nat.le_of_ble_eq_true rfl)⟩ rfl (w_strEq kk1.str (hS.str (z1.kn hk) (j := 10) rfl)) (zcc rfl zc0) rfl (Nat.le_of_ble_eq_true rfl) (Nat.le_of_ble_eq_true rfl) (Nat.le_of_ble_eq_true rfl) (fun _ _ q9 => ?_) (fun _ _ q9 => by cases q9.1)
    obtain ⟨q8, e9⟩ := q9
    cases q8
    replace e9 := e9.symm
    subst e9
    rw [if_pos (by decide)]
    refine zW.if_eqN (pc' := 77) 140 dX5_parseArguments_74 rfl (by decide) (by omega) (fun b9 => absurd b9 (by omega)) (fun b9 => ?_)
    refine zW.iconst (pc' := 78) (nI 0) dX5_parseArguments_77 rfl (by decide) ?_
    refine zW.istore (pc' := 80) dX5_parseArguments_78 rfl (Nat.le_of_ble_eq_true rfl) (zsS (zsS (zsS (zsS (zs0))))) ?_
    refine zW.goto 140 dX5_parseArguments_80 (by decide) ?_
    refine zW.iload (pc' := 142) dX5_parseArguments_140 rfl (zgS (zgS (zgS (zgS (zg0))))) ?_
    refine zW.tableIn (off := 34) 176 dX5_parseArguments_142 (by decide) (by decide) (by decide) (by decide) ?_
    exact fAdd rfl H1 _ t
  · refine zW.lookup (off := 66) 83 dX5_parseArguments_17 (by decide) (by decide +kernel) (by decide) ?_
    refine zW.aload_n (pc' := 84) dX5_parseArguments_83 rfl rfl (zgS (zgS (zgS (zg0)))) rfl ?_
    refine zW.ldcS (j := 11) (pc' := 86) dX5_parseArguments_84 rfl rfl ?_
    refine zW.callV (r' := 0) (pc' := 89) dX5_parseArguments_86 rfl l_X5_122 rfl hkc1 ⟨rfl, (Nat.le_of_ble_eq_true rfl)⟩ rfl (w_strEq kk1.str (hS.str (z1.kn hk) (j := 11) rfl)) (zcc rfl zc0) rfl (Nat.le_of_ble_eq_true rfl) (Nat.le_of_ble_eq_true rfl) (Nat.le_of_ble_eq_true rfl) (fun _ _ q9 => ?_) (fun _ _ q9 => by cases q9.1)
    obtain ⟨q8, e9⟩ := q9
    cases q8
    replace e9 := e9.symm
    subst e9
    rw [if_pos (by decide)]
    refine zW.if_eqN (pc' := 92) 140 dX5_parseArguments_89 rfl (by decide) (by omega) (fun b9 => absurd b9 (by omega)) (fun b9 => ?_)
    refine zW.iconst (pc' := 93) (nI 1) dX5_parseArguments_92 rfl (by decide) ?_
    refine zW.istore (pc' := 95) dX5_parseArguments_93 rfl (Nat.le_of_ble_eq_true rfl) (zsS (zsS (zsS (zsS (zs0))))) ?_
    refine zW.goto 140 dX5_parseArguments_95 (by decide) ?_
    refine zW.iload (pc' := 142) dX5_parseArguments_140 rfl (zgS (zgS (zgS (zgS (zg0))))) ?_
    refine zW.tableIn (off := 66) 208 dX5_parseArguments_142 (by decide) (by decide) (by decide) (by decide) ?_
    exact fSign (Or.inl rfl) H1 _ t
  · refine zW.lookup (off := 81) 98 dX5_parseArguments_17 (by decide) (by decide +kernel) (by decide) ?_
    refine zW.aload_n (pc' := 99) dX5_parseArguments_98 rfl rfl (zgS (zgS (zgS (zg0)))) rfl ?_
    refine zW.ldcS (j := 12) (pc' := 101) dX5_parseArguments_99 rfl rfl ?_
    refine zW.callV (r' := 0) (pc' := 104) dX5_parseArguments_101 rfl l_X5_122 rfl hkc1 ⟨rfl, (Nat.le_of_ble_eq_true rfl)⟩ rfl (w_strEq kk1.str (hS.str (z1.kn hk) (j := 12) rfl)) (zcc rfl zc0) rfl (Nat.le_of_ble_eq_true rfl) (Nat.le_of_ble_eq_true rfl) (Nat.le_of_ble_eq_true rfl) (fun _ _ q9 => ?_) (fun _ _ q9 => by cases q9.1)
    obtain ⟨q8, e9⟩ := q9
    cases q8
    replace e9 := e9.symm
    subst e9
    rw [if_pos (by decide)]
    refine zW.if_eqN (pc' := 107) 140 dX5_parseArguments_104 rfl (by decide) (by omega) (fun b9 => absurd b9 (by omega)) (fun b9 => ?_)
    refine zW.iconst (pc' := 108) (nI 2) dX5_parseArguments_107 rfl (by decide) ?_
    refine zW.istore (pc' := 110) dX5_parseArguments_108 rfl (Nat.le_of_ble_eq_true rfl) (zsS (zsS (zsS (zsS (zs0))))) ?_
    refine zW.goto 140 dX5_parseArguments_110 (by decide) ?_
    refine zW.iload (pc' := 142) dX5_parseArguments_140 rfl (zgS (zgS (zgS (zgS (zg0))))) ?_
    refine zW.tableIn (off := 66) 208 dX5_parseArguments_142 (by decide) (by decide) (by decide) (by decide) ?_
    exact fSign (Or.inr rfl) H1 _ t
  · refine zW.lookup (off := 123) 140 dX5_parseArguments_17 (by decide) (by decide +kernel) (by decide) ?_
    refine zW.iload (pc' := 142) dX5_parseArguments_140 rfl (zgS (zgS (zgS (zgS (zg0))))) ?_
    refine zW.tableOut 282 dX5_parseArguments_142 (by decide) (by decide) ?_
    exact fOne (by decide) H1 _ t
  · refine zW.lookup (off := 123) 140 dX5_parseArguments_17 (by decide) (by decide +kernel) (by decide) ?_
    refine zW.iload (pc' := 142) dX5_parseArguments_140 rfl (zgS (zgS (zgS (zgS (zg0))))) ?_
    refine zW.tableOut 282 dX5_parseArguments_142 (by decide) (by decide) ?_
    exact fOne (by decide) H1 _ t
  · refine zW.lookup (off := 111) 128 dX5_parseArguments_17 (by decide) (by decide +kernel) (by decide) ?_
    refine zW.aload_n (pc' := 129) dX5_parseArguments_128 rfl rfl (zgS (zgS (zgS (zg0)))) rfl ?_
    refine zW.ldcS (j := 14) (pc' := 131) dX5_parseArguments_129 rfl rfl ?_
    refine zW.callV (r' := 0) (pc' := 134) dX5_parseArguments_131 rfl l_X5_122 rfl hkc1 ⟨rfl, (Nat.le_of_ble_eq_true rfl)⟩ rfl (w_strEq kk1.str (hS.str (z1.kn hk) (j := 14) rfl)) (zcc rfl zc0) rfl (Nat.le_of_ble_eq_true rfl) (Nat.le_of_ble_eq_true rfl) (Nat.le_of_ble_eq_true rfl) (fun _ _ q9 => ?_) (fun _ _ q9 => by cases q9.1)
    obtain ⟨q8, e9⟩ := q9
    cases q8
    replace e9 := e9.symm
    subst e9
    rw [if_pos (by decide)]
    refine zW.if_eqN (pc' := 137) 140 dX5_parseArguments_134 rfl (by decide) (by omega) (fun b9 => absurd b9 (by omega)) (fun b9 => ?_)
    refine zW.iconst (pc' := 138) (nI 4) dX5_parseArguments_137 rfl (by decide) ?_
    refine zW.istore (pc' := 140) dX5_parseArguments_138 rfl (Nat.le_of_ble_eq_true rfl) (zsS (zsS (zsS (zsS (zs0))))) ?_
    refine zW.iload (pc' := 142) dX5_parseArguments_140 rfl (zgS (zgS (zgS (zgS (zg0))))) ?_
    refine zW.tableIn (off := 100) 242 dX5_parseArguments_142 (by decide) (by decide) (by decide) (by decide) ?_
    exact fTick rfl H1 _ t
  · refine zW.lookup (off := 96) 113 dX5_parseArguments_17 (by decide) (by decide +kernel) (by decide) ?_
    refine zW.aload_n (pc' := 114) dX5_parseArguments_113 rfl rfl (zgS (zgS (zgS (zg0)))) rfl ?_
    refine zW.ldcS (j := 16) (pc' := 116) dX5_parseArguments_114 rfl rfl ?_
    refine zW.callV (r' := 0) (pc' := 119) dX5_parseArguments_116 rfl l_X5_122 rfl hkc1 ⟨rfl, (Nat.le_of_ble_eq_true rfl)⟩ rfl (w_strEq kk1.str (hS.str (z1.kn hk) (j := 16) rfl)) (zcc rfl zc0) rfl (Nat.le_of_ble_eq_true rfl) (Nat.le_of_ble_eq_true rfl) (Nat.le_of_ble_eq_true rfl) (fun _ _ q9 => ?_) (fun _ _ q9 => by cases q9.1)
    obtain ⟨q8, e9⟩ := q9
    cases q8
    replace e9 := e9.symm
    subst e9
    rw [if_pos (by decide)]
    refine zW.if_eqN (pc' := 122) 140 dX5_parseArguments_119 rfl (by decide) (by omega) (fun b9 => absurd b9 (by omega)) (fun b9 => ?_)
    refine zW.iconst (pc' := 123) (nI 3) dX5_parseArguments_122 rfl (by decide) ?_
    refine zW.istore (pc' := 125) dX5_parseArguments_123 rfl (Nat.le_of_ble_eq_true rfl) (zsS (zsS (zsS (zsS (zs0))))) ?_
    refine zW.goto 140 dX5_parseArguments_125 (by decide) ?_
    refine zW.iload (pc' := 142) dX5_parseArguments_140 rfl (zgS (zgS (zgS (zgS (zg0))))) ?_
    refine zW.tableIn (off := 83) 225 dX5_parseArguments_142 (by decide) (by decide) (by decide) (by decide) ?_
    exact fRate rfl H1 _ t
end
