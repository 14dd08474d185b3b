/-! THE REFERENCE: the line -/
section
set_option maxRecDepth 100000
variable {G : zG} {h0 : zH} {a : tA} {T : tS} {tt nn n : Nat}
/-- a number's digits, with as many tens to spare -/
def sDec : Nat → Nat → List Nat
  | 0, v => [48 + v]
  | f + 1, v => if v ≤ 9 then [48 + v] else sDec f (v / 10) ++ [48 + v % 10]
theorem sDec_len {f : Nat} : ∀ {v : Nat}, (sDec f v).length ≤ f + 1 := by
  induction f with
  | zero => intro v; exact Nat.le_refl _
  | succ f ih =>
    intro v
    rw [sDec]
    split
    · show 1 ≤ _; omega
    · rw [List.length_append]; have := ih (v := v / 10); show _ + 1 ≤ _; omega
theorem sDec_ch {f : Nat} : ∀ {v : Nat}, v < 10 ^ (f + 1) → ∀ x ∈ sDec f v, x < 128 := by
  induction f with
  | zero => intro v hv x hx; rw [sDec] at hx; rw [List.mem_singleton.mp hx]; omega
  | succ f ih =>
    intro v hv x hx
    rw [sDec] at hx
    split at hx
    · rw [List.mem_singleton.mp hx]; omega
    · rcases List.mem_append.mp hx with q | q
      · refine ih (v := v / 10) ?_ x q
        rw [Nat.pow_succ] at hv
        exact Nat.div_lt_of_lt_mul (by rw [Nat.mul_comm]; exact hv)
      · rw [List.mem_singleton.mp q]; omega
def tL (T : tS) (l : List Nat) : Prop := T.1 6 = l.length ∧ l.length ≤ 40 ∧ ∀ i x, l[i]? = some x → T.2.2.1 i = x
/-- all else stands -/
def tG (T T' : tS) : Prop := (∀ f, f ≠ 6 → T'.1 f = T.1 f) ∧ T'.2.1 = T.2.1 ∧ T'.2.2.2 = T.2.2.2
theorem tG.tr {T1 T2 T3 : tS} (h : tG T1 T2) (g : tG T2 T3) : tG T1 T3 := ⟨fun f hf => (g.1 f hf).trans (h.1 f hf), g.2.1.trans h.2.1, g.2.2.trans h.2.2⟩
theorem tG.R {T1 T2 : tS} {b : Nat} {s : sS} (h : tG T1 T2) (g : tR T1.2.1 b s) : tR T2.2.1 b s := by rw [h.2.1]; exact g
theorem nI_char2_all : ∀ c : Fin 128, ((nI c.1).toUInt32 % 65536).toInt32 = nI c.1 := by decide +kernel
theorem nI_char2 {c : Nat} (hc : c < 128) : ((nI c).toUInt32 % 65536).toInt32 = nI c := nI_char2_all ⟨c, hc⟩
theorem w_writes (hD : tD a) {l : List Nat} (hL : tL T l) (hl : l.length < 40) {c : Nat} (hc : c < 128) : zK G mX3_writes 1 0 [.ref a.1, .int (nI c)] (tH h0 a T) (tQ h0 a fun v T' => v = none ∧ tL T' (l ++ [c]) ∧ tG T T') := by
  have h6 := hL.1
  show zW G mX3_writes 1 0 0 [.ref a.1, .int (nI c)] [] (tH h0 a T) _
  refine zW.aload_n (pc' := 1) dX3_writes_0 rfl rfl zg0 rfl ?_
  refine zT.get (pc' := 4) dX3_writes_1 rfl f_X3_13_3 rfl ?_
  try dsimp only
  refine zW.aload_n (pc' := 5) dX3_writes_4 rfl rfl zg0 rfl ?_
  refine zT.get (pc' := 8) dX3_writes_5 rfl f_X3_158_3 rfl ?_
  try dsimp only
  rw [h6]
  refine zW.iload_n (pc' := 9) dX3_writes_8 rfl rfl (zgS (zg0)) ?_
  refine zW.i2c (pc' := 10) (nI c) dX3_writes_9 rfl (nI_char2 hc) ?_
  first | refine zT.ast2 (pc' := 11) dX3_writes_10 rfl hD (by omega) (by omega) ?_ | refine zT.ast3 (pc' := 11) dX3_writes_10 rfl hD (by omega) (by omega) ?_
  try dsimp only
  refine zW.aload_n (pc' := 12) dX3_writes_11 rfl rfl zg0 rfl ?_
  refine zW.dup (pc' := 13) dX3_writes_12 rfl rfl ?_
  refine zT.get (pc' := 16) dX3_writes_13 rfl f_X3_158_3 rfl ?_
  try dsimp only
  rw [h6]
  refine zW.iconst (pc' := 17) (nI 1) dX3_writes_16 rfl (by decide) ?_
  refine zW.iaddN (pc' := 18) dX3_writes_17 rfl ?_
  refine zT.putN (pc' := 21) dX3_writes_18 rfl f_X3_158_3 (zFw.of ft_3_6 rfl rfl) rfl ?_
  try dsimp only
  refine zW.vret dX3_writes_21 rfl ?_
  refine ⟨_, (zu T.1 6 (l.length + 1), T.2.1, zu T.2.2.1 l.length c, T.2.2.2), rfl, ⟨rfl, ⟨?_, ?_, fun i x hx => ?_⟩, fun f hf => zu_n hf, rfl, rfl⟩, rfl⟩
  · rw [List.length_append]; exact zu_s (f := T.1) (k := 6)
  · rw [List.length_append, List.length_singleton]; omega
  · show zu T.2.2.1 l.length c i = x
    by_cases hil : i < l.length
    · rw [List.getElem?_append_left hil] at hx
      rw [zu_n (by omega)]
      exact hL.2.2 i x hx
    · rw [List.getElem?_append_right (by omega)] at hx
      have hi1 := (List.getElem?_eq_some_iff.mp hx).1
      rw [List.length_singleton] at hi1
      have hi2 : i = l.length := by omega
      subst hi2
      rw [Nat.sub_self] at hx
      cases hx
      exact zu_s
theorem w_writesNumber (hD : tD a) : ∀ (f : Nat) (T : tS) (l : List Nat) (v : Nat), tL T l → l.length + f + 1 ≤ 40 → v < 10 ^ (f + 1) → v < 2 ^ 30 → zK G mX3_writesNumber (f + 2) 0 [.ref a.1, .int (nI v)] (tH h0 a T) (tQ h0 a fun o T' => o = none ∧ tL T' (l ++ sDec f v) ∧ tG T T') := by
  intro f
  induction f with
  | zero =>
    intro T l v hL hl hv hv2
    show zW G mX3_writesNumber 2 0 0 [.ref a.1, .int (nI v)] [] (tH h0 a T) _
    refine zW.iload_n (pc' := 1) dX3_writesNumber_0 rfl rfl (zgS (zg0)) ?_
    refine zW.bipush (pc' := 3) (nI 9) dX3_writesNumber_1 rfl (by decide) ?_
    refine zW.icmp_leN (pc' := 6) 14 dX3_writesNumber_3 rfl (by decide) (by omega) (by omega) (fun b9 => ?_) (fun b9 => absurd b9 (by omega))
    refine zW.aload_n (pc' := 15) dX3_writesNumber_14 rfl rfl zg0 rfl ?_
    refine zW.bipush (pc' := 17) (nI 48) dX3_writesNumber_15 rfl (by decide) ?_
    refine zW.iload_n (pc' := 18) dX3_writesNumber_17 rfl rfl (zgS (zg0)) ?_
    refine zW.bipush (pc' := 20) (nI 10) dX3_writesNumber_18 rfl (by decide) ?_
    refine zW.iremN (pc' := 21) dX3_writesNumber_20 rfl (by omega) (by decide) (by decide) ?_
    refine zW.iaddN (pc' := 22) dX3_writesNumber_21 rfl ?_
    have hm : v % 10 = v := Nat.mod_eq_of_lt hv
    rw [hm]
    refine zT.call (pc' := 25) dX3_writesNumber_22 rfl l_X3_164 rfl rfl (w_writes hD hL (by omega) (c := 48 + v) (by omega)) (zcc rfl zc0) rfl (Nat.le_of_ble_eq_true rfl) (Nat.le_of_ble_eq_true rfl) (Nat.le_of_ble_eq_true rfl) (fun _ T1 ⟨e1, e2, e3⟩ => ?_)
    subst e1
    refine zW.vret dX3_writesNumber_25 rfl ?_
    exact ⟨_, T1, rfl, ⟨rfl, e2, e3⟩, rfl⟩
  | succ f ih =>
    intro T l v hL hl hv hv2
    show zW G mX3_writesNumber (f + 1 + 2) 0 0 [.ref a.1, .int (nI v)] [] (tH h0 a T) _
    rw [sDec]
    by_cases q : v ≤ 9
    · rw [if_pos q]
      refine zW.iload_n (pc' := 1) dX3_writesNumber_0 rfl rfl (zgS (zg0)) ?_
      refine zW.bipush (pc' := 3) (nI 9) dX3_writesNumber_1 rfl (by decide) ?_
      refine zW.icmp_leN (pc' := 6) 14 dX3_writesNumber_3 rfl (by decide) (by omega) (by omega) (fun b9 => ?_) (fun b9 => absurd b9 (by omega))
      refine zW.aload_n (pc' := 15) dX3_writesNumber_14 rfl rfl zg0 rfl ?_
      refine zW.bipush (pc' := 17) (nI 48) dX3_writesNumber_15 rfl (by decide) ?_
      refine zW.iload_n (pc' := 18) dX3_writesNumber_17 rfl rfl (zgS (zg0)) ?_
      refine zW.bipush (pc' := 20) (nI 10) dX3_writesNumber_18 rfl (by decide) ?_
      refine zW.iremN (pc' := 21) dX3_writesNumber_20 rfl (by omega) (by decide) (by decide) ?_
      refine zW.iaddN (pc' := 22) dX3_writesNumber_21 rfl ?_
      have hm : v % 10 = v := Nat.mod_eq_of_lt (by omega)
      rw [hm]
      refine zT.call (pc' := 25) dX3_writesNumber_22 rfl l_X3_164 rfl rfl (w_writes hD hL (by omega) (c := 48 + v) (by omega)) (zcc rfl zc0) rfl (Nat.le_of_ble_eq_true rfl) (by omega) (Nat.le_of_ble_eq_true rfl) (fun _ T1 ⟨e1, e2, e3⟩ => ?_)
      subst e1
      refine zW.vret dX3_writesNumber_25 rfl ?_
      exact ⟨_, T1, rfl, ⟨rfl, e2, e3⟩, rfl⟩
    · rw [if_neg q]
      refine zW.iload_n (pc' := 1) dX3_writesNumber_0 rfl rfl (zgS (zg0)) ?_
      refine zW.bipush (pc' := 3) (nI 9) dX3_writesNumber_1 rfl (by decide) ?_
      refine zW.icmp_leN (pc' := 6) 14 dX3_writesNumber_3 rfl (by decide) (by omega) (by omega) (fun b9 => absurd b9 (by omega)) (fun b9 => ?_)
      refine zW.aload_n (pc' := 7) dX3_writesNumber_6 rfl rfl zg0 rfl ?_
      refine zW.iload_n (pc' := 8) dX3_writesNumber_7 rfl rfl (zgS (zg0)) ?_
      refine zW.bipush (pc' := 10) (nI 10) dX3_writesNumber_8 rfl (by decide) ?_
      refine zW.idivN (pc' := 11) dX3_writesNumber_10 rfl (by omega) (by decide) (by decide) ?_
      have hv10 : v / 10 < 10 ^ (f + 1) := by
        rw [Nat.pow_succ] at hv
        exact Nat.div_lt_of_lt_mul (by rw [Nat.mul_comm]; exact hv)
      have hlen := sDec_len (f := f) (v := v / 10)
      refine zT.call (pc' := 14) dX3_writesNumber_11 rfl l_X3_161 rfl rfl (ih T l (v / 10) hL (by omega) hv10 (by omega)) (zcc rfl zc0) rfl (Nat.le_of_ble_eq_true rfl) (Nat.le_refl _) (Nat.le_of_ble_eq_true rfl) (fun _ T1 ⟨e1, e2, e3⟩ => ?_)
      subst e1
      refine zW.aload_n (pc' := 15) dX3_writesNumber_14 rfl rfl zg0 rfl ?_
      refine zW.bipush (pc' := 17) (nI 48) dX3_writesNumber_15 rfl (by decide) ?_
      refine zW.iload_n (pc' := 18) dX3_writesNumber_17 rfl rfl (zgS (zg0)) ?_
      refine zW.bipush (pc' := 20) (nI 10) dX3_writesNumber_18 rfl (by decide) ?_
      refine zW.iremN (pc' := 21) dX3_writesNumber_20 rfl (by omega) (by decide) (by decide) ?_
      refine zW.iaddN (pc' := 22) dX3_writesNumber_21 rfl ?_
      refine zT.call (pc' := 25) dX3_writesNumber_22 rfl l_X3_164 rfl rfl (w_writes hD e2 (by rw [List.length_append]; omega) (c := 48 + v % 10) (by omega)) (zcc rfl zc0) rfl (Nat.le_of_ble_eq_true rfl) (by omega) (Nat.le_of_ble_eq_true rfl) (fun _ T2 ⟨e1, e4, e5⟩ => ?_)
      subst e1
      refine zW.vret dX3_writesNumber_25 rfl ?_
      exact ⟨_, T2, rfl, ⟨rfl, by rw [← List.append_assoc]; exact e4, e3.tr e5⟩, rfl⟩
theorem w_writesBehind (hD : tD a) {l : List Nat} (hL : tL T l) {f c v : Nat} (hf : f ≤ 5) (hl : l.length + f + 3 ≤ 40) (hc : c < 128) (hv : v < 10 ^ (f + 1)) (hv2 : v < 2 ^ 30) : zK G mX3_writesBehind (f + 3) 0 [.ref a.1, .int (nI c), .int (nI v)] (tH h0 a T) (tQ h0 a fun o T' => o = none ∧ tL T' (l ++ [32, c] ++ sDec f v) ∧ tG T T') := by
  show zW G mX3_writesBehind (f + 3) 0 0 [.ref a.1, .int (nI c), .int (nI v)] [] (tH h0 a T) _
  refine zW.aload_n (pc' := 1) dX3_writesBehind_0 rfl rfl zg0 rfl ?_
  refine zW.bipush (pc' := 3) (nI 32) dX3_writesBehind_1 rfl (by decide) ?_
  refine zT.call (pc' := 6) dX3_writesBehind_3 rfl l_X3_164 rfl rfl (w_writes hD hL (by omega) (c := 32) (by omega)) (zcc rfl zc0) rfl (Nat.le_of_ble_eq_true rfl) (by omega) (Nat.le_of_ble_eq_true rfl) (fun _ T1 ⟨e1, e2, e3⟩ => ?_)
  subst e1
  refine zW.aload_n (pc' := 7) dX3_writesBehind_6 rfl rfl zg0 rfl ?_
  refine zW.iload_n (pc' := 8) dX3_writesBehind_7 rfl rfl (zgS (zg0)) ?_
  refine zT.call (pc' := 11) dX3_writesBehind_8 rfl l_X3_164 rfl rfl (w_writes hD e2 (by rw [List.length_append, List.length_singleton]; omega) hc) (zcc rfl zc0) rfl (Nat.le_of_ble_eq_true rfl) (by omega) (Nat.le_of_ble_eq_true rfl) (fun _ T2 ⟨e1, e4, e5⟩ => ?_)
  subst e1
  refine zW.aload_n (pc' := 12) dX3_writesBehind_11 rfl rfl zg0 rfl ?_
  refine zW.iload_n (pc' := 13) dX3_writesBehind_12 rfl rfl (zgS (zgS (zg0))) ?_
  refine zT.call (pc' := 16) dX3_writesBehind_13 rfl l_X3_161 rfl rfl (w_writesNumber hD f T2 _ v e4 (by rw [List.length_append, List.length_append, List.length_singleton, List.length_singleton]; omega) hv hv2) (zcc rfl zc0) rfl (Nat.le_of_ble_eq_true rfl) (Nat.le_refl _) (Nat.le_of_ble_eq_true rfl) (fun _ T3 ⟨e1, e6, e7⟩ => ?_)
  subst e1
  refine zW.vret dX3_writesBehind_16 rfl ?_
  exact ⟨_, T3, rfl, ⟨rfl, by rw [List.append_assoc l [32] [c]] at e6; exact e6, e3.tr (e5.tr e7)⟩, rfl⟩
end
