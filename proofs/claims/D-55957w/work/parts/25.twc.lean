/-! THE REFERENCE: closing a claim -/
section
set_option maxRecDepth 100000
variable {G : zG} {h0 : zH} {a : tA} {T : tS}
/-- from lo on, up to hi, what stands d further -/
def tsh (A : Nat → Nat) (lo hi d : Nat) : Nat → Nat := fun j => if lo ≤ j ∧ j < hi then A (j + d) else A j
theorem tsh_0 {A : Nat → Nat} {lo d : Nat} : tsh A lo lo d = A := by funext j; unfold tsh; rw [if_neg (by omega)]
theorem tsh_S {A : Nat → Nat} {lo k d : Nat} (hk : lo ≤ k) : zu (tsh A lo k d) k (tsh A lo k d (k + d)) = tsh A lo (k + 1) d := by
  funext j
  unfold zu tsh
  by_cases h1 : j = k
  · subst h1; rw [if_pos rfl, if_neg (by omega), if_pos (by omega)]
  · rw [if_neg h1]
    by_cases h2 : lo ≤ j ∧ j < k
    · rw [if_pos h2, if_pos (by omega)]
    · rw [if_neg h2, if_neg (by omega)]
def tzf (A : Nat → Nat) (lo hi : Nat) : Nat → Nat := fun j => if lo ≤ j ∧ j < hi then 0 else A j
theorem tzf_0 {A : Nat → Nat} {lo : Nat} : tzf A lo lo = A := by funext j; unfold tzf; rw [if_neg (by omega)]
theorem tzf_S {A : Nat → Nat} {lo k : Nat} (hk : lo ≤ k) : zu (tzf A lo k) k 0 = tzf A lo (k + 1) := by
  funext j
  unfold zu tzf
  by_cases h1 : j = k
  · subst h1; rw [if_pos rfl, if_pos (by omega)]
  · rw [if_neg h1]
    by_cases h2 : lo ≤ j ∧ j < k
    · rw [if_pos h2, if_pos (by omega)]
    · rw [if_neg h2, if_neg (by omega)]
theorem erase_first {id : Nat} : ∀ (l : List Nat) (p : Nat), l[p]? = some id → (∀ j, j < p → l[j]? ≠ some id) → l.erase id = l.eraseIdx p
  | [], p, h, _ => by simp at h
  | x :: l, 0, h, _ => by
    have e : x = id := by simpa using h
    subst e
    simp
  | x :: l, p + 1, h, hj => by
    have hx : x ≠ id := fun e => hj 0 (by omega) (by simp [e])
    rw [List.erase_cons_tail (by simpa using hx), List.eraseIdx_cons_succ, erase_first l p (by simpa using h) (fun j hj' => by simpa using hj (j + 1) (by omega))]
/-- the row behind a close -/
def tcl (A : Nat → Nat) (k p last w : Nat) : Nat → Nat := zu (tzf (tsh (zu (tsh (zu A 8 (A 8 + w)) (118 + p) (118 + last) 1) (118 + last) 0) (22 + 8 * k) (22 + 8 * last) 8) (22 + 8 * last) (22 + 8 * last + 8)) 2 last
theorem tR.close {A : Nat → Nat} {s : sS} (h : tR A 0 s) {k p : Nat} (hk : k < s.2.1.length) (hp : s.2.2.1[p]? = some (sAt s.2.1 k 0)) (hf : ∀ j, j < p → s.2.2.1[j]? ≠ some (sAt s.2.1 k 0)) : tR (tcl A k p (s.2.1.length - 1) (sAt s.2.1 k 3)) 0 (sClose s k) := by
  have hpl := (List.getElem?_eq_some_iff.mp hp).1
  obtain ⟨h1, g2, h3, h4, h5, h6, h7, h8, h10⟩ := h
  have e := erase_first s.2.2.1 p hp hf
  have hlen : (s.2.1.eraseIdx k).length = s.2.1.length - 1 := by rw [List.length_eraseIdx, if_pos hk]
  have hlq : (s.2.2.1.eraseIdx p).length = s.2.2.1.length - 1 := by rw [List.length_eraseIdx, if_pos hpl]
  refine ⟨fun i hi a1 a2 => ?_, ?_, ?_, fun i c hc g hg => ?_, fun i x hx => ?_, fun i x hx => ?_, ?_, ?_, h10⟩
  · have h8' := h1 8 (by omega) (by omega) (by omega)
    have hi' := h1 i hi a1 a2
    rw [Nat.zero_add] at h8' hi' ⊢
    unfold tcl
    rw [zu_n a1]
    unfold tzf
    rw [if_neg (by omega)]
    unfold tsh
    rw [if_neg (by omega), zu_n (by omega), if_neg (by omega)]
    show _ = zu s.1 8 (s.1 8 + sAt s.2.1 k 3) i
    by_cases hi8 : i = 8
    · subst hi8; rw [zu_s, zu_s, h8']
    · rw [zu_n hi8, zu_n hi8, hi']
  · unfold tcl
    rw [Nat.zero_add, zu_s]
    exact hlen.symm
  · unfold tcl
    rw [Nat.zero_add, zu_n (by omega)]
    unfold tzf tsh
    rw [if_neg (by omega), if_neg (by omega), zu_n (by omega), if_neg (by omega), zu_n (by omega)]
    rw [Nat.zero_add] at h3
    exact h3
  · have hc' : (s.2.1.eraseIdx k)[i]? = some c := hc
    have hil := (List.getElem?_eq_some_iff.mp hc').1
    rw [hlen] at hil
    rw [List.getElem?_eraseIdx] at hc'
    unfold tcl
    rw [zu_n (by omega)]
    unfold tzf
    rw [if_neg (by omega)]
    by_cases hik : i < k
    · rw [if_pos hik] at hc'
      unfold tsh
      rw [if_neg (by omega), zu_n (by omega), if_neg (by omega), zu_n (by omega)]
      exact h4 i c hc' g hg
    · rw [if_neg hik] at hc'
      unfold tsh
      rw [if_pos (by omega), zu_n (by omega), if_neg (by omega), zu_n (by omega)]
      have := h4 (i + 1) c hc' g hg
      rw [← this]; congr 1; omega
  · have hx' : (s.2.2.1.erase (sAt s.2.1 k 0))[i]? = some x := hx
    rw [e] at hx'
    have hil := (List.getElem?_eq_some_iff.mp hx').1
    rw [hlq] at hil
    rw [List.getElem?_eraseIdx] at hx'
    unfold tcl
    rw [zu_n (by omega)]
    unfold tzf
    rw [if_neg (by omega)]
    rw [show tsh (zu (tsh (zu A 8 (A 8 + sAt s.2.1 k 3)) (118 + p) (118 + (s.2.1.length - 1)) 1) (118 + (s.2.1.length - 1)) 0) (22 + 8 * k) (22 + 8 * (s.2.1.length - 1)) 8 (0 + 118 + i) = tsh (zu A 8 (A 8 + sAt s.2.1 k 3)) (118 + p) (118 + (s.2.1.length - 1)) 1 (0 + 118 + i) from by
      unfold tsh
      rw [if_neg (by omega), zu_n (by omega)]]
    unfold tsh
    by_cases hip : i < p
    · rw [if_pos hip] at hx'
      rw [if_neg (by omega), zu_n (by omega)]
      exact h5 i x hx'
    · rw [if_neg hip] at hx'
      rw [if_pos (by omega), zu_n (by omega)]
      have := h5 (i + 1) x hx'
      rw [← this]; congr 1
  · have hil := (List.getElem?_eq_some_iff.mp hx).1
    have hil2 : i < s.2.2.2.length := hil
    unfold tcl
    rw [zu_n (by omega)]
    unfold tzf tsh
    rw [if_neg (by omega), if_neg (by omega), zu_n (by omega), if_neg (by omega), zu_n (by omega)]
    exact h6 i x hx
  · show (s.2.1.eraseIdx k).length ≤ 12
    rw [hlen]; omega
  · show (s.2.2.1.erase (sAt s.2.1 k 0)).length = (s.2.1.eraseIdx k).length
    rw [e, hlq, hlen, h8]
theorem tcl_hi {A : Nat → Nat} {k p last w j : Nat} (hl : last < 12) (hj : 130 ≤ j) : tcl A k p last w j = A j := by
  unfold tcl
  rw [zu_n (by omega)]
  unfold tzf tsh
  rw [if_neg (by omega), if_neg (by omega), zu_n (by omega), if_neg (by omega), zu_n (by omega)]
/-- what a change leaves: the row 0 holds s, the other rows stay, of the fields but 'result' (4) -/
def tF (T T' : tS) : Prop := (∀ j, 130 ≤ j → T'.2.1 j = T.2.1 j) ∧ (∀ f, f ≠ 4 → T'.1 f = T.1 f) ∧ T'.2.2 = T.2.2
theorem tF.rf : tF T T := ⟨fun _ _ => rfl, fun _ _ => rfl, rfl⟩
theorem tF.tr {T1 T2 T3 : tS} (h : tF T1 T2) (g : tF T2 T3) : tF T1 T3 := ⟨fun j hj => (g.1 j hj).trans (h.1 j hj), fun f hf => (g.2.1 f hf).trans (h.2.1 f hf), g.2.2.trans h.2.2⟩
/-- the numbers of a row are small -/
def tB (s : sS) : Prop := (∀ c ∈ s.2.1, ∀ f, f < 8 → c f < 2 ^ 30) ∧ (∀ q ∈ s.2.2.1, q < 2 ^ 30) ∧ ∀ i, i < 14 → s.1 i < 2 ^ 30
theorem tB.at {s : sS} (h : tB s) {i f : Nat} (hi : i < s.2.1.length) (hf : f < 8) : sAt s.2.1 i f < 2 ^ 30 := h.1 _ (List.mem_of_getElem? (sAt_get hi)) f hf
theorem w_closes (hD : tD a) {s : sS} (hR : tR T.2.1 0 s) (hB : tB s) {k : Nat} (hk : k < s.2.1.length) (hq : sAt s.2.1 k 0 ∈ s.2.2.1) : zK G mX3_closes 3 0 [.ref a.1, .int (nI k)] (tH h0 a T) (tQ h0 a fun v T' => v = none ∧ tR T'.2.1 0 (sClose s k) ∧ T'.1 = T.1 ∧ tF T T') := by
  have hl := hR.act
  have hl12 := hR.2.2.2.2.2.2.1
  have hid := hB.at hk (f := 0) (by omega)
  have e0 : T.2.1 (22 + 8 * k + 0) = sAt s.2.1 k 0 := hR.cl hk (by omega)
  have e3 : T.2.1 (22 + 8 * k + 3) = sAt s.2.1 k 3 := hR.cl hk (by omega)
  show zW G mX3_closes 3 0 0 [.ref a.1, .int (nI k), zho, zho, zho] [] (tH h0 a T) _
  refine zW.aload_n (pc' := 1) dX3_closes_0 rfl rfl zg0 rfl ?_
  refine zW.iload_n (pc' := 2) dX3_closes_1 rfl rfl (zgS (zg0)) ?_
  refine zW.iconst (pc' := 3) (nI 0) dX3_closes_2 rfl (by decide) ?_
  refine zT.call (pc' := 6) dX3_closes_3 rfl l_X3_43 rfl rfl (w_c hD (by omega)) (zcc rfl (zcc rfl zc0)) rfl (Nat.le_of_ble_eq_true rfl) (Nat.le_of_ble_eq_true rfl) (Nat.le_of_ble_eq_true rfl) (fun _ _ ⟨e1, e2⟩ => ?_)
  subst e1; rw [e2]
  rw [e0]
  refine zW.istore_n (pc' := 7) dX3_closes_6 rfl rfl (Nat.le_of_ble_eq_true rfl) (zsS (zsS (zs0))) ?_
  refine zW.aload_n (pc' := 8) dX3_closes_7 rfl rfl zg0 rfl ?_
  refine zT.get (pc' := 11) dX3_closes_8 rfl f_X3_9_3 rfl ?_
  refine zW.iconst (pc' := 12) (nI 2) dX3_closes_11 rfl (by decide) ?_
  first | refine zT.ald1 (pc' := 13) dX3_closes_12 rfl hD (by omega) ?_ | refine zT.ald4 (pc' := 13) dX3_closes_12 rfl hD (by omega) ?_
  refine zW.iconst (pc' := 14) (nI 1) dX3_closes_13 rfl (by decide) ?_
  refine zW.isubN (pc' := 15) dX3_closes_14 rfl (by omega) ?_
  refine zW.istore_n (pc' := 16) dX3_closes_15 rfl rfl (Nat.le_of_ble_eq_true rfl) (zsS (zsS (zsS (zs0)))) ?_
  refine zW.aload_n (pc' := 17) dX3_closes_16 rfl rfl zg0 rfl ?_
  refine zT.get (pc' := 20) dX3_closes_17 rfl f_X3_9_3 rfl ?_
  refine zW.bipush (pc' := 22) (nI 8) dX3_closes_20 rfl (by decide) ?_
  refine zW.dup2 (pc' := 23) dX3_closes_22 rfl rfl rfl ?_
  first | refine zT.ald1 (pc' := 24) dX3_closes_23 rfl hD (by omega) ?_ | refine zT.ald4 (pc' := 24) dX3_closes_23 rfl hD (by omega) ?_
  refine zW.aload_n (pc' := 25) dX3_closes_24 rfl rfl zg0 rfl ?_
  refine zW.iload_n (pc' := 26) dX3_closes_25 rfl rfl (zgS (zg0)) ?_
  refine zW.iconst (pc' := 27) (nI 3) dX3_closes_26 rfl (by decide) ?_
  refine zT.call (pc' := 30) dX3_closes_27 rfl l_X3_43 rfl rfl (w_c hD (by omega)) (zcc rfl (zcc rfl zc0)) rfl (Nat.le_of_ble_eq_true rfl) (Nat.le_of_ble_eq_true rfl) (Nat.le_of_ble_eq_true rfl) (fun _ _ ⟨e1, e2⟩ => ?_)
  subst e1; rw [e2]
  rw [e3, hl]
  refine zW.iaddN (pc' := 31) dX3_closes_30 rfl ?_
  first | refine zT.ast1 (pc' := 32) dX3_closes_31 rfl hD (by omega) ?_ | refine zT.ast4 (pc' := 32) dX3_closes_31 rfl hD (by omega) ?_
  refine zW.aload_n (pc' := 33) dX3_closes_32 rfl rfl zg0 rfl ?_
  refine zW.iload_n (pc' := 34) dX3_closes_33 rfl rfl (zgS (zgS (zg0))) ?_
  have hbq : ∀ j, j < s.2.1.length → T.2.1 (118 + j) < 2 ^ 30 := fun j hj => by
    rw [hR.qu (by rw [hR.2.2.2.2.2.2.2.1]; exact hj)]
    exact hB.2.1 _ (List.getElem_mem _)
  have h2' : zu T.2.1 8 (T.2.1 8 + sAt s.2.1 k 3) 2 = s.2.1.length := by rw [zu_n (by omega)]; exact hl
  have h12' : zu T.2.1 8 (T.2.1 8 + sAt s.2.1 k 3) 2 ≤ 12 := by rw [h2']; exact hl12
  have hbq' : ∀ j, j < zu T.2.1 8 (T.2.1 8 + sAt s.2.1 k 3) 2 → zu T.2.1 8 (T.2.1 8 + sAt s.2.1 k 3) (118 + j) < 2 ^ 31 := fun j hj => by
    rw [zu_n (by omega)]
    rw [h2'] at hj
    exact Nat.lt_trans (hbq j hj) (by omega)
  refine zT.call (pc' := 37) dX3_closes_34 rfl l_X3_47 rfl rfl (w_placeInQueue (T := (T.1, zu T.2.1 8 (T.2.1 8 + sAt s.2.1 k 3), T.2.2)) hD h12' (by omega) hbq') (zcc rfl zc0) rfl (Nat.le_of_ble_eq_true rfl) (Nat.le_of_ble_eq_true rfl) (Nat.le_of_ble_eq_true rfl) (fun _ _ ⟨⟨x, e1, e3'⟩, e2⟩ => ?_)
  subst e1; rw [e2]
  have hlq := hR.2.2.2.2.2.2.2.1
  obtain ⟨p, hp1, hp2, hp3⟩ : ∃ p, p < s.2.1.length ∧ x = nI p ∧ s.2.2.1[p]? = some (sAt s.2.1 k 0) ∧ ∀ j, j < p → s.2.2.1[j]? ≠ some (sAt s.2.1 k 0) := by
    have h2 : zu T.2.1 8 (T.2.1 8 + sAt s.2.1 k 3) 2 = s.2.1.length := by rw [zu_n (by omega)]; exact hl
    rcases e3' with ⟨p, q1, q2, q3, q4⟩ | ⟨q1, q2⟩
    · have q1 : p < s.2.1.length := by rw [← h2]; exact q1
      refine ⟨p, q1, q4, ?_, fun j hj he => ?_⟩
      · have q2 : zu T.2.1 8 _ (118 + p) = _ := q2
        rw [zu_n (by omega), hR.qu (by omega)] at q2
        rw [List.getElem?_eq_getElem (by omega), q2]
      · have q3 : zu T.2.1 8 _ (118 + j) ≠ _ := q3 j hj
        rw [zu_n (by omega), hR.qu (by omega)] at q3
        rw [List.getElem?_eq_getElem (by omega)] at he
        exact q3 (Option.some.inj he)
    · exfalso
      obtain ⟨p, hp, e⟩ := List.getElem_of_mem hq
      have q1 : zu T.2.1 8 _ (118 + p) ≠ _ := q1 p (by show p < zu T.2.1 8 (T.2.1 8 + sAt s.2.1 k 3) 2; rw [h2]; omega)
      rw [zu_n (by omega), hR.qu (by omega)] at q1
      exact q1 e
  subst hp2
  obtain ⟨hp2, hp3⟩ := hp3
  obtain ⟨last, hlast⟩ : ∃ n, n = s.2.1.length - 1 := ⟨_, rfl⟩
  rw [← hlast]
  have loop3 : ∀ (A : Nat → Nat) n j, j + n = 8 → zW G mX3_closes 3 0 130 [.ref a.1, .int (nI k), .int (nI (sAt s.2.1 k 0)), .int (nI last), .int (nI j)] [] (tH h0 a (T.1, tzf A (22 + 8 * last) (22 + 8 * last + j), T.2.2)) (tQ h0 a fun v T' => v = none ∧ T' = (T.1, zu (tzf A (22 + 8 * last) (22 + 8 * last + 8)) 2 last, T.2.2)) := by
    intro A n
    induction n with
    | zero =>
      intro j hj
      have hj : j = 8 := by omega
      subst hj
      refine zW.iload (pc' := 132) dX3_closes_130 rfl (zgS (zgS (zgS (zgS (zg0))))) ?_
      refine zW.bipush (pc' := 134) (nI 8) dX3_closes_132 rfl (by decide) ?_
      refine zW.icmp_geN (pc' := 137) 151 dX3_closes_134 rfl (by decide) (by omega) (by omega) (fun h1 => ?_) (fun h1 => ?_)
      · refine zW.aload_n (pc' := 152) dX3_closes_151 rfl rfl zg0 rfl ?_
        refine zT.get (pc' := 155) dX3_closes_152 rfl f_X3_9_3 rfl ?_
        refine zW.iconst (pc' := 156) (nI 2) dX3_closes_155 rfl (by decide) ?_
        refine zW.iload_n (pc' := 157) dX3_closes_156 rfl rfl (zgS (zgS (zgS (zg0)))) ?_
        first | refine zT.ast1 (pc' := 158) dX3_closes_157 rfl hD (by omega) ?_ | refine zT.ast4 (pc' := 158) dX3_closes_157 rfl hD (by omega) ?_
        refine zW.vret dX3_closes_158 rfl ?_
        exact ⟨_, _, rfl, ⟨rfl, rfl⟩, rfl⟩
      · exact absurd h1 (by omega)
    | succ n ih =>
      intro j hj
      refine zW.iload (pc' := 132) dX3_closes_130 rfl (zgS (zgS (zgS (zgS (zg0))))) ?_
      refine zW.bipush (pc' := 134) (nI 8) dX3_closes_132 rfl (by decide) ?_
      refine zW.icmp_geN (pc' := 137) 151 dX3_closes_134 rfl (by decide) (by omega) (by omega) (fun h1 => ?_) (fun h1 => ?_)
      · exact absurd h1 (by omega)
      · refine zW.aload_n (pc' := 138) dX3_closes_137 rfl rfl zg0 rfl ?_
        refine zW.iload_n (pc' := 139) dX3_closes_138 rfl rfl (zgS (zgS (zgS (zg0)))) ?_
        refine zW.iload (pc' := 141) dX3_closes_139 rfl (zgS (zgS (zgS (zgS (zg0))))) ?_
        refine zW.iconst (pc' := 142) (nI 0) dX3_closes_141 rfl (by decide) ?_
        refine zT.call (pc' := 145) dX3_closes_142 rfl l_X3_51 rfl rfl (w_set hD (by omega)) (zcc rfl (zcc rfl (zcc rfl zc0))) rfl (Nat.le_of_ble_eq_true rfl) (Nat.le_of_ble_eq_true rfl) (Nat.le_of_ble_eq_true rfl) (fun _ _ ⟨e1, e2⟩ => ?_)
        subst e1; rw [e2]
        refine zW.iincN (pc' := 148) (n := 1) dX3_closes_145 rfl (Nat.le_of_ble_eq_true rfl) (zgS (zgS (zgS (zgS (zg0))))) (zsS (zsS (zsS (zsS (zs0))))) ?_
        refine zW.goto 130 dX3_closes_148 (by decide) ?_
        refine zW.congr (ih (j + 1) (by omega)) rfl rfl ?_
        rw [show 22 + 8 * last + (j + 1) = 22 + 8 * last + j + 1 by omega, ← tzf_S (by omega)]
  have loop2 : ∀ (A : Nat → Nat) n j, j + n = 8 * last → 8 * k ≤ j → zW G mX3_closes 3 0 89 [.ref a.1, .int (nI k), .int (nI (sAt s.2.1 k 0)), .int (nI last), .int (nI j)] [] (tH h0 a (T.1, tsh A (22 + 8 * k) (22 + j) 8, T.2.2)) (tQ h0 a fun v T' => v = none ∧ T' = (T.1, zu (tzf (tsh A (22 + 8 * k) (22 + 8 * last) 8) (22 + 8 * last) (22 + 8 * last + 8)) 2 last, T.2.2)) := by
    intro A n
    induction n with
    | zero =>
      intro j hj hkj
      have hj : j = 8 * last := by omega
      subst hj
      refine zW.iload (pc' := 91) dX3_closes_89 rfl (zgS (zgS (zgS (zgS (zg0))))) ?_
      refine zW.bipush (pc' := 93) (nI 8) dX3_closes_91 rfl (by decide) ?_
      refine zW.iload_n (pc' := 94) dX3_closes_93 rfl rfl (zgS (zgS (zgS (zg0)))) ?_
      refine zW.imulN (pc' := 95) dX3_closes_94 rfl ?_
      refine zW.icmp_geN (pc' := 98) 127 dX3_closes_95 rfl (by decide) (by omega) (by omega) (fun h1 => ?_) (fun h1 => ?_)
      · refine zW.iconst (pc' := 128) (nI 0) dX3_closes_127 rfl (by decide) ?_
        refine zW.istore (pc' := 130) dX3_closes_128 rfl (Nat.le_of_ble_eq_true rfl) (zsS (zsS (zsS (zsS (zs0))))) ?_
        refine zW.congr (loop3 (tsh A (22 + 8 * k) (22 + 8 * last) 8) 8 0 rfl) rfl rfl ?_
        rw [Nat.add_zero, tzf_0]
      · exact absurd h1 (by omega)
    | succ n ih =>
      intro j hj hkj
      refine zW.iload (pc' := 91) dX3_closes_89 rfl (zgS (zgS (zgS (zgS (zg0))))) ?_
      refine zW.bipush (pc' := 93) (nI 8) dX3_closes_91 rfl (by decide) ?_
      refine zW.iload_n (pc' := 94) dX3_closes_93 rfl rfl (zgS (zgS (zgS (zg0)))) ?_
      refine zW.imulN (pc' := 95) dX3_closes_94 rfl ?_
      refine zW.icmp_geN (pc' := 98) 127 dX3_closes_95 rfl (by decide) (by omega) (by omega) (fun h1 => ?_) (fun h1 => ?_)
      · exact absurd h1 (by omega)
      · refine zW.aload_n (pc' := 99) dX3_closes_98 rfl rfl zg0 rfl ?_
        refine zT.get (pc' := 102) dX3_closes_99 rfl f_X3_9_3 rfl ?_
        refine zW.bipush (pc' := 104) (nI 22) dX3_closes_102 rfl (by decide) ?_
        refine zW.iload (pc' := 106) dX3_closes_104 rfl (zgS (zgS (zgS (zgS (zg0))))) ?_
        refine zW.iaddN (pc' := 107) dX3_closes_106 rfl ?_
        refine zW.aload_n (pc' := 108) dX3_closes_107 rfl rfl zg0 rfl ?_
        refine zT.get (pc' := 111) dX3_closes_108 rfl f_X3_9_3 rfl ?_
        refine zW.bipush (pc' := 113) (nI 22) dX3_closes_111 rfl (by decide) ?_
        refine zW.iload (pc' := 115) dX3_closes_113 rfl (zgS (zgS (zgS (zgS (zg0))))) ?_
        refine zW.iaddN (pc' := 116) dX3_closes_115 rfl ?_
        refine zW.bipush (pc' := 118) (nI 8) dX3_closes_116 rfl (by decide) ?_
        refine zW.iaddN (pc' := 119) dX3_closes_118 rfl ?_
        first | refine zT.ald1 (pc' := 120) dX3_closes_119 rfl hD (by omega) ?_ | refine zT.ald4 (pc' := 120) dX3_closes_119 rfl hD (by omega) ?_
        first | refine zT.ast1 (pc' := 121) dX3_closes_120 rfl hD (by omega) ?_ | refine zT.ast4 (pc' := 121) dX3_closes_120 rfl hD (by omega) ?_
        refine zW.iincN (pc' := 124) (n := 1) dX3_closes_121 rfl (Nat.le_of_ble_eq_true rfl) (zgS (zgS (zgS (zgS (zg0))))) (zsS (zsS (zsS (zsS (zs0))))) ?_
        refine zW.goto 89 dX3_closes_124 (by decide) ?_
        refine zW.congr (ih (j + 1) (by omega) (by omega)) rfl rfl ?_
        rw [show 22 + (j + 1) = 22 + j + 1 by omega, ← tsh_S (by omega)]
  have loop1 : ∀ (A : Nat → Nat) n j, j + n = last → p ≤ j → zW G mX3_closes 3 0 39 [.ref a.1, .int (nI k), .int (nI (sAt s.2.1 k 0)), .int (nI last), .int (nI j)] [] (tH h0 a (T.1, tsh A (118 + p) (118 + j) 1, T.2.2)) (tQ h0 a fun v T' => v = none ∧ T' = (T.1, zu (tzf (tsh (zu (tsh A (118 + p) (118 + last) 1) (118 + last) 0) (22 + 8 * k) (22 + 8 * last) 8) (22 + 8 * last) (22 + 8 * last + 8)) 2 last, T.2.2)) := by
    intro A n
    induction n with
    | zero =>
      intro j hj hpj
      have hj : j = last := by omega
      subst hj
      refine zW.iload (pc' := 41) dX3_closes_39 rfl (zgS (zgS (zgS (zgS (zg0))))) ?_
      refine zW.iload_n (pc' := 42) dX3_closes_41 rfl rfl (zgS (zgS (zgS (zg0)))) ?_
      refine zW.icmp_geN (pc' := 45) 73 dX3_closes_42 rfl (by decide) (by omega) (by omega) (fun h1 => ?_) (fun h1 => ?_)
      · refine zW.aload_n (pc' := 74) dX3_closes_73 rfl rfl zg0 rfl ?_
        refine zT.get (pc' := 77) dX3_closes_74 rfl f_X3_9_3 rfl ?_
        refine zW.bipush (pc' := 79) (nI 118) dX3_closes_77 rfl (by decide) ?_
        refine zW.iload_n (pc' := 80) dX3_closes_79 rfl rfl (zgS (zgS (zgS (zg0)))) ?_
        refine zW.iaddN (pc' := 81) dX3_closes_80 rfl ?_
        refine zW.iconst (pc' := 82) (nI 0) dX3_closes_81 rfl (by decide) ?_
        first | refine zT.ast1 (pc' := 83) dX3_closes_82 rfl hD (by omega) ?_ | refine zT.ast4 (pc' := 83) dX3_closes_82 rfl hD (by omega) ?_
        refine zW.bipush (pc' := 85) (nI 8) dX3_closes_83 rfl (by decide) ?_
        refine zW.iload_n (pc' := 86) dX3_closes_85 rfl rfl (zgS (zg0)) ?_
        refine zW.imulN (pc' := 87) dX3_closes_86 rfl ?_
        refine zW.istore (pc' := 89) dX3_closes_87 rfl (Nat.le_of_ble_eq_true rfl) (zsS (zsS (zsS (zsS (zs0))))) ?_
        refine zW.congr (loop2 (zu (tsh A (118 + p) (118 + j) 1) (118 + j) 0) (8 * j - 8 * k) (8 * k) (by omega) (Nat.le_refl _)) rfl rfl ?_
        rw [tsh_0]
      · exact absurd h1 (by omega)
    | succ n ih =>
      intro j hj hpj
      refine zW.iload (pc' := 41) dX3_closes_39 rfl (zgS (zgS (zgS (zgS (zg0))))) ?_
      refine zW.iload_n (pc' := 42) dX3_closes_41 rfl rfl (zgS (zgS (zgS (zg0)))) ?_
      refine zW.icmp_geN (pc' := 45) 73 dX3_closes_42 rfl (by decide) (by omega) (by omega) (fun h1 => ?_) (fun h1 => ?_)
      · exact absurd h1 (by omega)
      · refine zW.aload_n (pc' := 46) dX3_closes_45 rfl rfl zg0 rfl ?_
        refine zT.get (pc' := 49) dX3_closes_46 rfl f_X3_9_3 rfl ?_
        refine zW.bipush (pc' := 51) (nI 118) dX3_closes_49 rfl (by decide) ?_
        refine zW.iload (pc' := 53) dX3_closes_51 rfl (zgS (zgS (zgS (zgS (zg0))))) ?_
        refine zW.iaddN (pc' := 54) dX3_closes_53 rfl ?_
        refine zW.aload_n (pc' := 55) dX3_closes_54 rfl rfl zg0 rfl ?_
        refine zT.get (pc' := 58) dX3_closes_55 rfl f_X3_9_3 rfl ?_
        refine zW.bipush (pc' := 60) (nI 118) dX3_closes_58 rfl (by decide) ?_
        refine zW.iload (pc' := 62) dX3_closes_60 rfl (zgS (zgS (zgS (zgS (zg0))))) ?_
        refine zW.iaddN (pc' := 63) dX3_closes_62 rfl ?_
        refine zW.iconst (pc' := 64) (nI 1) dX3_closes_63 rfl (by decide) ?_
        refine zW.iaddN (pc' := 65) dX3_closes_64 rfl ?_
        first | refine zT.ald1 (pc' := 66) dX3_closes_65 rfl hD (by omega) ?_ | refine zT.ald4 (pc' := 66) dX3_closes_65 rfl hD (by omega) ?_
        first | refine zT.ast1 (pc' := 67) dX3_closes_66 rfl hD (by omega) ?_ | refine zT.ast4 (pc' := 67) dX3_closes_66 rfl hD (by omega) ?_
        refine zW.iincN (pc' := 70) (n := 1) dX3_closes_67 rfl (Nat.le_of_ble_eq_true rfl) (zgS (zgS (zgS (zgS (zg0))))) (zsS (zsS (zsS (zsS (zs0))))) ?_
        refine zW.goto 39 dX3_closes_70 (by decide) ?_
        refine zW.congr (ih (j + 1) (by omega) (by omega)) rfl rfl ?_
        rw [show 118 + (j + 1) = 118 + j + 1 by omega, ← tsh_S (by omega)]
  refine zW.istore (pc' := 39) dX3_closes_37 rfl (Nat.le_of_ble_eq_true rfl) (zsS (zsS (zsS (zsS (zs0))))) ?_
  refine zW.post (zW.congr (loop1 (zu T.2.1 8 (T.2.1 8 + sAt s.2.1 k 3)) (last - p) p (by omega) (Nat.le_refl _)) rfl rfl ?_) ?_
  · rw [tsh_0]
  · rintro o h' ⟨v, T', e1, ⟨e2, e3⟩, e4⟩
    subst e3
    have hc := hR.close hk hp2 hp3
    rw [← hlast] at hc
    exact ⟨v, (T.1, tcl T.2.1 k p last (sAt s.2.1 k 3), T.2.2), e1, ⟨e2, hc, rfl, ⟨fun j hj => tcl_hi (by omega) hj, fun _ _ => rfl, rfl⟩⟩, e4⟩
end
