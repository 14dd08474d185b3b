/-! THE INVARIANT behind each change -/
section
set_option maxRecDepth 100000
variable {T N : Nat} {s : sS}
abbrev sJ (T N : Nat) (s : sS) : Prop := sI T N 0 s ∧ sE s
theorem sJ.up {T' N' : Nat} (h : sJ T N s) (h1 : T ≤ T') (h2 : N ≤ N') : sJ T' N' s := ⟨h.1.up h1 h2 (Nat.le_refl _), h.2⟩
theorem iN_in {v : Int32} {lo hi : Nat} (h : sIn v (nI lo) (nI hi) = true) (hh : hi < 2 ^ 31) (hl : lo < 2 ^ 31) : lo ≤ iN v ∧ iN v ≤ hi := by
  obtain ⟨n, -, h1, h2, h3⟩ := sIn_nat h hh hl
  rw [h3]; exact ⟨h1, h2⟩
theorem sWt_app {cs : List sC} {c : sC} : sWt (cs ++ [c]) = sWt cs + c 3 := by
  unfold sWt
  rw [List.map_append, List.sum_append]
  simp
theorem sJ.add (h : sJ T N s) {d c w l : Int32} : sJ (T + 50) (N + 1) (sAdd s d c w l).2.2 := by
  unfold sAdd
  by_cases q : sIn d (nI 0) (nI 7) = true ∧ sIn c (nI 0) (nI 7) = true ∧ d ≠ c ∧ sIn w (nI 1) (nI 999) = true ∧ sIn l (nI 1) (nI 50) = true
  rotate_left
  · rw [if_neg q]; exact h.up (by omega) (by omega)
  rw [if_pos q]
  by_cases q2 : s.2.1.length = 12
  · rw [if_pos q2]; exact h.up (by omega) (by omega)
  rw [if_neg q2]
  obtain ⟨p1, p2, p3, p4, p5⟩ := q
  obtain ⟨a1, e1, -, b1, i1⟩ := sIn_nat p1 (by decide) (by decide)
  obtain ⟨a2, e2, -, b2, i2⟩ := sIn_nat p2 (by decide) (by decide)
  obtain ⟨a4, -, c4, b4, i4⟩ := sIn_nat p4 (by decide) (by decide)
  obtain ⟨a5, -, c5, b5, i5⟩ := sIn_nat p5 (by decide) (by decide)
  rw [i1, i2, i4, i5]
  have hdc : a1 ≠ a2 := fun e => p3 (by rw [e1, e2, e])
  obtain ⟨h, hE⟩ := h
  obtain ⟨⟨h1, h2, h3', h4, h5⟩, ⟨h6, h7, h8⟩, ⟨h9, h10, h11⟩, ⟨h12, h13⟩, h14⟩ := h
  have em : ∀ j, j ≠ 1 → j ≠ 4 → zu (zu s.1 1 (s.1 1 + 1)) 4 (s.1 4 + a4) j = s.1 j := fun j hj hk => (zu_n hk).trans (zu_n hj)
  have e1' : zu (zu s.1 1 (s.1 1 + 1)) 4 (s.1 4 + a4) 1 = s.1 1 + 1 := (zu_n (by decide)).trans zu_s
  have hnew : sCI (s.1 0) (s.1 1 + 1) (sNew (s.1 1) a1 a2 a4 (s.1 0 + a5)) := by
    show s.1 1 < s.1 1 + 1 ∧ a1 < 8 ∧ a2 < 8 ∧ a1 ≠ a2 ∧ (1 ≤ a4 ∧ a4 ≤ 9999) ∧ (s.1 0 ≤ s.1 0 + a5 ∧ s.1 0 + a5 ≤ s.1 0 + 50 + 5 * 0 + 10 * 0) ∧ 0 ≤ 2 ∧ 0 ≤ 4 ∧ 0 ≤ 4
    exact ⟨by omega, by omega, by omega, hdc, ⟨by omega, by omega⟩, ⟨by omega, by omega⟩, by omega, by omega, by omega⟩
  refine ⟨sI.mk ⟨⟨by rw [em 0 (by decide) (by decide)]; omega, by rw [e1']; omega, by rw [em 2 (by decide) (by decide)]; exact h3', by rw [em 9 (by decide) (by decide)]; exact h4, fun j hj => by rw [em _ (by omega) (by omega)]; exact h5 j hj⟩, ⟨?_, ?_, ?_⟩, ⟨?_, fun d hd => ?_, ?_⟩, ⟨?_, fun q => ?_⟩, ?_⟩, fun d hd => ?_⟩
  · rw [em 5 (by decide) (by decide), em 6 (by decide) (by decide), em 7 (by decide) (by decide), e1', List.length_append, List.length_singleton]; omega
  · rw [zu_s, em 3 (by decide) (by decide), em 8 (by decide) (by decide), sWt_app]
    show s.1 4 + a4 + s.1 3 = sWt s.2.1 + a4 + s.1 8
    omega
  · rw [em 8 (by decide) (by decide), e1', List.length_append, List.length_singleton]; omega
  · rw [List.length_append, List.length_singleton]; omega
  · rw [em 0 (by decide) (by decide), e1']
    rcases List.mem_append.mp hd with e | e
    · have := h10 d e
      unfold sCI at this ⊢
      exact ⟨by omega, this.2⟩
    · rw [List.mem_singleton.mp e]; exact hnew
  · rw [List.pairwise_append]
    refine ⟨h11, List.pairwise_singleton _ _, fun x hx y hy => ?_⟩
    rw [List.mem_singleton.mp hy]
    exact (h10 x hx).1
  · rw [List.nodup_append]
    refine ⟨h12, by simp, fun x hx y hy => ?_⟩
    rw [List.mem_singleton.mp hy]
    obtain ⟨c, hc, rfl⟩ := List.mem_map.mp ((h13 x).mp hx)
    have := (h10 c hc).1
    omega
  · rw [List.mem_append, List.map_append, List.mem_append, h13]
    exact Iff.rfl
  · rw [e1']
    exact ⟨h14.1, fun q hq => by have := h14.2 q hq; omega⟩
  · show zu (zu s.1 1 (s.1 1 + 1)) 4 (s.1 4 + a4) 0 < d 4
    rw [em 0 (by decide) (by decide)]
    rcases List.mem_append.mp hd with e | e
    · exact hE d e
    · rw [List.mem_singleton.mp e]
      show s.1 0 < s.1 0 + a5
      omega
theorem sJ.two (h : sJ T N s) {i f x y : Nat} (hi : i < s.2.1.length) (hf : f = 6 ∨ f = 7) (hx : 1 ≤ x ∧ x ≤ 4) (h0 : sAt s.2.1 i f = 0) (hy : sAt s.2.1 i 4 ≤ y ∧ y ≤ sAt s.2.1 i 4 + (if f = 6 then 5 else 10) * x) : sJ (T + 50) (N + 1) (s.1, s.2.1.set i (zu (zu (sAt s.2.1 i) f x) 4 y), s.2.2) := by
  have hc := h.1.at hi
  have hE := h.2.at hi
  have e4 : zu (zu (sAt s.2.1 i) f x) 4 y 4 = y := zu_s
  have en : ∀ j, j ≠ 4 → j ≠ f → zu (zu (sAt s.2.1 i) f x) 4 y j = sAt s.2.1 i j := fun j a b => (zu_n a).trans (zu_n b)
  have ef : zu (zu (sAt s.2.1 i) f x) 4 y f = x := (zu_n (by omega)).trans zu_s
  refine ⟨(h.1.set hi (en 0 (by omega) (by omega)) ?_ (fun _ _ => rfl) (by rw [en 3 (by omega) (by omega)])).up (by omega) (by omega) (Nat.le_refl _), h.2.set (by rw [e4]; omega) rfl⟩
  unfold sCI at hc ⊢
  rw [en 0 (by omega) (by omega), en 1 (by omega) (by omega), en 2 (by omega) (by omega), en 3 (by omega) (by omega), en 5 (by omega) (by omega), e4]
  rcases hf with e | e
  · subst e
    rw [if_pos rfl] at hy
    rw [ef, en 7 (by omega) (by omega)]
    exact ⟨hc.1, hc.2.1, hc.2.2.1, hc.2.2.2.1, hc.2.2.2.2.1, ⟨by omega, by omega⟩, hc.2.2.2.2.2.2.1, by omega, by omega⟩
  · subst e
    rw [if_neg (by decide)] at hy
    rw [ef, en 6 (by omega) (by omega)]
    exact ⟨hc.1, hc.2.1, hc.2.2.1, hc.2.2.2.1, hc.2.2.2.2.1, ⟨by omega, by omega⟩, hc.2.2.2.2.2.2.1, by omega, by omega⟩
theorem sFind_lt {cs : List sC} {id : Int32} {i : Nat} (h : sFind cs id = some i) : i < cs.length := by
  unfold sFind at h
  exact (List.findIdx?_eq_some_iff_getElem.mp h).1
theorem sJ.sign (h : sJ T N s) {id w : Int32} : sJ (T + 50) (N + 1) (sSign s id w).2.2 := by
  have hu := h.up (T' := T + 50) (N' := N + 1) (by omega) (by omega)
  unfold sSign
  cases e : sFind s.2.1 id with
  | none => exact hu
  | some i =>
    simp only
    by_cases q : sIn w (nI 0) (nI 3) = true
    rotate_left
    · rw [if_neg q]; exact hu
    rw [if_pos q]
    by_cases q2 : sAt s.2.1 i 6 = 0 ∧ sCount s.2.1 6 (iN w) < 3
    rotate_left
    · rw [if_neg q2]; exact hu
    rw [if_pos q2]
    have hw := iN_in q (by decide) (by decide)
    exact h.two (sFind_lt e) (Or.inl rfl) ⟨by omega, by omega⟩ q2.1 ⟨by omega, by rw [if_pos rfl]; omega⟩
theorem sJ.cosign (h : sJ T N s) {id w : Int32} : sJ (T + 50) (N + 1) (sCosign s id w).2.2 := by
  have hu := h.up (T' := T + 50) (N' := N + 1) (by omega) (by omega)
  unfold sCosign
  cases e : sFind s.2.1 id with
  | none => exact hu
  | some i =>
    simp only
    by_cases q : sIn w (nI 0) (nI 3) = true
    rotate_left
    · rw [if_neg q]; exact hu
    rw [if_pos q]
    by_cases q2 : 0 < sAt s.2.1 i 6 ∧ sAt s.2.1 i 7 = 0 ∧ sCount s.2.1 7 (iN w) < 2
    rotate_left
    · rw [if_neg q2]; exact hu
    rw [if_pos q2]
    have hw := iN_in q (by decide) (by decide)
    exact h.two (sFind_lt e) (Or.inr rfl) ⟨by omega, by omega⟩ q2.2.1 ⟨by omega, by rw [if_neg (by decide)]; omega⟩
theorem sJ.settle (h : sJ T N s) {id : Int32} : sJ (T + 50) (N + 1) (sSettle s id).2.2 := by
  have hu := h.up (T' := T + 50) (N' := N + 1) (by omega) (by omega)
  unfold sSettle
  cases e : sFind s.2.1 id with
  | none => exact hu
  | some i =>
    simp only
    by_cases q : sAt s.2.1 i 6 = 0
    · rw [if_pos q]; exact hu
    · rw [if_neg q]
      have h1 := (h.1.close (sFind_lt e)).cnt (n := 0) (k := 1) (f := 6) (Or.inr (Or.inl rfl))
      exact sJ.up ⟨h1, h.2.close.num (by decide)⟩ (by omega) (by omega)
theorem sJ.advance (h : sJ T N s) {t : Int32} : sJ (T + 50) (N + 1) (sAdvance s t).2.2 := by
  unfold sAdvance
  by_cases q : sIn t (nI 1) (nI 50) = true
  · rw [if_pos q]
    have hw := iN_in q (by decide) (by decide)
    exact sJ.up (h.1.ticks h.2 (k := iN t)) (by omega) (by omega)
  · rw [if_neg q]; exact h.up (by omega) (by omega)
theorem sJ.audit (h : sJ T N s) (hN : N ≤ 10000) {k : Int32} : sJ (T + 50) (N + 1) (sAudit s k).2.2 := by
  unfold sAudit
  by_cases q : sIn k (nI 1) (nI 12) = true
  · rw [if_pos q]
    obtain ⟨h1, h2, -⟩ := h.1.visits h.2 hN (k := min (iN k) s.2.1.length)
    exact sJ.up ⟨h1.cnt (n := 0) (Or.inr (Or.inr rfl)), h2.num (by decide)⟩ (by omega) (by omega)
  · rw [if_neg q]; exact h.up (by omega) (by omega)
theorem sJ.setRate (h : sJ T N s) {p v : Int32} : sJ (T + 50) (N + 1) (sSetRate s p v).2.2 := by
  unfold sSetRate
  by_cases q : sIn p (nI 0) (nI 3) = true ∧ sIn v (nI 0) (nI 20) = true
  rotate_left
  · rw [if_neg q]; exact h.up (by omega) (by omega)
  rw [if_pos q]
  have hp := iN_in q.1 (by decide) (by decide)
  have hv := iN_in q.2 (by decide) (by decide)
  have em : ∀ j, j < 10 → zu s.1 (10 + iN p) (iN v) j = s.1 j := fun j hj => zu_n (by omega)
  obtain ⟨h, hE⟩ := h
  obtain ⟨⟨h1, h2, h3', h4, h5⟩, ⟨h6, h7, h8⟩, ⟨h9, h10, h11⟩, ⟨h12, h13⟩, h14⟩ := h
  refine ⟨sI.mk ⟨⟨by rw [em 0 (by decide)]; omega, by rw [em 1 (by decide)]; omega, by rw [em 2 (by decide)]; exact h3', by rw [em 9 (by decide)]; exact h4, fun j hj => ?_⟩, ⟨?_, ?_, ?_⟩, ⟨h9, fun c hc => ?_, h11⟩, ⟨h12, h13⟩, ?_⟩, fun d hd => ?_⟩
  · by_cases e : j = iN p
    · rw [e, zu_s]; omega
    · rw [zu_n (by omega)]; exact h5 j hj
  · rw [em 5 (by decide), em 6 (by decide), em 7 (by decide), em 1 (by decide)]; exact h6
  · rw [em 4 (by decide), em 3 (by decide), em 8 (by decide)]; exact h7
  · rw [em 1 (by decide), em 8 (by decide)]; exact h8
  · rw [em 0 (by decide), em 1 (by decide)]; exact h10 c hc
  · rw [em 1 (by decide)]; exact h14
  · show zu s.1 (10 + iN p) (iN v) 0 < d 4
    rw [em 0 (by decide)]; exact hE d hd
end
