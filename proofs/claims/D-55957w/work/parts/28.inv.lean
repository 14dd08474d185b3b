/-! THE INVARIANT is kept by every change -/
section
set_option maxRecDepth 100000
variable {T N n : Nat} {s : sS}
theorem sI.mk {m : Nat → Nat} {cs : List sC} {qu re : List Nat} (h : (m 0 ≤ T ∧ m 1 ≤ N ∧ m 2 = 0 ∧ m 9 = 0 ∧ (∀ i, i < 4 → m (10 + i) ≤ 20)) ∧ (n + m 5 + m 6 + m 7 + cs.length ≤ m 1 ∧ m 4 + m 3 = sWt cs + m 8 ∧ m 8 + 9999 * cs.length ≤ 9999 * m 1) ∧
  (cs.length ≤ 12 ∧ (∀ c ∈ cs, sCI (m 0) (m 1) c) ∧ cs.Pairwise (fun c c' => c 0 < c' 0)) ∧ (qu.Nodup ∧ (∀ q, q ∈ qu ↔ q ∈ cs.map fun c => c 0)) ∧ (re.length ≤ 8 ∧ ∀ q ∈ re, q < m 1)) : sI T N n (m, cs, qu, re) := h
theorem sI.at (h : sI T N n s) {i : Nat} (hi : i < s.2.1.length) : sCI (s.1 0) (s.1 1) (sAt s.2.1 i) := h.2.2.1.2.1 _ (List.mem_of_getElem? (sAt_get hi))
theorem sI.len (h : sI T N n s) : s.2.1.length ≤ 12 := h.2.2.1.1
theorem sI.up {T' N' n' : Nat} (h : sI T N n s) (h1 : T ≤ T') (h2 : N ≤ N') (h3 : n' ≤ n) : sI T' N' n' s :=
  ⟨⟨Nat.le_trans h.1.1 h1, Nat.le_trans h.1.2.1 h2, h.1.2.2⟩, ⟨by have := h.2.1.1; omega, h.2.1.2⟩, h.2.2⟩
theorem sI.tB (h : sI T N n s) (hT : T ≤ 100000) (hN : N ≤ 10000) : tB s := by
  obtain ⟨⟨h1, h2, h3, h4, h5⟩, ⟨h6, h7, h8⟩, ⟨h9, h10, h11⟩, ⟨h12, h13⟩, h14⟩ := h
  have hw : sWt s.2.1 ≤ 9999 * s.2.1.length := by
    unfold sWt
    have : ∀ l : List sC, (∀ c ∈ l, c 3 ≤ 9999) → (l.map fun c => c 3).sum ≤ 9999 * l.length := by
      intro l
      induction l with
      | nil => intro _; exact Nat.le_refl _
      | cons c l ih =>
        intro hl
        have := ih fun c hc => hl c (List.mem_cons_of_mem _ hc)
        have h0 := hl c List.mem_cons_self
        simp only [List.map_cons, List.sum_cons, List.length_cons]
        omega
    exact this _ fun c hc => (h10 c hc).2.2.2.2.1.2
  refine ⟨fun c hc f hf => ?_, fun q hq => ?_, fun i hi => ?_⟩
  · have hc := h10 c hc
    unfold sCI at hc
    rcases (show f = 0 ∨ f = 1 ∨ f = 2 ∨ f = 3 ∨ f = 4 ∨ f = 5 ∨ f = 6 ∨ f = 7 by omega) with q | q | q | q | q | q | q | q <;> subst q <;> omega
  · obtain ⟨c, hc, rfl⟩ := List.mem_map.mp ((h13 q).mp hq)
    have hc := h10 c hc
    unfold sCI at hc
    omega
  · rcases (show i = 0 ∨ i = 1 ∨ i = 2 ∨ i = 3 ∨ i = 4 ∨ i = 5 ∨ i = 6 ∨ i = 7 ∨ i = 8 ∨ i = 9 ∨ ∃ j, j < 4 ∧ i = 10 + j by
      by_cases q : i < 10
      · omega
      · exact Or.inr (Or.inr (Or.inr (Or.inr (Or.inr (Or.inr (Or.inr (Or.inr (Or.inr (Or.inr ⟨i - 10, by omega, by omega⟩)))))))))) with q | q | q | q | q | q | q | q | q | q | ⟨j, hj, q⟩
    all_goals subst q
    all_goals first | omega | exact Nat.lt_of_le_of_lt (h5 j hj) (by decide)
theorem sI.qu (h : sI T N n s) {i : Nat} (hi : i < s.2.1.length) : sAt s.2.1 i 0 ∈ s.2.2.1 := (h.2.2.2.1.2 _).mpr (List.mem_map_of_mem (f := fun c : sC => c 0) (List.mem_of_getElem? (sAt_get hi)))
theorem sAt_map {cs : List sC} {i : Nat} (hi : i < cs.length) : (cs.map fun c => c 0)[i]? = some (sAt cs i 0) := by
  rw [List.getElem?_map, sAt_get hi]; rfl
/-- ids are in order -/
theorem sI.nd (h : sI T N n s) : (s.2.1.map fun c => c 0).Nodup := by
  have := h.2.2.1.2.2
  exact List.pairwise_map.mpr (this.imp fun q => Nat.ne_of_lt q)
theorem sFind_at (h : sI T N n s) (hN : N ≤ 10000) {i : Nat} (hi : i < s.2.1.length) : sFind s.2.1 (nI (sAt s.2.1 i 0)) = some i := by
  unfold sFind
  rw [List.findIdx?_eq_some_iff_getElem]
  have hc := h.at hi
  have hn := h.1.2.1
  refine ⟨hi, ?_, fun j hj => ?_⟩
  · rw [sAt_of (List.getElem?_eq_getElem hi)]; exact decide_eq_true rfl
  · have hjl : j < s.2.1.length := by omega
    have hp := List.pairwise_iff_getElem.mp h.2.2.1.2.2 j i hjl hi hj
    have hcj := h.at hjl
    unfold sCI at hc hcj
    rw [sAt_of (List.getElem?_eq_getElem hi)] at hc ⊢
    rw [sAt_of (List.getElem?_eq_getElem hjl)] at hcj
    rw [decide_eq_true_eq]
    intro e
    have := nI_inj e (by omega) (by omega)
    omega
theorem sFind_q (h : sI T N n s) (hN : N ≤ 10000) {q : Nat} (hq : q ∈ s.2.2.1) : ∃ i, sFind s.2.1 (nI q) = some i ∧ i < s.2.1.length ∧ sAt s.2.1 i 0 = q := by
  obtain ⟨c, hc, rfl⟩ := List.mem_map.mp ((h.2.2.2.1.2 q).mp hq)
  obtain ⟨i, hi, e⟩ := List.getElem_of_mem hc
  have e2 : sAt s.2.1 i = c := by rw [sAt_of (List.getElem?_eq_getElem hi), e]
  exact ⟨i, by have := sFind_at h hN hi; rwa [e2] at this, hi, by rw [e2]⟩
theorem sWt_set {cs : List sC} {i : Nat} (hi : i < cs.length) {c : sC} : sWt (cs.set i c) + sAt cs i 3 = sWt cs + c 3 := by
  unfold sWt
  induction cs generalizing i with
  | nil => exact absurd hi (Nat.not_lt_zero _)
  | cons d cs ih =>
    cases i with
    | zero =>
      have : sAt (d :: cs) 0 = d := rfl
      rw [this]
      simp only [List.set_cons_zero, List.map_cons, List.sum_cons]
      omega
    | succ i =>
      have e : sAt (d :: cs) (i + 1) = sAt cs i := rfl
      have := ih (i := i) (by simpa using hi)
      rw [e]
      simp only [List.set_cons_succ, List.map_cons, List.sum_cons]
      omega
theorem sWt_erase {cs : List sC} {i : Nat} (hi : i < cs.length) : sWt (cs.eraseIdx i) + sAt cs i 3 = sWt cs := by
  unfold sWt
  induction cs generalizing i with
  | nil => exact absurd hi (Nat.not_lt_zero _)
  | cons d cs ih =>
    cases i with
    | zero =>
      have : sAt (d :: cs) 0 = d := rfl
      rw [this]
      simp only [List.eraseIdx_cons_zero, List.map_cons, List.sum_cons]
      omega
    | succ i =>
      have e : sAt (d :: cs) (i + 1) = sAt cs i := rfl
      have := ih (i := i) (by simpa using hi)
      rw [e]
      simp only [List.eraseIdx_cons_succ, List.map_cons, List.sum_cons]
      omega
theorem map_set_id {cs : List sC} {i : Nat} {c : sC} (hi : i < cs.length) (hc : c 0 = sAt cs i 0) : (cs.set i c).map (fun c => c 0) = cs.map fun c => c 0 := by
  rw [List.map_set]
  apply List.ext_getElem?
  intro j
  by_cases hij : i = j
  · subst hij
    rw [List.getElem?_set_self (by simpa using hi), sAt_map hi]
    show some (c 0) = _
    rw [hc]
  · rw [List.getElem?_set_ne hij]
/-- one claim changes, its id stays -/
theorem sI.set (h : sI T N n s) {i : Nat} (hi : i < s.2.1.length) {c : sC} {m : Nat → Nat} (h0 : c 0 = sAt s.2.1 i 0) (hc : sCI (s.1 0) (s.1 1) c) (hm : ∀ j, j ≠ 3 → m j = s.1 j) (h3 : m 3 + sAt s.2.1 i 3 = s.1 3 + c 3) : sI T N n (m, s.2.1.set i c, s.2.2) := by
  obtain ⟨⟨h1, h2, h3', h4, h5⟩, ⟨h6, h7, h8⟩, ⟨h9, h10, h11⟩, ⟨h12, h13⟩, h14⟩ := h
  have hw := sWt_set hi (c := c)
  have em : ∀ j, j ≠ 3 → m j = s.1 j := hm
  refine sI.mk ⟨⟨by rw [em 0 (by decide)]; exact h1, by rw [em 1 (by decide)]; exact h2, by rw [em 2 (by decide)]; exact h3', by rw [em 9 (by decide)]; exact h4, fun j hj => by rw [em _ (by omega)]; exact h5 j hj⟩, ⟨?_, ?_, ?_⟩, ⟨?_, ?_, ?_⟩, ⟨h12, ?_⟩, ?_⟩
  · try simp only [List.length_set]
    rw [em 5 (by decide), em 6 (by decide), em 7 (by decide), em 1 (by decide)]; exact h6
  · try simp only
    rw [em 4 (by decide), em 8 (by decide)]
    omega
  · try simp only [List.length_set]
    rw [em 8 (by decide), em 1 (by decide)]; exact h8
  · simp only [List.length_set]; exact h9
  · intro d hd
    try simp only
    rw [em 0 (by decide), em 1 (by decide)]
    rcases List.mem_or_eq_of_mem_set hd with q | q
    · exact h10 d q
    · rw [q]; exact hc
  · have := List.pairwise_map (f := fun c : sC => c 0) (l := s.2.1) (R := fun x y => x < y)
    have h11' := this.mpr h11
    rw [← map_set_id hi h0] at h11'
    exact List.pairwise_map.mp h11'
  · try simp only
    rw [map_set_id hi h0]; exact h13
  · try simp only
    rw [em 1 (by decide)]; exact h14
theorem map_erase {cs : List sC} {i : Nat} : (cs.eraseIdx i).map (fun c => c 0) = (cs.map fun c => c 0).eraseIdx i := by
  induction cs generalizing i with
  | nil => rfl
  | cons d cs ih =>
    cases i with
    | zero => rfl
    | succ i => simp only [List.map_cons, List.eraseIdx_cons_succ, ih]
theorem sI.close (h : sI T N n s) {i : Nat} (hi : i < s.2.1.length) : sI T N (n + 1) (sClose s i) := by
  have hnd := h.nd
  have hat := h.at hi
  obtain ⟨⟨h1, h2, h3', h4, h5⟩, ⟨h6, h7, h8⟩, ⟨h9, h10, h11⟩, ⟨h12, h13⟩, h14⟩ := h
  have hw := sWt_erase hi
  have hl : (s.2.1.eraseIdx i).length + 1 = s.2.1.length := by rw [List.length_eraseIdx_of_lt hi]; omega
  have em : ∀ j, j ≠ 8 → zu s.1 8 (s.1 8 + sAt s.2.1 i 3) j = s.1 j := fun j hj => zu_n hj
  unfold sClose
  unfold sCI at hat
  refine sI.mk ⟨⟨by rw [em 0 (by decide)]; exact h1, by rw [em 1 (by decide)]; exact h2, by rw [em 2 (by decide)]; exact h3', by rw [em 9 (by decide)]; exact h4, fun j hj => by rw [em _ (by omega)]; exact h5 j hj⟩, ⟨?_, ?_, ?_⟩, ⟨?_, ?_, ?_⟩, ⟨h12.erase _, ?_⟩, ?_⟩
  · try simp only
    rw [em 5 (by decide), em 6 (by decide), em 7 (by decide), em 1 (by decide)]; omega
  · try simp only
    rw [em 4 (by decide), em 3 (by decide), zu_s]
    omega
  · try simp only
    rw [em 1 (by decide), zu_s]; omega
  · omega
  · intro d hd
    try simp only
    rw [em 0 (by decide), em 1 (by decide)]
    exact h10 d (List.mem_of_mem_eraseIdx hd)
  · exact h11.sublist (List.eraseIdx_sublist _ _)
  · intro q
    try simp only
    rw [h12.mem_erase_iff, h13, map_erase]
    have e : (s.2.1.map fun c => c 0).eraseIdx i = (s.2.1.map fun c => c 0).erase (sAt s.2.1 i 0) := by
      refine (erase_first _ _ (sAt_map hi) fun j hj e => ?_).symm
      have hjl : j < s.2.1.length := by omega
      rw [sAt_map hjl] at e
      have hp := List.pairwise_iff_getElem.mp h11 j i hjl hi hj
      rw [sAt_of (List.getElem?_eq_getElem hjl), sAt_of (List.getElem?_eq_getElem hi)] at e
      have e := Option.some.inj e
      omega
    rw [e, hnd.mem_erase_iff]
  · try simp only
    rw [em 1 (by decide)]; exact h14
end
