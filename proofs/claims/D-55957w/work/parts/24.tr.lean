/-! THE REFERENCE's rows against the mathematical state -/
section
set_option maxRecDepth 100000
/-- the row at b holds s -/
def tR (A : Nat → Nat) (b : Nat) (s : sS) : Prop := (∀ i, i < 14 → i ≠ 2 → i ≠ 9 → A (b + i) = s.1 i) ∧ A (b + 2) = s.2.1.length ∧ A (b + 9) = s.2.2.2.length ∧
  (∀ i c, s.2.1[i]? = some c → ∀ f, f < 8 → A (b + 22 + 8 * i + f) = c f) ∧ (∀ i x, s.2.2.1[i]? = some x → A (b + 118 + i) = x) ∧ (∀ i x, s.2.2.2[i]? = some x → A (b + 14 + i) = x) ∧
  s.2.1.length ≤ 12 ∧ s.2.2.1.length = s.2.1.length ∧ s.2.2.2.length ≤ 8
theorem tR.cg {A A' : Nat → Nat} {b : Nat} {s : sS} (h : tR A b s) (he : ∀ j, j < 130 → A' (b + j) = A (b + j)) : tR A' b s := by
  obtain ⟨h1, h2, h3, h4, h5, h6, h7, h8, h9⟩ := h
  refine ⟨fun i hi a1 a2 => (he i (by omega)).trans (h1 i hi a1 a2), (he 2 (by omega)).trans h2, (he 9 (by omega)).trans h3, fun i c hc f hf => ?_, fun i x hx => ?_, fun i x hx => ?_, h7, h8, h9⟩
  · have hi := (List.getElem?_eq_some_iff.mp hc).1
    rw [show b + 22 + 8 * i + f = b + (22 + 8 * i + f) by omega, he _ (by omega), ← show b + 22 + 8 * i + f = b + (22 + 8 * i + f) by omega]
    exact h4 i c hc f hf
  · have hi := (List.getElem?_eq_some_iff.mp hx).1
    rw [show b + 118 + i = b + (118 + i) by omega, he _ (by omega), ← show b + 118 + i = b + (118 + i) by omega]
    exact h5 i x hx
  · have hi := (List.getElem?_eq_some_iff.mp hx).1
    rw [show b + 14 + i = b + (14 + i) by omega, he _ (by omega), ← show b + 14 + i = b + (14 + i) by omega]
    exact h6 i x hx
theorem tR.cp {A : Nat → Nat} {f t : Nat} {s : sS} (h : tR A (130 * f) s) : tR (tcp A f t 130) (130 * t) s := by
  obtain ⟨h1, h2, h3, h4, h5, h6, h7, h8, h9⟩ := h
  have he : ∀ j, j < 130 → tcp A f t 130 (130 * t + j) = A (130 * f + j) := fun j hj => by
    unfold tcp; rw [if_pos (by omega)]; congr 1; omega
  refine ⟨fun i hi a1 a2 => (he i (by omega)).trans (h1 i hi a1 a2), (he 2 (by omega)).trans h2, (he 9 (by omega)).trans h3, fun i c hc g hg => ?_, fun i x hx => ?_, fun i x hx => ?_, h7, h8, h9⟩
  · have hi := (List.getElem?_eq_some_iff.mp hc).1
    rw [show 130 * t + 22 + 8 * i + g = 130 * t + (22 + 8 * i + g) by omega, he _ (by omega), ← show 130 * f + 22 + 8 * i + g = 130 * f + (22 + 8 * i + g) by omega]
    exact h4 i c hc g hg
  · have hi := (List.getElem?_eq_some_iff.mp hx).1
    rw [show 130 * t + 118 + i = 130 * t + (118 + i) by omega, he _ (by omega), ← show 130 * f + 118 + i = 130 * f + (118 + i) by omega]
    exact h5 i x hx
  · have hi := (List.getElem?_eq_some_iff.mp hx).1
    rw [show 130 * t + 14 + i = 130 * t + (14 + i) by omega, he _ (by omega), ← show 130 * f + 14 + i = 130 * f + (14 + i) by omega]
    exact h6 i x hx
theorem tR.cpo {A : Nat → Nat} {f t k : Nat} {s : sS} (h : tR A (130 * k) s) (hk : k ≠ t) : tR (tcp A f t 130) (130 * k) s := by
  refine h.cg fun j hj => ?_
  unfold tcp
  rw [if_neg (by omega)]
/-- the present row -/
theorem tR.sc {A : Nat → Nat} {s : sS} (h : tR A 0 s) {i : Nat} (hi : i < 14) (h2 : i ≠ 2) (h9 : i ≠ 9) : A i = s.1 i := by
  have := h.1 i hi h2 h9
  rwa [Nat.zero_add] at this
theorem tR.act {A : Nat → Nat} {s : sS} (h : tR A 0 s) : A 2 = s.2.1.length := h.2.1
theorem tR.kept {A : Nat → Nat} {s : sS} (h : tR A 0 s) : A 9 = s.2.2.2.length := h.2.2.1
theorem tR.cl {A : Nat → Nat} {s : sS} (h : tR A 0 s) {i f : Nat} (hi : i < s.2.1.length) (hf : f < 8) : A (22 + 8 * i + f) = sAt s.2.1 i f := by
  have := h.2.2.2.1 i _ (List.getElem?_eq_getElem hi) f hf
  rw [Nat.zero_add] at this
  rw [this]
  unfold sAt
  rw [List.getD_eq_getElem?_getD, List.getElem?_eq_getElem hi, Option.getD_some]
theorem tR.qu {A : Nat → Nat} {s : sS} (h : tR A 0 s) {i : Nat} (hi : i < s.2.2.1.length) : A (118 + i) = s.2.2.1[i] := by
  have := h.2.2.2.2.1 i _ (List.getElem?_eq_getElem hi)
  rwa [Nat.zero_add] at this
theorem tR.re {A : Nat → Nat} {s : sS} (h : tR A 0 s) {i : Nat} (hi : i < s.2.2.2.length) : A (14 + i) = s.2.2.2[i] := by
  have := h.2.2.2.2.2.1 i _ (List.getElem?_eq_getElem hi)
  rwa [Nat.zero_add] at this
theorem sAt_of {cs : List sC} {i : Nat} {c : sC} (h : cs[i]? = some c) : sAt cs i = c := by
  unfold sAt; rw [List.getD_eq_getElem?_getD, h, Option.getD_some]
theorem sAt_get {cs : List sC} {i : Nat} (h : i < cs.length) : cs[i]? = some (sAt cs i) := by
  unfold sAt; rw [List.getD_eq_getElem?_getD, List.getElem?_eq_getElem h, Option.getD_some]
theorem tR.setc {A : Nat → Nat} {s : sS} (h : tR A 0 s) {k f x : Nat} (hk : k < s.2.1.length) (hf : f < 8) : tR (zu A (22 + 8 * k + f) x) 0 (s.1, s.2.1.set k (zu (sAt s.2.1 k) f x), s.2.2) := by
  obtain ⟨h1, h2, h3, h4, h5, h6, h7, h8, h9⟩ := h
  have hk2 : k < 12 := by omega
  refine ⟨fun i hi a1 a2 => ?_, ?_, ?_, fun i c hc g hg => ?_, fun i y hy => ?_, fun i y hy => ?_, by simpa using h7, by simpa using h8, h9⟩
  · rw [zu_n (by omega)]; exact h1 i hi a1 a2
  · rw [zu_n (by omega)]; simpa using h2
  · rw [zu_n (by omega)]; exact h3
  · simp only at hc
    have hi : i < s.2.1.length := by simpa using (List.getElem?_eq_some_iff.mp hc).1
    by_cases hik : k = i
    · subst hik
      rw [List.getElem?_set_self hk] at hc
      cases hc
      by_cases hfg : g = f
      · subst hfg
        rw [show 0 + 22 + 8 * k + g = 22 + 8 * k + g by omega, zu_s, zu_s]
      · rw [zu_n (by omega), zu_n hfg]
        exact h4 k _ (sAt_get hk) g hg
    · rw [List.getElem?_set_ne hik] at hc
      rw [zu_n (by omega)]
      exact h4 i c hc g hg
  · have hi := (List.getElem?_eq_some_iff.mp hy).1
    rw [zu_n (by simp only at hi; omega)]; exact h5 i y hy
  · have hi := (List.getElem?_eq_some_iff.mp hy).1
    rw [zu_n (by simp only at hi; omega)]; exact h6 i y hy
theorem tR.setsc {A : Nat → Nat} {s : sS} (h : tR A 0 s) {i x : Nat} (hi : i < 14) (h2 : i ≠ 2) (h9 : i ≠ 9) : tR (zu A i x) 0 (zu s.1 i x, s.2) := by
  obtain ⟨h1, g2, h3, h4, h5, h6, h7, h8, h10⟩ := h
  refine ⟨fun j hj a1 a2 => ?_, ?_, ?_, fun j c hc g hg => ?_, fun j y hy => ?_, fun j y hy => ?_, h7, h8, h10⟩
  · by_cases hij : j = i
    · subst hij; rw [Nat.zero_add, zu_s]; exact zu_s.symm
    · rw [zu_n (by omega)]
      show A (0 + j) = zu s.1 i x j
      rw [zu_n hij]; exact h1 j hj a1 a2
  · rw [zu_n (by omega)]; exact g2
  · rw [zu_n (by omega)]; exact h3
  · rw [zu_n (by omega)]; exact h4 j c hc g hg
  · rw [zu_n (by omega)]; exact h5 j y hy
  · rw [zu_n (by omega)]; exact h6 j y hy
/-- find, by the state -/
theorem tfd_find {A : Nat → Nat} {s : sS} (h : tR A 0 s) {id v : Int32} (hf : tfd A (A 2) id v) : (∃ i, sFind s.2.1 id = some i ∧ i < s.2.1.length ∧ v = nI i) ∨ (sFind s.2.1 id = none ∧ v = -1) := by
  have ha := h.act
  have hc0 : ∀ j, j < s.2.1.length → A (22 + 8 * j) = sAt s.2.1 j 0 := fun j hj => h.cl (f := 0) hj (by omega)
  rcases hf with ⟨k, h1, h2, h3, h4⟩ | ⟨h1, h2⟩
  · rw [ha] at h1
    refine Or.inl ⟨k, ?_, h1, h4⟩
    unfold sFind
    rw [List.findIdx?_eq_some_iff_getElem]
    refine ⟨h1, ?_, fun j hj => ?_⟩
    · rw [hc0 k h1, sAt_of (List.getElem?_eq_getElem h1)] at h2
      exact decide_eq_true h2
    · have hjl : j < s.2.1.length := by omega
      have q := h3 j hj
      rw [hc0 j hjl, sAt_of (List.getElem?_eq_getElem hjl)] at q
      rw [decide_eq_true_eq]; exact q
  · rw [ha] at h1
    refine Or.inr ⟨?_, h2⟩
    unfold sFind
    rw [List.findIdx?_eq_none_iff]
    intro c hc
    obtain ⟨j, hj, e⟩ := List.getElem_of_mem hc
    have q := h1 j hj
    rw [hc0 j hj, sAt_of (List.getElem?_eq_getElem hj), e] at q
    exact decide_eq_false q
theorem tct_count {A : Nat → Nat} {s : sS} (h : tR A 0 s) {f w : Nat} (hf : f < 8) : tct (fun k => A (22 + 8 * k + f) = w + 1) (A 2) = sCount s.2.1 f w := by
  rw [h.act]
  unfold tct sCount
  have e : s.2.1 = (List.range s.2.1.length).map (fun k => sAt s.2.1 k) := by
    apply List.ext_getElem?
    intro i
    by_cases hi : i < s.2.1.length
    · rw [sAt_get hi]; simp [hi]
    · rw [List.getElem?_eq_none (by omega), List.getElem?_eq_none (by simp; omega)]
  conv => rhs; rw [e]
  rw [List.countP_map]
  apply List.countP_congr
  intro k hk
  have hk := List.mem_range.mp hk
  show decide _ = true ↔ decide _ = true
  rw [h.cl hk hf]
end
