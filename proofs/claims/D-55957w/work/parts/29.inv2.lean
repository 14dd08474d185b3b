/-! THE INVARIANT is kept by every change: time, interest, expiry, audits, adds, signs -/
section
set_option maxRecDepth 100000
variable {T N n : Nat} {s : sS}
theorem sI.time (h : sI T N n s) (hE : sE s) : sI (T + 1) N n (sTime s) := by
  obtain ⟨⟨h1, h2, h3', h4, h5⟩, ⟨h6, h7, h8⟩, ⟨h9, h10, h11⟩, ⟨h12, h13⟩, h14⟩ := h
  have em : ∀ j, j ≠ 0 → zu s.1 0 (s.1 0 + 1) j = s.1 j := fun j hj => zu_n hj
  unfold sTime
  refine sI.mk ⟨⟨by rw [zu_s]; omega, by rw [em 1 (by decide)]; exact h2, by rw [em 2 (by decide)]; exact h3', by rw [em 9 (by decide)]; exact h4, fun j hj => by rw [em _ (by omega)]; exact h5 j hj⟩, ⟨?_, ?_, ?_⟩, ⟨h9, fun c hc => ?_, h11⟩, ⟨h12, h13⟩, ?_⟩
  · rw [em 5 (by decide), em 6 (by decide), em 7 (by decide), em 1 (by decide)]; exact h6
  · rw [em 4 (by decide), em 3 (by decide), em 8 (by decide)]; exact h7
  · rw [em 1 (by decide), em 8 (by decide)]; exact h8
  · have hc1 := h10 c hc
    have hc2 := hE c hc
    unfold sCI at hc1 ⊢
    rw [zu_s, em 1 (by decide)]
    refine ⟨hc1.1, hc1.2.1, hc1.2.2.1, hc1.2.2.2.1, hc1.2.2.2.2.1, ⟨by omega, ?_⟩, hc1.2.2.2.2.2.2⟩
    have := hc1.2.2.2.2.2.1.2
    omega
  · rw [em 1 (by decide)]; exact h14
theorem sGrow_le {w p : Nat} (h : w ≤ 9999) : w ≤ sGrow w p ∧ sGrow w p ≤ 9999 := by
  unfold sGrow
  by_cases q : 9999 < w + w * p / 100
  · rw [if_pos q]; omega
  · rw [if_neg q]; exact ⟨Nat.le_add_right _ _, by omega⟩
theorem sI.int1 (h : sI T N n s) {p k : Nat} (hk : k < s.2.1.length) : sI T N n (sInt1 p k s) := by
  have hc := h.at hk
  unfold sInt1
  by_cases q : sAt s.2.1 k 6 = 0
  · rw [if_pos q]
    have hg := sGrow_le (p := p) hc.2.2.2.2.1.2
    have hc' := hc
    unfold sCI at hc
    refine h.set hk (zu_n (by decide)) ?_ (fun j hj => zu_n hj) ?_
    · unfold sCI
      rw [zu_n (show (0 : Nat) ≠ 3 by decide), zu_n (show (1 : Nat) ≠ 3 by decide), zu_n (show (2 : Nat) ≠ 3 by decide), zu_s, zu_n (show (4 : Nat) ≠ 3 by decide), zu_n (show (5 : Nat) ≠ 3 by decide), zu_n (show (6 : Nat) ≠ 3 by decide), zu_n (show (7 : Nat) ≠ 3 by decide)]
      exact ⟨hc.1, hc.2.1, hc.2.2.1, hc.2.2.2.1, ⟨by omega, hg.2⟩, hc.2.2.2.2.2.1, hc.2.2.2.2.2.2⟩
    · rw [zu_s, zu_s]; omega
  · rw [if_neg q]; exact h
theorem sIntK_len {p k : Nat} : (sIntK p s k).2.1.length = s.2.1.length := by
  induction k with
  | zero => rfl
  | succ k ih =>
    show (sInt1 p k (sIntK p s k)).2.1.length = _
    unfold sInt1
    by_cases q : sAt (sIntK p s k).2.1 k 6 = 0
    · rw [if_pos q]; simp only [List.length_set]; exact ih
    · rw [if_neg q]; exact ih
theorem sIntK_num {p k j : Nat} (hj : j ≠ 3) : (sIntK p s k).1 j = s.1 j := by
  induction k with
  | zero => rfl
  | succ k ih =>
    show (sInt1 p k (sIntK p s k)).1 j = _
    unfold sInt1
    by_cases q : sAt (sIntK p s k).2.1 k 6 = 0
    · rw [if_pos q]; exact (zu_n hj).trans ih
    · rw [if_neg q]; exact ih
theorem sI.intK (h : sI T N n s) {p k : Nat} (hk : k ≤ s.2.1.length) : sI T N n (sIntK p s k) := by
  induction k with
  | zero => exact h
  | succ k ih => exact (ih (by omega)).int1 (by rw [sIntK_len]; omega)
theorem take8 {l : List Nat} {x m : Nat} (hx : x < m) (hl : ∀ q ∈ l, q < m) : ((x :: l).take 8).length ≤ 8 ∧ ∀ q ∈ (x :: l).take 8, q < m := by
  refine ⟨by rw [List.length_take]; omega, fun q hq => ?_⟩
  rcases List.mem_cons.mp (List.mem_of_mem_take hq) with e | e
  · rw [e]; exact hx
  · exact hl q e
theorem sI.rem (h : sI T N n s) {x : Nat} (hx : x < s.1 1) : sI T N n (s.1, s.2.1, s.2.2.1, (x :: s.2.2.2).take 8) :=
  ⟨h.1, h.2.1, h.2.2.1, h.2.2.2.1, take8 hx h.2.2.2.2.2⟩
theorem app_at {kept todo : List sC} {c : sC} : sAt (kept ++ c :: todo) kept.length = c := sAt_of (by rw [List.getElem?_append_right (Nat.le_refl _), Nat.sub_self]; rfl)
theorem app_er {kept todo : List sC} {c : sC} : (kept ++ c :: todo).eraseIdx kept.length = kept ++ todo := by
  rw [List.eraseIdx_append_of_length_le (Nat.le_refl _), Nat.sub_self]; rfl
/-- one expiry is a remembering and a closing -/
theorem sClose_app {sc : Nat → Nat} {kept todo : List sC} {c : sC} {qu re : List Nat} : sClose (sc, kept ++ c :: todo, qu, re) kept.length = (zu sc 8 (sc 8 + c 3), kept ++ todo, qu.erase (c 0), re) := by
  unfold sClose
  show (zu sc 8 (sc 8 + sAt (kept ++ c :: todo) kept.length 3), (kept ++ c :: todo).eraseIdx kept.length, qu.erase (sAt (kept ++ c :: todo) kept.length 0), re) = _
  rw [app_at, app_er]
theorem sI.exp {time : Nat} : ∀ (todo kept : List sC) (sc : Nat → Nat) (qu re : List Nat) (m n : Nat), sI T N n (sc, kept ++ todo, qu, re) → (∀ c ∈ kept, time < c 4) →
    m ≤ (sExp time todo kept sc qu re m).1 ∧ sI T N (n + ((sExp time todo kept sc qu re m).1 - m)) (sExp time todo kept sc qu re m).2 ∧ (∀ c ∈ (sExp time todo kept sc qu re m).2.2.1, time < c 4) ∧ ∀ j, j ≠ 8 → (sExp time todo kept sc qu re m).2.1 j = sc j
  | [], kept, sc, qu, re, m, n, h, hk => by
    rw [List.append_nil] at h
    exact ⟨Nat.le_refl _, by show sI T N (n + (m - m)) _; rw [Nat.sub_self]; exact h, hk, fun _ _ => rfl⟩
  | c :: todo, kept, sc, qu, re, m, n, h, hk => by
    unfold sExp
    by_cases q : time < c 4
    · rw [if_pos q]
      refine sI.exp todo (kept ++ [c]) sc qu re m n (by rw [List.append_assoc]; exact h) fun d hd => ?_
      rcases List.mem_append.mp hd with e | e
      · exact hk d e
      · rw [List.mem_singleton.mp e]; exact q
    · rw [if_neg q]
      have hc : sCI (sc 0) (sc 1) c := h.2.2.1.2.1 c (List.mem_append_right _ List.mem_cons_self)
      have h1 : sI T N n (sc, kept ++ c :: todo, qu, (c 0 :: re).take 8) := h.rem (x := c 0) hc.1
      have h2 := h1.close (i := kept.length) (by simp)
      rw [sClose_app] at h2
      obtain ⟨q1, q2, q3, q4⟩ := sI.exp todo kept _ _ _ (m + 1) (n + 1) h2 hk
      refine ⟨by omega, ?_, q3, fun j hj => (q4 j hj).trans (zu_n hj)⟩
      rw [show n + ((sExp time todo kept (zu sc 8 (sc 8 + c 3)) (qu.erase (c 0)) ((c 0 :: re).take 8) (m + 1)).1 - m) = n + 1 + ((sExp time todo kept (zu sc 8 (sc 8 + c 3)) (qu.erase (c 0)) ((c 0 :: re).take 8) (m + 1)).1 - (m + 1)) by omega]
      exact q2
/-- a count goes up -/
theorem sI.cnt {k : Nat} (h : sI T N (n + k) s) {f : Nat} (hf : f = 5 ∨ f = 6 ∨ f = 7) : sI T N n (zu s.1 f (s.1 f + k), s.2) := by
  obtain ⟨m, cs, qu, re⟩ := s
  obtain ⟨⟨h1, h2, h3', h4, h5⟩, ⟨h6, h7, h8⟩, ⟨h9, h10, h11⟩, ⟨h12, h13⟩, h14⟩ := h
  dsimp only at h1 h2 h3' h4 h5 h6 h7 h8 h9 h10 h11 h12 h13 h14 ⊢
  have em : ∀ j, j ≠ f → zu m f (m f + k) j = m j := fun j hj => zu_n hj
  refine sI.mk ⟨⟨by rw [em 0 (by omega)]; exact h1, by rw [em 1 (by omega)]; exact h2, by rw [em 2 (by omega)]; exact h3', by rw [em 9 (by omega)]; exact h4, fun j hj => by rw [em _ (by omega)]; exact h5 j hj⟩, ⟨?_, ?_, ?_⟩, ⟨h9, fun c hc => ?_, h11⟩, ⟨h12, h13⟩, ?_⟩
  · rw [em 1 (by omega)]
    rcases hf with e | e | e <;> subst e
    · rw [zu_s, em 6 (by omega), em 7 (by omega)]; omega
    · rw [zu_s, em 5 (by omega), em 7 (by omega)]; omega
    · rw [zu_s, em 5 (by omega), em 6 (by omega)]; omega
  · rw [em 4 (by omega), em 3 (by omega), em 8 (by omega)]; exact h7
  · rw [em 1 (by omega), em 8 (by omega)]; exact h8
  · rw [em 0 (by omega), em 1 (by omega)]; exact h10 c hc
  · rw [em 1 (by omega)]; exact h14
theorem sE.num {f x : Nat} (hE : sE s) (hf : f ≠ 0) : sE (zu s.1 f x, s.2) := fun d hd => by
  show zu s.1 f x 0 < d 4
  rw [zu_n (Ne.symm hf)]
  exact hE d hd
theorem sI.tick (h : sI T N n s) (hE : sE s) : sI (T + 1) N n (sTick s).2 ∧ sE (sTick s).2 := by
  have h1 := h.time hE
  have h2 : sI (T + 1) N n (sInt (sTime s)) := h1.intK (Nat.le_refl _)
  have h3 := sI.exp (T := T + 1) (N := N) (time := (sInt (sTime s)).1 0) (sInt (sTime s)).2.1 [] (sInt (sTime s)).1 (sInt (sTime s)).2.2.1 (sInt (sTime s)).2.2.2 0 n h2 (fun c hc => absurd hc List.not_mem_nil)
  obtain ⟨-, q2, q3, q4⟩ := h3
  rw [Nat.sub_zero] at q2
  have hE2 : sE (sExpire (sInt (sTime s))).2 := fun c hc => by
    have h9 := q3 c hc
    show (sExpire (sInt (sTime s))).2.1 0 < c 4
    unfold sExpire
    rw [q4 0 (by decide)]
    exact h9
  exact ⟨q2.cnt (Or.inl rfl), hE2.num (by decide)⟩
theorem sI.ticks (h : sI T N n s) (hE : sE s) {k : Nat} : sI (T + k) N n (sTicks s k).2 ∧ sE (sTicks s k).2 := by
  induction k with
  | zero => exact ⟨h, hE⟩
  | succ k ih => exact ih.1.tick ih.2
theorem sI.strikes (h : sI T N n s) {i x : Nat} (hi : i < s.2.1.length) (hx : x ≤ 2) : sI T N n (s.1, s.2.1.set i (zu (sAt s.2.1 i) 5 x), s.2.2) := by
  have hc := h.at hi
  refine h.set hi (zu_n (by decide)) ?_ (fun _ _ => rfl) ?_
  · unfold sCI at hc ⊢
    rw [zu_n (show (0 : Nat) ≠ 5 by decide), zu_n (show (1 : Nat) ≠ 5 by decide), zu_n (show (2 : Nat) ≠ 5 by decide), zu_s, zu_n (show (4 : Nat) ≠ 5 by decide), zu_n (show (3 : Nat) ≠ 5 by decide), zu_n (show (6 : Nat) ≠ 5 by decide), zu_n (show (7 : Nat) ≠ 5 by decide)]
    exact ⟨hc.1, hc.2.1, hc.2.2.1, hc.2.2.2.1, hc.2.2.2.2.1, hc.2.2.2.2.2.1, hx, hc.2.2.2.2.2.2.2⟩
  · rw [zu_n (by decide)]
theorem sE.set (hE : sE s) {i : Nat} {c : sC} {m : Nat → Nat} {x : List Nat × List Nat} (hc : s.1 0 < c 4) (hm : m 0 = s.1 0) : sE (m, s.2.1.set i c, x) := fun d hd => by
  show m 0 < d 4
  rw [hm]
  rcases List.mem_or_eq_of_mem_set hd with q | q
  · exact hE d q
  · rw [q]; exact hc
theorem sE.at (hE : sE s) {i : Nat} (hi : i < s.2.1.length) : s.1 0 < sAt s.2.1 i 4 := hE _ (List.mem_of_getElem? (sAt_get hi))
theorem sE.close (hE : sE s) {i : Nat} : sE (sClose s i) := fun d hd => by
  show zu s.1 8 (s.1 8 + sAt s.2.1 i 3) 0 < d 4
  rw [zu_n (by decide)]
  exact hE d (List.mem_of_mem_eraseIdx hd)
theorem sClose_set {s : sS} {i : Nat} {c : sC} (hi : i < s.2.1.length) (h0 : c 0 = sAt s.2.1 i 0) (h3 : c 3 = sAt s.2.1 i 3) : sClose (s.1, s.2.1.set i c, s.2.2) i = sClose s i := by
  unfold sClose
  have e : sAt (s.2.1.set i c) i = c := sAt_of (List.getElem?_set_self hi)
  show (zu s.1 8 (s.1 8 + sAt (s.2.1.set i c) i 3), (s.2.1.set i c).eraseIdx i, s.2.2.1.erase (sAt (s.2.1.set i c) i 0), s.2.2.2) = _
  rw [e, h0, h3, List.eraseIdx_set_eq]
theorem sStrikes_le {c : sC} {t m : Nat} (h : sCI t m c) : sStrikes c ≤ 3 := by
  unfold sStrikes
  unfold sCI at h
  by_cases q : 0 < c 7
  · rw [if_pos q]; omega
  · rw [if_neg q]
    by_cases q : 0 < c 6
    · rw [if_pos q]; omega
    · rw [if_neg q]; omega
theorem sI.visit (h : sI T N n s) (hE : sE s) (hN : N ≤ 10000) : sI T N (n + (sVisit s).1) (sVisit s).2 ∧ sE (sVisit s).2 ∧ (sVisit s).1 ≤ 1 := by
  unfold sVisit
  obtain ⟨m, cs, qu, re⟩ := s
  cases qu with
  | nil => exact ⟨h, hE, Nat.zero_le _⟩
  | cons q qs =>
    obtain ⟨i, e1, hi, e2⟩ := sFind_q h hN (q := q) List.mem_cons_self
    simp only at e1 e2 hi
    simp only [e1]
    unfold sVisitAt
    have hc := sStrikes_le (h.at hi)
    have hEi := hE.at hi
    simp only at hc hEi ⊢
    by_cases q3 : sStrikes (sAt cs i) = 3
    · rw [if_pos q3]
      have e := sClose_set (s := (m, cs, q :: qs, re)) (i := i) (c := zu (sAt cs i) 5 3) hi (zu_n (by decide)) (zu_n (by decide))
      simp only at e ⊢
      rw [e]
      exact ⟨h.close hi, hE.close, Nat.le_refl _⟩
    · rw [if_neg q3]
      have h1 := h.strikes hi (x := sStrikes (sAt cs i)) (by omega)
      have h2 := hE.set (i := i) (c := zu (sAt cs i) 5 (sStrikes (sAt cs i))) (m := m) (x := (qs ++ [q], re)) (by rw [zu_n (by decide)]; exact hEi) rfl
      refine ⟨⟨h1.1, h1.2.1, h1.2.2.1, ?_, h1.2.2.2.2⟩, h2, Nat.zero_le _⟩
      have h3 := h1.2.2.2.1
      have hp : (qs ++ [q]).Perm (q :: qs) := List.perm_append_singleton q qs
      exact ⟨hp.nodup_iff.mpr h3.1, fun x => (hp.mem_iff).trans (h3.2 x)⟩
theorem sI.visits (h : sI T N n s) (hE : sE s) (hN : N ≤ 10000) {k : Nat} : sI T N (n + (sVisits s k).1) (sVisits s k).2 ∧ sE (sVisits s k).2 ∧ (sVisits s k).1 ≤ k := by
  induction k with
  | zero => exact ⟨h, hE, Nat.le_refl _⟩
  | succ k ih =>
    obtain ⟨a1, a2, a3⟩ := ih
    obtain ⟨b1, b2, b3⟩ := a1.visit a2 hN
    refine ⟨?_, b2, ?_⟩
    · rw [Nat.add_assoc] at b1; exact b1
    · show (sVisits s k).1 + (sVisit (sVisits s k).2).1 ≤ _
      omega
end
