/-! keywords by letters: the class's longest prefix against the reference's words */ -/
section
set_option maxRecDepth 100000
variable {l t u cs : List Nat} {s m n x : Nat}
/-- how many letters from s on are a prefix of a keyword -/
def kGo (l : List Nat) (s : Nat) : Nat → Nat → Nat
  | 0, n => n
  | m + 1, n => if s + n < l.length ∧ kPre ((l.drop s).take (n + 1)) = true then kGo l s m (n + 1) else n
/-- the chain of letters cs behind u is the only way, and ends at a keyword -/
def kChk : List Nat → List Nat → Bool
  | u, [] => (List.range 128).all (fun x => !kPre (u ++ [x])) && decide (u ∈ kW)
  | u, c :: b => (List.range 128).all (fun x => kPre (u ++ [x]) == decide (x = c)) && !decide (u ∈ kW) && kChk (u ++ [c]) b
/-- letters that must come, one by one -/
def pChain (l : List Nat) (cs : List Nat) (p : Nat × Nat) : Nat × Nat := cs.foldl (fun p c => pNeeds l c p) p
theorem pChain_e {cs : List Nat} : ∀ {p : Nat × Nat}, p.2 ≠ 0 → pChain l cs p = p := by
  induction cs with
  | nil => intro p _; rfl
  | cons c b ih =>
    intro p h
    have e : pNeeds l c p = p := by unfold pNeeds; rw [if_neg h]
    show pChain l b (pNeeds l c p) = p
    rw [e]
    exact ih h
theorem drop_take_sn (h : l[s + n]? = some x) : (l.drop s).take (n + 1) = (l.drop s).take n ++ [x] := by
  rw [List.take_succ, List.getElem?_drop, h]
  rfl
theorem drop_take_no (h : ¬ s + n < l.length) : l[s + n]? = none := List.getElem?_eq_none (by omega)
/-- what both sides make of letters -/
def kRes (l : List Nat) (s n : Nat) (p : Nat × Nat) : Prop := p.1 = s + n ∧ (p.2 = 0 ∧ (l.drop s).take n ∈ kW ∨ p.2 = s + n + 1 ∧ ¬ (l.drop s).take n ∈ kW) ∧ s + n ≤ l.length
theorem kChain (hl : ∀ x ∈ l, x < 128) : ∀ (cs u : List Nat) (m : Nat), kChk u cs = true → (l.drop s).take u.length = u → s + u.length ≤ l.length → cs.length < m → kRes l s (kGo l s m u.length) (pChain l cs (s + u.length, 0)) ∧ ((pChain l cs (s + u.length, 0)).2 = 0 → kGo l s m u.length = u.length + cs.length ∧ (l.drop s).take (kGo l s m u.length) = u ++ cs) := by
  intro cs
  induction cs with
  | nil =>
    intro u m hc hu hs hm
    obtain ⟨m, rfl⟩ : ∃ m', m = m' + 1 := ⟨m - 1, by omega⟩
    unfold kChk at hc
    rw [Bool.and_eq_true, decide_eq_true_eq, List.all_eq_true] at hc
    have e : kGo l s (m + 1) u.length = u.length := by
      rw [kGo, if_neg]
      rintro ⟨h1, h2⟩
      have h3 : l[s + u.length]? = some l[s + u.length] := List.getElem?_eq_getElem h1
      rw [drop_take_sn h3, hu] at h2
      have h4 := hc.1 _ (List.mem_range.mpr (hl _ (List.mem_of_getElem? h3)))
      rw [h2] at h4
      cases h4
    rw [e]
    refine ⟨⟨rfl, Or.inl ⟨rfl, by rw [hu]; exact hc.2⟩, hs⟩, fun _ => ⟨rfl, by rw [hu, List.append_nil]⟩⟩
  | cons c b ih =>
    intro u m hc hu hs hm
    obtain ⟨m, rfl⟩ : ∃ m', m = m' + 1 := ⟨m - 1, by omega⟩
    unfold kChk at hc
    rw [Bool.and_eq_true, Bool.and_eq_true, List.all_eq_true] at hc
    obtain ⟨⟨h1, h2⟩, h3⟩ := hc
    have hn : ¬ u ∈ kW := by
      intro q
      rw [decide_eq_true q] at h2
      cases h2
    by_cases q : l[s + u.length]? = some c
    · have hlt := (List.getElem?_eq_some_iff.mp q).1
      have hc1 := hl c (List.mem_of_getElem? q)
      have hk : kPre (u ++ [c]) = true := by
        have := h1 c (List.mem_range.mpr hc1)
        rw [beq_iff_eq] at this
        rw [this]
        exact decide_eq_true rfl
      have e1 : kGo l s (m + 1) u.length = kGo l s m (u ++ [c]).length := by
        rw [kGo, if_pos ⟨hlt, by rw [drop_take_sn q, hu]; exact hk⟩, List.length_append]
        rfl
      have e2 : pChain l (c :: b) (s + u.length, 0) = pChain l b (s + (u ++ [c]).length, 0) := by
        show pChain l b (pNeeds l c (s + u.length, 0)) = _
        unfold pNeeds
        rw [if_pos rfl, if_pos q, List.length_append]
        rfl
      have k := ih (u ++ [c]) m h3 (by rw [List.length_append, List.length_singleton, drop_take_sn q, hu]) (by rw [List.length_append, List.length_singleton]; omega) (by rw [List.length_cons] at hm; omega)
      rw [e1, e2]
      refine ⟨k.1, fun z => ?_⟩
      obtain ⟨k1, k2⟩ := k.2 z
      rw [List.length_append, List.length_singleton] at k1
      rw [List.append_assoc] at k2
      exact ⟨by rw [List.length_append, List.length_singleton, k1, List.length_cons]; omega, k2⟩
    · have e1 : kGo l s (m + 1) u.length = u.length := by
        rw [kGo, if_neg]
        rintro ⟨g1, g2⟩
        have g3 : l[s + u.length]? = some l[s + u.length] := List.getElem?_eq_getElem g1
        rw [drop_take_sn g3, hu] at g2
        have g4 := h1 _ (List.mem_range.mpr (hl _ (List.mem_of_getElem? g3)))
        rw [g2, beq_iff_eq] at g4
        rw [g3, of_decide_eq_true g4.symm] at q
        exact q rfl
      have e2 : pChain l (c :: b) (s + u.length, 0) = (s + u.length, s + u.length + 1) := by
        show pChain l b (pNeeds l c (s + u.length, 0)) = _
        have e3 : pNeeds l c (s + u.length, 0) = (s + u.length, s + u.length + 1) := by
          unfold pNeeds
          rw [if_pos rfl, if_neg q]
        rw [e3]
        exact pChain_e (Nat.succ_ne_zero _)
      rw [e1, e2]
      exact ⟨⟨rfl, Or.inr ⟨rfl, by rw [hu]; exact hn⟩, hs⟩, fun z => absurd z (Nat.succ_ne_zero _)⟩
end
