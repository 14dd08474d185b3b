/-! a command's keyword: both sides -/
section
set_option maxRecDepth 100000
variable {l u cs : List Nat} {s m n x : Nat}
theorem kStep (h : l[s + n]? = some x) (hu : (l.drop s).take n = u) (hk : kPre (u ++ [x]) = true) : kGo l s (m + 1) n = kGo l s m (n + 1) ∧ (l.drop s).take (n + 1) = u ++ [x] := by
  have e : (l.drop s).take (n + 1) = u ++ [x] := by rw [drop_take_sn h, hu]
  exact ⟨by rw [kGo, if_pos ⟨(List.getElem?_eq_some_iff.mp h).1, by rw [e]; exact hk⟩], e⟩
theorem kStop (hl : ∀ x ∈ l, x < 128) (hu : (l.drop s).take n = u) (hk : ∀ x, x < 128 → l[s + n]? = some x → kPre (u ++ [x]) = false) : kGo l s m n = n := by
  cases m with
  | zero => rfl
  | succ m =>
    rw [kGo, if_neg]
    rintro ⟨h1, h2⟩
    have h3 : l[s + n]? = some l[s + n] := List.getElem?_eq_getElem h1
    rw [drop_take_sn h3, hu, hk _ (hl _ (List.mem_of_getElem? h3)) h3] at h2
    cases h2
/-- the word of a kind -/
def kWd (k : Nat) : List Nat := if k = 97 then [97, 100, 100] else if k = 115 then [115, 105, 103, 110] else if k = 99 then [99, 111, 117, 110, 116, 101, 114, 115, 105, 103, 110] else if k = 101 then [115, 101, 116, 116, 108, 101] else if k = 116 then [116, 105, 99, 107] else if k = 117 then [97, 117, 100, 105, 116] else [114, 97, 116, 101]
/-- a command's head as the reference reads it: kind, place, error -/
def pHead (l : List Nat) (s : Nat) : Nat × Nat × Nat := match l[s]? with
  | some x => if x = 97 ∨ x = 115 ∨ x = 99 ∨ x = 116 ∨ x = 114 then pWord l x (s + 1, 0) else (0, s, s + 1)
  | none => (0, s, s + 1)
def kLaw (l : List Nat) (s : Nat) (w : Nat × Nat × Nat) : Prop := kRes l s (kGo l s 12 0) w.2 ∧ (w.2.2 = 0 → (l.drop s).take (kGo l s 12 0) = kWd w.1)
theorem kLaw_chain (hl : ∀ x ∈ l, x < 128) {k m n : Nat} {u cs : List Nat} {p : Nat × Nat} (e1 : kGo l s 12 0 = kGo l s m n) (hn : u.length = n) (hu : (l.drop s).take n = u) (hs : s + n ≤ l.length) (hc : kChk u cs = true) (hm : cs.length < m) (ep : pChain l cs (s + n, 0) = p) (hk : u ++ cs = kWd k) : kLaw l s (k, p) := by
  subst hn
  obtain ⟨k1, k2⟩ := kChain hl cs u m hc hu hs hm
  rw [ep] at k1 k2
  unfold kLaw
  rw [e1]
  exact ⟨k1, fun z => (k2 z).2.trans hk⟩
theorem kLaw_stop (hl : ∀ x ∈ l, x < 128) {k m n : Nat} {u : List Nat} (e1 : kGo l s 12 0 = kGo l s m n) (hu : (l.drop s).take n = u) (hs : s + n ≤ l.length) (hk : ∀ x, x < 128 → l[s + n]? = some x → kPre (u ++ [x]) = false) (hn : ¬ u ∈ kW) : kLaw l s (k, s + n, s + n + 1) := by
  have e := kStop (m := m) hl hu hk
  unfold kLaw
  rw [e1, e]
  exact ⟨⟨rfl, Or.inr ⟨rfl, by rw [hu]; exact hn⟩, hs⟩, fun z => absurd z (Nat.succ_ne_zero _)⟩
theorem kPre_0 : ∀ x : Fin 128, ¬ (x.1 = 97 ∨ x.1 = 115 ∨ x.1 = 99 ∨ x.1 = 116 ∨ x.1 = 114) → kPre [x.1] = false := by decide
theorem kPre_a : ∀ x : Fin 128, x.1 ≠ 117 → x.1 ≠ 100 → kPre [97, x.1] = false := by decide
theorem kPre_s : ∀ x : Fin 128, x.1 ≠ 101 → x.1 ≠ 105 → kPre [115, x.1] = false := by decide
theorem pNeeds_no {c : Nat} {p : Nat × Nat} (h : ¬ l[p.1]? = some c) (h0 : p.2 = 0) : pNeeds l c p = (p.1, p.1 + 1) := by
  unfold pNeeds
  rw [if_pos h0, if_neg h]
theorem pNeeds_yes {c : Nat} {p : Nat × Nat} (h : l[p.1]? = some c) (h0 : p.2 = 0) : pNeeds l c p = (p.1 + 1, 0) := by
  unfold pNeeds
  rw [if_pos h0, if_pos h]
theorem pNeeds_er {c : Nat} {p : Nat × Nat} (h : p.2 ≠ 0) : pNeeds l c p = p := by
  unfold pNeeds
  rw [if_neg h]
theorem kHead (hl : ∀ x ∈ l, x < 128) (hs : s ≤ l.length) : kLaw l s (pHead l s) := by
  have t0 : (l.drop s).take 0 = [] := List.take_zero
  unfold pHead
  cases e : l[s]? with
  | none => exact kLaw_stop hl (n := 0) (m := 12) rfl t0 hs (fun x _ q => by rw [Nat.add_zero, e] at q; cases q) (by decide)
  | some x =>
    have hx := hl x (List.mem_of_getElem? e)
    have h1 := (List.getElem?_eq_some_iff.mp e).1
    dsimp only
    by_cases q : x = 97 ∨ x = 115 ∨ x = 99 ∨ x = 116 ∨ x = 114
    rotate_left
    · rw [if_neg q]
      refine kLaw_stop hl (n := 0) (m := 12) rfl t0 hs (fun y hy z => ?_) (by decide)
      rw [Nat.add_zero, e] at z
      cases z
      exact kPre_0 ⟨x, hx⟩ q
    rw [if_pos q]
    have first : ∀ c, x = c → kPre [c] = true → kGo l s 12 0 = kGo l s 11 1 ∧ (l.drop s).take 1 = [c] := fun c ec hk => by
      subst ec
      exact kStep (n := 0) (u := []) e t0 hk
    rcases q with rfl | rfl | rfl | rfl | rfl
    · obtain ⟨g1, g2⟩ := first 97 rfl (by decide)
      unfold pWord
      rw [if_neg (by decide), if_neg (by decide), if_neg (by decide), if_pos rfl]
      by_cases q1 : l[s + 1]? = some 117
      · rw [if_pos q1]
        obtain ⟨g3, g4⟩ := kStep (m := 10) (n := 1) q1 g2 (by decide)
        have h2 := (List.getElem?_eq_some_iff.mp q1).1
        refine kLaw_chain hl (cs := [100, 105, 116]) (g1.trans g3) rfl g4 (by omega) (by decide +kernel) (by decide) ?_ rfl
        unfold pThree pChain
        rw [pNeeds_yes (c := 117) (p := (s + 1, 0)) q1 rfl]
        simp only [List.foldl_cons, List.foldl_nil]
      · rw [if_neg q1]
        by_cases q2 : l[s + 1]? = some 100
        · obtain ⟨g3, g4⟩ := kStep (m := 10) (n := 1) q2 g2 (by decide)
          have h2 := (List.getElem?_eq_some_iff.mp q2).1
          refine kLaw_chain hl (cs := [100]) (g1.trans g3) rfl g4 (by omega) (by decide +kernel) (by decide) ?_ rfl
          unfold pChain
          rw [pNeeds_yes (c := 100) (p := (s + 1, 0)) q2 rfl]
          simp only [List.foldl_cons, List.foldl_nil]
        · rw [pNeeds_no (c := 100) (p := (s + 1, 0)) q2 rfl, pNeeds_er (p := (s + 1, s + 1 + 1)) (Nat.succ_ne_zero _)]
          refine kLaw_stop hl g1 g2 (by omega) (fun y hy z => ?_) (by decide)
          exact kPre_a ⟨y, hy⟩ (fun q => q1 (by rw [z, ← q])) (fun q => q2 (by rw [z, ← q]))
    · obtain ⟨g1, g2⟩ := first 115 rfl (by decide)
      unfold pWord
      rw [if_neg (by decide), if_neg (by decide), if_neg (by decide), if_neg (by decide)]
      by_cases q1 : l[s + 1]? = some 101
      · rw [if_pos q1]
        obtain ⟨g3, g4⟩ := kStep (m := 10) (n := 1) q1 g2 (by decide)
        have h2 := (List.getElem?_eq_some_iff.mp q1).1
        refine kLaw_chain hl (cs := [116, 116, 108, 101]) (g1.trans g3) rfl g4 (by omega) (by decide +kernel) (by decide) ?_ rfl
        unfold pThree pChain
        rw [pNeeds_yes (c := 101) (p := (s + 1, 0)) q1 rfl]
        simp only [List.foldl_cons, List.foldl_nil]
      · rw [if_neg q1]
        by_cases q2 : l[s + 1]? = some 105
        · obtain ⟨g3, g4⟩ := kStep (m := 10) (n := 1) q2 g2 (by decide)
          have h2 := (List.getElem?_eq_some_iff.mp q2).1
          refine kLaw_chain hl (cs := [103, 110]) (g1.trans g3) rfl g4 (by omega) (by decide +kernel) (by decide) ?_ rfl
          unfold pThree pChain
          rw [pNeeds_yes (c := 105) (p := (s + 1, 0)) q2 rfl]
          simp only [List.foldl_cons, List.foldl_nil]
        · have e9 : pThree l 105 103 110 (s + 1, 0) = (s + 1, s + 1 + 1) := by
            unfold pThree
            rw [pNeeds_no (c := 105) (p := (s + 1, 0)) q2 rfl, pNeeds_er (p := (s + 1, s + 1 + 1)) (Nat.succ_ne_zero _), pNeeds_er (p := (s + 1, s + 1 + 1)) (Nat.succ_ne_zero _)]
          rw [e9]
          refine kLaw_stop hl g1 g2 (by omega) (fun y hy z => ?_) (by decide)
          exact kPre_s ⟨y, hy⟩ (fun q => q1 (by rw [z, ← q])) (fun q => q2 (by rw [z, ← q]))
    · obtain ⟨g1, g2⟩ := first 99 rfl (by decide)
      unfold pWord
      rw [if_pos rfl]
      exact kLaw_chain hl (cs := [111, 117, 110, 116, 101, 114, 115, 105, 103, 110]) g1 rfl g2 (by omega) (by decide +kernel) (by decide) (by unfold pThree pChain; simp only [List.foldl_cons, List.foldl_nil]) rfl
    · obtain ⟨g1, g2⟩ := first 116 rfl (by decide)
      unfold pWord
      rw [if_neg (by decide), if_pos rfl]
      exact kLaw_chain hl (cs := [105, 99, 107]) g1 rfl g2 (by omega) (by decide +kernel) (by decide) (by unfold pThree pChain; simp only [List.foldl_cons, List.foldl_nil]) rfl
    · obtain ⟨g1, g2⟩ := first 114 rfl (by decide)
      unfold pWord
      rw [if_neg (by decide), if_neg (by decide), if_pos rfl]
      exact kLaw_chain hl (cs := [97, 116, 101]) g1 rfl g2 (by omega) (by decide +kernel) (by decide) (by unfold pThree pChain; simp only [List.foldl_cons, List.foldl_nil]) rfl
theorem pArgs_e {w : Nat × Nat × Nat} (h : w.2.2 ≠ 0) : (pArgs l w).2 = w.2 := by
  have b : ∀ d (p : Nat × Nat), p.2 ≠ 0 → (pBehind l d p).2 = p := fun d p hp => by
    have e1 : pNeeds l 32 p = p := by unfold pNeeds; rw [if_neg hp]
    unfold pBehind pNum
    rw [e1, if_neg hp]
  have c : ∀ d (p : Nat × Nat), p.2 ≠ 0 → (pNum l d p).2 = p := fun d p hp => by unfold pNum; rw [if_neg hp]
  unfold pArgs
  split
  · show (pBehind l 3 (pBehind l 3 (pNum l 1 (pBehind l 1 w.2).2).2).2).2 = _
    rw [b 1 _ h, c 1 _ h, b 3 _ h, b 3 _ h]
  · split
    · show (pBehind l 1 (pBehind l 3 w.2).2).2 = _
      rw [b 3 _ h, b 1 _ h]
    · split
      · exact b 3 _ h
      · split
        · rw [if_neg (fun q => h q.1)]
        · show (pBehind l 3 (pBehind l 1 w.2).2).2 = _
          rw [b 1 _ h, b 3 _ h]
/-- a command, by its head -/
theorem pCmd_eq : (pCmd l s).2 = (if (pHead l s).2.2 = 0 then (pArgs l (pHead l s)).2 else (pHead l s).2) ∧ ((pHead l s).2.2 = 0 → pCmd l s = pArgs l (pHead l s)) := by
  have no : pHead l s = (0, s, s + 1) → pCmd l s = ((0, 0, 0, 0, 0), s, s + 1) → (pCmd l s).2 = (if (pHead l s).2.2 = 0 then (pArgs l (pHead l s)).2 else (pHead l s).2) ∧ ((pHead l s).2.2 = 0 → pCmd l s = pArgs l (pHead l s)) := fun e1 e2 => by
    rw [e1, e2]
    exact ⟨(if_neg (Nat.succ_ne_zero _)).symm, fun q => absurd q (Nat.succ_ne_zero _)⟩
  cases e : l[s]? with
  | none => exact no (by unfold pHead; rw [e]) (by unfold pCmd; rw [e])
  | some x =>
    by_cases q : x = 97 ∨ x = 115 ∨ x = 99 ∨ x = 116 ∨ x = 114
    · have e1 : pHead l s = pWord l x (s + 1, 0) := by
        unfold pHead
        rw [e]
        exact if_pos q
      have e2 : pCmd l s = pArgs l (pWord l x (s + 1, 0)) := by
        unfold pCmd
        rw [e]
        exact if_pos q
      rw [e1, e2]
      refine ⟨?_, fun _ => rfl⟩
      by_cases z : (pWord l x (s + 1, 0)).2.2 = 0
      · rw [if_pos z]
      · rw [if_neg z, pArgs_e z]
    · exact no (by unfold pHead; rw [e]; exact if_neg q) (by unfold pCmd; rw [e]; exact if_neg q)
end
