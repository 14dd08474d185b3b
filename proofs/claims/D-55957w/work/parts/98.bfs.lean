/-! plain laws: chains. The class's search in a queue, its rounds, and the reference's steps find the same -/
section
set_option maxRecDepth 100000
variable {s : sS} {tt nn n : Nat}
theorem sCr_bit {x c : Nat} : ∀ {k : Nat}, (sCr s x k).testBit c = true ↔ ∃ i, i < k ∧ x.testBit (sAt s.2.1 i 1) = true ∧ sAt s.2.1 i 2 = c := by
  intro k
  induction k with
  | zero => exact ⟨fun q => (by rw [show sCr s x 0 = 0 from rfl, Nat.zero_testBit] at q; cases q), fun ⟨i, h, _⟩ => by omega⟩
  | succ k ih =>
    rw [sCr]
    by_cases q : x.testBit (sAt s.2.1 k 1) = true
    · rw [if_pos q, Nat.testBit_or, Bool.or_eq_true, ih, Nat.testBit_two_pow, decide_eq_true_eq]
      constructor
      · rintro (⟨i, h1, h2⟩ | h)
        · exact ⟨i, by omega, h2⟩
        · exact ⟨k, by omega, q, h⟩
      · rintro ⟨i, h1, h2, h3⟩
        by_cases e : i = k
        · rw [e] at h3; exact Or.inr h3
        · exact Or.inl ⟨i, by omega, h2, h3⟩
    · rw [if_neg q, ih]
      constructor
      · rintro ⟨i, h1, h2⟩; exact ⟨i, by omega, h2⟩
      · rintro ⟨i, h1, h2, h3⟩
        refine ⟨i, ?_, h2, h3⟩
        by_cases e : i = k
        · rw [e] at h2; exact absurd h2 q
        · omega
theorem sStep_bit {x c : Nat} : (sStep s x).testBit c = true ↔ ∃ i, i < s.2.1.length ∧ x.testBit (sAt s.2.1 i 1) = true ∧ sAt s.2.1 i 2 = c := sCr_bit
theorem sNth_s {x k c : Nat} : (sNth s x (k + 1)).testBit c = true ↔ ∃ i, i < s.2.1.length ∧ (sNth s x k).testBit (sAt s.2.1 i 1) = true ∧ sAt s.2.1 i 2 = c := sCr_bit
theorem two_bit {x c : Nat} : (2 ^ x).testBit c = true ↔ x = c := by rw [Nat.testBit_two_pow, decide_eq_true_eq]
/-- one round over the claims, for a person p with length l -/
def bIn (s : sS) (p l : Nat) : Nat → (Nat → Nat) × List Nat → (Nat → Nat) × List Nat
  | 0, B => B
  | k + 1, B => if sAt s.2.1 k 1 = p ∧ (bIn s p l k B).1 (sAt s.2.1 k 2) = 0 then (zu (bIn s p l k B).1 (sAt s.2.1 k 2) (l + 1), (bIn s p l k B).2 ++ [sAt s.2.1 k 2]) else bIn s p l k B
/-- the search -/
def bOut (s : sS) : Nat → Bool → (Nat → Nat) × List Nat → Nat → Nat
  | 0, _, B => B.1
  | m + 1, first, B => match B.2 with
    | [] => B.1
    | p :: Q => bOut s m false (bIn s p (if first = true then 0 else B.1 p) s.2.1.length (B.1, Q))
def bLen (s : sS) (x : Nat) : Nat → Nat := bOut s 9 true (fun _ => 0, [x])
/-- how many are not reached -/
abbrev bUn (f : Nat → Nat) : Nat := sUp (fun c => if f c = 0 then 1 else 0) 8
theorem sUp_one {g g' : Nat → Nat} {c : Nat} (h : ∀ k, k ≠ c → g' k = g k) (hc : g' c + 1 = g c) : ∀ {n : Nat}, c < n → sUp g' n + 1 = sUp g n := by
  intro n
  induction n with
  | zero => intro q; omega
  | succ n ih =>
    intro q
    show sUp g' n + g' n + 1 = sUp g n + g n
    by_cases e : n = c
    · rw [sUp_cg (f := g') (g := g) fun k hk => h k (by omega), e]; omega
    · have := ih (by omega)
      rw [h n e]; omega
theorem bUn_set {f : Nat → Nat} {c v : Nat} (hc : c < 8) (h0 : f c = 0) (hv : v ≠ 0) : bUn (zu f c v) + 1 = bUn f := by
  refine sUp_one (c := c) (fun k hk => ?_) ?_ hc
  · show (if zu f c v k = 0 then 1 else 0) = _
    rw [zu_n hk]
  · show (if zu f c v c = 0 then 1 else 0) + 1 = if f c = 0 then 1 else 0
    rw [zu_s, if_neg hv, if_pos h0]
theorem bUn_le {f : Nat → Nat} : bUn f ≤ 8 := sUp_le fun k => by split <;> omega
/-- bounds for a walk -/
def bV (f : Nat → Nat) (Q : List Nat) : Prop := (∀ q ∈ Q, q < 8) ∧ (∀ c, f c + Q.length + bUn f ≤ 9) ∧ ∀ c, f c ≤ 8
theorem bV.in (h : sI tt nn n s) {f : Nat → Nat} {Q : List Nat} {p l : Nat} (hV : bV f Q) (hl : l + Q.length + bUn f + 1 ≤ 9) : ∀ {k : Nat}, k ≤ s.2.1.length → bV (bIn s p l k (f, Q)).1 (bIn s p l k (f, Q)).2 ∧ (bIn s p l k (f, Q)).2.length + bUn (bIn s p l k (f, Q)).1 = Q.length + bUn f := by
  intro k
  induction k with
  | zero => intro _; exact ⟨hV, rfl⟩
  | succ k ih =>
    intro hk
    obtain ⟨⟨h1, h2, h3⟩, h4⟩ := ih (by omega)
    rw [bIn]
    split
    · rename_i q
      have hc : sAt s.2.1 k 2 < 8 := (h.at (i := k) (by omega)).2.2.1
      have hu := bUn_set (v := l + 1) hc q.2 (Nat.succ_ne_zero _)
      have e : ((bIn s p l k (f, Q)).2 ++ [sAt s.2.1 k 2]).length = (bIn s p l k (f, Q)).2.length + 1 := by rw [List.length_append]; rfl
      refine ⟨⟨fun q9 hq => ?_, fun c => ?_, fun c => ?_⟩, ?_⟩
      · rcases List.mem_append.mp hq with z | z
        · exact h1 q9 z
        · rw [List.mem_singleton.mp z]; exact hc
      · show zu (bIn s p l k (f, Q)).1 (sAt s.2.1 k 2) (l + 1) c + ((bIn s p l k (f, Q)).2 ++ [sAt s.2.1 k 2]).length + bUn (zu (bIn s p l k (f, Q)).1 (sAt s.2.1 k 2) (l + 1)) ≤ 9
        rw [e]
        by_cases z : c = sAt s.2.1 k 2
        · rw [z, zu_s]; omega
        · rw [zu_n z]; have := h2 c; omega
      · show zu (bIn s p l k (f, Q)).1 (sAt s.2.1 k 2) (l + 1) c ≤ 8
        by_cases z : c = sAt s.2.1 k 2
        · rw [z, zu_s]; omega
        · rw [zu_n z]; exact h3 c
      · show ((bIn s p l k (f, Q)).2 ++ [sAt s.2.1 k 2]).length + bUn (zu (bIn s p l k (f, Q)).1 (sAt s.2.1 k 2) (l + 1)) = _
        rw [e]; omega
    · exact ⟨⟨h1, h2, h3⟩, h4⟩
/-- what a round does -/
theorem bIn_spec {f : Nat → Nat} {Q : List Nat} {p l : Nat} : ∀ {k : Nat}, ∃ A, (bIn s p l k (f, Q)).2 = Q ++ A ∧ (∀ c ∈ A, f c = 0 ∧ (bIn s p l k (f, Q)).1 c = l + 1 ∧ ∃ i, i < k ∧ sAt s.2.1 i 1 = p ∧ sAt s.2.1 i 2 = c) ∧ (∀ c, c ∉ A → (bIn s p l k (f, Q)).1 c = f c) ∧ (∀ i, i < k → sAt s.2.1 i 1 = p → (bIn s p l k (f, Q)).1 (sAt s.2.1 i 2) ≠ 0) := by
  intro k
  induction k with
  | zero => exact ⟨[], (List.append_nil _).symm, (fun c hc => by cases hc), fun _ _ => rfl, fun i hi => by omega⟩
  | succ k ih =>
    obtain ⟨A, h1, h2, h3, h4⟩ := ih
    rw [bIn]
    split
    · rename_i q
      have hcA : sAt s.2.1 k 2 ∉ A := fun z => by have := (h2 _ z).2.1; rw [q.2] at this; omega
      refine ⟨A ++ [sAt s.2.1 k 2], by show (bIn s p l k (f, Q)).2 ++ [_] = _; rw [h1, List.append_assoc], fun c hc => ?_, fun c hc => ?_, fun i hi hp => ?_⟩
      · show f c = 0 ∧ zu (bIn s p l k (f, Q)).1 (sAt s.2.1 k 2) (l + 1) c = l + 1 ∧ _
        rcases List.mem_append.mp hc with z | z
        · obtain ⟨a1, a2, i, a3, a4⟩ := h2 c z
          refine ⟨a1, ?_, i, by omega, a4⟩
          by_cases e : c = sAt s.2.1 k 2
          · rw [e, zu_s]
          · rw [zu_n e, a2]
        · have e := List.mem_singleton.mp z
          rw [e, zu_s]
          exact ⟨(h3 _ hcA).symm.trans q.2, rfl, k, by omega, q.1, rfl⟩
      · show zu (bIn s p l k (f, Q)).1 (sAt s.2.1 k 2) (l + 1) c = f c
        rw [zu_n fun e => hc (List.mem_append_right _ (by rw [e]; exact List.mem_singleton_self _))]
        exact h3 c fun z => hc (List.mem_append_left _ z)
      · show zu (bIn s p l k (f, Q)).1 (sAt s.2.1 k 2) (l + 1) (sAt s.2.1 i 2) ≠ 0
        by_cases e : sAt s.2.1 i 2 = sAt s.2.1 k 2
        · rw [e, zu_s]; omega
        · rw [zu_n e]
          by_cases e2 : i = k
          · rw [e2] at e; exact absurd rfl e
          · exact h4 i (by omega) hp
    · rename_i q
      refine ⟨A, h1, fun c hc => ?_, h3, fun i hi hp => ?_⟩
      · obtain ⟨a1, a2, i, a3, a4⟩ := h2 c hc
        exact ⟨a1, a2, i, by omega, a4⟩
      · by_cases e : i = k
        · rw [e]; intro z; exact q ⟨by rw [← e]; exact hp, z⟩
        · exact h4 i (by omega) hp
/-- what stands between two rounds -/
def bJ (s : sS) (x l : Nat) (f : Nat → Nat) (Q : List Nat) : Prop :=
  (∀ c, f c ≠ 0 → (sNth s (2 ^ x) (f c)).testBit c = true) ∧ (∀ i, i < s.2.1.length → sAt s.2.1 i 1 = x → f (sAt s.2.1 i 2) ≠ 0 ∧ f (sAt s.2.1 i 2) ≤ 1) ∧
  (∀ p, f p ≠ 0 → p ∉ Q → ∀ i, i < s.2.1.length → sAt s.2.1 i 1 = p → f (sAt s.2.1 i 2) ≠ 0 ∧ f (sAt s.2.1 i 2) ≤ f p + 1) ∧
  (∀ q ∈ Q, f q ≠ 0 ∧ l ≤ f q) ∧ Q.Pairwise (fun a b => f a ≤ f b) ∧ ∀ c, f c ≤ l + 1
theorem bJ.first {x : Nat} : bJ s x 0 (bIn s x 0 s.2.1.length (fun _ => 0, [])).1 (bIn s x 0 s.2.1.length (fun _ => 0, [])).2 := by
  obtain ⟨A, h1, h2, h3, h4⟩ := bIn_spec (s := s) (f := fun _ => 0) (Q := []) (p := x) (l := 0) (k := s.2.1.length)
  rw [List.nil_append] at h1
  generalize bIn s x 0 s.2.1.length (fun _ => 0, []) = B at *
  have hA : ∀ c, B.1 c ≠ 0 → c ∈ A := fun c hc => Classical.byContradiction fun z => hc (h3 c z)
  have hle : ∀ c, B.1 c ≤ 1 := fun c => by
    by_cases z : c ∈ A
    · rw [(h2 c z).2.1]; omega
    · rw [h3 c z]; omega
  refine ⟨fun c hc => ?_, fun i hi hx => ⟨h4 i hi hx, hle _⟩, fun p hp hq => absurd (by rw [h1]; exact hA p hp) hq, fun q hq => ?_, ?_, fun c => hle c⟩
  · obtain ⟨a1, a2, i, a3, a4, a5⟩ := h2 c (hA c hc)
    rw [a2]
    exact sNth_s.mpr ⟨i, a3, by rw [a4]; exact two_bit.mpr rfl, a5⟩
  · rw [h1] at hq
    have := (h2 q hq).2.1
    exact ⟨by omega, Nat.zero_le _⟩
  · rw [h1, List.pairwise_iff_forall_sublist]
    intro a b hab
    have ha := hab.subset (List.mem_cons_self)
    have hb := hab.subset (List.mem_cons_of_mem _ List.mem_cons_self)
    have := (h2 a ha).2.1
    have := (h2 b hb).2.1
    omega
theorem bJ.step {x l p : Nat} {f : Nat → Nat} {Q : List Nat} (h : bJ s x l f (p :: Q)) : bJ s x (f p) (bIn s p (f p) s.2.1.length (f, Q)).1 (bIn s p (f p) s.2.1.length (f, Q)).2 := by
  obtain ⟨i1, i2, i3, i4, i5, i6⟩ := h
  obtain ⟨A, h1, h2, h3, h4⟩ := bIn_spec (s := s) (f := f) (Q := Q) (p := p) (l := f p) (k := s.2.1.length)
  generalize bIn s p (f p) s.2.1.length (f, Q) = B at *
  obtain ⟨hp0, hlp⟩ := i4 p List.mem_cons_self
  obtain ⟨i7, i8⟩ := List.pairwise_cons.mp i5
  have old : ∀ c, f c ≠ 0 → B.1 c = f c := fun c hc => h3 c fun z => hc (h2 c z).1
  have new : ∀ c, B.1 c ≠ 0 → f c = 0 → c ∈ A := fun c hc h0 => Classical.byContradiction fun z => hc ((h3 c z).trans h0)
  have hle : ∀ c, B.1 c ≤ f p + 1 := fun c => by
    by_cases z : c ∈ A
    · rw [(h2 c z).2.1]; exact Nat.le_refl _
    · rw [h3 c z]; have := i6 c; omega
  refine ⟨fun c hc => ?_, fun i hi hx => ?_, fun p' hp' hq => ?_, fun q hq => ?_, ?_, hle⟩
  · by_cases z : f c = 0
    · obtain ⟨a1, a2, i, a3, a4, a5⟩ := h2 c (new c hc z)
      rw [a2]
      exact sNth_s.mpr ⟨i, a3, by rw [a4]; exact i1 p hp0, a5⟩
    · rw [old c z]; exact i1 c z
  · obtain ⟨a1, a2⟩ := i2 i hi hx
    rw [old _ a1]
    exact ⟨a1, a2⟩
  · intro i hi hx
    rw [h1] at hq
    have hf : f p' ≠ 0 := fun z => hq (List.mem_append_right _ (new p' hp' z))
    rw [old p' hf]
    by_cases e : p' = p
    · rw [e]; exact ⟨h4 i hi (hx.trans e), hle _⟩
    · have hn : p' ∉ p :: Q := fun z => by
        rcases List.mem_cons.mp z with z | z
        · exact e z
        · exact hq (List.mem_append_left _ z)
      obtain ⟨a1, a2⟩ := i3 p' hf hn i hi hx
      rw [old _ a1]
      exact ⟨a1, a2⟩
  · rw [h1] at hq
    rcases List.mem_append.mp hq with z | z
    · have := (i4 q (List.mem_cons_of_mem _ z)).1
      rw [old q this]
      exact ⟨this, i7 q z⟩
    · rw [(h2 q z).2.1]; exact ⟨by omega, by omega⟩
  · rw [h1, List.pairwise_append]
    refine ⟨?_, ?_, fun a ha b hb => ?_⟩
    · refine i8.imp_of_mem fun {a b} ha hb q => ?_
      rw [old a (i4 a (List.mem_cons_of_mem _ ha)).1, old b (i4 b (List.mem_cons_of_mem _ hb)).1]
      exact q
    · rw [List.pairwise_iff_forall_sublist]
      intro a b hab
      have ha := hab.subset (List.mem_cons_self)
      have hb := hab.subset (List.mem_cons_of_mem _ List.mem_cons_self)
      have := (h2 a ha).2.1
      have := (h2 b hb).2.1
      omega
    · rw [(h2 b hb).2.1]; exact hle a
theorem bJ.end {x l : Nat} {f : Nat → Nat} (h : bJ s x l f []) : ∀ k c, (sNth s (2 ^ x) (k + 1)).testBit c = true → f c ≠ 0 ∧ f c ≤ k + 1 := by
  obtain ⟨i1, i2, i3, i4, i5, i6⟩ := h
  intro k
  induction k with
  | zero =>
    intro c hc
    obtain ⟨i, h1, h2, h3⟩ := sNth_s.mp hc
    have := i2 i h1 (two_bit.mp h2).symm
    rw [h3] at this
    exact this
  | succ k ih =>
    intro c hc
    obtain ⟨i, h1, h2, h3⟩ := sNth_s.mp hc
    obtain ⟨a1, a2⟩ := ih _ h2
    obtain ⟨b1, b2⟩ := i3 _ a1 (fun z => by cases z) i h1 rfl
    rw [h3] at b1 b2
    exact ⟨b1, by omega⟩
/-- the search's end -/
theorem bOut_spec (h : sI tt nn n s) {x : Nat} : ∀ {m : Nat} {f : Nat → Nat} {Q : List Nat} {l : Nat}, bV f Q → Q.length + bUn f ≤ m → bJ s x l f Q → ∃ l', bJ s x l' (bOut s m false (f, Q)) [] ∧ ∀ c, bOut s m false (f, Q) c ≤ 8 := by
  intro m
  induction m with
  | zero =>
    intro f Q l hV hm hJ
    have e : Q = [] := List.length_eq_zero_iff.mp (by omega)
    subst e
    exact ⟨l, hJ, hV.2.2⟩
  | succ m ih =>
    intro f Q l hV hm hJ
    cases Q with
    | nil => exact ⟨l, hJ, hV.2.2⟩
    | cons p Q =>
      have hp := hV.2.1 p
      rw [List.length_cons] at hm hp
      obtain ⟨g1, g2⟩ := bV.in (p := p) (l := f p) h (f := f) (Q := Q) ⟨fun q hq => hV.1 q (List.mem_cons_of_mem _ hq), fun c => by have := hV.2.1 c; rw [List.length_cons] at this; omega, hV.2.2⟩ (by omega) (Nat.le_refl _)
      exact ih (f := (bIn s p (f p) s.2.1.length (f, Q)).1) (Q := (bIn s p (f p) s.2.1.length (f, Q)).2) g1 (by omega) hJ.step
theorem bV0 {x : Nat} (hx : x < 8) : bV (fun _ => 0) [x] := ⟨fun q hq => by rw [List.mem_singleton.mp hq]; exact hx, fun c => (by have := bUn_le (f := fun _ => 0); show 0 + 1 + _ ≤ 9; omega), fun _ => Nat.zero_le _⟩
theorem bV1 (h : sI tt nn n s) {x : Nat} : bV (bIn s x 0 s.2.1.length (fun _ => 0, [])).1 (bIn s x 0 s.2.1.length (fun _ => 0, [])).2 ∧ (bIn s x 0 s.2.1.length (fun _ => 0, [])).2.length + bUn (bIn s x 0 s.2.1.length (fun _ => 0, [])).1 = 0 + bUn (fun _ => 0) :=
  bV.in h (Q := []) ⟨fun q hq => (by cases hq), fun c => (by have := bUn_le (f := fun _ => 0); show 0 + 0 + _ ≤ 9; omega), fun _ => Nat.zero_le _⟩ (by have := bUn_le (f := fun _ => 0); show 0 + 0 + _ + 1 ≤ 9; omega) (Nat.le_refl _)
theorem bLen_spec (h : sI tt nn n s) {x : Nat} : (∀ c, bLen s x c ≠ 0 → (sNth s (2 ^ x) (bLen s x c)).testBit c = true) ∧ (∀ k c, (sNth s (2 ^ x) (k + 1)).testBit c = true → bLen s x c ≠ 0 ∧ bLen s x c ≤ k + 1) ∧ ∀ c, bLen s x c ≤ 8 := by
  obtain ⟨g1, g2⟩ := bV1 h (x := x)
  have hu := bUn_le (f := fun _ => 0)
  obtain ⟨l', j1, j2⟩ := bOut_spec h (x := x) (m := 8) (f := (bIn s x 0 s.2.1.length (fun _ => 0, [])).1) (Q := (bIn s x 0 s.2.1.length (fun _ => 0, [])).2) g1 (by omega) bJ.first
  exact ⟨j1.1, j1.end, j2⟩
theorem sSeek_some {x t K : Nat} : ∀ {m k : Nat}, k < K → K ≤ k + m → (sNth s x K).testBit t = true → (∀ j, k < j → j < K → ¬ (sNth s x j).testBit t = true) → sSeek s x t m k = some K := by
  intro m
  induction m with
  | zero => intro k h1 h2; omega
  | succ m ih =>
    intro k h1 h2 h3 h4
    rw [sSeek]
    by_cases e : k + 1 = K
    · rw [e, if_pos h3]
    · rw [if_neg (h4 _ (by omega) (by omega))]
      exact ih (by omega) (by omega) h3 fun j a b => h4 j (by omega) b
theorem sSeek_none {x t : Nat} : ∀ {m k : Nat}, (∀ j, k < j → j ≤ k + m → ¬ (sNth s x j).testBit t = true) → sSeek s x t m k = none := by
  intro m
  induction m with
  | zero => intro k _; rfl
  | succ m ih =>
    intro k h
    rw [sSeek, if_neg (h _ (by omega) (by omega))]
    exact ih fun j a b => h j (by omega) (by omega)
theorem bLen_seek (h : sI tt nn n s) {x t : Nat} : sSeek s (2 ^ x) t 8 0 = if bLen s x t = 0 then none else some (bLen s x t) := by
  obtain ⟨h1, h2, h3⟩ := bLen_spec h (x := x)
  by_cases q : bLen s x t = 0
  · rw [if_pos q]
    refine sSeek_none fun j a _ z => ?_
    obtain ⟨j', rfl⟩ : ∃ j', j = j' + 1 := ⟨j - 1, by omega⟩
    exact (h2 j' t z).1 q
  · rw [if_neg q]
    refine sSeek_some (by omega) (by have := h3 t; omega) (h1 t q) fun j a b z => ?_
    obtain ⟨j', rfl⟩ : ∃ j', j = j' + 1 := ⟨j - 1, by omega⟩
    have := (h2 j' t z).2
    omega
/-- the rounds -/
def rR (s : sS) (x : Nat) : Nat → Nat
  | 0 => x
  | k + 1 => rR s x k ||| sStep s (rR s x k)
theorem rR_bit {x c : Nat} : ∀ {k : Nat}, (rR s x k).testBit c = true ↔ ∃ j, j ≤ k ∧ (sNth s x j).testBit c = true := by
  intro k
  induction k generalizing c with
  | zero => exact ⟨fun q => ⟨0, Nat.le_refl _, q⟩, fun ⟨j, h1, h2⟩ => by rw [Nat.le_zero.mp h1] at h2; exact h2⟩
  | succ k ih =>
    rw [rR, Nat.testBit_or, Bool.or_eq_true, ih, sStep_bit]
    constructor
    · rintro (⟨j, h1, h2⟩ | ⟨i, h1, h2, h3⟩)
      · exact ⟨j, by omega, h2⟩
      · obtain ⟨j, h4, h5⟩ := ih.mp h2
        exact ⟨j + 1, by omega, sNth_s.mpr ⟨i, h1, h5, h3⟩⟩
    · rintro ⟨j, h1, h2⟩
      by_cases e : j ≤ k
      · exact Or.inl ⟨j, e, h2⟩
      · obtain ⟨j', rfl⟩ : ∃ j', j = j' + 1 := ⟨j - 1, by omega⟩
        obtain ⟨i, h3, h4, h5⟩ := sNth_s.mp h2
        exact Or.inr ⟨i, h3, ih.mpr ⟨j', by omega, h4⟩, h5⟩
theorem rR_step {x c k : Nat} : (sStep s (rR s x k)).testBit c = true ↔ ∃ j, j ≤ k ∧ (sNth s x (j + 1)).testBit c = true := by
  rw [sStep_bit]
  constructor
  · rintro ⟨i, h1, h2, h3⟩
    obtain ⟨j, h4, h5⟩ := rR_bit.mp h2
    exact ⟨j, h4, sNth_s.mpr ⟨i, h1, h5, h3⟩⟩
  · rintro ⟨j, h1, h2⟩
    obtain ⟨i, h3, h4, h5⟩ := sNth_s.mp h2
    exact ⟨i, h3, rR_bit.mpr ⟨j, h1, h4⟩, h5⟩
theorem rR_lt (h : sI tt nn n s) {x : Nat} (hx : x < 256) : ∀ {k : Nat}, rR s x k < 256 := by
  intro k
  induction k with
  | zero => exact hx
  | succ k ih => exact Nat.or_lt_two_pow (n := 8) ih (sCr_lt h (Nat.le_refl _))
/-- what the first k of the search or the rounds' answers add up to -/
def sOrs (P : Nat → Bool) : Nat → Nat
  | 0 => 0
  | k + 1 => if P k = true then sOrs P k ||| 2 ^ k else sOrs P k
theorem sOrs_bit {P : Nat → Bool} {c : Nat} : ∀ {k : Nat}, (sOrs P k).testBit c = true ↔ c < k ∧ P c = true := by
  intro k
  induction k with
  | zero => exact ⟨fun q => (by rw [show sOrs P 0 = 0 from rfl, Nat.zero_testBit] at q; cases q), fun q => by omega⟩
  | succ k ih =>
    rw [sOrs]
    by_cases q : P k = true
    · rw [if_pos q, Nat.testBit_or, Bool.or_eq_true, ih, two_bit]
      constructor
      · rintro (⟨h1, h2⟩ | h)
        · exact ⟨by omega, h2⟩
        · rw [← h]; exact ⟨by omega, q⟩
      · rintro ⟨h1, h2⟩
        by_cases e : c = k
        · exact Or.inr e.symm
        · exact Or.inl ⟨by omega, h2⟩
    · rw [if_neg q, ih]
      constructor
      · rintro ⟨h1, h2⟩; exact ⟨by omega, h2⟩
      · rintro ⟨h1, h2⟩
        refine ⟨?_, h2⟩
        by_cases e : c = k
        · rw [e] at h2; exact absurd h2 q
        · omega
theorem sOrs_lt {P : Nat → Bool} {k : Nat} (hk : k ≤ 8) : sOrs P k < 256 := by
  induction k with
  | zero => show 0 < 256; decide
  | succ k ih =>
    rw [sOrs]
    split
    · exact Nat.or_lt_two_pow (n := 8) (ih (by omega)) (pow8 (by omega))
    · exact ih (by omega)
theorem sRch_bit {x c : Nat} : ∀ {k : Nat}, (sRch s x k).testBit c = true ↔ ∃ j, j < k ∧ (sNth s x (j + 1)).testBit c = true := by
  intro k
  induction k with
  | zero => exact ⟨fun q => (by rw [show sRch s x 0 = 0 from rfl, Nat.zero_testBit] at q; cases q), fun ⟨j, h, _⟩ => by omega⟩
  | succ k ih =>
    rw [sRch, Nat.testBit_or, Bool.or_eq_true, ih]
    constructor
    · rintro (⟨j, h1, h2⟩ | h)
      · exact ⟨j, by omega, h2⟩
      · exact ⟨k, by omega, h⟩
    · rintro ⟨j, h1, h2⟩
      by_cases e : j = k
      · rw [e] at h2; exact Or.inr h2
      · exact Or.inl ⟨j, by omega, h2⟩
theorem sRch_len (h : sI tt nn n s) {x c : Nat} : (sRch s (2 ^ x) 8).testBit c = true ↔ bLen s x c ≠ 0 := by
  obtain ⟨h1, h2, h3⟩ := bLen_spec h (x := x)
  rw [sRch_bit]
  constructor
  · rintro ⟨j, -, h4⟩; exact (h2 j c h4).1
  · intro q
    have := h3 c
    refine ⟨bLen s x c - 1, by omega, ?_⟩
    rw [show bLen s x c - 1 + 1 = bLen s x c by omega]
    exact h1 c q
theorem sRch_ors (h : sI tt nn n s) {x : Nat} : sOrs (fun c => decide (bLen s x c ≠ 0)) 8 = sRch s (2 ^ x) 8 := by
  apply Nat.eq_of_testBit_eq
  intro c
  have hl : (sRch s (2 ^ x) 8).testBit c = true → c < 8 := fun q => by
    obtain ⟨j, -, h4⟩ := sRch_bit.mp q
    obtain ⟨i, h5, -, h6⟩ := sNth_s.mp h4
    rw [← h6]
    exact (h.at h5).2.2.1
  have e : (sOrs (fun c => decide (bLen s x c ≠ 0)) 8).testBit c = true ↔ (sRch s (2 ^ x) 8).testBit c = true := by
    rw [sOrs_bit, decide_eq_true_eq, ← sRch_len h]
    exact ⟨fun q => q.2, fun q => ⟨hl q, q⟩⟩
  exact Bool.eq_iff_iff.mpr e
end
