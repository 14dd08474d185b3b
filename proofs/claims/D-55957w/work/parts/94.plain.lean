/-! plain laws: the class's counts and sums are the reference's -/
section
set_option maxRecDepth 100000
variable {s : sS} {tt nn n : Nat}
theorem nI_p1 {a n : Nat} (ha : a < 2 ^ 30) (hn : n < 2 ^ 30) : nI a - 1 = nI n ↔ a = n + 1 := by
  rw [nI_e1 (n := n)]
  constructor
  · intro h
    have h1 : nI a - 1 + 1 = nI (n + 1) - 1 + 1 := by rw [h]
    rw [Int32.sub_add_cancel, Int32.sub_add_cancel] at h1
    exact (nI_eq (by omega) (by omega)).mp h1
  · intro h; rw [h]
theorem nI_s1 {a : Nat} (ha : 0 < a) : nI a - 1 = nI (a - 1) := by
  obtain ⟨m, rfl⟩ : ∃ m, a = m + 1 := ⟨a - 1, by omega⟩
  rw [← nI_e1, Nat.add_sub_cancel]
theorem sUpI_nat {f : Nat → Nat} {g : Nat → Int32} : ∀ {n : Nat}, (∀ k, k < n → g k = nI (f k)) → sUpI g n = nI (sUp f n) := by
  intro n
  induction n with
  | zero => intro _; rfl
  | succ n ih =>
    intro h
    show sUpI g n + g n = nI (sUp f n + f n)
    rw [ih fun k hk => h k (by omega), h n (by omega), nI_add]
theorem sUpI_bal {f1 f2 : Nat → Nat} {g : Nat → Int32} : ∀ {n : Nat}, (∀ k, k < n → g k = nI (f2 k) - nI (f1 k)) → sUpI g n = nI (sUp f2 n) - nI (sUp f1 n) := by
  intro n
  induction n with
  | zero => intro _; show (0 : Int32) = nI 0 - nI 0; decide
  | succ n ih =>
    intro h
    show sUpI g n + g n = nI (sUp f2 n + f2 n) - nI (sUp f1 n + f1 n)
    rw [ih fun k hk => h k (by omega), h n (by omega), ← nI_add, ← nI_add]
    grind
theorem sUp_cg {f g : Nat → Nat} : ∀ {n : Nat}, (∀ k, k < n → f k = g k) → sUp f n = sUp g n := by
  intro n
  induction n with
  | zero => intro _; rfl
  | succ n ih =>
    intro h
    show sUp f n + f n = sUp g n + g n
    rw [ih fun k hk => h k (by omega), h n (by omega)]
theorem sCk_take {T : sC → Bool} {cs : List sC} : ∀ {k : Nat}, k ≤ cs.length → sCk T cs k = (cs.take k).countP T := by
  intro k
  induction k with
  | zero => intro _; rfl
  | succ k ih =>
    intro h
    rw [sCk_s, ih (by omega), List.take_succ, List.countP_append, sAt_get (by omega)]
    simp only [Option.toList_some, List.countP_cons, List.countP_nil, Nat.zero_add]
theorem sCk_all {T : sC → Bool} {cs : List sC} : sCk T cs cs.length = cs.countP T := by rw [sCk_take (Nat.le_refl _), List.take_length]
theorem sCk_cg {T : sC → Bool} {cs : List sC} {g : Nat → Nat} (h : ∀ k, k < cs.length → (if T (sAt cs k) = true then 1 else 0) = g k) : sCk T cs cs.length = sUp g cs.length := sUp_cg h
theorem sI.lt (h : sI tt nn n s) (hN : nn ≤ 10000) (hT : tt ≤ 100000) {c : sC} (hc : c ∈ s.2.1) {f : Nat} (hf : f < 8) : c f < 2 ^ 30 := (h.tB hT hN).1 c hc f hf
/-- signatures, countersignatures -/
theorem sCk_sig (h : sI tt nn n s) (hN : nn ≤ 10000) (hT : tt ≤ 100000) {f m : Nat} (hf : f < 8) (hm : m < 2 ^ 30) : sCk (fun c => decide (nI (c f) - 1 = nI m)) s.2.1 s.2.1.length = sCount s.2.1 f m := by
  rw [sCk_all]
  unfold sCount
  refine List.countP_congr fun c hc => ?_
  simp only [decide_eq_true_eq]
  exact nI_p1 (h.lt hN hT hc hf) hm
theorem sLow_hvy (hb : ∀ c ∈ s.2.1, c 3 < 2 ^ 30) : ∀ {k : Nat}, k < s.2.1.length → sLowK (fun c => -nI (c 3)) s.2.1 k = sHvy s k := by
  intro k
  induction k with
  | zero => intro _; rfl
  | succ k ih =>
    intro h
    have hk := ih (by omega)
    have hle := sHvy_le (s := s) (k := k)
    have e : (-nI (sAt s.2.1 (k + 1) 3) < -nI (sAt s.2.1 (sHvy s k) 3)) ↔ sAt s.2.1 (sHvy s k) 3 < sAt s.2.1 (k + 1) 3 := by
      have h1 := hb _ (sAt_mem (k := k + 1) h)
      have h2 := hb _ (sAt_mem (k := sHvy s k) (by omega))
      have n0 : ∀ a : Nat, a < 2 ^ 30 → (-nI a).toInt = -(a : Int) := fun a ha => by
        have h3 : (nI a).toInt = (a : Int) := by
          show (Int32.ofNat a).toInt = _
          rw [Int32.toInt_ofNat_of_lt (by omega)]
        rw [Int32.toInt_neg, h3, Int.bmod_eq_of_le (by omega) (by omega)]
      rw [Int32.lt_iff_toInt_lt, n0 _ h1, n0 _ h2]
      omega
    show (if -nI (sAt s.2.1 (k + 1) 3) < -nI (sAt s.2.1 (sLowK (fun c => -nI (c 3)) s.2.1 k) 3) then k + 1 else sLowK (fun c => -nI (c 3)) s.2.1 k) = if sAt s.2.1 (sHvy s k) 3 < sAt s.2.1 (k + 1) 3 then k + 1 else sHvy s k
    rw [hk]
    by_cases q : sAt s.2.1 (sHvy s k) 3 < sAt s.2.1 (k + 1) 3
    · rw [if_pos q, if_pos (e.mpr q)]
    · rw [if_neg q, if_neg (fun z => q (e.mp z))]
theorem sLow_soon (hb : ∀ c ∈ s.2.1, c 4 < 2 ^ 30) : ∀ {k : Nat}, k < s.2.1.length → sAt s.2.1 (sLowK (fun c => nI (c 4)) s.2.1 k) 4 = sSoon s k := by
  intro k
  induction k with
  | zero => intro _; rfl
  | succ k ih =>
    intro h
    have hk := ih (by omega)
    have hle := sLowK_le (V := fun c => nI (c 4)) (cs := s.2.1) (k := k)
    have e : (nI (sAt s.2.1 (k + 1) 4) < nI (sAt s.2.1 (sLowK (fun c => nI (c 4)) s.2.1 k) 4)) ↔ sAt s.2.1 (k + 1) 4 < sSoon s k := by
      rw [← hk]
      have h1 := hb _ (sAt_mem (k := k + 1) h)
      have h2 := hb _ (sAt_mem (k := sLowK (fun c => nI (c 4)) s.2.1 k) (by omega))
      exact nI_ltI (by omega) (by omega)
    show sAt s.2.1 (if nI (sAt s.2.1 (k + 1) 4) < nI (sAt s.2.1 (sLowK (fun c => nI (c 4)) s.2.1 k) 4) then k + 1 else sLowK (fun c => nI (c 4)) s.2.1 k) 4 = if sAt s.2.1 (k + 1) 4 < sSoon s k then sAt s.2.1 (k + 1) 4 else sSoon s k
    by_cases q : sAt s.2.1 (k + 1) 4 < sSoon s k
    · rw [if_pos q, if_pos (e.mpr q)]
    · rw [if_neg q, if_neg (fun z => q (e.mp z)), hk]
/-- owed by, owed to -/
theorem sUpI_sum (h : sI tt nn n s) (hN : nn ≤ 10000) (hT : tt ≤ 100000) {f m : Nat} (hf : f < 8) (hm : m < 2 ^ 30) : sUpI (fun k => if nI (sAt s.2.1 k f) = nI m then nI (sAt s.2.1 k 3) else 0) s.2.1.length = nI (sSum s f m) := by
  refine sUpI_nat fun k hk => ?_
  have h1 := h.lt hN hT (sAt_mem hk) hf
  by_cases q : sAt s.2.1 k f = m
  · rw [if_pos (by rw [q]), if_pos q]
  · rw [if_neg (fun z => q ((nI_eq (by omega) (by omega)).mp z)), if_neg q]; rfl
/-- a balance -/
theorem sUpI_sgn (h : sI tt nn n s) (hN : nn ≤ 10000) (hT : tt ≤ 100000) {m : Nat} (hm : m < 2 ^ 30) : sUpI (fun k => cSgn (sAt s.2.1 k) (nI m) * nI (sAt s.2.1 k 3)) s.2.1.length = sBal s m := by
  refine sUpI_bal fun k hk => ?_
  have h1 := h.lt hN hT (sAt_mem hk) (f := 1) (by decide)
  have h2 := h.lt hN hT (sAt_mem hk) (f := 2) (by decide)
  have hne := (h.at hk).2.2.2.1
  have e1 : nI (sAt s.2.1 k 1) = nI m ↔ sAt s.2.1 k 1 = m := nI_eq (by omega) (by omega)
  have e2 : nI (sAt s.2.1 k 2) = nI m ↔ sAt s.2.1 k 2 = m := nI_eq (by omega) (by omega)
  unfold cSgn
  by_cases q2 : sAt s.2.1 k 2 = m
  · rw [if_pos (e2.mpr q2), if_pos q2, if_neg (by omega)]
    rw [Int32.one_mul, nI_0, Int32.sub_zero]
  · rw [if_neg (fun z => q2 (e2.mp z)), if_neg q2]
    by_cases q1 : sAt s.2.1 k 1 = m
    · rw [if_pos (e1.mpr q1), if_pos q1, nI_0]
      grind
    · rw [if_neg (fun z => q1 (e1.mp z)), if_neg q1, Int32.zero_mul, nI_0, Int32.sub_zero]
/-- owed from one to the other -/
theorem sUpI_pair (h : sI tt nn n s) (hN : nn ≤ 10000) (hT : tt ≤ 100000) {a b : Nat} (ha : a < 2 ^ 30) (hb : b < 2 ^ 30) : sUpI (fun k => if nI (sAt s.2.1 k 1) = nI a ∧ nI (sAt s.2.1 k 2) = nI b then nI (sAt s.2.1 k 3) else 0) s.2.1.length = nI (sAmong s a b) := by
  refine sUpI_nat fun k hk => ?_
  have h1 := h.lt hN hT (sAt_mem hk) (f := 1) (by decide)
  have h2 := h.lt hN hT (sAt_mem hk) (f := 2) (by decide)
  have e1 : nI (sAt s.2.1 k 1) = nI a ↔ sAt s.2.1 k 1 = a := nI_eq (by omega) (by omega)
  have e2 : nI (sAt s.2.1 k 2) = nI b ↔ sAt s.2.1 k 2 = b := nI_eq (by omega) (by omega)
  by_cases q : sAt s.2.1 k 1 = a ∧ sAt s.2.1 k 2 = b
  · rw [if_pos ⟨e1.mpr q.1, e2.mpr q.2⟩, if_pos q]
  · rw [if_neg (fun z => q ⟨e1.mp z.1, e2.mp z.2⟩), if_neg q]; rfl
theorem sOwes_ex {f t : Nat} : ∀ {m k : Nat}, sOwes s f t m k = true ↔ ∃ j, k ≤ j ∧ j < k + m ∧ sAt s.2.1 j 1 = f ∧ sAt s.2.1 j 2 = t := by
  intro m
  induction m with
  | zero => intro k; exact ⟨fun q => (by cases q), fun ⟨j, h1, h2, _⟩ => by omega⟩
  | succ m ih =>
    intro k
    rw [sOwes]
    by_cases q : sAt s.2.1 k 1 = f ∧ sAt s.2.1 k 2 = t
    · rw [if_pos q]; exact ⟨fun _ => ⟨k, Nat.le_refl _, by omega, q⟩, fun _ => rfl⟩
    · rw [if_neg q, ih]
      constructor
      · rintro ⟨j, h1, h2, h3⟩; exact ⟨j, by omega, by omega, h3⟩
      · rintro ⟨j, h1, h2, h3⟩
        refine ⟨j, ?_, by omega, h3⟩
        rcases Nat.eq_or_lt_of_le h1 with e | e
        · rw [← e] at h3; exact absurd h3 q
        · exact e
theorem sUp_pos {g : Nat → Nat} : ∀ {n : Nat}, 0 < sUp g n ↔ ∃ k, k < n ∧ 0 < g k := by
  intro n
  induction n with
  | zero => exact ⟨fun q => absurd q (Nat.lt_irrefl _), fun ⟨k, h, _⟩ => by omega⟩
  | succ n ih =>
    show 0 < sUp g n + g n ↔ _
    constructor
    · intro h
      by_cases q : 0 < g n
      · exact ⟨n, by omega, q⟩
      · obtain ⟨k, h1, h2⟩ := ih.mp (by omega)
        exact ⟨k, by omega, h2⟩
    · rintro ⟨k, h1, h2⟩
      by_cases q : k = n
      · rw [q] at h2; omega
      · have := ih.mpr ⟨k, by omega, h2⟩; omega
theorem sCk_owes (h : sI tt nn n s) (hN : nn ≤ 10000) (hT : tt ≤ 100000) {a b : Nat} (ha : a < 2 ^ 30) (hb : b < 2 ^ 30) : 0 < sCk (fun c => decide (nI (c 1) = nI a ∧ nI (c 2) = nI b)) s.2.1 s.2.1.length ↔ sOwes s a b s.2.1.length 0 = true := by
  rw [sUp_pos, sOwes_ex]
  constructor
  · rintro ⟨k, h1, h2⟩
    refine ⟨k, Nat.zero_le _, by omega, ?_⟩
    by_cases q : nI (sAt s.2.1 k 1) = nI a ∧ nI (sAt s.2.1 k 2) = nI b
    · have q1 := h.lt hN hT (sAt_mem h1) (f := 1) (by decide)
      have q2 := h.lt hN hT (sAt_mem h1) (f := 2) (by decide)
      exact ⟨(nI_eq (by omega) (by omega)).mp q.1, (nI_eq (by omega) (by omega)).mp q.2⟩
    · simp [q] at h2
  · rintro ⟨k, -, h1, h2, h3⟩
    exact ⟨k, by omega, by simp [h2, h3]⟩
theorem sAt_ord (h : sI tt nn n s) {j i : Nat} (hj : j < s.2.1.length) (hi : i < s.2.1.length) : sAt s.2.1 j 0 < sAt s.2.1 i 0 ↔ j < i := by
  have hp := h.2.2.1.2.2
  have lt : ∀ a b : Nat, a < b → b < s.2.1.length → sAt s.2.1 a 0 < sAt s.2.1 b 0 := fun a b hab hb => by
    have := List.pairwise_iff_getElem.mp hp a b (by omega) hb hab
    have e : ∀ j (hj : j < s.2.1.length), sAt s.2.1 j = s.2.1[j] := fun j hj => by
      have := sAt_get hj
      rw [List.getElem?_eq_getElem hj] at this
      exact (Option.some.inj this).symm
    rw [e a (by omega), e b hb]
    exact this
  constructor
  · intro q
    refine Nat.lt_of_not_le fun z => ?_
    rcases Nat.eq_or_lt_of_le z with e | e
    · rw [e] at q; exact Nat.lt_irrefl _ q
    · have := lt i j e hj; omega
  · intro q; exact lt j i q hi
theorem sCk_rank (h : sI tt nn n s) {i : Nat} (hi : i < s.2.1.length) : sCk (fun c => decide (cLt c (sAt s.2.1 i))) s.2.1 s.2.1.length = sRank s i := by
  refine sCk_cg fun j hj => ?_
  have e : cLt (sAt s.2.1 j) (sAt s.2.1 i) ↔ sBefore s j i = true := by
    unfold cLt sBefore
    rw [decide_eq_true_eq, sAt_ord h hj hi]
  simp only [decide_eq_true_eq, e]
theorem sCk_lim (h : sI tt nn n s) (hN : nn ≤ 10000) (hT : tt ≤ 100000) {m : Nat} (hm : m < 2 ^ 30) : sCk (fun c => decide (nI (c 4) ≤ nI m)) s.2.1 s.2.1.length = sUp (fun k => if sAt s.2.1 k 4 ≤ m then 1 else 0) s.2.1.length := by
  refine sCk_cg fun k hk => ?_
  have h1 := h.lt hN hT (sAt_mem hk) (f := 4) (by decide)
  have e : nI (sAt s.2.1 k 4) ≤ nI m ↔ sAt s.2.1 k 4 ≤ m := by
    rw [← Int32.not_lt, nI_ltI (by omega) (by omega)]; exact Nat.not_lt
  simp only [decide_eq_true_eq, e]
theorem sUp_none {g : Nat → Nat} : ∀ {n : Nat}, (∀ k, k < n → g k = 0) → sUp g n = 0 := by
  intro n
  induction n with
  | zero => intro _; rfl
  | succ n ih =>
    intro h
    show sUp g n + g n = 0
    rw [ih fun k hk => h k (by omega), h n (by omega)]
theorem nL_nI {a : Nat} (ha : a < 2 ^ 31) : nL a = (nI a).toInt64 := by
  unfold nL nI
  apply Int64.toInt_inj.mp
  rw [Int32.toInt_toInt64, Int32.toInt_ofNat_of_lt (by omega), Int64.toInt_ofNat_of_lt (by omega)]
end
