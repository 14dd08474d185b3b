/-! plain laws: the sorted list's place is the rank -/
section
set_option maxRecDepth 100000
variable {s : sS} {tt nn n : Nat} {K : Nat → sC}
def lt9 (K : Nat → sC) (a b : Nat) : Bool := decide (cLt (K a) (K b))
def le9 (K : Nat → sC) (a b : Nat) : Bool := !(lt9 K b a)
theorem le9_tr (a b c : Nat) : le9 K a b = true → le9 K b c = true → le9 K a c = true := by
  unfold le9 lt9
  simp only [Bool.not_eq_true', decide_eq_false_iff_not]
  unfold cLt
  omega
theorem le9_tot (a b : Nat) : (le9 K a b || le9 K b a) = true := by
  unfold le9 lt9
  simp only [Bool.or_eq_true, Bool.not_eq_true', decide_eq_false_iff_not]
  unfold cLt
  omega
theorem lt9_le {a b : Nat} (h : K a 0 ≠ K b 0) : lt9 K a b = le9 K a b := by
  unfold le9 lt9
  rw [Bool.eq_iff_iff]
  simp only [Bool.not_eq_true', decide_eq_false_iff_not, decide_eq_true_eq]
  unfold cLt
  omega
theorem merge_cg {f g : Nat → Nat → Bool} : ∀ (as bs : List Nat), (∀ a ∈ as, ∀ b ∈ bs, f a b = g a b) → List.merge as bs f = List.merge as bs g := by
  intro as
  induction as with
  | nil => intro bs _; rw [List.nil_merge, List.nil_merge]
  | cons a as iha =>
    intro bs
    induction bs with
    | nil => intro _; rw [List.merge_right, List.merge_right]
    | cons b bs ihb =>
      intro h
      rw [List.cons_merge_cons, List.cons_merge_cons, h a List.mem_cons_self b List.mem_cons_self, iha (b :: bs) fun a' ha => h a' (List.mem_cons_of_mem _ ha), ihb fun a' ha b' hb => h a' ha b' (List.mem_cons_of_mem _ hb)]
/-- the class's sort, of claims' addresses -/
def mSort (K : Nat → sC) : Nat → List Nat → List Nat
  | 0, as => as
  | f + 1, as => if as.length < 2 then as else List.merge (mSort K f (as.take (as.length / 2))) (mSort K f (as.drop (as.length / 2))) (lt9 K)
theorem mSort_perm : ∀ {f : Nat} {as : List Nat}, (mSort K f as).Perm as := by
  intro f
  induction f with
  | zero => intro as; exact List.Perm.refl _
  | succ f ih =>
    intro as
    rw [mSort]
    split
    · exact List.Perm.refl _
    · refine (List.merge_perm_append (le := lt9 K)).trans ?_
      refine (List.Perm.append ih ih).trans ?_
      rw [List.take_append_drop]
theorem mSort_len {f : Nat} {as : List Nat} : (mSort K f as).length = as.length := mSort_perm.length_eq
theorem mSort_sorted : ∀ {f : Nat} {as : List Nat}, as.length ≤ 2 ^ f → (as.map fun a => K a 0).Nodup → (mSort K f as).Pairwise fun a b => le9 K a b = true := by
  intro f
  induction f with
  | zero =>
    intro as h _
    rw [mSort]
    match as, h with
    | [], _ => exact List.Pairwise.nil
    | [a], _ => exact List.pairwise_singleton _ _
  | succ f ih =>
    intro as h hnd
    rw [mSort]
    have hp : 2 ^ (f + 1) = 2 * 2 ^ f := by rw [Nat.pow_succ, Nat.mul_comm]
    split
    · rename_i q
      match as, q with
      | [], _ => exact List.Pairwise.nil
      | [a], _ => exact List.pairwise_singleton _ _
    · have hx : ∀ a ∈ mSort K f (as.take (as.length / 2)), ∀ b ∈ mSort K f (as.drop (as.length / 2)), lt9 K a b = le9 K a b := by
        intro a ha b hb
        have ha' := mSort_perm.mem_iff.mp ha
        have hb' := mSort_perm.mem_iff.mp hb
        refine lt9_le fun e => ?_
        rw [← List.take_append_drop (as.length / 2) as, List.map_append] at hnd
        exact (List.nodup_append.mp hnd).2.2 _ (List.mem_map_of_mem (f := fun a => K a 0) ha') _ (List.mem_map_of_mem (f := fun a => K a 0) hb') e
      rw [merge_cg _ _ hx]
      have h1 : ((as.take (as.length / 2)).map fun a => K a 0).Nodup := by rw [List.map_take]; exact hnd.sublist (List.take_sublist _ _)
      have h2 : ((as.drop (as.length / 2)).map fun a => K a 0).Nodup := by rw [List.map_drop]; exact hnd.sublist (List.drop_sublist _ _)
      exact List.pairwise_merge (le := le9 K) le9_tr le9_tot _ _ (ih (by rw [List.length_take]; omega) h1) (ih (by rw [List.length_drop]; omega) h2)
theorem sorted_rank : ∀ {L : List Nat}, (L.Pairwise fun a b => le9 K a b = true) → (L.map fun a => K a 0).Nodup → ∀ {p a : Nat}, L[p]? = some a → L.countP (fun b => lt9 K b a) = p := by
  intro L
  induction L with
  | nil => intro _ _ p a h; cases h
  | cons x L ih =>
    intro hs hnd p a h
    obtain ⟨s1, s2⟩ := List.pairwise_cons.mp hs
    rw [List.map_cons, List.nodup_cons] at hnd
    rw [List.countP_cons]
    cases p with
    | zero =>
      cases h
      have e1 : lt9 K x x = false := by
        unfold lt9
        rw [decide_eq_false_iff_not]
        unfold cLt
        omega
      have e2 : L.countP (fun b => lt9 K b x) = 0 := by
        rw [List.countP_eq_zero]
        intro b hb q
        have := s1 b hb
        unfold le9 at this
        rw [q] at this
        cases this
      rw [e1, e2]
      rfl
    | succ p =>
      have hp : L[p]? = some a := h
      have hm := List.mem_of_getElem? hp
      have e1 : lt9 K x a = true := by
        rw [lt9_le fun e => hnd.1 (by rw [e]; exact List.mem_map_of_mem (f := fun a => K a 0) hm)]
        exact s1 a hm
      rw [ih s2 hnd.2 hp, if_pos e1]
theorem sByExp_at {y : Int32} {i9 : Nat} : ∀ {m k : Nat}, (∃ k', k ≤ k' ∧ k' < k + m ∧ nI (sRank s k') = y) → (∀ k', k ≤ k' → k' < k + m → nI (sRank s k') = y → sAt s.2.1 k' 0 = i9) → sByExp s y m k = (0, nI i9) := by
  intro m
  induction m with
  | zero => rintro k ⟨k', h1, h2, _⟩; omega
  | succ m ih =>
    intro k h1 h2
    rw [sByExp]
    by_cases q : nI (sRank s k) = y
    · rw [if_pos q, h2 k (Nat.le_refl _) (by omega) q]
    · rw [if_neg q]
      refine ih ?_ fun k' a b => h2 k' (by omega) (by omega)
      obtain ⟨k', a, b, c⟩ := h1
      refine ⟨k', ?_, by omega, c⟩
      rcases Nat.eq_or_lt_of_le a with e | e
      · rw [← e] at c; exact absurd c q
      · exact e
theorem sByExp_no {y : Int32} : ∀ {m k : Nat}, (∀ k', k ≤ k' → k' < k + m → nI (sRank s k') ≠ y) → sByExp s y m k = (1, nI 0) := by
  intro m
  induction m with
  | zero => intro k _; rfl
  | succ m ih =>
    intro k h
    rw [sByExp, if_neg (h k (Nat.le_refl _) (by omega))]
    exact ih fun k' a b => h k' (by omega) (by omega)
/-- the claims behind addresses -/
def cKey (xs : List (Nat × Nat)) (cs : List sC) (a : Nat) : sC := sAt cs ((xs.map Prod.snd).idxOf a)
theorem cKey_at {xs : List (Nat × Nat)} {cs : List sC} (hnd : (xs.map Prod.snd).Nodup) {i : Nat} {p : Nat × Nat} (h : xs[i]? = some p) : cKey xs cs p.2 = sAt cs i := by
  unfold cKey
  have h2 : (xs.map Prod.snd)[i]? = some p.2 := by rw [List.getElem?_map, h]; rfl
  have hi := (List.getElem?_eq_some_iff.mp h2).1
  rw [idxOf_at h2 fun j hj e => by
    have := (List.getElem?_inj hi hnd).mp (h2.trans e.symm)
    omega]
theorem cKey_map {xs : List (Nat × Nat)} {cs : List sC} (hnd : (xs.map Prod.snd).Nodup) (hl : xs.length = cs.length) : (xs.map Prod.snd).map (cKey xs cs) = cs := by
  apply List.ext_getElem?
  intro i
  rw [List.getElem?_map, List.getElem?_map]
  by_cases q : i < xs.length
  · obtain ⟨p, hp⟩ : ∃ p, xs[i]? = some p := ⟨_, List.getElem?_eq_getElem q⟩
    rw [hp, Option.map_some, Option.map_some, cKey_at hnd hp, sAt_get (by omega)]
  · rw [List.getElem?_eq_none (by omega), List.getElem?_eq_none (by omega)]; rfl
/-- the claim at a place of the sorted list -/
theorem qByExp_sort (h : sI tt nn n s) {xs : List (Nat × Nat)} (hnd : (xs.map Prod.snd).Nodup) (hl : xs.length = s.2.1.length) {p a : Nat} (hp : (mSort (cKey xs s.2.1) 4 (xs.map Prod.snd))[p]? = some a) : qByExp s (nI p) = (0, nI (cKey xs s.2.1 a 0)) := by
  have h12 := h.len
  have hmap := cKey_map (cs := s.2.1) hnd hl
  have hids : ((xs.map Prod.snd).map fun a => cKey xs s.2.1 a 0).Nodup := by
    have := h.nd
    rw [← hmap, List.map_map] at this
    exact this
  have hlen : (xs.map Prod.snd).length ≤ 2 ^ 4 := by rw [List.length_map]; omega
  have hsort := mSort_sorted (K := cKey xs s.2.1) hlen hids
  have hperm := mSort_perm (K := cKey xs s.2.1) (f := 4) (as := xs.map Prod.snd)
  have hids2 : ((mSort (cKey xs s.2.1) 4 (xs.map Prod.snd)).map fun a => cKey xs s.2.1 a 0).Nodup := ((hperm.map _).nodup_iff).mpr hids
  have rk : ∀ k, k < s.2.1.length → ∀ q, xs[k]? = some q → ∀ p', (mSort (cKey xs s.2.1) 4 (xs.map Prod.snd))[p']? = some q.2 → sRank s k = p' := by
    intro k hk q hq p' hp'
    rw [← sCk_rank h hk, sCk_all, ← sorted_rank hsort hids2 hp', hperm.countP_eq]
    have e9 : s.2.1.countP (fun c => decide (cLt c (sAt s.2.1 k))) = ((xs.map Prod.snd).map (cKey xs s.2.1)).countP (fun c => decide (cLt c (sAt s.2.1 k))) := by rw [hmap]
    rw [e9, List.countP_map]
    refine List.countP_congr fun b _ => ?_
    unfold lt9
    rw [cKey_at hnd hq]
    rfl
  have hpl : p < s.2.1.length := by
    have := (List.getElem?_eq_some_iff.mp hp).1
    rw [mSort_len, List.length_map] at this
    omega
  unfold qByExp
  refine sByExp_at ?_ fun k' _ hk' e => ?_
  · obtain ⟨q, hq, e2⟩ := List.mem_map.mp (hperm.mem_iff.mp (List.mem_of_getElem? hp))
    obtain ⟨k, hk⟩ := List.getElem?_of_mem hq
    have hkl := (List.getElem?_eq_some_iff.mp hk).1
    refine ⟨k, Nat.zero_le _, by omega, ?_⟩
    rw [rk k (by omega) q hk p (by rw [e2]; exact hp)]
  · have hk2 : k' < s.2.1.length := by omega
    obtain ⟨q, hq⟩ : ∃ q, xs[k']? = some q := ⟨_, List.getElem?_eq_getElem (by omega)⟩
    obtain ⟨p', hp'⟩ := List.getElem?_of_mem (hperm.mem_iff.mpr (List.mem_map_of_mem (f := Prod.snd) (List.mem_of_getElem? hq)))
    have hp'l := (List.getElem?_eq_some_iff.mp hp').1
    rw [mSort_len, List.length_map] at hp'l
    have e3 := rk k' hk2 q hq p' hp'
    rw [e3] at e
    have e4 : p' = p := nI_inj e (by omega) (by omega)
    rw [e4] at hp'
    rw [hp] at hp'
    cases hp'
    rw [cKey_at hnd hq]
theorem sUp_lt {g : Nat → Nat} {i : Nat} (h : ∀ k, g k ≤ 1) (h0 : g i = 0) : ∀ {n : Nat}, i < n → sUp g n < n := by
  intro n
  induction n with
  | zero => intro q; omega
  | succ n ih =>
    intro q
    show sUp g n + g n < n + 1
    by_cases e : i = n
    · rw [e] at h0; have := sUp_le h (k := n); omega
    · have := ih (by omega); have := h n; omega
theorem sRank_lt {k : Nat} (hk : k < s.2.1.length) : sRank s k < s.2.1.length := by
  refine sUp_lt (i := k) (fun j => by split <;> omega) ?_ hk
  rw [if_neg]
  unfold sBefore
  rw [decide_eq_true_eq]
  omega
theorem qByExp_no (h : sI tt nn n s) {y : Int32} (hy : ¬ sPos y s.2.1.length = true) : qByExp s y = (1, nI 0) := by
  have h12 := h.len
  unfold qByExp
  refine sByExp_no fun k _ hk e => hy ?_
  have hr := sRank_lt (s := s) (k := k) (by omega)
  rw [← e]
  exact decide_eq_true ⟨Int32.not_lt.mp (nI_nn (by omega)), by rw [iN_nI (by omega)]; exact hr⟩
end
