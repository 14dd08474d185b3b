/-! plain laws: the sorted list's place is the rank -/
section
set_option maxRecDepth 100000
variable {s : sS} {tt nn n : Nat} {K : Nat → sC}
def lt9 (K : Nat → sC) (a b : Nat) : Bool := decide (cLt (K a) (K b))
def le9 (K : Nat → sC) (a b : Nat) : Bool := !(lt9 K b a)
theorem le9_tr (a b c : Nat) : le9 K a b = true → le9 K b c = true → le9 K a c = true := sorry
theorem le9_tot (a b : Nat) : (le9 K a b || le9 K b a) = true := sorry
theorem lt9_le {a b : Nat} (h : K a 0 ≠ K b 0) : lt9 K a b = le9 K a b := sorry
theorem merge_cg {f g : Nat → Nat → Bool} : ∀ (as bs : List Nat), (∀ a ∈ as, ∀ b ∈ bs, f a b = g a b) → List.merge as bs f = List.merge as bs g := sorry
/-- the class's sort, of claims' addresses -/
def mSort (K : Nat → sC) : Nat → List Nat → List Nat
  | 0, as => as
  | f + 1, as => if as.length < 2 then as else List.merge (mSort K f (as.take (as.length / 2))) (mSort K f (as.drop (as.length / 2))) (lt9 K)
theorem mSort_perm : ∀ {f : Nat} {as : List Nat}, (mSort K f as).Perm as := sorry
theorem mSort_len {f : Nat} {as : List Nat} : (mSort K f as).length = as.length := sorry
theorem mSort_sorted : ∀ {f : Nat} {as : List Nat}, as.length ≤ 2 ^ f → (as.map fun a => K a 0).Nodup → (mSort K f as).Pairwise fun a b => le9 K a b = true := sorry
theorem sorted_rank : ∀ {L : List Nat}, (L.Pairwise fun a b => le9 K a b = true) → (L.map fun a => K a 0).Nodup → ∀ {p a : Nat}, L[p]? = some a → L.countP (fun b => lt9 K b a) = p := sorry
theorem sByExp_at {y : Int32} {i9 : Nat} : ∀ {m k : Nat}, (∃ k', k ≤ k' ∧ k' < k + m ∧ nI (sRank s k') = y) → (∀ k', k ≤ k' → k' < k + m → nI (sRank s k') = y → sAt s.2.1 k' 0 = i9) → sByExp s y m k = (0, nI i9) := sorry
theorem sByExp_no {y : Int32} : ∀ {m k : Nat}, (∀ k', k ≤ k' → k' < k + m → nI (sRank s k') ≠ y) → sByExp s y m k = (1, nI 0) := sorry
/-- the claims behind addresses -/
def cKey (xs : List (Nat × Nat)) (cs : List sC) (a : Nat) : sC := sAt cs ((xs.map Prod.snd).idxOf a)
theorem cKey_at {xs : List (Nat × Nat)} {cs : List sC} (hnd : (xs.map Prod.snd).Nodup) {i : Nat} {p : Nat × Nat} (h : xs[i]? = some p) : cKey xs cs p.2 = sAt cs i := sorry
theorem cKey_map {xs : List (Nat × Nat)} {cs : List sC} (hnd : (xs.map Prod.snd).Nodup) (hl : xs.length = cs.length) : (xs.map Prod.snd).map (cKey xs cs) = cs := sorry
/-- the claim at a place of the sorted list -/
theorem qByExp_sort (h : sI tt nn n s) {xs : List (Nat × Nat)} (hnd : (xs.map Prod.snd).Nodup) (hl : xs.length = s.2.1.length) {p a : Nat} (hp : (mSort (cKey xs s.2.1) 4 (xs.map Prod.snd))[p]? = some a) : qByExp s (nI p) = (0, nI (cKey xs s.2.1 a 0)) := sorry
theorem sUp_lt {g : Nat → Nat} {i : Nat} (h : ∀ k, g k ≤ 1) (h0 : g i = 0) : ∀ {n : Nat}, i < n → sUp g n < n := sorry
theorem sRank_lt {k : Nat} (hk : k < s.2.1.length) : sRank s k < s.2.1.length := sorry
theorem qByExp_no (h : sI tt nn n s) {y : Int32} (hy : ¬ sPos y s.2.1.length = true) : qByExp s y = (1, nI 0) := sorry
end

