/-! plain laws: chains. The class's search in a queue, its rounds, and the reference's steps find the same -/
section
set_option maxRecDepth 100000
variable {s : sS} {tt nn n : Nat}
theorem sCr_bit {x c : Nat} : ∀ {k : Nat}, (sCr s x k).testBit c = true ↔ ∃ i, i < k ∧ x.testBit (sAt s.2.1 i 1) = true ∧ sAt s.2.1 i 2 = c := sorry
theorem sStep_bit {x c : Nat} : (sStep s x).testBit c = true ↔ ∃ i, i < s.2.1.length ∧ x.testBit (sAt s.2.1 i 1) = true ∧ sAt s.2.1 i 2 = c := sorry
theorem sNth_s {x k c : Nat} : (sNth s x (k + 1)).testBit c = true ↔ ∃ i, i < s.2.1.length ∧ (sNth s x k).testBit (sAt s.2.1 i 1) = true ∧ sAt s.2.1 i 2 = c := sorry
theorem two_bit {x c : Nat} : (2 ^ x).testBit c = true ↔ x = c := sorry
/-- one round over the claims, for a person p with length l -/
def bIn (s : sS) (p l : Nat) : Nat → (Nat → Nat) × List Nat → (Nat → Nat) × List Nat
  | 0, B => B
  | k + 1, B => if sAt s.2.1 k 1 = p ∧ (bIn s p l k B).1 (sAt s.2.1 k 2) = 0 then (zu (bIn s p l k B).1 (sAt s.2.1 k 2) (l + 1), (bIn s p l k B).2 ++ [sAt s.2.1 k 2]) else bIn s p l k B
/-- the search -/
def bOut (s : sS) : Nat → Bool → (Nat → Nat) × List Nat → Nat → Nat
  | 0, _, B => B.1
  | m + 1, first, B => match B.2 with
    | [] => B.1
    | p :: Q => bOut s m false (bIn s p (if first = true then 0 else B.1 p) s.2.1.length (B.1, Q))
def bLen (s : sS) (x : Nat) : Nat → Nat := bOut s 9 true (fun _ => 0, [x])
/-- how many are not reached -/
abbrev bUn (f : Nat → Nat) : Nat := sUp (fun c => if f c = 0 then 1 else 0) 8
theorem sUp_one {g g' : Nat → Nat} {c : Nat} (h : ∀ k, k ≠ c → g' k = g k) (hc : g' c + 1 = g c) : ∀ {n : Nat}, c < n → sUp g' n + 1 = sUp g n := sorry
theorem bUn_set {f : Nat → Nat} {c v : Nat} (hc : c < 8) (h0 : f c = 0) (hv : v ≠ 0) : bUn (zu f c v) + 1 = bUn f := sorry
theorem bUn_le {f : Nat → Nat} : bUn f ≤ 8 := sorry
/-- bounds for a walk -/
def bV (f : Nat → Nat) (Q : List Nat) : Prop := (∀ q ∈ Q, q < 8) ∧ (∀ c, f c + Q.length + bUn f ≤ 9) ∧ ∀ c, f c ≤ 8
theorem bV.in (h : sI tt nn n s) {f : Nat → Nat} {Q : List Nat} {p l : Nat} (hV : bV f Q) (hl : l + Q.length + bUn f + 1 ≤ 9) : ∀ {k : Nat}, k ≤ s.2.1.length → bV (bIn s p l k (f, Q)).1 (bIn s p l k (f, Q)).2 ∧ (bIn s p l k (f, Q)).2.length + bUn (bIn s p l k (f, Q)).1 = Q.length + bUn f := sorry
/-- what a round does -/
theorem bIn_spec {f : Nat → Nat} {Q : List Nat} {p l : Nat} : ∀ {k : Nat}, ∃ A, (bIn s p l k (f, Q)).2 = Q ++ A ∧ (∀ c ∈ A, f c = 0 ∧ (bIn s p l k (f, Q)).1 c = l + 1 ∧ ∃ i, i < k ∧ sAt s.2.1 i 1 = p ∧ sAt s.2.1 i 2 = c) ∧ (∀ c, c ∉ A → (bIn s p l k (f, Q)).1 c = f c) ∧ (∀ i, i < k → sAt s.2.1 i 1 = p → (bIn s p l k (f, Q)).1 (sAt s.2.1 i 2) ≠ 0) := sorry
/-- what stands between two rounds -/
def bJ (s : sS) (x l : Nat) (f : Nat → Nat) (Q : List Nat) : Prop :=
  (∀ c, f c ≠ 0 → (sNth s (2 ^ x) (f c)).testBit c = true) ∧ (∀ i, i < s.2.1.length → sAt s.2.1 i 1 = x → f (sAt s.2.1 i 2) ≠ 0 ∧ f (sAt s.2.1 i 2) ≤ 1) ∧
  (∀ p, f p ≠ 0 → p ∉ Q → ∀ i, i < s.2.1.length → sAt s.2.1 i 1 = p → f (sAt s.2.1 i 2) ≠ 0 ∧ f (sAt s.2.1 i 2) ≤ f p + 1) ∧
  (∀ q ∈ Q, f q ≠ 0 ∧ l ≤ f q) ∧ Q.Pairwise (fun a b => f a ≤ f b) ∧ ∀ c, f c ≤ l + 1
theorem bJ.first {x : Nat} : bJ s x 0 (bIn s x 0 s.2.1.length (fun _ => 0, [])).1 (bIn s x 0 s.2.1.length (fun _ => 0, [])).2 := sorry
theorem bJ.step {x l p : Nat} {f : Nat → Nat} {Q : List Nat} (h : bJ s x l f (p :: Q)) : bJ s x (f p) (bIn s p (f p) s.2.1.length (f, Q)).1 (bIn s p (f p) s.2.1.length (f, Q)).2 := sorry
theorem bJ.end {x l : Nat} {f : Nat → Nat} (h : bJ s x l f []) : ∀ k c, (sNth s (2 ^ x) (k + 1)).testBit c = true → f c ≠ 0 ∧ f c ≤ k + 1 := sorry
/-- the search's end -/
theorem bOut_spec (h : sI tt nn n s) {x : Nat} : ∀ {m : Nat} {f : Nat → Nat} {Q : List Nat} {l : Nat}, bV f Q → Q.length + bUn f ≤ m → bJ s x l f Q → ∃ l', bJ s x l' (bOut s m false (f, Q)) [] ∧ ∀ c, bOut s m false (f, Q) c ≤ 8 := sorry
theorem bV0 {x : Nat} (hx : x < 8) : bV (fun _ => 0) [x] := sorry
theorem bV1 (h : sI tt nn n s) {x : Nat} : bV (bIn s x 0 s.2.1.length (fun _ => 0, [])).1 (bIn s x 0 s.2.1.length (fun _ => 0, [])).2 ∧ (bIn s x 0 s.2.1.length (fun _ => 0, [])).2.length + bUn (bIn s x 0 s.2.1.length (fun _ => 0, [])).1 = 0 + bUn (fun _ => 0) := sorry
theorem bLen_spec (h : sI tt nn n s) {x : Nat} : (∀ c, bLen s x c ≠ 0 → (sNth s (2 ^ x) (bLen s x c)).testBit c = true) ∧ (∀ k c, (sNth s (2 ^ x) (k + 1)).testBit c = true → bLen s x c ≠ 0 ∧ bLen s x c ≤ k + 1) ∧ ∀ c, bLen s x c ≤ 8 := sorry
theorem sSeek_some {x t K : Nat} : ∀ {m k : Nat}, k < K → K ≤ k + m → (sNth s x K).testBit t = true → (∀ j, k < j → j < K → ¬ (sNth s x j).testBit t = true) → sSeek s x t m k = some K := sorry
theorem sSeek_none {x t : Nat} : ∀ {m k : Nat}, (∀ j, k < j → j ≤ k + m → ¬ (sNth s x j).testBit t = true) → sSeek s x t m k = none := sorry
theorem bLen_seek (h : sI tt nn n s) {x t : Nat} : sSeek s (2 ^ x) t 8 0 = if bLen s x t = 0 then none else some (bLen s x t) := sorry
/-- the rounds -/
def rR (s : sS) (x : Nat) : Nat → Nat
  | 0 => x
  | k + 1 => rR s x k ||| sStep s (rR s x k)
theorem rR_bit {x c : Nat} : ∀ {k : Nat}, (rR s x k).testBit c = true ↔ ∃ j, j ≤ k ∧ (sNth s x j).testBit c = true := sorry
theorem rR_step {x c k : Nat} : (sStep s (rR s x k)).testBit c = true ↔ ∃ j, j ≤ k ∧ (sNth s x (j + 1)).testBit c = true := sorry
theorem rR_lt (h : sI tt nn n s) {x : Nat} (hx : x < 256) : ∀ {k : Nat}, rR s x k < 256 := sorry
/-- what the first k of the search or the rounds' answers add up to -/
def sOrs (P : Nat → Bool) : Nat → Nat
  | 0 => 0
  | k + 1 => if P k = true then sOrs P k ||| 2 ^ k else sOrs P k
theorem sOrs_bit {P : Nat → Bool} {c : Nat} : ∀ {k : Nat}, (sOrs P k).testBit c = true ↔ c < k ∧ P c = true := sorry
theorem sOrs_lt {P : Nat → Bool} {k : Nat} (hk : k ≤ 8) : sOrs P k < 256 := sorry
theorem sRch_bit {x c : Nat} : ∀ {k : Nat}, (sRch s x k).testBit c = true ↔ ∃ j, j < k ∧ (sNth s x (j + 1)).testBit c = true := sorry
theorem sRch_len (h : sI tt nn n s) {x c : Nat} : (sRch s (2 ^ x) 8).testBit c = true ↔ bLen s x c ≠ 0 := sorry
theorem sRch_ors (h : sI tt nn n s) {x : Nat} : sOrs (fun c => decide (bLen s x c ≠ 0)) 8 = sRch s (2 ^ x) 8 := sorry
end

