/-! a State's cells -/
section
set_option maxRecDepth 100000
variable {G : zG} {h h' h0 : zH} {O : Nat → Prop} {st ll aq re rt ea ha er hr : Nat} {mc : Int32} {xs : List (Nat × Nat)} {qs rs : List Nat} {s : sS}
def nL (n : Nat) : Int64 := Int64.ofNat n
def cSf (ll aq re rt : Nat) (m : Nat → Nat) : List Value := [.ref ll, .ref aq, .ref re, .ref rt, .int (nI (m 1)), .int (nI (m 0)), .int (nI (m 5)), .int (nI (m 6)), .int (nI (m 7)), .long (nL (m 4)), .long (nL (m 3)), .long (nL (m 8))]
/-- deque items are Integers with the numbers xs -/
def cIs (h : zH) (O : Nat → Prop) (its xs : List Nat) : Prop := its.length = xs.length ∧ ∀ (i q x : Nat), its[i]? = some q → xs[i]? = some x → ∃ k, cInt h q k x ∧ (k = 15 → O q)
/-- list items are the claims cs -/
def cCs (h : zH) (xs : List (Nat × Nat)) (cs : List sC) : Prop := xs.length = cs.length ∧ (∀ (i : Nat) (p : Nat × Nat) (c : sC), xs[i]? = some p → cs[i]? = some c → h p.2 = some (2, cCl c)) ∧ (xs.map Prod.snd).Nodup
/-- the State at st pictures s; its cells lie in O -/
def cP (h : zH) (O : Nat → Prop) (st ll aq re rt ea ha er hr : Nat) (mc : Int32) (xs : List (Nat × Nat)) (qs rs : List Nat) (s : sS) : Prop :=
  h st = some (1, cSf ll aq re rt s.1) ∧ (cLL h ll mc xs ∧ cCs h xs s.2.1) ∧ (cDQ h aq ea ha qs ∧ cIs h O qs s.2.2.1) ∧ (cDQ h re er hr rs ∧ cIs h O rs s.2.2.2) ∧ (aq ≠ re ∧ ea ≠ er) ∧ h rt = some (100, ztab 4 fun i => s.1 (10 + i)) ∧
  (O st ∧ (∀ b, cLf ll xs b → O b) ∧ (∀ p ∈ xs, O p.2) ∧ (O aq ∧ O ea) ∧ (O re ∧ O er) ∧ O rt)
def cS (h : zH) (O : Nat → Prop) (st : Nat) (s : sS) : Prop := ∃ ll aq re rt ea ha er hr mc xs qs rs, cP h O st ll aq re rt ea ha er hr mc xs qs rs s
theorem cIs.fr {its ys : List Nat} (hI : cIs h O its ys) {A : Nat → Prop} (z : zfr A h h') (n : ∀ b, O b → ¬ A b) : cIs h' O its ys := sorry
theorem cIs.up {its ys : List Nat} {O' : Nat → Prop} (hI : cIs h O its ys) (u : ∀ b, O b → O' b) : cIs h O' its ys := sorry
theorem cIs.mv {its ys : List Nat} (hI : cIs h O its ys) (z : ∀ b k l, (k = 15 ∨ k = 1015) → h b = some (k, l) → h' b = some (k, l)) : cIs h' O its ys := sorry
theorem cCs.fr {cs : List sC} (hC : cCs h xs cs) {A : Nat → Prop} (z : zfr A h h') (n : ∀ p ∈ xs, ¬ A p.2) : cCs h' xs cs := sorry
theorem cCs.mv {cs : List sC} (hC : cCs h xs cs) (z : ∀ b l, h b = some (2, l) → h' b = some (2, l)) : cCs h' xs cs := sorry
theorem cP.fr (hP : cP h O st ll aq re rt ea ha er hr mc xs qs rs s) {A : Nat → Prop} (z : zfr A h h') (n : ∀ b, O b → ¬ A b) : cP h' O st ll aq re rt ea ha er hr mc xs qs rs s := sorry
theorem cP.up {O' : Nat → Prop} (hP : cP h O st ll aq re rt ea ha er hr mc xs qs rs s) (u : ∀ b, O b → O' b) : cP h O' st ll aq re rt ea ha er hr mc xs qs rs s := sorry
theorem cS.fr (hS : cS h O st s) {A : Nat → Prop} (z : zfr A h h') (n : ∀ b, O b → ¬ A b) : cS h' O st s := sorry
theorem cS.up {O' : Nat → Prop} (hS : cS h O st s) (u : ∀ b, O b → O' b) : cS h O' st s := sorry
/-- a list's iterator at k -/
abbrev cIt (ll : Nat) (mc : Int32) (xs : List (Nat × Nat)) (k : Nat) (lr : Value) : zC := (8, [lr, zrf (cNd xs k), .int (nI k), .int mc, .ref ll])
theorem cLL.it (hL : cLL h ll mc xs) {it : Nat} (n : h it = none) {c : zC} : cLL (zup h it c) ll mc xs := sorry
theorem cCs.at {cs : List sC} (hC : cCs h xs cs) {k : Nat} (hk : k < cs.length) : ∃ p, xs[k]? = some p ∧ h p.2 = some (2, cCl (sAt cs k)) := sorry
theorem sFind_is {cs : List sC} {id : Int32} {k : Nat} (hk : k < cs.length) (e : nI (sAt cs k 0) = id) (hn : ∀ j, j < k → ¬ nI (sAt cs j 0) = id) : sFind cs id = some k := sorry
theorem sFind_no {cs : List sC} {id : Int32} (hn : ∀ j, j < cs.length → ¬ nI (sAt cs j 0) = id) : sFind cs id = none := sorry
/-- the address of the kth claim -/
def cAd (xs : List (Nat × Nat)) (k : Nat) : Option Nat := (xs[k]?).map Prod.snd
theorem w_sFind (hP : cP h O st ll aq re rt ea ha er hr mc xs qs rs s) (h12 : s.2.1.length ≤ 12) (hid : ∀ i, i < s.2.1.length → sAt s.2.1 i 0 < 2 ^ 30) {id : Int32} : zK G mX2_find 6 2 [.ref st, .int id] h (zPu h (some (zrf ((sFind s.2.1 id).bind (cAd xs))))) := sorry
end

