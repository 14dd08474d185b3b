/-! State: count, sum, lowest -/
section
set_option maxRecDepth 100000
variable {G : zG} {h h' h0 : zH} {O : Nat → Prop} {N : zM} {st ll aq re rt ea ha er hr b i k kk : Nat} {mc : Int32} {xs : List (Nat × Nat)} {qs rs : List Nat} {s : sS} {x : MethodName} {vals : List Value}
theorem zle.at {h1 h2 : zH} (z : zle h1 h2) {a : Nat} {c : zC} (e : h1 a = some c) : h2 a = some c := sorry
theorem sAt_mem {cs : List sC} {k : Nat} (hk : k < cs.length) : sAt cs k ∈ cs := sorry
/-- how often T holds among the first k -/
abbrev sCk (T : sC → Bool) (cs : List sC) : Nat → Nat := sUp fun k => if T (sAt cs k) = true then 1 else 0
theorem sCk_s {T : sC → Bool} {cs : List sC} {k : Nat} : sCk T cs (k + 1) = sCk T cs k + (if T (sAt cs k) = true then 1 else 0) := sorry
theorem sCk_le {T : sC → Bool} {cs : List sC} {k : Nat} : sCk T cs k ≤ k := sorry
def sUpI (g : Nat → Int32) : Nat → Int32
  | 0 => 0
  | k + 1 => sUpI g k + g k
/-- the lowest of the first k + 1 -/
def sLowK (V : sC → Int32) (cs : List sC) : Nat → Nat
  | 0 => 0
  | k + 1 => if V (sAt cs (k + 1)) < V (sAt cs (sLowK V cs k)) then k + 1 else sLowK V cs k
theorem sLowK_le {V : sC → Int32} {cs : List sC} {k : Nat} : sLowK V cs k ≤ k := sorry
theorem w_stCount (hP : cP h O st ll aq re rt ea ha er hr mc xs qs rs s) (h12 : s.2.1.length ≤ 12) (hL9 : zCL "ClaimRegistry$State" 98 i k x N .boolean) (hi9 : i < 50) (hb : h b = some (kk, vals)) (hkk : kk % 1000 = 50 + i) (hvl : vals.length = k) (hcat : ∀ v ∈ vals, v.category = 1) (hln : k + 1 ≤ zm_n N) {T : sC → Bool}
    (hK : ∀ (H : zH) (a : Nat) (c : sC), zle h H → c ∈ s.2.1 → H a = some (2, cCl c) → zK G N 4 0 (vals ++ [Value.ref a]) H (zPu H (some (.int (nI (if T c = true then 1 else 0)))))) : zK G mX2_count 6 2 [.ref st, .ref b] h (zPu h (some (.int (nI (sCk T s.2.1 s.2.1.length))))) := sorry
theorem w_stSum (hP : cP h O st ll aq re rt ea ha er hr mc xs qs rs s) (h12 : s.2.1.length ≤ 12) (hL9 : zCL "ClaimRegistry$State" 104 i k x N .int) (hi9 : i < 50) (hb : h b = some (kk, vals)) (hkk : kk % 1000 = 50 + i) (hvl : vals.length = k) (hcat : ∀ v ∈ vals, v.category = 1) (hln : k + 1 ≤ zm_n N) {V : sC → Int32}
    (hK : ∀ (H : zH) (a : Nat) (c : sC), zle h H → c ∈ s.2.1 → H a = some (2, cCl c) → zK G N 4 0 (vals ++ [Value.ref a]) H (zPu H (some (.int (V c))))) : zK G mX2_sum 6 2 [.ref st, .ref b] h (zPu h (some (.int (sUpI (fun k => V (sAt s.2.1 k)) s.2.1.length)))) := sorry
theorem w_stLowest (hP : cP h O st ll aq re rt ea ha er hr mc xs qs rs s) (h12 : s.2.1.length ≤ 12) (hL9 : zCL "ClaimRegistry$State" 104 i k x N .int) (hi9 : i < 50) (hb : h b = some (kk, vals)) (hkk : kk % 1000 = 50 + i) (hvl : vals.length = k) (hcat : ∀ v ∈ vals, v.category = 1) (hln : k + 1 ≤ zm_n N) {V : sC → Int32}
    (hK : ∀ (H : zH) (a : Nat) (c : sC), zle h H → c ∈ s.2.1 → H a = some (2, cCl c) → zK G N 4 0 (vals ++ [Value.ref a]) H (zPu H (some (.int (V c))))) : zK G mX2_lowest 6 2 [.ref st, .ref b] h (zPu h (some (zrf (if s.2.1.length = 0 then none else cAd xs (sLowK V s.2.1 (s.2.1.length - 1)))))) := sorry
end

