/-! THE CLASS's sort -/
section
set_option maxRecDepth 100000
variable {G : zG} {h h' : zH} {O : Nat → Prop} {x st ll aq re rt ea ha er hr tt nn n i l1 l2 : Nat} {mc mc1 mc2 : Int32} {xs ys1 ys2 : List (Nat × Nat)} {qs rs : List Nat} {s : sS} {fs : List Value} {id y z : Int32} {Q9 : zR → zH → Prop} {K : Nat → sC}
/-- addresses are claims of K -/
def cKs (h : zH) (K : Nat → sC) (as : List Nat) : Prop := ∀ a ∈ as, h a = some (2, cCl (K a)) ∧ K a 0 < 2 ^ 30 ∧ K a 3 < 2 ^ 30 ∧ K a 4 < 2 ^ 30
theorem cKs.mv {as : List Nat} (hK : cKs h K as) (z : ∀ b l, h b = some (2, l) → h' b = some (2, l)) : cKs h' K as := sorry
theorem cKs.sub {as bs : List Nat} (hK : cKs h K as) (z : ∀ b ∈ bs, b ∈ as) : cKs h K bs := sorry
abbrev cSrt (h : zH) (F : Nat → Prop) (as : List Nat) : zR → zH → Prop := zO fun v h' => ∃ l3 mc3 ys3, v = some (.ref l3) ∧ cLL h' l3 mc3 ys3 ∧ ys3.map Prod.snd = as ∧ zfr F h h' ∧ ∀ b, cLf l3 ys3 b → h b = none
theorem cLf.live (hL : cLL h l1 mc1 ys1) {b : Nat} (hb : cLf l1 ys1 b) : h b ≠ none := sorry
theorem cLf.tail {p : Nat × Nat} {b : Nat} (hb : cLf l1 ys1 b) : cLf l1 (p :: ys1) b := sorry
/-- the rest is taken over -/
theorem c_mgRest {r : Nat} {F : Nat → Prop} {l : Nat} {mc9 : Int32} {ys : List (Nat × Nat)} (h12 : ys.length ≤ 12) {as : List Nat} {it l3 v0 v1 : Nat} (nit : h it = none) (hFl : ∀ b, cLf l ys b → h b ≠ none) :
    ∀ (m k : Nat) (H : zH) (mc3 : Int32) (ys3 : List (Nat × Nat)) (lr v4 : Value), k + m = ys.length → zfr F h H → cLL H l mc9 ys → H it = some (cIt l mc9 ys k lr) → cLL H l3 mc3 ys3 → (∀ b, cLf l3 ys3 b → h b = none ∧ b ≠ it) → ys3.map Prod.snd ++ (ys.drop k).map Prod.snd = as → cKs H K (ys.map Prod.snd) → zW G mX1_merge 6 (r + m) 78 [.ref v0, .ref v1, .ref l3, .ref it, v4] [] H (cSrt h F as) := sorry
theorem c_mgTail {F : Nat → Prop} (hFl : ∀ b, F b → h b ≠ none) {res : List Nat} {l l3 v0 v1 : Nat} {H : zH} {mc9 mc3 : Int32} {ys ys3 : List (Nat × Nat)} {v3 v4 : Value} (h12 : ys.length ≤ 12) (zf : zfr F h H) (hL : cLL H l mc9 ys) (hL3 : cLL H l3 mc3 ys3) (hF : ∀ b, cLf l ys b → F b) (hF3 : ∀ b, cLf l3 ys3 b → h b = none) (e : ys3.map Prod.snd ++ ys.map Prod.snd = res) (hK : cKs H K (ys.map Prod.snd)) : zW G mX1_merge 6 (ys.length + 2) 74 [.ref v0, .ref v1, .ref l3, v3, v4] [.ref l] H (cSrt h F res) := sorry
/-- two sorted lists become one -/
theorem c_mgLoop {l3 : Nat} {F1 F2 : Nat → Prop} (hF12 : ∀ b, F1 b → ¬ F2 b) (hFl : ∀ b, F1 b ∨ F2 b → h b ≠ none) {res : List Nat} :
    ∀ (m : Nat) (H : zH) (mc1 mc2 mc3 : Int32) (ys1 ys2 ys3 : List (Nat × Nat)) (v3 v4 : Value), ys1.length + ys2.length ≤ m → m ≤ 12 → zfr (fun b => F1 b ∨ F2 b) h H → cLL H l1 mc1 ys1 → cLL H l2 mc2 ys2 → cLL H l3 mc3 ys3 → (∀ b, cLf l1 ys1 b → F1 b) → (∀ b, cLf l2 ys2 b → F2 b) → (∀ b, cLf l3 ys3 b → h b = none) → ys3.map Prod.snd ++ List.merge (ys1.map Prod.snd) (ys2.map Prod.snd) (lt9 K) = res → cKs H K (ys1.map Prod.snd) → cKs H K (ys2.map Prod.snd) → zW G mX1_merge 6 (m + 2) 8 [.ref l1, .ref l2, .ref l3, v3, v4] [] H (cSrt h (fun b => F1 b ∨ F2 b) res) := sorry
theorem c_merge (hL1 : cLL h l1 mc1 ys1) (hL2 : cLL h l2 mc2 ys2) (hd : ∀ b, cLf l1 ys1 b → ¬ cLf l2 ys2 b) (h12 : ys1.length + ys2.length ≤ 12) (hK1 : cKs h K (ys1.map Prod.snd)) (hK2 : cKs h K (ys2.map Prod.snd)) : zK G mX1_merge 6 (ys1.length + ys2.length + 3) [.ref l1, .ref l2] h (cSrt h (fun b => cLf l1 ys1 b ∨ cLf l2 ys2 b) (List.merge (ys1.map Prod.snd) (ys2.map Prod.snd) (lt9 K))) := sorry
end

