/-! THE CLASS's sort, whole; the claim at a place of it -/
section
set_option maxRecDepth 100000
variable {G : zG} {h h' : zH} {O : Nat → Prop} {x st ll aq re rt ea ha er hr tt nn n i l l1 l2 : Nat} {mc mc1 mc2 : Int32} {xs ys ys1 ys2 : List (Nat × Nat)} {qs rs : List Nat} {s : sS} {fs : List Value} {id y z : Int32} {Q9 : zR → zH → Prop} {K : Nat → sC}
def sRm : Nat → Nat
  | 0 => 0
  | f + 1 => sRm f + sRm f + 31
abbrev cSo (h : zH) (l : Nat) (ys : List (Nat × Nat)) (as : List Nat) : zR → zH → Prop := zO fun v h' => ∃ l3 mc3 ys3, v = some (.ref l3) ∧ cLL h' l3 mc3 ys3 ∧ ys3.map Prod.snd = as ∧ zfr (fun _ => False) h h' ∧ ((l3 = l ∧ ys3 = ys ∧ h' = h) ∨ ∀ b, cLf l3 ys3 b → h b = none)
theorem cLf.app {p : Nat × Nat} {b : Nat} (hb : cLf l (ys ++ [p]) b) : cLf l ys b ∨ b = p.1 := sorry
theorem take_sn {as : List Nat} {k a : Nat} (h : as[k]? = some a) : as.take (k + 1) = as.take k ++ [a] := sorry
theorem drop_sn {as : List Nat} {k a n : Nat} (h : as[k]? = some a) (hn : n ≤ k) : (as.take (k + 1)).drop n = (as.take k).drop n ++ [a] := sorry
theorem c_stSmall {d r f : Nat} (hL : cLL h l mc ys) (h2 : ys.length < 2) : zK G mX1_sort (2 + d) r [.ref l] h (cSo h l ys (mSort K f (ys.map Prod.snd))) := sorry
/-- the list is parted -/
theorem c_stPart {r d it : Nat} (hd6 : 6 ≤ d) (nit : h it = none) (h12 : ys.length ≤ 12)
    (fin : ∀ (H : zH) (mc1 mc2 : Int32) (ys1 ys2 : List (Nat × Nat)) (v3 v4 : Value), zfr (fun _ => False) h H → cLL H l1 mc1 ys1 → cLL H l2 mc2 ys2 → ys1.map Prod.snd = (ys.map Prod.snd).take (ys.length / 2) → ys2.map Prod.snd = (ys.map Prod.snd).drop (ys.length / 2) → (∀ b, cLf l1 ys1 b → h b = none) → (∀ b, cLf l2 ys2 b → h b = none) → (∀ b, cLf l1 ys1 b → ¬ cLf l2 ys2 b) → cKs H K (ys.map Prod.snd) → zW G mX1_sort d r 82 [.ref l, .ref l1, .ref l2, v3, v4] [] H Q9) :
    ∀ (m k : Nat) (H : zH) (mc1 mc2 : Int32) (ys1 ys2 : List (Nat × Nat)) (lr v4 : Value), k + m = ys.length → zfr (fun _ => False) h H → cLL H l mc ys → H it = some (cIt l mc ys k lr) → cLL H l1 mc1 ys1 → cLL H l2 mc2 ys2 → ys1.map Prod.snd = (ys.map Prod.snd).take (min k (ys.length / 2)) → ys2.map Prod.snd = ((ys.map Prod.snd).take k).drop (ys.length / 2) → (∀ b, cLf l1 ys1 b → h b = none ∧ b ≠ it) → (∀ b, cLf l2 ys2 b → h b = none ∧ b ≠ it) → (∀ b, cLf l1 ys1 b → ¬ cLf l2 ys2 b) → (∀ b, cLf l ys b → h b ≠ none) → cKs H K (ys.map Prod.snd) → zW G mX1_sort d (r + m) 31 [.ref l, .ref l1, .ref l2, .ref it, v4] [] H Q9 := sorry
theorem c_sort : ∀ (f : Nat) {h : zH} {l : Nat} {mc : Int32} {ys : List (Nat × Nat)}, ys.length ≤ 2 ^ f → ys.length ≤ 12 → cLL h l mc ys → cKs h K (ys.map Prod.snd) → zK G mX1_sort (f + 10) (sRm f) [.ref l] h (cSo h l ys (mSort K f (ys.map Prod.snd))) := sorry
theorem c_idByExpiry (hx : h x = some (0, .ref st :: fs)) (hP : cP h O st ll aq re rt ea ha er hr mc xs qs rs s) (hJ : sJ tt nn s) (hN : nn ≤ 10000) (hT : tt ≤ 100000) : zK G mX1_idByExpiry 40 470 [.ref x, .int y] h (cAns [eIdx] h (qByExp s y)) := sorry
end

