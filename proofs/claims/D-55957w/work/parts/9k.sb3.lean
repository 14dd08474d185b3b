/-! StringBuilder: append of a String; toString; a range of bytes *-/
section
set_option maxRecDepth 100000
variable {G : zG} {h h' h1 : zH} {a v ml m n q i x c w : Nat} {l t l1 s : List Nat}
theorem w_infl {b : List Nat} (k : cSBt h a v ml n b) (ks : cStr h c w s) : zK G mJ5_inflateIfNeededFor 2 0 [.ref a, .ref c] h (zPu h none) := sorry
theorem w_strBytes {b : List Nat} (ks : cStr h c w s) (hv : h v = some (103, btab b)) (hn : n + s.length ≤ b.length) (hb : b.length < 2 ^ 20) : zK G mJ7_getBytes 2 0 [.ref c, .ref v, .int (nI n), .int (nI 0)] h (zO fun o h' => o = none ∧ h' = zup h v (103, btab (b.take n ++ s ++ b.drop (n + s.length))) ∧ h' v = some (103, btab (b.take n ++ s ++ b.drop (n + s.length)))) := sorry
theorem cStr.fr {X : Nat → Prop} (k : cStr h c w s) (z : zfr X h h') (n1 : ¬ X c) (n2 : ¬ X w) : cStr h' c w s := sorry
theorem w_putAt {b : List Nat} (k : cSBt h a v ml n b) (ks : cStr h c w s) (hz : n + s.length ≤ b.length) : zK G mJ5_putStringAt 4 0 [.ref a, .int (nI n), .ref c] h (zO fun o h' => o = none ∧ h' = zup h v (103, btab (b.take n ++ s ++ b.drop (n + s.length))) ∧ h' v = some (103, btab (b.take n ++ s ++ b.drop (n + s.length)))) := sorry
theorem app_mid {z : List Nat} {s : List Nat} : (l ++ z).take l.length ++ s ++ (l ++ z).drop (l.length + s.length) = (l ++ s) ++ z.drop s.length := sorry
theorem w_sbPutS (k : cSB h a v l) (ks : cStr h c w s) (hl : l.length + s.length ≤ 100) (hcv : c ≠ a ∧ w ≠ a ∧ w ≠ v) : zK G mJ5_append 6 51 [.ref a, .ref c] h (cSBp h a v (l ++ s) (some (.ref a))) := sorry
theorem w_sbAppS (k : cSB h a v l) (ks : cStr h c w s) (hl : l.length + s.length ≤ 100) (hcv : c ≠ a ∧ w ≠ a ∧ w ≠ v) : zK G mJ6_append 7 51 [.ref a, .ref c] h (cSBp h a v (l ++ s) (some (.ref a))) := sorry
/-- a range of bytes, copied -/
theorem w_copyRange {b : List Nat} {kk i j u : Nat} (hv : h v = some (kk, btab b)) (hk : kk % 1000 = 103) (hi : i ≤ j) (hj : j ≤ b.length) (hb : b.length < 2 ^ 20) (h128 : ∀ x ∈ b, x < 128) (hu : 1 ≤ u ∧ j - i ≤ 4 * u) : zK G mJ17_copyOfRangeByte 2 u [.ref v, .int (nI i), .int (nI j)] h (zO fun o h' => ∃ v', o = some (.ref v') ∧ h v' = none ∧ h' = zup h v' (103, btab ((b.drop i).take (j - i))) ∧ h' v' = some (103, btab ((b.drop i).take (j - i)))) := sorry
theorem w_copyRg {b : List Nat} {kk i j u : Nat} (hv : h v = some (kk, btab b)) (hk : kk = 103 ∨ kk % 1000 = 103 ∧ ¬ (i = 0 ∧ j = b.length)) (hi : i ≤ j) (hj : j ≤ b.length) (hb : b.length < 2 ^ 20) (h128 : ∀ x ∈ b, x < 128) (hu : 1 ≤ u ∧ j - i ≤ 4 * u) : zK G mJ17_copyOfRange 3 u [.ref v, .int (nI i), .int (nI j)] h (zO fun o h' => ∃ v', o = some (.ref v') ∧ h v' = none ∧ h' = zup h v' (103, btab ((b.drop i).take (j - i))) ∧ h' v' = some (103, btab ((b.drop i).take (j - i)))) := sorry
end

