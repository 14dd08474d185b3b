/-! THE REFERENCE: may one sign, weights to come, pairs, append -/
section
set_option maxRecDepth 100000
variable {G : zG} {h0 : zH} {a : tA} {T : tS} {tt nn n : Nat}
theorem w_canSign (hD : tD a) {w : sW} (hW : tW T w) (hB : tB w.1) {id x : Int32} : zK G mX3_canSign 4 0 [.ref a.1, .int id, .int x] (tH h0 a T) (tAns h0 a w (qCanS w.1 id x)) := sorry
theorem w_canCountersign (hD : tD a) {w : sW} (hW : tW T w) (hB : tB w.1) {id x : Int32} : zK G mX3_canCountersign 4 0 [.ref a.1, .int id, .int x] (tH h0 a T) (tAns h0 a w (qCanC w.1 id x)) := sorry
def sOwes (s : sS) (f t : Nat) : Nat → Nat → Bool
  | 0, _ => false
  | m + 1, k => if sAt s.2.1 k 1 = f ∧ sAt s.2.1 k 2 = t then true else sOwes s f t m (k + 1)
theorem w_owesNow (hD : tD a) {s : sS} (hR : tR T.2.1 0 s) (hB : tB s) {f t : Nat} (hf : f < 100) (ht : t < 100) : zK G mX3_owesNow 2 0 [.ref a.1, .int (nI f), .int (nI t)] (tH h0 a T) (tQ h0 a fun v T' => v = some (.int (nI (if sOwes s f t s.2.1.length 0 = true then 1 else 0))) ∧ T' = T) := sorry
def qOwes (s : sS) (f t : Int32) : Nat × Int32 := if sIn f (nI 0) (nI 7) = true ∧ sIn t (nI 0) (nI 7) = true then (0, nI (if sOwes s (iN f) (iN t) s.2.1.length 0 = true then 1 else 0)) else (1, nI 0)
def sAmong (s : sS) (f t : Nat) : Nat := sUp (fun k => if sAt s.2.1 k 1 = f ∧ sAt s.2.1 k 2 = t then sAt s.2.1 k 3 else 0) s.2.1.length
def qPair (s : sS) (x y : Int32) : Nat × Int32 := if sIn x (nI 0) (nI 7) = true ∧ sIn y (nI 0) (nI 7) = true then (0, nI (sAmong s (iN y) (iN x)) - nI (sAmong s (iN x) (iN y))) else (1, nI 0)
theorem w_owedAmong (hD : tD a) {s : sS} (hR : tR T.2.1 0 s) (hB : tB s) {f t : Nat} (hf : f < 100) (ht : t < 100) : zK G mX3_owedAmong 2 0 [.ref a.1, .int (nI f), .int (nI t)] (tH h0 a T) (tQ h0 a fun v T' => v = some (.int (nI (sAmong s f t))) ∧ T' = T) := sorry
theorem w_owes (hD : tD a) {w : sW} (hW : tW T w) (hB : tB w.1) {x y : Int32} : zK G mX3_owes 4 0 [.ref a.1, .int x, .int y] (tH h0 a T) (tAns h0 a w (qOwes w.1 x y)) := sorry
theorem w_pairBalance (hD : tD a) {w : sW} (hW : tW T w) (hB : tB w.1) {x y : Int32} : zK G mX3_pairBalance 4 0 [.ref a.1, .int x, .int y] (tH h0 a T) (tAns h0 a w (qPair w.1 x y)) := sorry
end

