/-! THE REFERENCE's questions: places, forecasts, totals -/
section
set_option maxRecDepth 100000
variable {G : zG} {h0 : zH} {a : tA} {T : tS} {tt nn n : Nat}
theorem sIn_pos {p : Int32} {n : Nat} (hn : n < 2 ^ 30) : sIn p (nI 0) (nI n - nI 1) = sPos p n := sorry
theorem sPos_nat {p : Int32} {n : Nat} (h : sPos p n = true) : ∃ k, p = nI k ∧ k < n ∧ iN p = k := sorry
def qRecent (s : sS) (p : Int32) : Nat × Int32 := if sPos p s.2.2.2.length = true then (0, nI (s.2.2.2.getD (iN p) 0)) else (1, nI 0)
def qNum (s : sS) (i : Nat) : Nat × Int32 := (0, nI (s.1 i))
def qExpW (s : sS) (t : Int32) : Nat × Int32 := if sIn t (nI 0) (nI 50) = true then (0, nI (sUp (fun k => if sAt s.2.1 k 4 ≤ s.1 0 + iN t then 1 else 0) s.2.1.length)) else (1, nI 0)
def qExpS (s : sS) (t : Int32) : Nat × Int32 := if sIn t (nI 0) (nI 50) = true then (0, nI (sTicks s (iN t)).1) else (1, nI 0)
def sAft (s : sS) (i : Nat) : Nat → Nat
  | 0 => sAt s.2.1 i 3
  | k + 1 => if sAt s.2.1 i 6 = 0 then sGrow (sAft s i k) (s.1 (10 + (s.1 0 + (k + 1)) / 4 % 4)) else sAft s i k
def qAfter (s : sS) (id t : Int32) : Nat × Int32 := match sFind s.2.1 id with | none => (1, nI 0) | some i => if sIn t (nI 0) (nI 50) = true then (0, nI (sAft s i (iN t))) else (2, nI 0)
def qCanS (s : sS) (id x : Int32) : Nat × Int32 := match sFind s.2.1 id with | none => (1, nI 0) | some i => if sIn x (nI 0) (nI 3) = true then (0, nI (if sAt s.2.1 i 6 = 0 ∧ sCount s.2.1 6 (iN x) < 3 then 1 else 0)) else (2, nI 0)
def qCanC (s : sS) (id x : Int32) : Nat × Int32 := match sFind s.2.1 id with | none => (1, nI 0) | some i => if sIn x (nI 0) (nI 3) = true then (0, nI (if 0 < sAt s.2.1 i 6 ∧ sAt s.2.1 i 7 = 0 ∧ sCount s.2.1 7 (iN x) < 2 then 1 else 0)) else (2, nI 0)
theorem w_idAt (hD : tD a) {w : sW} (hW : tW T w) {p : Int32} : zK G mX3_idAt 3 0 [.ref a.1, .int p] (tH h0 a T) (tAns h0 a w (qIdAt w.1 p)) := sorry
theorem w_recentlyExpired (hD : tD a) {w : sW} (hW : tW T w) {p : Int32} : zK G mX3_recentlyExpired 3 0 [.ref a.1, .int p] (tH h0 a T) (tAns h0 a w (qRecent w.1 p)) := sorry
theorem w_expiredCount (hD : tD a) {w : sW} (hW : tW T w) : zK G mX3_expiredCount 3 0 [.ref a.1] (tH h0 a T) (tAns h0 a w (qNum w.1 5)) := sorry
theorem w_settledCount (hD : tD a) {w : sW} (hW : tW T w) : zK G mX3_settledCount 3 0 [.ref a.1] (tH h0 a T) (tAns h0 a w (qNum w.1 6)) := sorry
theorem w_voidedCount (hD : tD a) {w : sW} (hW : tW T w) : zK G mX3_voidedCount 3 0 [.ref a.1] (tH h0 a T) (tAns h0 a w (qNum w.1 7)) := sorry
theorem w_interestTotal (hD : tD a) {w : sW} (hW : tW T w) : zK G mX3_interestTotal 3 0 [.ref a.1] (tH h0 a T) (tO h0 a 0 (.long (nI (w.1.1 3)).toInt64) w) := sorry
theorem w_closedWeight (hD : tD a) {w : sW} (hW : tW T w) : zK G mX3_closedWeight 3 0 [.ref a.1] (tH h0 a T) (tO h0 a 0 (.long (nI (w.1.1 8)).toInt64) w) := sorry
theorem w_activeWeight (hD : tD a) {w : sW} (hW : tW T w) : zK G mX3_activeWeight 3 0 [.ref a.1] (tH h0 a T) (tO h0 a 0 (.long (nI (sUp (fun k => sAt w.1.2.1 k 3) w.1.2.1.length)).toInt64) w) := sorry
theorem w_isConsistent (hD : tD a) {w : sW} (hW : tW T w) : zK G mX3_isConsistent 3 0 [.ref a.1] (tH h0 a T) (tAns h0 a w (0, nI 1)) := sorry
theorem w_expiringWithin (hD : tD a) {w : sW} (hW : tW T w) (hB : tB w.1) {t : Int32} : zK G mX3_expiringWithin 3 0 [.ref a.1, .int t] (tH h0 a T) (tAns h0 a w (qExpW w.1 t)) := sorry
theorem w_expiringBySimulation (hD : tD a) {w : sW} (hW : tW T w) (hI : sI tt nn 0 w.1) (hE : sE w.1) (hT : tt + 50 < 100000) (hN : nn ≤ 10000) {t : Int32} : zK G mX3_expiringBySimulation 5 0 [.ref a.1, .int t] (tH h0 a T) (tAns h0 a w (qExpS w.1 t)) := sorry
end

