/-! THE REFERENCE: passes, visits, audits -/
section
set_option maxRecDepth 100000
variable {G : zG} {h0 : zH} {a : tA} {T : tS} {tt nn n : Nat}
theorem sTicks_le {s : sS} (h : sI tt nn 0 s) (hE : sE s) {k : Nat} : (sTicks s k).1 ≤ 12 * k := sorry
theorem zu_zu {f : Nat → Nat} {k x y : Nat} : zu (zu f k x) k y = zu f k y := sorry
theorem w_passes (hD : tD a) {s : sS} (hR : tR T.2.1 0 s) (hI : sI tt nn 0 s) (hE : sE s) (hT : tt + 50 < 100000) (hN : nn ≤ 10000) {t : Int32} : zK G mX3_passes 5 0 [.ref a.1, .int t] (tH h0 a T) (tQ h0 a (tC T s (sAdvance s t))) := sorry
/-- the queue turned -/
theorem tR.turn {A : Nat → Nat} {s : sS} {q : Nat} {qs : List Nat} (h : tR A 0 s) (hq : s.2.2.1 = q :: qs) : tR (zu (tsh A 118 (118 + qs.length) 1) (118 + qs.length) q) 0 (s.1, s.2.1, qs ++ [q], s.2.2.2) := sorry
theorem w_visits (hD : tD a) {s : sS} (hR : tR T.2.1 0 s) (hI : sI tt nn n s) (hT : tt < 100000) (hN : nn ≤ 10000) (hl : 0 < s.2.1.length) : zK G mX3_visits 4 0 [.ref a.1] (tH h0 a T) (tQ h0 a fun v T' => v = some (.int (nI (sVisit s).1)) ∧ tR T'.2.1 0 (sVisit s).2 ∧ T'.1 = T.1 ∧ tF T T') := sorry
theorem sVisits_len {s : sS} (h : sI tt nn n s) (hN : nn ≤ 10000) (hE : sE s) {k : Nat} : (sVisits s k).2.2.1.length + (sVisits s k).1 = s.2.1.length := sorry
theorem w_audits (hD : tD a) {s : sS} (hR : tR T.2.1 0 s) (hI : sI tt nn 0 s) (hE : sE s) (hT : tt < 100000) (hN : nn ≤ 10000) {t : Int32} : zK G mX3_audits 5 0 [.ref a.1, .int t] (tH h0 a T) (tQ h0 a (tC T s (sAudit s t))) := sorry
end

