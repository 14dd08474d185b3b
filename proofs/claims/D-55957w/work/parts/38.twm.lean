/-! THE REFERENCE's questions: next expiry, the queue, pairs -/
section
set_option maxRecDepth 100000
variable {G : zG} {h0 : zH} {a : tA} {T : tS} {tt nn n : Nat}
def sSoon (s : sS) : Nat → Nat
  | 0 => sAt s.2.1 0 4
  | k + 1 => if sAt s.2.1 (k + 1) 4 < sSoon s k then sAt s.2.1 (k + 1) 4 else sSoon s k
theorem sSoon_lt {s : sS} (hB : tB s) {k : Nat} (hk : k < s.2.1.length) : sSoon s k < 2 ^ 30 := sorry
def qNext (s : sS) : Nat × Int32 := if s.2.1.length = 0 then (1, nI 0) else (0, nI (sSoon s (s.2.1.length - 1)))
theorem w_nextExpiry (hD : tD a) {w : sW} (hW : tW T w) (hB : tB w.1) : zK G mX3_nextExpiry 4 0 [.ref a.1] (tH h0 a T) (tAns h0 a w (qNext w.1)) := sorry
def qNextAudit (s : sS) : Nat × Int32 := match s.2.2.1 with | [] => (1, nI 0) | q :: _ => (0, nI q)
theorem w_nextToAudit (hD : tD a) {w : sW} (hW : tW T w) : zK G mX3_nextToAudit 4 0 [.ref a.1] (tH h0 a T) (tAns h0 a w (qNextAudit w.1)) := sorry
def qAuditPos (s : sS) (id : Int32) : Nat × Int32 := match sFind s.2.1 id with | none => (1, nI 0) | some i => (0, nI (s.2.2.1.idxOf (sAt s.2.1 i 0)))
theorem idxOf_at {q : Nat} : ∀ {l : List Nat} {k : Nat}, l[k]? = some q → (∀ j, j < k → l[j]? ≠ some q) → l.idxOf q = k := sorry
theorem w_placeS (hD : tD a) {s : sS} (hR : tR T.2.1 0 s) (hB : tB s) {id : Nat} (hq : id ∈ s.2.2.1) : zK G mX3_placeInQueue 2 0 [.ref a.1, .int (nI id)] (tH h0 a T) (tQ h0 a fun v T' => v = some (.int (nI (s.2.2.1.idxOf id))) ∧ T' = T) := sorry
theorem sFind_id {s : sS} {id : Int32} {i : Nat} (h : sFind s.2.1 id = some i) : nI (sAt s.2.1 i 0) = id := sorry
theorem w_auditPosition (hD : tD a) {w : sW} (hW : tW T w) (hB : tB w.1) (hQ : ∀ i, i < w.1.2.1.length → sAt w.1.2.1 i 0 ∈ w.1.2.2.1) {id : Int32} : zK G mX3_auditPosition 4 0 [.ref a.1, .int id] (tH h0 a T) (tAns h0 a w (qAuditPos w.1 id)) := sorry
end

