/-! THE REFERENCE: a command is done, a program is run -/
section
set_option maxRecDepth 100000
variable {G : zG} {h0 : zH} {a : tA} {T : tS} {tt nn n : Nat}
def sDo (s : sS) (c : pC) : sR :=
  if c.1 = 97 then sAdd s (nI c.2.1) (nI c.2.2.1) (nI c.2.2.2.1) (nI c.2.2.2.2)
  else if c.1 = 115 then sSign s (nI c.2.1) (nI c.2.2.1)
  else if c.1 = 99 then sCosign s (nI c.2.1) (nI c.2.2.1)
  else if c.1 = 101 then sSettle s (nI c.2.1)
  else if c.1 = 117 then sAudit s (nI c.2.1)
  else if c.1 = 116 then sAdvance s (nI c.2.1)
  else sSetRate s (nI c.2.1) (nI c.2.2.1)
theorem sJ.doc {T N : Nat} {s : sS} (h : sJ T N s) (hN : N ≤ 10000) {c : pC} : sJ (T + 50) (N + 1) (sDo s c).2.2 := sorry
def pk (k : Nat) : Prop := k = 97 ∨ k = 115 ∨ k = 99 ∨ k = 101 ∨ k = 117 ∨ k = 116 ∨ k = 114 ∨ k = 0
theorem pArgs_k {l : List Nat} {w : Nat × Nat × Nat} (h : pk w.1) : pk (pArgs l w).1.1 := sorry
theorem pCmd_k {l : List Nat} {h : Nat} : pk (pCmd l h).1.1 := sorry
theorem pLoop_k {l : List Nat} : ∀ {m : Nat} {p : Nat × Nat} {cs : List pC}, (∀ c ∈ cs, pk c.1) → ∀ c ∈ (pLoop l m p cs).1, pk c.1 := sorry
theorem pParse_k {l : List Nat} : ∀ c ∈ (pParse l).1, pk c.1 := sorry
set_option maxHeartbeats 8000000 in
theorem w_does (hD : tD a) {s : sS} (hR : tR T.2.1 0 s) (hJ : sJ tt nn s) (hT : tt + 50 < 100000) (hN : nn ≤ 10000) {i : Nat} (hi : i ≤ 60) {c : pC} (hK : tK T.2.2.2.2 i c) (hk : pk c.1) : zK G mX3_does 6 0 [.ref a.1, .int (nI (5 * i))] (tH h0 a T) (tQ h0 a (tC T s (sDo s c))) := sorry
def sDos : List pC → sS → Nat × sS
  | [], s => (0, s)
  | c :: cs, s => if (sDo s c).1 = 0 then ((sDos cs (sDo s c).2.2).1 + 1, (sDos cs (sDo s c).2.2).2) else (0, s)
theorem sDos_le : ∀ {cs : List pC} {s : sS}, (sDos cs s).1 ≤ cs.length := sorry
/-- the commands cs are done, all or none -/
def sRunA (w : sW) (cs : List pC) : Nat × Int32 × sW :=
  if (sDos cs w.1).1 = cs.length then (0, nI cs.length, ((sDos cs w.1).2, sPush w.2.1 w.1, w.2.2.1, w.2.2.2.1, [], w.2.2.2.2.2.1, w.2.2.2.2.2.2))
  else (2, nI 0, (w.1, w.2.1, w.2.2.1, w.2.2.2.1, [], w.2.2.2.2.2.1, (sDos cs w.1).1 + 1))
theorem sRunA_bad {w : sW} {cs : List pC} {k : Nat} (h : (sDos cs w.1).1 = k) (hk : k < cs.length) : sRunA w cs = (2, nI 0, (w.1, w.2.1, w.2.2.1, w.2.2.2.1, [], w.2.2.2.2.2.1, k + 1)) := sorry
theorem sRunA_good {w : sW} {cs : List pC} {s' : sS} (h : (sDos cs w.1).1 = cs.length) (h2 : (sDos cs w.1).2 = s') : sRunA w cs = (0, nI cs.length, (s', sPush w.2.1 w.1, w.2.2.1, w.2.2.2.1, [], w.2.2.2.2.2.1, w.2.2.2.2.2.2)) := sorry
/-- a run of the program that stands in the input -/
def sRun (w : sW) : Nat × Int32 × sW :=
  if (pParse w.2.2.2.2.1).2 = 0 then sRunA w (pParse w.2.2.2.2.1).1
  else (1, nI 0, (w.1, w.2.1, w.2.2.1, w.2.2.2.1, [], (pParse w.2.2.2.2.1).2, w.2.2.2.2.2.2))
theorem tX.in0 {T T' : tS} {w : sW} {s : sS} {e f : Nat} (h : tX T w) (hA : ∀ j, 130 ≤ j → j < 1300 → T'.2.1 j = T.2.1 j) (hL : T'.2.2.1 = T.2.2.1) (hF : ∀ f, f = 2 ∨ f = 3 ∨ f = 6 → T'.1 f = T.1 f) (h8 : T'.1 8 = 0) (h11 : T'.1 11 = e) (h12 : T'.1 12 = f) : tX T' (s, w.2.1, w.2.2.1, w.2.2.2.1, [], e, f) := sorry
set_option maxHeartbeats 8000000 in
theorem w_run (hD : tD a) {w : sW} (hW : tW T w) (hJ : sJ tt nn w.1) (hT : tt + 50 * 62 < 100000) (hN : nn + 61 ≤ 10000) (hc : ∀ x ∈ w.2.2.2.2.1, x < 128) : zK G mX3_run 7 0 [.ref a.1] (tH h0 a T) (tO h0 a (sRun w).1 (.int (sRun w).2.1) (sRun w).2.2) := sorry
end

