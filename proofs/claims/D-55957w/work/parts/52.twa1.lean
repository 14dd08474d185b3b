/-! THE REFERENCE: a claim's line -/
section
set_option maxRecDepth 100000
variable {G : zG} {h0 : zH} {a : tA} {T : tS} {tt nn n : Nat}
theorem sFind_eq {cs : List sC} {id : Int32} {i : Nat} (h : sFind cs id = some i) : nI (sAt cs i 0) = id := sorry
def sLn (c : sC) : List Nat := [] ++ [35] ++ sDec 4 (c 0) ++ [32] ++ sDec 0 (c 1) ++ [62] ++ sDec 0 (c 2) ++ [32] ++ sDec 3 (c 3) ++ [32, 64] ++ sDec 5 (c 4)
def sWv (c : sC) (l : List Nat) : List Nat := if 0 < c 6 then l ++ [32, 115] ++ sDec 0 (c 6 - 1) else l
def sRk (c : sC) (l : List Nat) : List Nat := if 0 < c 7 then l ++ [32, 99] ++ sDec 0 (c 7 - 1) else l
def sSk (c : sC) (l : List Nat) : List Nat := if 0 < c 5 then l ++ [32, 33] ++ sDec 0 (c 5) else l
def sLine (c : sC) : List Nat := sSk c (sRk c (sWv c (sLn c)))
/-- a line's length and the world behind it -/
def sForm (w : sW) (id : Int32) : Nat × Int32 × sW := match sFind w.1.2.1 id with
  | none => (1, nI 0, w)
  | some i => (0, nI (sLine (sAt w.1.2.1 i)).length, (w.1, w.2.1, w.2.2.1, sLine (sAt w.1.2.1 i), w.2.2.2.2))
set_option maxHeartbeats 8000000 in
theorem w_format (hD : tD a) {w : sW} (hW : tW T w) (hI : sI tt nn n w.1) (hT : tt < 100000) (hN : nn ≤ 10000) {id : Int32} : zK G mX3_format 9 0 [.ref a.1, .int id] (tH h0 a T) (tO h0 a (sForm w id).1 (.int (sForm w id).2.1) (sForm w id).2.2) := sorry
end

