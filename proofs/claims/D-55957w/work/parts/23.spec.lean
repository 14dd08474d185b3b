/-! THE MATHEMATICAL STATE that both sides picture, and its changes. A claim: 0 id, 1 debtor, 2 creditor, 3 weight, 4 expiry, 5 strikes, 6 wave + 1, 7 rock + 1 (0 none).
Numbers of a state: 0 time, 1 next id, 3 interest, 4 added, 5 expired, 6 settled, 7 voided, 8 closed, 10..13 rates. -/
section
set_option maxRecDepth 100000
abbrev sC : Type := Nat → Nat
/-- numbers, claims, audit queue, recently expired -/
abbrev sS : Type := (Nat → Nat) × List sC × List Nat × List Nat
def iN (x : Int32) : Nat := x.toNatClampNeg
def sIn (v lo hi : Int32) : Bool := decide (lo ≤ v ∧ v ≤ hi)
def sNil : sC := fun _ => 0
def sFind (cs : List sC) (id : Int32) : Option Nat := cs.findIdx? fun c => decide (nI (c 0) = id)
def sAt (cs : List sC) (i : Nat) : sC := cs.getD i sNil
def sNew (id d c w e : Nat) : sC := fun f => if f = 0 then id else if f = 1 then d else if f = 2 then c else if f = 3 then w else if f = 4 then e else 0
/-- a change's outcome: 0 done, 1 no such claim, 2 a bad argument, 3 a bad state; its answer; the state behind -/
abbrev sR : Type := Nat × Nat × sS
def sAdd (s : sS) (d c w l : Int32) : sR :=
  if sIn d (nI 0) (nI 7) = true ∧ sIn c (nI 0) (nI 7) = true ∧ d ≠ c ∧ sIn w (nI 1) (nI 999) = true ∧ sIn l (nI 1) (nI 50) = true then
    if s.2.1.length = 12 then (3, 0, s)
    else (0, s.1 1, (zu (zu s.1 1 (s.1 1 + 1)) 4 (s.1 4 + iN w), s.2.1 ++ [sNew (s.1 1) (iN d) (iN c) (iN w) (s.1 0 + iN l)], s.2.2.1 ++ [s.1 1], s.2.2.2))
  else (2, 0, s)
def sCount (cs : List sC) (f w : Nat) : Nat := cs.countP fun c => decide (c f = w + 1)
def sSign (s : sS) (id w : Int32) : sR := match sFind s.2.1 id with
  | none => (1, 0, s)
  | some i =>
    if sIn w (nI 0) (nI 3) = true then
      if sAt s.2.1 i 6 = 0 ∧ sCount s.2.1 6 (iN w) < 3 then
        (0, sAt s.2.1 i 4 + 5 + iN w, (s.1, s.2.1.set i (zu (zu (sAt s.2.1 i) 6 (iN w + 1)) 4 (sAt s.2.1 i 4 + 5 + iN w)), s.2.2))
      else (3, 0, s)
    else (2, 0, s)
def sCosign (s : sS) (id w : Int32) : sR := match sFind s.2.1 id with
  | none => (1, 0, s)
  | some i =>
    if sIn w (nI 0) (nI 3) = true then
      if 0 < sAt s.2.1 i 6 ∧ sAt s.2.1 i 7 = 0 ∧ sCount s.2.1 7 (iN w) < 2 then
        (0, sAt s.2.1 i 4 + 10 + 2 * iN w, (s.1, s.2.1.set i (zu (zu (sAt s.2.1 i) 7 (iN w + 1)) 4 (sAt s.2.1 i 4 + 10 + 2 * iN w)), s.2.2))
      else (3, 0, s)
    else (2, 0, s)
def sClose (s : sS) (i : Nat) : sS := (zu s.1 8 (s.1 8 + sAt s.2.1 i 3), s.2.1.eraseIdx i, s.2.2.1.erase (sAt s.2.1 i 0), s.2.2.2)
def sSettle (s : sS) (id : Int32) : sR := match sFind s.2.1 id with
  | none => (1, 0, s)
  | some i =>
    if sAt s.2.1 i 6 = 0 then (3, 0, s)
    else (0, sAt s.2.1 i 3, (zu (sClose s i).1 6 ((sClose s i).1 6 + 1), (sClose s i).2))
def sGrow (w p : Nat) : Nat := if 9999 < w + w * p / 100 then 9999 else w + w * p / 100
def sInt1 (p k : Nat) (s : sS) : sS := if sAt s.2.1 k 6 = 0 then (zu s.1 3 (s.1 3 + (sGrow (sAt s.2.1 k 3) p - sAt s.2.1 k 3)), s.2.1.set k (zu (sAt s.2.1 k) 3 (sGrow (sAt s.2.1 k 3) p)), s.2.2) else s
def sIntK (p : Nat) (s : sS) : Nat → sS
  | 0 => s
  | k + 1 => sInt1 p k (sIntK p s k)
def sInt (s : sS) : sS := sIntK (s.1 (10 + s.1 0 / 4 % 4)) s s.2.1.length
/-- what expires: claims to come, claims kept, numbers, queue, recent, how many -/
def sExp (time : Nat) : List sC → List sC → (Nat → Nat) → List Nat → List Nat → Nat → Nat × sS
  | [], kept, sc, qu, re, n => (n, (sc, kept, qu, re))
  | c :: todo, kept, sc, qu, re, n => if time < c 4 then sExp time todo (kept ++ [c]) sc qu re n else sExp time todo kept (zu sc 8 (sc 8 + c 3)) (qu.erase (c 0)) ((c 0 :: re).take 8) (n + 1)
def sExpire (s : sS) : Nat × sS := sExp (s.1 0) s.2.1 [] s.1 s.2.2.1 s.2.2.2 0
def sTime (s : sS) : sS := (zu s.1 0 (s.1 0 + 1), s.2)
def sTick (s : sS) : Nat × sS := ((sExpire (sInt (sTime s))).1, (zu (sExpire (sInt (sTime s))).2.1 5 ((sExpire (sInt (sTime s))).2.1 5 + (sExpire (sInt (sTime s))).1), (sExpire (sInt (sTime s))).2.2))
def sTicks (s : sS) : Nat → Nat × sS
  | 0 => (0, s)
  | k + 1 => ((sTicks s k).1 + (sTick (sTicks s k).2).1, (sTick (sTicks s k).2).2)
def sAdvance (s : sS) (t : Int32) : sR := if sIn t (nI 1) (nI 50) = true then (0, (sTicks s (iN t)).1, (sTicks s (iN t)).2) else (2, 0, s)
def sStrikes (c : sC) : Nat := if 0 < c 7 then 0 else if 0 < c 6 then c 5 else c 5 + 1
/-- the first of the queue is visited -/
def sVisitAt (s : sS) (q : Nat) (qs : List Nat) (i : Nat) : Nat × sS :=
  if sStrikes (sAt s.2.1 i) = 3 then (1, sClose (s.1, s.2.1.set i (zu (sAt s.2.1 i) 5 3), s.2.2) i)
  else (0, (s.1, s.2.1.set i (zu (sAt s.2.1 i) 5 (sStrikes (sAt s.2.1 i))), qs ++ [q], s.2.2.2))
def sVisit (s : sS) : Nat × sS := match s.2.2.1 with
  | [] => (0, s)
  | q :: qs => match sFind s.2.1 (nI q) with
    | none => (0, s)
    | some i => sVisitAt s q qs i
def sVisits (s : sS) : Nat → Nat × sS
  | 0 => (0, s)
  | k + 1 => ((sVisits s k).1 + (sVisit (sVisits s k).2).1, (sVisit (sVisits s k).2).2)
def sAudit (s : sS) (n : Int32) : sR := if sIn n (nI 1) (nI 12) = true then (0, (sVisits s (min (iN n) s.2.1.length)).1, (zu (sVisits s (min (iN n) s.2.1.length)).2.1 7 ((sVisits s (min (iN n) s.2.1.length)).2.1 7 + (sVisits s (min (iN n) s.2.1.length)).1), (sVisits s (min (iN n) s.2.1.length)).2.2)) else (2, 0, s)
def sSetRate (s : sS) (p v : Int32) : sR := if sIn p (nI 0) (nI 3) = true ∧ sIn v (nI 0) (nI 20) = true then (0, s.1 (10 + iN p), (zu s.1 (10 + iN p) (iN v), s.2)) else (2, 0, s)
/-! the invariant: time at most T, ids below N, n closings not counted yet -/
def sWt (cs : List sC) : Nat := (cs.map fun c => c 3).sum
/-- a claim at a time, with the next id -/
def sCI (t nx : Nat) (c : sC) : Prop := c 0 < nx ∧ c 1 < 8 ∧ c 2 < 8 ∧ c 1 ≠ c 2 ∧ (1 ≤ c 3 ∧ c 3 ≤ 9999) ∧ (t ≤ c 4 ∧ c 4 ≤ t + 50 + 5 * c 6 + 10 * c 7) ∧ c 5 ≤ 2 ∧ c 6 ≤ 4 ∧ c 7 ≤ 4
def sI (T N n : Nat) (s : sS) : Prop := (s.1 0 ≤ T ∧ s.1 1 ≤ N ∧ s.1 2 = 0 ∧ s.1 9 = 0 ∧ (∀ i, i < 4 → s.1 (10 + i) ≤ 20)) ∧ (n + s.1 5 + s.1 6 + s.1 7 + s.2.1.length ≤ s.1 1 ∧ s.1 4 + s.1 3 = sWt s.2.1 + s.1 8 ∧ s.1 8 + 9999 * s.2.1.length ≤ 9999 * s.1 1) ∧
  (s.2.1.length ≤ 12 ∧ (∀ c ∈ s.2.1, sCI (s.1 0) (s.1 1) c) ∧ s.2.1.Pairwise (fun c c' => c 0 < c' 0)) ∧ (s.2.2.1.Nodup ∧ (∀ q, q ∈ s.2.2.1 ↔ q ∈ s.2.1.map fun c => c 0)) ∧ (s.2.2.2.length ≤ 8 ∧ ∀ q ∈ s.2.2.2, q < s.1 1)
/-- none has expired -/
def sE (s : sS) : Prop := ∀ c ∈ s.2.1, s.1 0 < c 4
end
