/-! SEPARATION: a world as a list of assertions whose footprints are disjoint and live -/
section
set_option maxRecDepth 100000
abbrev zA : Type := zH → (Nat → Prop) → Prop
variable {G : zG} {h h' h1 : zH} {O U V X : Nat → Prop} {P Q R : zA} {L L' A : List zA}
def zStb (P : zA) : Prop := ∀ (h h' : zH) (O X : Nat → Prop), P h O → zfr X h h' → (∀ b, O b → ¬ X b) → P h' O
def zSep : List zA → zH → (Nat → Prop) → Prop
  | [], _, _ => True
  | P :: L, h, U => ∃ O : Nat → Prop, (P h O ∧ zStb P) ∧ (∀ b, O b → U b ∧ h b ≠ none) ∧ zSep L h (fun b => U b ∧ ¬ O b)
theorem zSep.up : ∀ {L : List zA} {U V : Nat → Prop}, zSep L h U → (∀ b, U b → h b ≠ none → V b) → zSep L h V := sorry
theorem zSep.fr : ∀ {L : List zA} {U : Nat → Prop}, zSep L h U → zfr X h h' → (∀ b, U b → h b ≠ none → ¬ X b) → zSep L h' U := sorry
theorem zSep.sw (k : zSep (P :: Q :: L) h U) : zSep (Q :: P :: L) h U := sorry
theorem zSep.under (k : zSep (P :: L) h U) (f : ∀ V, zSep L h V → zSep L' h V) : zSep (P :: L') h U := sorry
theorem zSep.mid : ∀ {A : List zA} {U : Nat → Prop}, zSep (P :: (A ++ L)) h U → zSep (A ++ P :: L) h U := sorry
theorem zSep.pull : ∀ {A : List zA} {U : Nat → Prop}, zSep (A ++ P :: L) h U → zSep (P :: (A ++ L)) h U := sorry
theorem zSep.tl (k : zSep (P :: L) h U) : zSep L h U := sorry
theorem zSep.rest (k : zSep L h (fun b => U b ∧ ¬ O b)) (z : zfr O h h') : zSep L h' (fun b => zext U h b ∧ ¬ (zext O h b ∧ h' b ≠ none)) := sorry
/-- the first item is changed -/
theorem zSep.re (l : ∀ b, O b → U b ∧ h b ≠ none) (k : zSep L h (fun b => U b ∧ ¬ O b)) (z : zfr O h h') (p : P h' (fun b => zext O h b ∧ h' b ≠ none)) (s : zStb P) : zSep (P :: L) h' (zext U h) := sorry
/-- a new item -/
theorem zSep.add (k : zSep L h U) (z : zfr (fun _ => False) h h') (p : P h' (fun b => h b = none ∧ h' b ≠ none)) (s : zStb P) : zSep (P :: L) h' (zext U h) := sorry
theorem zSep.shut (k : zSep L h U) : zSep L h (fun b => U b ∧ h b ≠ none) := sorry
theorem zSep.tru (k : zSep L h (zext (zext U h) h1)) (z : zfr X h h1) : zSep L h (zext U h) := sorry
theorem zSep.trv (k : zSep L h' (zext (zext U h) h1)) (z : zfr X h h1) : zSep L h' (zext U h) := sorry
/-- the items -/
def iO (x : Nat) (fs : List Value) : zA := fun h O => h x = some (0, fs) ∧ O x
def iS (st : Nat) (s : sS) : zA := fun h O => cS h O st s
def iD (a : Nat) (its : List Nat) : zA := fun h O => ∃ ar hd, cDQ h a ar hd its ∧ O a ∧ O ar
/-- a StringBuilder: chars below 128, one byte each -/
def cSB (h : zH) (a v : Nat) (l : List Nat) : Prop := ∃ (ml : Nat) (t : List Nat), h a = some (13, [.ref v, .int (nI 0), .int (nI ml), .int (nI l.length)]) ∧ h v = some (103, btab (l ++ t)) ∧ (ml ≤ 1 ∧ (l ++ t).length < 2 ^ 16) ∧ ∀ x ∈ l ++ t, x < 128
theorem cSB.fr {a v : Nat} {l : List Nat} (k : cSB h a v l) (z : zfr X h h') (na : ¬ X a) (nv : ¬ X v) : cSB h' a v l := sorry
def iB (a : Nat) (l : List Nat) : zA := fun h O => ∃ v, cSB h a v l ∧ O a ∧ O v
theorem iO.stb {x : Nat} {fs : List Value} : zStb (iO x fs) := sorry
theorem iS.stb {st : Nat} {s : sS} : zStb (iS st s) := sorry
theorem iD.stb {a : Nat} {its : List Nat} : zStb (iD a its) := sorry
theorem iB.stb {a : Nat} {l : List Nat} : zStb (iB a l) := sorry
theorem cS.live {st : Nat} {s : sS} (k : cS h O st s) : cS h (fun b => O b ∧ h b ≠ none) st s := sorry
/-- the states behind, with their addresses -/
def iH : List Nat → List sS → List zA
  | a :: H, s :: l => iS a s :: iH H l
  | _, _ => []
theorem iH_snoc {a : Nat} {s : sS} : ∀ {H : List Nat} {l : List sS}, H.length = l.length → iH (H ++ [a]) (l ++ [s]) = iH H l ++ [iS a s] := sorry
/-- the saved state -/
def iV : Option Nat → Option sS → List zA
  | some a, some s => [iS a s]
  | _, _ => []
/-- the registry's cells but the current state; e: whether it executes -/
def cRest (x st e : Nat) (X : List zA) (w : List sS × Option sS × List Nat × List Nat × Nat × Nat) (h : zH) (V : Nat → Prop) : Prop :=
  ∃ sv hq ib lb SH, (SH.length = w.1.length ∧ w.1.length ≤ 8 ∧ sv.isSome = w.2.1.isSome) ∧ zSep (iO x [.ref st, zrf sv, .ref hq, .ref ib, .ref lb, .int (nI e), .int (nI w.2.2.2.2.1 - nI 1), .int (nI w.2.2.2.2.2 - nI 1)] :: iD hq SH :: (iH SH w.1 ++ (iB ib w.2.2.2.1 :: iB lb w.2.2.1 :: (iV sv w.2.1 ++ X)))) h V
theorem cRest.up {x st e : Nat} {X : List zA} {w : List sS × Option sS × List Nat × List Nat × Nat × Nat} (k : cRest x st e X w h U) (u : ∀ b, U b → h b ≠ none → V b) : cRest x st e X w h V := sorry
theorem cRest.fr {x st e : Nat} {X : List zA} {Y : Nat → Prop} {w : List sS × Option sS × List Nat × List Nat × Nat × Nat} (k : cRest x st e X w h U) (z : zfr Y h h') (n : ∀ b, U b → h b ≠ none → ¬ Y b) : cRest x st e X w h' U := sorry
/-- the whole registry -/
def cReg (x e : Nat) (X : List zA) (w : sW) (h : zH) (U : Nat → Prop) : Prop := ∃ (st : Nat) (O : Nat → Prop), cS h O st w.1 ∧ (∀ b, O b → U b ∧ h b ≠ none) ∧ cRest x st e X w.2 h (fun b => U b ∧ ¬ O b)
/-- the world when a change has begun -/
def wB (e : Nat) (w : sW) : List sS × Option sS × List Nat × List Nat × Nat × Nat := if e = 0 then (sPush w.2.1 w.1, w.2.2) else w.2
/-- the exception of an outcome -/
def cEx : Nat → String
  | 1 => eElt
  | 2 => eArg
  | _ => eSta
/-- a change's end -/
def cChg (x e : Nat) (X : List zA) (U : Nat → Prop) (h : zH) (w : sW) (R : sR) : zR → zH → Prop := fun o h' =>
  (R.1 = 0 ∧ o = .inl (some (.int (nI R.2.1))) ∧ cReg x e X (R.2.2, wB e w) h' (zext U h) ∧ zfr U h h') ∨ (R.1 ≠ 0 ∧ o = .inr (cEx R.1) ∧ h' = h)
/-- the current state is changed behind the change's begin -/
theorem cReg.done {x st e : Nat} {X : List zA} {s' : sS} {wr : List sS × Option sS × List Nat × List Nat × Nat × Nat} (l : ∀ b, O b → U b ∧ h b ≠ none) (z1 : zfr (fun b => U b ∧ ¬ O b) h h1) (k : cRest x st e X wr h1 (zext (fun b => U b ∧ ¬ O b) h)) (z2 : zfr O h1 h') (p : cS h' (zext O h1) st s') : cReg x e X (s', wr) h' (zext U h) ∧ zfr U h h' := sorry
end

