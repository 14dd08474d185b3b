/-! SEPARATION: a world as a list of assertions whose footprints are disjoint and live -/
section
set_option maxRecDepth 100000
abbrev zA : Type := zH → (Nat → Prop) → Prop
variable {G : zG} {h h' h1 : zH} {O U V X : Nat → Prop} {P Q R : zA} {L L' A : List zA}
def zStb (P : zA) : Prop := ∀ (h h' : zH) (O X : Nat → Prop), P h O → zfr X h h' → (∀ b, O b → ¬ X b) → P h' O
def zSep : List zA → zH → (Nat → Prop) → Prop
  | [], _, _ => True
  | P :: L, h, U => ∃ O : Nat → Prop, (P h O ∧ zStb P) ∧ (∀ b, O b → U b ∧ h b ≠ none) ∧ zSep L h (fun b => U b ∧ ¬ O b)
theorem zSep.up : ∀ {L : List zA} {U V : Nat → Prop}, zSep L h U → (∀ b, U b → h b ≠ none → V b) → zSep L h V
  | [], _, _, _, _ => trivial
  | _ :: _, _, _, ⟨O, h1, h2, h3⟩, u => ⟨O, h1, fun b hb => ⟨u b (h2 b hb).1 (h2 b hb).2, (h2 b hb).2⟩, zSep.up h3 fun b hb hl => ⟨u b hb.1 hl, hb.2⟩⟩
theorem zSep.fr : ∀ {L : List zA} {U : Nat → Prop}, zSep L h U → zfr X h h' → (∀ b, U b → h b ≠ none → ¬ X b) → zSep L h' U
  | [], _, _, _, _ => trivial
  | _ :: _, _, ⟨O, ⟨h1, hs⟩, h2, h3⟩, z, n => ⟨O, ⟨hs h h' O X h1 z fun b hb => n b (h2 b hb).1 (h2 b hb).2, hs⟩, fun b hb => ⟨(h2 b hb).1, z.2.1 b (h2 b hb).2⟩, zSep.fr h3 z fun b hb hl => n b hb.1 hl⟩
theorem zSep.sw (k : zSep (P :: Q :: L) h U) : zSep (Q :: P :: L) h U := by
  obtain ⟨O1, a1, l1, O2, a2, l2, r⟩ := k
  exact ⟨O2, a2, fun b hb => ⟨(l2 b hb).1.1, (l2 b hb).2⟩, O1, a1, fun b hb => ⟨⟨(l1 b hb).1, fun q => (l2 b q).1.2 hb⟩, (l1 b hb).2⟩, r.up fun b hb _ => ⟨⟨hb.1.1, hb.2⟩, hb.1.2⟩⟩
theorem zSep.under (k : zSep (P :: L) h U) (f : ∀ V, zSep L h V → zSep L' h V) : zSep (P :: L') h U := by
  obtain ⟨O1, a1, l1, r⟩ := k
  exact ⟨O1, a1, l1, f _ r⟩
theorem zSep.mid : ∀ {A : List zA} {U : Nat → Prop}, zSep (P :: (A ++ L)) h U → zSep (A ++ P :: L) h U
  | [], _, k => k
  | _ :: _, _, k => zSep.under (zSep.sw k) fun _ r => zSep.mid r
theorem zSep.pull : ∀ {A : List zA} {U : Nat → Prop}, zSep (A ++ P :: L) h U → zSep (P :: (A ++ L)) h U
  | [], _, k => k
  | _ :: _, _, k => zSep.sw (zSep.under k fun _ r => zSep.pull r)
theorem zSep.tl (k : zSep (P :: L) h U) : zSep L h U := by
  obtain ⟨O1, a1, l1, r⟩ := k
  exact r.up fun b hb _ => hb.1
theorem zSep.rest (k : zSep L h (fun b => U b ∧ ¬ O b)) (z : zfr O h h') : zSep L h' (fun b => zext U h b ∧ ¬ (zext O h b ∧ h' b ≠ none)) :=
  zSep.fr (zSep.up (V := fun b => zext U h b ∧ ¬ (zext O h b ∧ h' b ≠ none)) k fun b hb hl => ⟨Or.inl hb.1, fun q => q.1.elim hb.2 hl⟩) z fun b hb hl q => hb.2 ⟨Or.inl q, z.2.1 b hl⟩
/-- the first item is changed -/
theorem zSep.re (l : ∀ b, O b → U b ∧ h b ≠ none) (k : zSep L h (fun b => U b ∧ ¬ O b)) (z : zfr O h h') (p : P h' (fun b => zext O h b ∧ h' b ≠ none)) (s : zStb P) : zSep (P :: L) h' (zext U h) :=
  ⟨_, ⟨p, s⟩, fun b hb => ⟨hb.1.elim (fun q => Or.inl (l b q).1) Or.inr, hb.2⟩, k.rest z⟩
/-- a new item -/
theorem zSep.add (k : zSep L h U) (z : zfr (fun _ => False) h h') (p : P h' (fun b => h b = none ∧ h' b ≠ none)) (s : zStb P) : zSep (P :: L) h' (zext U h) :=
  ⟨_, ⟨p, s⟩, fun b hb => ⟨Or.inr hb.1, hb.2⟩, zSep.fr (zSep.up (V := fun b => zext U h b ∧ ¬ (h b = none ∧ h' b ≠ none)) k fun b hb hl => ⟨Or.inl hb, fun q => hl q.1⟩) z fun _ _ _ q => q⟩
theorem zSep.shut (k : zSep L h U) : zSep L h (fun b => U b ∧ h b ≠ none) := k.up fun _ hb hl => ⟨hb, hl⟩
theorem zSep.tru (k : zSep L h (zext (zext U h) h1)) (z : zfr X h h1) : zSep L h (zext U h) := k.up fun b hb hl => hb.elim (fun q => q) fun q => absurd (z.nn0 q) hl
theorem zSep.trv (k : zSep L h' (zext (zext U h) h1)) (z : zfr X h h1) : zSep L h' (zext U h) := k.up fun b hb _ => zext_tr z b hb
/-- the items -/
def iO (x : Nat) (fs : List Value) : zA := fun h O => h x = some (0, fs) ∧ O x
def iS (st : Nat) (s : sS) : zA := fun h O => cS h O st s
def iD (a : Nat) (its : List Nat) : zA := fun h O => ∃ ar hd, cDQ h a ar hd its ∧ O a ∧ O ar
/-- a StringBuilder: chars below 128, one byte each -/
def cSB (h : zH) (a v : Nat) (l : List Nat) : Prop := ∃ (ml : Nat) (t : List Nat), h a = some (13, [.ref v, .int (nI 0), .int (nI ml), .int (nI l.length)]) ∧ h v = some (103, btab (l ++ t)) ∧ (ml ≤ 1 ∧ (l ++ t).length < 2 ^ 16) ∧ ∀ x ∈ l ++ t, x < 128
theorem cSB.fr {a v : Nat} {l : List Nat} (k : cSB h a v l) (z : zfr X h h') (na : ¬ X a) (nv : ¬ X v) : cSB h' a v l := by
  obtain ⟨ml, t, h1, h2, h3⟩ := k
  exact ⟨ml, t, z.at h1 na, z.at h2 nv, h3⟩
def iB (a : Nat) (l : List Nat) : zA := fun h O => ∃ v, cSB h a v l ∧ O a ∧ O v
theorem iO.stb {x : Nat} {fs : List Value} : zStb (iO x fs) := fun _ _ _ _ ⟨h1, h2⟩ z n => ⟨z.at h1 (n _ h2), h2⟩
theorem iS.stb {st : Nat} {s : sS} : zStb (iS st s) := fun _ _ _ _ k z n => cS.fr k z n
theorem iD.stb {a : Nat} {its : List Nat} : zStb (iD a its) := fun _ _ _ _ ⟨ar, hd, k, h2, h3⟩ z n => ⟨ar, hd, k.fr z (n _ h2) (n _ h3), h2, h3⟩
theorem iB.stb {a : Nat} {l : List Nat} : zStb (iB a l) := fun _ _ _ _ ⟨v, k, h2, h3⟩ z n => ⟨v, k.fr z (n _ h2) (n _ h3), h2, h3⟩
theorem cS.live {st : Nat} {s : sS} (k : cS h O st s) : cS h (fun b => O b ∧ h b ≠ none) st s := by
  obtain ⟨ll, aq, re, rt, ea, ha, er, hr, mc, xs, qs, rs, hP⟩ := k
  exact ⟨ll, aq, re, rt, ea, ha, er, hr, mc, xs, qs, rs, hP.live⟩
/-- the states behind, with their addresses -/
def iH : List Nat → List sS → List zA
  | a :: H, s :: l => iS a s :: iH H l
  | _, _ => []
theorem iH_snoc {a : Nat} {s : sS} : ∀ {H : List Nat} {l : List sS}, H.length = l.length → iH (H ++ [a]) (l ++ [s]) = iH H l ++ [iS a s]
  | [], [], _ => rfl
  | x :: H, y :: l, e => by
    show iS x y :: iH (H ++ [a]) (l ++ [s]) = _
    rw [iH_snoc (Nat.succ.inj e)]
    rfl
  | [], _ :: _, e => by cases e
  | _ :: _, [], e => by cases e
/-- the saved state -/
def iV : Option Nat → Option sS → List zA
  | some a, some s => [iS a s]
  | _, _ => []
/-- the registry's cells but the current state; e: whether it executes -/
def cRest (x st e : Nat) (X : List zA) (w : List sS × Option sS × List Nat × List Nat × Nat × Nat) (h : zH) (V : Nat → Prop) : Prop :=
  ∃ sv hq ib lb SH, (SH.length = w.1.length ∧ w.1.length ≤ 8 ∧ sv.isSome = w.2.1.isSome) ∧ zSep (iO x [.ref st, zrf sv, .ref hq, .ref ib, .ref lb, .int (nI e), .int (nI w.2.2.2.2.1 - nI 1), .int (nI w.2.2.2.2.2 - nI 1)] :: iD hq SH :: (iH SH w.1 ++ (iB ib w.2.2.2.1 :: iB lb w.2.2.1 :: (iV sv w.2.1 ++ X)))) h V
theorem cRest.up {x st e : Nat} {X : List zA} {w : List sS × Option sS × List Nat × List Nat × Nat × Nat} (k : cRest x st e X w h U) (u : ∀ b, U b → h b ≠ none → V b) : cRest x st e X w h V := by
  obtain ⟨sv, hq, ib, lb, SH, h1, h2⟩ := k
  exact ⟨sv, hq, ib, lb, SH, h1, h2.up u⟩
theorem cRest.fr {x st e : Nat} {X : List zA} {Y : Nat → Prop} {w : List sS × Option sS × List Nat × List Nat × Nat × Nat} (k : cRest x st e X w h U) (z : zfr Y h h') (n : ∀ b, U b → h b ≠ none → ¬ Y b) : cRest x st e X w h' U := by
  obtain ⟨sv, hq, ib, lb, SH, h1, h2⟩ := k
  exact ⟨sv, hq, ib, lb, SH, h1, h2.fr z n⟩
/-- the whole registry -/
def cReg (x e : Nat) (X : List zA) (w : sW) (h : zH) (U : Nat → Prop) : Prop := ∃ (st : Nat) (O : Nat → Prop), cS h O st w.1 ∧ (∀ b, O b → U b ∧ h b ≠ none) ∧ cRest x st e X w.2 h (fun b => U b ∧ ¬ O b)
/-- the world when a change has begun -/
def wB (e : Nat) (w : sW) : List sS × Option sS × List Nat × List Nat × Nat × Nat := if e = 0 then (sPush w.2.1 w.1, w.2.2) else w.2
/-- the exception of an outcome -/
def cEx : Nat → String
  | 1 => eElt
  | 2 => eArg
  | _ => eSta
/-- a change's end -/
def cChg (x e : Nat) (X : List zA) (U : Nat → Prop) (h : zH) (w : sW) (R : sR) : zR → zH → Prop := fun o h' =>
  (R.1 = 0 ∧ o = .inl (some (.int (nI R.2.1))) ∧ cReg x e X (R.2.2, wB e w) h' (zext U h) ∧ zfr U h h') ∨ (R.1 ≠ 0 ∧ o = .inr (cEx R.1) ∧ h' = h)
/-- the current state is changed behind the change's begin -/
theorem cReg.done {x st e : Nat} {X : List zA} {s' : sS} {wr : List sS × Option sS × List Nat × List Nat × Nat × Nat} (l : ∀ b, O b → U b ∧ h b ≠ none) (z1 : zfr (fun b => U b ∧ ¬ O b) h h1) (k : cRest x st e X wr h1 (zext (fun b => U b ∧ ¬ O b) h)) (z2 : zfr O h1 h') (p : cS h' (zext O h1) st s') : cReg x e X (s', wr) h' (zext U h) ∧ zfr U h h' := by
  refine ⟨⟨st, _, p.live, fun b hb => ⟨hb.1.elim (fun q => Or.inl (l b q).1) fun q => Or.inr (z1.nn0 q), hb.2⟩, ?_⟩, (z1.mono fun b hb => Or.inl hb.1).tr z2 fun b hb => Or.inl (l b hb).1⟩
  refine (k.up (V := fun b => zext U h b ∧ ¬ (zext O h1 b ∧ h' b ≠ none)) fun b hb hl => ?_).fr z2 fun b hb hl q => hb.2 ⟨Or.inl q, z2.2.1 b hl⟩
  rcases hb with hb | hb
  · exact ⟨Or.inl hb.1, fun q => q.1.elim hb.2 hl⟩
  · exact ⟨Or.inr hb, fun q => q.1.elim (fun r => (l b r).2 hb) hl⟩
end
