/-! the registry's world: its parts taken out and put back; ends of public calls */ -/
section
set_option maxRecDepth 100000
variable {G : zG} {h h' h1 : zH} {O U V : Nat → Prop} {x st tt nn e : Nat} {X : List zA} {w : sW} {P : zA} {A B : List zA}
theorem zSep.acc (k : zSep (A ++ P :: B) h V) : ∃ O : Nat → Prop, (P h O ∧ zStb P) ∧ (∀ b, O b → V b ∧ h b ≠ none) ∧ zSep (A ++ B) h (fun b => V b ∧ ¬ O b) ∧ ∀ (h' : zH) (P' : zA), zfr O h h' → P' h' (fun b => zext O h b ∧ h' b ≠ none) → zStb P' → zSep (A ++ P' :: B) h' (zext V h) := by
  obtain ⟨O, h1, h2, h3⟩ := zSep.pull k
  exact ⟨O, h1, h2, h3, fun h' P' z p s => zSep.mid (zSep.re h2 h3 z p s)⟩
abbrev cWr : Type := List sS × Option sS × List Nat × List Nat × Nat × Nat
abbrev iOb (x st : Nat) (sv : Option Nat) (hq ib lb e : Nat) (w : cWr) : zA := iO x [.ref st, zrf sv, .ref hq, .ref ib, .ref lb, .int (nI e), .int (nI w.2.2.2.2.1 - nI 1), .int (nI w.2.2.2.2.2 - nI 1)]
abbrev cXf (h : zH) (x st : Nat) (sv : Option Nat) (hq ib lb e : Nat) (w : cWr) : Prop := h x = some (0, [.ref st, zrf sv, .ref hq, .ref ib, .ref lb, .int (nI e), .int (nI w.2.2.2.2.1 - nI 1), .int (nI w.2.2.2.2.2 - nI 1)])
/-- the line's builder -/
theorem cRest.line {w : cWr} (k : cRest x st e X w h V) : ∃ sv hq ib lb v, ∃ Ob : Nat → Prop, cXf h x st sv hq ib lb e w ∧ ¬ Ob x ∧ cSB h lb v w.2.2.1 ∧ (Ob lb ∧ Ob v) ∧ (∀ b, Ob b → V b ∧ h b ≠ none) ∧ ∀ (h' : zH) (v' : Nat) (l' : List Nat), zfr Ob h h' → cSB h' lb v' l' → zext Ob h v' → cRest x st e X (w.1, w.2.1, l', w.2.2.2) h' (zext V h) := by
  obtain ⟨sv, hq, ib, lb, SH, h1, h2⟩ := k
  have h3 : zSep ((iOb x st sv hq ib lb e w :: iD hq SH :: (iH SH w.1 ++ [iB ib w.2.2.2.1])) ++ iB lb w.2.2.1 :: (iV sv w.2.1 ++ X)) h V := by
    show zSep (iOb x st sv hq ib lb e w :: iD hq SH :: ((iH SH w.1 ++ [iB ib w.2.2.2.1]) ++ iB lb w.2.2.1 :: (iV sv w.2.1 ++ X))) h V
    rw [List.append_assoc]
    exact h2
  obtain ⟨Ob, ⟨⟨v, kS, o1, o2⟩, -⟩, lB, hr, put⟩ := zSep.acc h3
  obtain ⟨Ox, ⟨⟨hx, ox⟩, -⟩, lx, -⟩ := hr
  refine ⟨sv, hq, ib, lb, v, Ob, hx, (lx x ox).1.2, kS, ⟨o1, o2⟩, lB, fun h' v' l' z p ov => ⟨sv, hq, ib, lb, SH, h1, ?_⟩⟩
  have live : ∀ {c : Nat} {y : zC}, h' c = some y → h' c ≠ none := fun q => by rw [q]; exact fun q => by cases q
  obtain ⟨ml, t, p1, p2, p3⟩ := id p
  have h4 := put h' (iB lb l') z ⟨v', p, ⟨Or.inl o1, live p1⟩, ⟨ov, live p2⟩⟩ iB.stb
  have h5 : zSep (iOb x st sv hq ib lb e w :: iD hq SH :: ((iH SH w.1 ++ [iB ib w.2.2.2.1]) ++ iB lb l' :: (iV sv w.2.1 ++ X))) h' (zext V h) := h4
  rw [List.append_assoc] at h5
  exact h5
/-- the input's builder -/
theorem cRest.inp {w : cWr} (k : cRest x st e X w h V) : ∃ sv hq ib lb v, ∃ Ob : Nat → Prop, cXf h x st sv hq ib lb e w ∧ ¬ Ob x ∧ cSB h ib v w.2.2.2.1 ∧ (Ob ib ∧ Ob v) ∧ (∀ b, Ob b → V b ∧ h b ≠ none) ∧ ∀ (h' : zH) (v' : Nat) (l' : List Nat), zfr Ob h h' → cSB h' ib v' l' → zext Ob h v' → cRest x st e X (w.1, w.2.1, w.2.2.1, l', w.2.2.2.2) h' (zext V h) := by
  obtain ⟨sv, hq, ib, lb, SH, h1, h2⟩ := k
  have h3 : zSep ((iOb x st sv hq ib lb e w :: iD hq SH :: iH SH w.1) ++ iB ib w.2.2.2.1 :: (iB lb w.2.2.1 :: (iV sv w.2.1 ++ X))) h V := h2
  obtain ⟨Ob, ⟨⟨v, kS, o1, o2⟩, -⟩, lB, hr, put⟩ := zSep.acc h3
  obtain ⟨Ox, ⟨⟨hx, ox⟩, -⟩, lx, -⟩ := hr
  refine ⟨sv, hq, ib, lb, v, Ob, hx, (lx x ox).1.2, kS, ⟨o1, o2⟩, lB, fun h' v' l' z p ov => ⟨sv, hq, ib, lb, SH, h1, ?_⟩⟩
  have live : ∀ {c : Nat} {y : zC}, h' c = some y → h' c ≠ none := fun q => by rw [q]; exact fun q => by cases q
  obtain ⟨ml, t, p1, p2, p3⟩ := id p
  exact put h' (iB ib l') z ⟨v', p, ⟨Or.inl o1, live p1⟩, ⟨ov, live p2⟩⟩ iB.stb
/-- a public call's end: number of a throw, answer, world -/
def cOut (x : Nat) (U : Nat → Prop) (h : zH) (Es : List String) (q : Nat × Int32 × sW) : zR → zH → Prop := fun o h' => (cReg x 0 [] q.2.2 h' (zext U h) ∧ zfr U h h') ∧ ((q.1 = 0 ∧ o = .inl (some (.int q.2.1))) ∨ (q.1 ≠ 0 ∧ ∃ E, Es[q.1 - 1]? = some E ∧ o = .inr E))
theorem cReg.up (k : cReg x e X w h U) (u : ∀ b, U b → h b ≠ none → V b) : cReg x e X w h V := by
  obtain ⟨st, O, h1, h2, h3⟩ := k
  exact ⟨st, O, h1, fun b hb => ⟨u b (h2 b hb).1 (h2 b hb).2, (h2 b hb).2⟩, h3.up fun b hb hl => ⟨u b hb.1 hl, hb.2⟩⟩
theorem cReg.fr {Y : Nat → Prop} (k : cReg x e X w h U) (z : zfr Y h h') (n : ∀ b, U b → h b ≠ none → ¬ Y b) : cReg x e X w h' U := by
  obtain ⟨st, O, h1, h2, h3⟩ := k
  exact ⟨st, O, h1.fr z fun b hb => n b (h2 b hb).1 (h2 b hb).2, fun b hb => ⟨(h2 b hb).1, z.2.1 b (h2 b hb).2⟩, h3.fr z fun b hb hl => n b hb.1 hl⟩
theorem cOut.no {Es : List String} {q : Nat × Int32 × sW} {k : Nat} {v : Int32} {E : String} (hG : cReg x 0 [] w h U) (e1 : q = (k + 1, v, w)) (hE : Es[k]? = some E) : cOut x U h Es q (.inr E) h := by
  subst e1
  exact ⟨⟨hG.up fun b hb _ => Or.inl hb, zfr.rf⟩, Or.inr ⟨Nat.succ_ne_zero _, E, hE, rfl⟩⟩
theorem cOut.ok {Es : List String} {q : Nat × Int32 × sW} {v : Int32} {w' : sW} (e1 : q = (0, v, w')) (k : cReg x 0 [] w' h' (zext U h) ∧ zfr U h h') : cOut x U h Es q (.inl (some (.int v))) h' := by
  subst e1
  exact ⟨k, Or.inl ⟨rfl, rfl⟩⟩
/-- a question leaves the world -/
theorem cOut.ans {Es : List String} {q : Nat × Int32} {o : zR} (hG : cReg x 0 [] w h U) (k : cAns Es h q o h') : cOut x U h Es (q.1, q.2, w) o h' := by
  obtain ⟨e1, k⟩ := k
  subst e1
  exact ⟨⟨hG.up fun b hb _ => Or.inl hb, zfr.rf⟩, k⟩
/-- the world but the current state, put together with it -/
theorem cReg.mk' {w' : sW} {st : Nat} {Ob : Nat → Prop} (l : ∀ b, O b → U b ∧ h b ≠ none) (lB : ∀ b, Ob b → (U b ∧ ¬ O b) ∧ h b ≠ none) (hS : cS h O st w'.1) (z : zfr Ob h h') (k : cRest x st e X w'.2 h' (zext (fun b => U b ∧ ¬ O b) h)) : cReg x e X w' h' (zext U h) ∧ zfr U h h' := by
  refine ⟨⟨st, O, hS.fr z fun b hb q => (lB b q).1.2 hb, fun b hb => ⟨Or.inl (l b hb).1, z.2.1 b (l b hb).2⟩, k.up fun b hb hl => ?_⟩, z.mono fun b hb => Or.inl (lB b hb).1.1⟩
  rcases hb with hb | hb
  · exact ⟨Or.inl hb.1, hb.2⟩
  · exact ⟨Or.inr hb, fun q => (l b q).2 hb⟩
end
