/-! THE CLASS's run -/
section
set_option maxRecDepth 100000
variable {G : zG} {h h' h0 h1 H : zH} {O U V : Nat → Prop} {x st e al ea a v tt nn s m : Nat} {X : List zA} {w : sW} {es : List Nat} {cs : List pC} {l : List Nat} {A B : List zA} {P : zA}
theorem pHead_3 (hl : ∀ x ∈ l, x < 128) (hs : s ≤ l.length) (h : (pHead l s).2.2 = 0) : s + 3 ≤ (pHead l s).2.1 := sorry
theorem pCmd_3 (hl : ∀ x ∈ l, x < 128) (hs : s ≤ l.length) (h : (pCmd l s).2.2 = 0) : s + 3 ≤ (pCmd l s).2.1 := sorry
theorem pLoop_cnt (hl : ∀ x ∈ l, x < 128) : ∀ {m : Nat} {p : Nat × Nat} {cs : List pC}, p.1 ≤ l.length → (p.2 = 0 → 4 * cs.length ≤ p.1 + 1) → 0 < cs.length → (pLoop l m p cs).2.1 ≤ l.length ∧ ((pLoop l m p cs).2.2 = 0 → 4 * (pLoop l m p cs).1.length ≤ (pLoop l m p cs).2.1 + 1) ∧ 0 < (pLoop l m p cs).1.length := sorry
theorem pParse_cnt (hl : ∀ x ∈ l, x < 128) (hn : l.length ≤ 60) (h : (pParse l).2 = 0) : (pParse l).1.length ≤ 15 ∧ 0 < (pParse l).1.length := sorry
theorem zSep.acc0 (k : zSep (A ++ P :: B) h V) : ∃ O : Nat → Prop, (P h O ∧ zStb P) ∧ (∀ b, O b → V b ∧ h b ≠ none) ∧ zSep (A ++ B) h (fun b => V b ∧ ¬ O b) ∧ ∀ (h' : zH) (P' : zA), zfr O h h' → P' h' O → zStb P' → zSep (A ++ P' :: B) h' V := sorry
/-- the input's builder, nothing new -/
theorem cRest.inp0 {w : cWr} (k : cRest x st e X w h V) : ∃ sv hq ib lb v, ∃ Ob : Nat → Prop, cXf h x st sv hq ib lb e w ∧ ¬ Ob x ∧ cSB h ib v w.2.2.2.1 ∧ (Ob ib ∧ Ob v) ∧ (∀ b, Ob b → V b ∧ h b ≠ none) ∧ ∀ (h' : zH) (l' : List Nat), zfr Ob h h' → cSB h' ib v l' → cRest x st e X (w.1, w.2.1, w.2.2.1, l', w.2.2.2.2) h' V := sorry
theorem w_sbEnsure0 {ml n : Nat} {b : List Nat} (k : cSBt h a v ml n b) : zK G mJ5_ensureCapacityInternal 4 0 [.ref a, .int (nI 0)] h (zPu h none) := sorry
/-- emptied, in place -/
theorem w_sbClear0 (k : cSB h a v l) : zK G mJ6_setLength 6 0 [.ref a, .int (nI 0)] h (zO fun o h' => o = none ∧ cSB h' a v [] ∧ zfr (fun c => c = a ∨ c = v) h h') := sorry
/-- a heap, cut to what stood before -/
def hzR (h h4 : zH) : zH := fun b => if h b = none then none else h4 b
theorem hzR_n {b : Nat} (n : h b = none) : hzR h h' b = none := sorry
theorem hzR_s {b : Nat} (n : h b ≠ none) : hzR h h' b = h' b := sorry
theorem hzR_l {b : Nat} {A : Nat → Prop} (z : zfr A h h') (n : h b ≠ none) : hzR h h' b ≠ none := sorry
theorem hzR_fr (h h' : zH) : zfr (fun _ => False) (hzR h h') h' := sorry
theorem zfr.mix {A : Nat → Prop} (z : zfr A h h') (y : zfr (fun _ => False) (hzR h h') H) : zfr A h H := sorry
theorem cSB.eq (k : cSB h a v l) (e1 : h' a = h a) (e2 : h' v = h v) : cSB h' a v l := sorry
end

