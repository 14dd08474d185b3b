/-! plain laws: a forecast is what the ticks expire; balances add up to nothing; totals -/
section
set_option maxRecDepth 100000
variable {s : sS} {tt nn n : Nat}
/-- how many have expired by t -/
def sCnt (cs : List sC) (t : Nat) : Nat := (cs.map fun c => c 4).countP fun e => decide (e ≤ t)
theorem sCnt_app {a b : List sC} {t : Nat} : sCnt (a ++ b) t = sCnt a t + sCnt b t := by unfold sCnt; rw [List.map_append, List.countP_append]
theorem sCnt_one {c : sC} {t : Nat} : sCnt [c] t = if c 4 ≤ t then 1 else 0 := by
  unfold sCnt
  by_cases q : c 4 ≤ t <;> simp [q]
theorem sCnt_nil {t : Nat} : sCnt [] t = 0 := rfl
theorem sCnt_cons {c : sC} {cs : List sC} {t : Nat} : sCnt (c :: cs) t = (if c 4 ≤ t then 1 else 0) + sCnt cs t := by
  rw [show c :: cs = [c] ++ cs from rfl, sCnt_app, sCnt_one]
theorem sExp_cnt {time t : Nat} (ht : time ≤ t) : ∀ (todo kept : List sC) (sc : Nat → Nat) (qu re : List Nat) (n : Nat), (sExp time todo kept sc qu re n).1 + sCnt (sExp time todo kept sc qu re n).2.2.1 t = n + sCnt kept t + sCnt todo t := by
  intro todo
  induction todo with
  | nil => intro kept sc qu re n; rw [sExp, sCnt_nil]; rfl
  | cons c todo ih =>
    intro kept sc qu re n
    rw [sExp, sCnt_cons]
    split
    · rw [ih, sCnt_app, sCnt_one]; omega
    · rw [ih, if_pos (by omega)]; omega
theorem sExp_sc {time f : Nat} (hf : f ≠ 8) : ∀ (todo kept : List sC) (sc : Nat → Nat) (qu re : List Nat) (n : Nat), (sExp time todo kept sc qu re n).2.1 f = sc f := by
  intro todo
  induction todo with
  | nil => intro kept sc qu re n; rfl
  | cons c todo ih =>
    intro kept sc qu re n
    rw [sExp]
    split
    · rw [ih]
    · rw [ih, zu_n hf]
theorem set_map4 {cs : List sC} {k w : Nat} : (cs.set k (zu (sAt cs k) 3 w)).map (fun c => c 4) = cs.map fun c => c 4 := by
  apply List.ext_getElem?
  intro j
  rw [List.getElem?_map, List.getElem?_map]
  by_cases q : k = j
  · subst q
    by_cases h : k < cs.length
    · rw [List.getElem?_set_self h, sAt_get h, Option.map_some, Option.map_some, zu_n (by decide)]
    · rw [List.getElem?_eq_none (by rw [List.length_set]; omega), List.getElem?_eq_none (by omega)]
  · rw [List.getElem?_set_ne q]
theorem sIntK_4 {p : Nat} : ∀ {k : Nat}, (sIntK p s k).2.1.map (fun c => c 4) = s.2.1.map (fun c => c 4) ∧ (sIntK p s k).1 0 = s.1 0 := by
  intro k
  induction k with
  | zero => exact ⟨rfl, rfl⟩
  | succ k ih =>
    rw [sIntK]
    unfold sInt1
    split
    · refine ⟨set_map4.trans ih.1, Eq.trans ?_ ih.2⟩
      show zu (sIntK p s k).1 3 ((sIntK p s k).1 3 + (sGrow (sAt (sIntK p s k).2.1 k 3) p - sAt (sIntK p s k).2.1 k 3)) 0 = _
      exact zu_n (by decide)
    · exact ih
theorem sTick_cnt {t : Nat} (ht : s.1 0 + 1 ≤ t) : (sTick s).1 + sCnt (sTick s).2.2.1 t = sCnt s.2.1 t ∧ (sTick s).2.1 0 = s.1 0 + 1 := by
  have h1 := sIntK_4 (s := sTime s) (p := (sTime s).1 (10 + (sTime s).1 0 / 4 % 4)) (k := (sTime s).2.1.length)
  have e0 : (sTime s).1 0 = s.1 0 + 1 := zu_s (f := s.1) (k := 0)
  have e1 : (sInt (sTime s)).1 0 = s.1 0 + 1 := h1.2.trans e0
  refine ⟨?_, ?_⟩
  · have h2 := sExp_cnt (t := t) (time := (sInt (sTime s)).1 0) (by rw [e1]; exact ht) (sInt (sTime s)).2.1 [] (sInt (sTime s)).1 (sInt (sTime s)).2.2.1 (sInt (sTime s)).2.2.2 0
    show (sExpire (sInt (sTime s))).1 + sCnt (sExpire (sInt (sTime s))).2.2.1 t = _
    unfold sExpire
    rw [h2, sCnt_nil]
    have h3 : sCnt (sInt (sTime s)).2.1 t = sCnt s.2.1 t := by
      unfold sCnt
      rw [show (sInt (sTime s)).2.1.map (fun c => c 4) = (sTime s).2.1.map fun c => c 4 from h1.1]
      rfl
    omega
  · show zu (sExpire (sInt (sTime s))).2.1 5 ((sExpire (sInt (sTime s))).2.1 5 + (sExpire (sInt (sTime s))).1) 0 = _
    rw [zu_n (by decide)]
    unfold sExpire
    rw [sExp_sc (by decide), e1]
theorem sTicks_cnt : ∀ {k t : Nat}, s.1 0 + k ≤ t → (sTicks s k).1 + sCnt (sTicks s k).2.2.1 t = sCnt s.2.1 t ∧ (sTicks s k).2.1 0 = s.1 0 + k := by
  intro k
  induction k with
  | zero => intro t _; exact ⟨Nat.zero_add _, rfl⟩
  | succ k ih =>
    intro t ht
    obtain ⟨h1, h2⟩ := ih (t := t) (by omega)
    obtain ⟨h3, h4⟩ := sTick_cnt (s := (sTicks s k).2) (t := t) (by rw [h2]; omega)
    rw [sTicks]
    exact ⟨by show (sTicks s k).1 + (sTick (sTicks s k).2).1 + sCnt (sTick (sTicks s k).2).2.2.1 t = _; omega, by show (sTick (sTicks s k).2).2.1 0 = _; omega⟩
theorem sCnt_sUp {cs : List sC} {t : Nat} : sCnt cs t = sUp (fun k => if sAt cs k 4 ≤ t then 1 else 0) cs.length := by
  have h := sCk_all (T := fun c => decide (c 4 ≤ t)) (cs := cs)
  have e : sCk (fun c => decide (c 4 ≤ t)) cs cs.length = sUp (fun k => if sAt cs k 4 ≤ t then 1 else 0) cs.length := sCk_cg fun k _ => by simp only [decide_eq_true_eq]
  rw [← e, h]
  unfold sCnt
  rw [List.countP_map]
  rfl
/-- a forecast -/
theorem sTicks_fc (hJ : sJ tt nn s) {k : Nat} : (sTicks s k).1 = sUp (fun i => if sAt s.2.1 i 4 ≤ s.1 0 + k then 1 else 0) s.2.1.length := by
  obtain ⟨h1, h2⟩ := sTicks_cnt (s := s) (k := k) (Nat.le_refl _)
  have hE := (hJ.1.ticks hJ.2 (k := k)).2
  have h3 : sCnt (sTicks s k).2.2.1 (s.1 0 + k) = 0 := by
    rw [sCnt_sUp]
    refine sUp_none fun i hi => ?_
    have := hE _ (sAt_mem hi)
    rw [if_neg (by omega)]
  rw [← sCnt_sUp]
  omega
theorem sUp_add {f g : Nat → Nat} : ∀ {n : Nat}, sUp (fun k => f k + g k) n = sUp f n + sUp g n := by
  intro n
  induction n with
  | zero => rfl
  | succ n ih =>
    show sUp (fun k => f k + g k) n + (f n + g n) = sUp f n + f n + (sUp g n + g n)
    rw [ih]; omega
theorem sUp_single {c w : Nat} : ∀ {n : Nat}, sUp (fun p => if c = p then w else 0) n = if c < n then w else 0 := by
  intro n
  induction n with
  | zero => rfl
  | succ n ih =>
    show sUp (fun p => if c = p then w else 0) n + (if c = n then w else 0) = _
    rw [ih]
    by_cases q : c = n
    · rw [if_neg (by omega), if_pos q, if_pos (by omega), Nat.zero_add]
    · rw [if_neg q, Nat.add_zero]
      by_cases q2 : c < n
      · rw [if_pos q2, if_pos (by omega)]
      · rw [if_neg q2, if_neg (by omega)]
theorem sUp_swap {c w : Nat → Nat} : ∀ {n : Nat}, (∀ k, k < n → c k < 8) → sUp (fun p => sUp (fun k => if c k = p then w k else 0) n) 8 = sUp w n := by
  intro n
  induction n with
  | zero => intro _; rfl
  | succ n ih =>
    intro h
    show sUp (fun p => sUp (fun k => if c k = p then w k else 0) n + (if c n = p then w n else 0)) 8 = sUp w n + w n
    rw [sUp_add, ih fun k hk => h k (by omega), sUp_single, if_pos (h n (by omega))]
theorem sBal_sum (h : sI tt nn n s) : sUpI (fun p => sBal s p) 8 = 0 := by
  have e0 : sUpI (fun p => sBal s p) 8 = nI (sUp (fun p => sSum s 2 p) 8) - nI (sUp (fun p => sSum s 1 p) 8) := sUpI_bal fun k _ => rfl
  rw [e0]
  have e1 : sUp (fun p => sSum s 1 p) 8 = sUp (fun k => sAt s.2.1 k 3) s.2.1.length := sUp_swap (c := fun k => sAt s.2.1 k 1) (w := fun k => sAt s.2.1 k 3) fun k hk => (h.at hk).2.1
  have e2 : sUp (fun p => sSum s 2 p) 8 = sUp (fun k => sAt s.2.1 k 3) s.2.1.length := sUp_swap (c := fun k => sAt s.2.1 k 2) (w := fun k => sAt s.2.1 k 3) fun k hk => (h.at hk).2.2.1
  rw [e1, e2, Int32.sub_self]
theorem sUp_take {cs : List sC} : ∀ {k : Nat}, k ≤ cs.length → sUp (fun k => sAt cs k 3) k = sWt (cs.take k) := by
  intro k
  induction k with
  | zero => intro _; rfl
  | succ k ih =>
    intro h
    show sUp (fun k => sAt cs k 3) k + sAt cs k 3 = _
    rw [ih (by omega), List.take_succ, sAt_get (by omega)]
    show _ = sWt (cs.take k ++ [sAt cs k])
    rw [sWt_app]
theorem sUp_wt {cs : List sC} : sUp (fun k => sAt cs k 3) cs.length = sWt cs := by rw [sUp_take (Nat.le_refl _), List.take_length]
end
