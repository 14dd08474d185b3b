/-! a State's picture behind changes of its parts -/
section
set_option maxRecDepth 100000
variable {G : zG} {h h' h0 : zH} {O O' A : Nat → Prop} {st ll aq re rt ea ha er hr : Nat} {mc : Int32} {xs : List (Nat × Nat)} {qs rs : List Nat} {s : sS}
theorem cLL.out (hL : cLL h ll mc xs) (z : zfr (cLf ll xs) h h') {b k : Nat} {l : List Value} (e : h b = some (k, l)) (hk : k ≠ 6 ∧ k ≠ 7) : h' b = some (k, l) := z.at e fun q => hL.nk e hk b q rfl
theorem cDQ.out (hQ : cDQ h aq ea ha qs) (z : zfr (cDf aq ea) h h') {b k : Nat} {l : List Value} (e : h b = some (k, l)) (hk : k ≠ 9 ∧ k ≠ 104) : h' b = some (k, l) := z.at e fun q => by
  have hn := hQ.nk e hk
  exact q.elim (fun q => hn.1 q.symm) fun q => hn.2 q.symm
theorem cDQ.mk (hQ : cDQ h aq ea ha qs) (z : ∀ b k l, (k = 9 ∨ k = 104) → h b = some (k, l) → h' b = some (k, l)) : cDQ h' aq ea ha qs := by
  obtain ⟨h1, h2, f, h3, h4⟩ := hQ
  exact ⟨h1, z _ _ _ (Or.inl rfl) h2, f, z _ _ _ (Or.inr rfl) h3, h4⟩
theorem cP.live (hP : cP h O st ll aq re rt ea ha er hr mc xs qs rs s) : cP h (fun b => O b ∧ h b ≠ none) st ll aq re rt ea ha er hr mc xs qs rs s := by
  obtain ⟨h1, ⟨h2, h3⟩, ⟨h4, h5⟩, ⟨h6, h7⟩, h8, h9, o1, o2, o3, ⟨o4, o5⟩, ⟨o6, o7⟩, o8⟩ := hP
  have sm : ∀ {b : Nat} {c : zC}, h b = some c → h b ≠ none := fun e q => by rw [e] at q; cases q
  have lI : ∀ {its ys : List Nat}, cIs h O its ys → cIs h (fun b => O b ∧ h b ≠ none) its ys := fun hI => ⟨hI.1, fun i q x e1 e2 => by
    obtain ⟨k, e3, e5⟩ := hI.2 i q x e1 e2
    exact ⟨k, e3, fun e => ⟨e5 e, sm e3.1⟩⟩⟩
  refine ⟨h1, ⟨h2, h3⟩, ⟨h4, lI h5⟩, ⟨h6, lI h7⟩, h8, h9, ⟨o1, sm h1⟩, fun b hb => ⟨o2 b hb, ?_⟩, fun p hp => ⟨o3 p hp, ?_⟩, ⟨⟨o4, sm h4.2.1⟩, o5, ?_⟩, ⟨⟨o6, sm h6.2.1⟩, o7, ?_⟩, o8, sm h9⟩
  · obtain ⟨k, l, e, -⟩ := h2.live hb
    exact sm e
  · obtain ⟨i, hi⟩ := List.getElem?_of_mem hp
    obtain ⟨c, hc⟩ : ∃ c, s.2.1[i]? = some c := ⟨_, List.getElem?_eq_getElem (by rw [← h3.1]; exact (List.getElem?_eq_some_iff.mp hi).1)⟩
    exact sm (h3.2.1 i p c hi hc)
  · obtain ⟨-, -, f, e, -⟩ := h4
    exact sm e
  · obtain ⟨-, -, f, e, -⟩ := h6
    exact sm e
/-- the list of claims has changed -/
theorem cP.list (hP : cP h O st ll aq re rt ea ha er hr mc xs qs rs s) (z : zfr (cLf ll xs) h h') {mc' : Int32} {xs' : List (Nat × Nat)} {cs' : List sC} (hL' : cLL h' ll mc' xs') (hC' : cCs h' xs' cs') (o2 : ∀ b, cLf ll xs' b → O' b) (o3 : ∀ p ∈ xs', O' p.2) (u : ∀ b, O b → O' b) : cP h' O' st ll aq re rt ea ha er hr mc' xs' qs rs (s.1, cs', s.2.2) := by
  obtain ⟨h1, ⟨h2, h3⟩, ⟨h4, h5⟩, ⟨h6, h7⟩, h8, h9, o1, -, -, ⟨o4, o5⟩, ⟨o6, o7⟩, o8⟩ := hP
  have mv : ∀ {b k : Nat} {l : List Value}, h b = some (k, l) → (k ≠ 6 ∧ k ≠ 7) → h' b = some (k, l) := fun e hk => h2.out z e hk
  have mvQ : ∀ b k l, (k = 9 ∨ k = 104) → h b = some (k, l) → h' b = some (k, l) := fun b k l hk e => mv e (by rcases hk with q | q <;> subst q <;> decide)
  have mvI : ∀ b k l, (k = 15 ∨ k = 1015) → h b = some (k, l) → h' b = some (k, l) := fun b k l hk e => mv e (by rcases hk with q | q <;> subst q <;> decide)
  exact ⟨mv h1 (by decide), ⟨hL', hC'⟩, ⟨h4.mk mvQ, (h5.mv mvI).up u⟩, ⟨h6.mk mvQ, (h7.mv mvI).up u⟩, h8, mv h9 (by decide), u _ o1, o2, o3, ⟨u _ o4, u _ o5⟩, ⟨u _ o6, u _ o7⟩, u _ o8⟩
/-- the audit queue has changed -/
theorem cP.queue (hP : cP h O st ll aq re rt ea ha er hr mc xs qs rs s) (z : zfr (cDf aq ea) h h') {ha' : Nat} {qs' qu' : List Nat} (hQ' : cDQ h' aq ea ha' qs') (hI' : cIs h' O' qs' qu') (u : ∀ b, O b → O' b) : cP h' O' st ll aq re rt ea ha' er hr mc xs qs' rs (s.1, s.2.1, qu', s.2.2.2) := by
  obtain ⟨h1, ⟨h2, h3⟩, ⟨h4, h5⟩, ⟨h6, h7⟩, h8, h9, o1, o2, o3, ⟨o4, o5⟩, ⟨o6, o7⟩, o8⟩ := hP
  have mv : ∀ {b k : Nat} {l : List Value}, h b = some (k, l) → (k ≠ 9 ∧ k ≠ 104) → h' b = some (k, l) := fun e hk => h4.out z e hk
  have mvI : ∀ b k l, (k = 15 ∨ k = 1015) → h b = some (k, l) → h' b = some (k, l) := fun b k l hk e => mv e (by rcases hk with q | q <;> subst q <;> decide)
  have hra : re ≠ ea := by
    obtain ⟨-, e1, -⟩ := h6
    obtain ⟨-, -, f, e2, -⟩ := h4
    exact zne e1 e2 (by decide)
  have hea : er ≠ aq := by
    obtain ⟨-, -, f, e1, -⟩ := h6
    obtain ⟨-, e2, -⟩ := h4
    exact zne e1 e2 (by decide)
  exact ⟨mv h1 (by decide), ⟨h2.mv fun b k l hk e => mv e (by rcases hk with q | q <;> subst q <;> decide), h3.mv fun b l e => mv e (by decide)⟩, ⟨hQ', hI'⟩, ⟨h6.fr z (fun q => q.elim (fun q => h8.1 q.symm) hra) (fun q => q.elim hea fun q => h8.2 q.symm), (h7.mv mvI).up u⟩, h8, mv h9 (by decide), u _ o1, fun b hb => u _ (o2 b hb), fun p hp => u _ (o3 p hp), ⟨u _ o4, u _ o5⟩, ⟨u _ o6, u _ o7⟩, u _ o8⟩
/-- the recently expired have changed -/
theorem cP.rec (hP : cP h O st ll aq re rt ea ha er hr mc xs qs rs s) (z : zfr (cDf re er) h h') {hr' : Nat} {rs' re' : List Nat} (hQ' : cDQ h' re er hr' rs') (hI' : cIs h' O' rs' re') (u : ∀ b, O b → O' b) : cP h' O' st ll aq re rt ea ha er hr' mc xs qs rs' (s.1, s.2.1, s.2.2.1, re') := by
  obtain ⟨h1, ⟨h2, h3⟩, ⟨h4, h5⟩, ⟨h6, h7⟩, h8, h9, o1, o2, o3, ⟨o4, o5⟩, ⟨o6, o7⟩, o8⟩ := hP
  have mv : ∀ {b k : Nat} {l : List Value}, h b = some (k, l) → (k ≠ 9 ∧ k ≠ 104) → h' b = some (k, l) := fun e hk => h6.out z e hk
  have mvI : ∀ b k l, (k = 15 ∨ k = 1015) → h b = some (k, l) → h' b = some (k, l) := fun b k l hk e => mv e (by rcases hk with q | q <;> subst q <;> decide)
  have hra : aq ≠ er := by
    obtain ⟨-, e1, -⟩ := h4
    obtain ⟨-, -, f, e2, -⟩ := h6
    exact zne e1 e2 (by decide)
  have hea : ea ≠ re := by
    obtain ⟨-, -, f, e1, -⟩ := h4
    obtain ⟨-, e2, -⟩ := h6
    exact zne e1 e2 (by decide)
  exact ⟨mv h1 (by decide), ⟨h2.mv fun b k l hk e => mv e (by rcases hk with q | q <;> subst q <;> decide), h3.mv fun b l e => mv e (by decide)⟩, ⟨h4.fr z (fun q => q.elim h8.1 hra) (fun q => q.elim hea h8.2), (h5.mv mvI).up u⟩, ⟨hQ', hI'⟩, h8, mv h9 (by decide), u _ o1, fun b hb => u _ (o2 b hb), fun p hp => u _ (o3 p hp), ⟨u _ o4, u _ o5⟩, ⟨u _ o6, u _ o7⟩, u _ o8⟩
/-- a number has changed -/
theorem cP.num (hP : cP h O st ll aq re rt ea ha er hr mc xs qs rs s) {m' : Nat → Nat} (e : h' = zup h st (1, cSf ll aq re rt m')) (hm : ∀ i, i < 4 → m' (10 + i) = s.1 (10 + i)) : cP h' O st ll aq re rt ea ha er hr mc xs qs rs (m', s.2) := by
  obtain ⟨h1, ⟨h2, h3⟩, ⟨h4, h5⟩, ⟨h6, h7⟩, h8, h9, o⟩ := hP
  have mv : ∀ {b k : Nat} {l : List Value}, h b = some (k, l) → k ≠ 1 → h' b = some (k, l) := fun e1 hk => zpres e (zne e1 h1 hk) e1
  have mvQ : ∀ b k l, (k = 9 ∨ k = 104) → h b = some (k, l) → h' b = some (k, l) := fun b k l hk e => mv e (by rcases hk with q | q <;> subst q <;> decide)
  have mvI : ∀ b k l, (k = 15 ∨ k = 1015) → h b = some (k, l) → h' b = some (k, l) := fun b k l hk e => mv e (by rcases hk with q | q <;> subst q <;> decide)
  refine ⟨by rw [e]; exact zup_s, ⟨h2.mv fun b k l hk e => mv e (by rcases hk with q | q <;> subst q <;> decide), h3.mv fun b l e => mv e (by decide)⟩, ⟨h4.mk mvQ, h5.mv mvI⟩, ⟨h6.mk mvQ, h7.mv mvI⟩, h8, ?_, o⟩
  rw [mv h9 (by decide)]
  congr 2
  exact ztab_congr fun i hi => (hm i hi).symm
/-- a claim has changed -/
theorem cP.claim (hP : cP h O st ll aq re rt ea ha er hr mc xs qs rs s) {i : Nat} {p : Nat × Nat} {c : sC} (hp : xs[i]? = some p) (e : h' = zup h p.2 (2, cCl c)) : cP h' O st ll aq re rt ea ha er hr mc xs qs rs (s.1, s.2.1.set i c, s.2.2) := by
  obtain ⟨h1, ⟨h2, h3⟩, ⟨h4, h5⟩, ⟨h6, h7⟩, h8, h9, o⟩ := hP
  have hi := (List.getElem?_eq_some_iff.mp hp).1
  have hil : i < s.2.1.length := by rw [← h3.1]; exact hi
  have hc := h3.2.1 i p _ hp (List.getElem?_eq_getElem hil)
  have mv : ∀ {b k : Nat} {l : List Value}, h b = some (k, l) → k ≠ 2 → h' b = some (k, l) := fun e1 hk => zpres e (zne e1 hc hk) e1
  have mvQ : ∀ b k l, (k = 9 ∨ k = 104) → h b = some (k, l) → h' b = some (k, l) := fun b k l hk e => mv e (by rcases hk with q | q <;> subst q <;> decide)
  have mvI : ∀ b k l, (k = 15 ∨ k = 1015) → h b = some (k, l) → h' b = some (k, l) := fun b k l hk e => mv e (by rcases hk with q | q <;> subst q <;> decide)
  refine ⟨mv h1 (by decide), ⟨h2.mv fun b k l hk e => mv e (by rcases hk with q | q <;> subst q <;> decide), ⟨by rw [List.length_set]; exact h3.1, fun j q d e1 e2 => ?_, h3.2.2⟩⟩, ⟨h4.mk mvQ, h5.mv mvI⟩, ⟨h6.mk mvQ, h7.mv mvI⟩, h8, mv h9 (by decide), o⟩
  by_cases hij : i = j
  · subst hij
    rw [List.getElem?_set_self hil] at e2
    cases e2
    cases hp.symm.trans e1
    rw [e]; exact zup_s
  · rw [List.getElem?_set_ne hij] at e2
    refine zpres e (fun z => hij ?_) (h3.2.1 j q d e1 e2)
    have g1 : (xs.map Prod.snd)[i]? = some p.2 := by rw [List.getElem?_map, hp]; rfl
    have g2 : (xs.map Prod.snd)[j]? = some p.2 := by rw [List.getElem?_map, e1, ← z]; rfl
    exact (List.getElem?_inj (List.getElem?_eq_some_iff.mp g1).1 h3.2.2).mp (g1.trans g2.symm)
/-- the rates have changed -/
theorem cP.rate (hP : cP h O st ll aq re rt ea ha er hr mc xs qs rs s) {i x : Nat} (hi : i < 4) (e : h' = zup h rt (100, ztab 4 (zu (fun i => s.1 (10 + i)) i x))) : cP h' O st ll aq re rt ea ha er hr mc xs qs rs (zu s.1 (10 + i) x, s.2) := by
  obtain ⟨h1, ⟨h2, h3⟩, ⟨h4, h5⟩, ⟨h6, h7⟩, h8, h9, o⟩ := hP
  have mv : ∀ {b k : Nat} {l : List Value}, h b = some (k, l) → k ≠ 100 → h' b = some (k, l) := fun e1 hk => zpres e (zne e1 h9 hk) e1
  have mvQ : ∀ b k l, (k = 9 ∨ k = 104) → h b = some (k, l) → h' b = some (k, l) := fun b k l hk e => mv e (by rcases hk with q | q <;> subst q <;> decide)
  have mvI : ∀ b k l, (k = 15 ∨ k = 1015) → h b = some (k, l) → h' b = some (k, l) := fun b k l hk e => mv e (by rcases hk with q | q <;> subst q <;> decide)
  refine ⟨?_, ⟨h2.mv fun b k l hk e => mv e (by rcases hk with q | q <;> subst q <;> decide), h3.mv fun b l e => mv e (by decide)⟩, ⟨h4.mk mvQ, h5.mv mvI⟩, ⟨h6.mk mvQ, h7.mv mvI⟩, h8, ?_, o⟩
  · rw [mv h1 (by decide)]
    unfold cSf
    dsimp only
    rw [zu_n (show 1 ≠ 10 + i by omega), zu_n (show 0 ≠ 10 + i by omega), zu_n (show 5 ≠ 10 + i by omega), zu_n (show 6 ≠ 10 + i by omega), zu_n (show 7 ≠ 10 + i by omega), zu_n (show 4 ≠ 10 + i by omega), zu_n (show 3 ≠ 10 + i by omega), zu_n (show 8 ≠ 10 + i by omega)]
  · rw [e, zup_s]
    congr 2
    refine ztab_congr fun j hj => ?_
    by_cases q : j = i
    · subst q
      dsimp only
      rw [zu_s, zu_s]
    · dsimp only
      rw [zu_n q, zu_n (by omega)]
/-- a new Integer, or one of the cache, behind the queue -/
theorem cIs.push {its ys : List Nat} (hI : cIs h O its ys) {q k x : Nat} (hq : cInt h q k x) (ho : k = 15 → O q) : cIs h O (its ++ [q]) (ys ++ [x]) := by
  refine ⟨by rw [List.length_append, List.length_append, hI.1]; rfl, fun i p y e1 e2 => ?_⟩
  by_cases hi : i < its.length
  · rw [List.getElem?_append_left hi] at e1
    rw [List.getElem?_append_left (by rw [← hI.1]; exact hi)] at e2
    exact hI.2 i p y e1 e2
  · rw [List.getElem?_append_right (by omega)] at e1
    rw [List.getElem?_append_right (by rw [← hI.1]; omega), ← hI.1] at e2
    have h1 := (List.getElem?_eq_some_iff.mp e1).1
    rw [List.length_singleton] at h1
    have h2 : i - its.length = 0 := by omega
    rw [h2] at e1 e2
    cases e1
    cases e2
    exact ⟨k, hq, ho⟩
theorem cIs.cons {its ys : List Nat} (hI : cIs h O its ys) {q k x : Nat} (hq : cInt h q k x) (ho : k = 15 → O q) : cIs h O (q :: its) (x :: ys) := by
  refine ⟨by rw [List.length_cons, List.length_cons, hI.1], fun i p y e1 e2 => ?_⟩
  cases i with
  | zero => cases e1; cases e2; exact ⟨k, hq, ho⟩
  | succ i => exact hI.2 i p y e1 e2
theorem cIs.erase {its ys : List Nat} (hI : cIs h O its ys) (j : Nat) : cIs h O (its.eraseIdx j) (ys.eraseIdx j) := by
  refine ⟨by rw [List.length_eraseIdx, List.length_eraseIdx, hI.1], fun i p y e1 e2 => ?_⟩
  rw [List.getElem?_eraseIdx] at e1 e2
  by_cases q : i < j
  · rw [if_pos q] at e1 e2; exact hI.2 _ _ _ e1 e2
  · rw [if_neg q] at e1 e2; exact hI.2 _ _ _ e1 e2
theorem cIs.ob {its ys : List Nat} (hI : cIs h O its ys) : ∀ x ∈ its, ∃ k v, cInt h x k v := fun x hx => by
  obtain ⟨i, hi⟩ := List.getElem?_of_mem hx
  obtain ⟨y, hy⟩ : ∃ y, ys[i]? = some y := ⟨_, List.getElem?_eq_getElem (by rw [← hI.1]; exact (List.getElem?_eq_some_iff.mp hi).1)⟩
  obtain ⟨k, hk, -⟩ := hI.2 i x y hi hy
  exact ⟨k, y, hk⟩
end
