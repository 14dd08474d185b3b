/-! a State's cells -/
section
set_option maxRecDepth 100000
variable {G : zG} {h h' h0 : zH} {O : Nat → Prop} {st ll aq re rt ea ha er hr : Nat} {mc : Int32} {xs : List (Nat × Nat)} {qs rs : List Nat} {s : sS}
def nL (n : Nat) : Int64 := Int64.ofNat n
def cSf (ll aq re rt : Nat) (m : Nat → Nat) : List Value := [.ref ll, .ref aq, .ref re, .ref rt, .int (nI (m 1)), .int (nI (m 0)), .int (nI (m 5)), .int (nI (m 6)), .int (nI (m 7)), .long (nL (m 4)), .long (nL (m 3)), .long (nL (m 8))]
/-- deque items are Integers with the numbers xs -/
def cIs (h : zH) (O : Nat → Prop) (its xs : List Nat) : Prop := its.length = xs.length ∧ ∀ (i q x : Nat), its[i]? = some q → xs[i]? = some x → ∃ k, cInt h q k x ∧ (k = 15 → O q)
/-- list items are the claims cs -/
def cCs (h : zH) (xs : List (Nat × Nat)) (cs : List sC) : Prop := xs.length = cs.length ∧ (∀ (i : Nat) (p : Nat × Nat) (c : sC), xs[i]? = some p → cs[i]? = some c → h p.2 = some (2, cCl c)) ∧ (xs.map Prod.snd).Nodup
/-- the State at st pictures s; its cells lie in O -/
def cP (h : zH) (O : Nat → Prop) (st ll aq re rt ea ha er hr : Nat) (mc : Int32) (xs : List (Nat × Nat)) (qs rs : List Nat) (s : sS) : Prop :=
  h st = some (1, cSf ll aq re rt s.1) ∧ (cLL h ll mc xs ∧ cCs h xs s.2.1) ∧ (cDQ h aq ea ha qs ∧ cIs h O qs s.2.2.1) ∧ (cDQ h re er hr rs ∧ cIs h O rs s.2.2.2) ∧ (aq ≠ re ∧ ea ≠ er) ∧ h rt = some (100, ztab 4 fun i => s.1 (10 + i)) ∧
  (O st ∧ (∀ b, cLf ll xs b → O b) ∧ (∀ p ∈ xs, O p.2) ∧ (O aq ∧ O ea) ∧ (O re ∧ O er) ∧ O rt)
def cS (h : zH) (O : Nat → Prop) (st : Nat) (s : sS) : Prop := ∃ ll aq re rt ea ha er hr mc xs qs rs, cP h O st ll aq re rt ea ha er hr mc xs qs rs s
theorem cIs.fr {its ys : List Nat} (hI : cIs h O its ys) {A : Nat → Prop} (z : zfr A h h') (n : ∀ b, O b → ¬ A b) : cIs h' O its ys := ⟨hI.1, fun i q x e1 e2 => by
  obtain ⟨k, ⟨e3, e4⟩, e5⟩ := hI.2 i q x e1 e2
  refine ⟨k, ⟨?_, e4⟩, e5⟩
  rcases e4 with q1 | q1
  · exact z.at e3 (n _ (e5 q1))
  · subst q1; exact z.2.2 _ _ e3 (Nat.le_of_ble_eq_true rfl)⟩
theorem cIs.up {its ys : List Nat} {O' : Nat → Prop} (hI : cIs h O its ys) (u : ∀ b, O b → O' b) : cIs h O' its ys := ⟨hI.1, fun i q x e1 e2 => by
  obtain ⟨k, e3, e5⟩ := hI.2 i q x e1 e2
  exact ⟨k, e3, fun e => u _ (e5 e)⟩⟩
theorem cIs.mv {its ys : List Nat} (hI : cIs h O its ys) (z : ∀ b k l, (k = 15 ∨ k = 1015) → h b = some (k, l) → h' b = some (k, l)) : cIs h' O its ys := ⟨hI.1, fun i q x e1 e2 => by
  obtain ⟨k, ⟨e3, e4⟩, e5⟩ := hI.2 i q x e1 e2
  exact ⟨k, ⟨z _ _ _ e4 e3, e4⟩, e5⟩⟩
theorem cCs.fr {cs : List sC} (hC : cCs h xs cs) {A : Nat → Prop} (z : zfr A h h') (n : ∀ p ∈ xs, ¬ A p.2) : cCs h' xs cs := ⟨hC.1, fun i p c e1 e2 => z.at (hC.2.1 i p c e1 e2) (n p (List.mem_of_getElem? e1)), hC.2.2⟩
theorem cCs.mv {cs : List sC} (hC : cCs h xs cs) (z : ∀ b l, h b = some (2, l) → h' b = some (2, l)) : cCs h' xs cs := ⟨hC.1, fun i p c e1 e2 => z _ _ (hC.2.1 i p c e1 e2), hC.2.2⟩
theorem cP.fr (hP : cP h O st ll aq re rt ea ha er hr mc xs qs rs s) {A : Nat → Prop} (z : zfr A h h') (n : ∀ b, O b → ¬ A b) : cP h' O st ll aq re rt ea ha er hr mc xs qs rs s := by
  obtain ⟨h1, ⟨h2, h3⟩, ⟨h4, h5⟩, ⟨h6, h7⟩, h8, h9, o1, o2, o3, ⟨o4, o5⟩, ⟨o6, o7⟩, o8⟩ := hP
  exact ⟨z.at h1 (n _ o1), ⟨h2.fr z fun b hb => n b (o2 b hb), h3.fr z fun p hp => n _ (o3 p hp)⟩, ⟨h4.fr z (n _ o4) (n _ o5), h5.fr z n⟩, ⟨h6.fr z (n _ o6) (n _ o7), h7.fr z n⟩, h8, z.at h9 (n _ o8), o1, o2, o3, ⟨o4, o5⟩, ⟨o6, o7⟩, o8⟩
theorem cP.up {O' : Nat → Prop} (hP : cP h O st ll aq re rt ea ha er hr mc xs qs rs s) (u : ∀ b, O b → O' b) : cP h O' st ll aq re rt ea ha er hr mc xs qs rs s := by
  obtain ⟨h1, ⟨h2, h3⟩, ⟨h4, h5⟩, ⟨h6, h7⟩, h8, h9, o1, o2, o3, ⟨o4, o5⟩, ⟨o6, o7⟩, o8⟩ := hP
  exact ⟨h1, ⟨h2, h3⟩, ⟨h4, h5.up u⟩, ⟨h6, h7.up u⟩, h8, h9, u _ o1, fun b hb => u _ (o2 b hb), fun p hp => u _ (o3 p hp), ⟨u _ o4, u _ o5⟩, ⟨u _ o6, u _ o7⟩, u _ o8⟩
theorem cS.fr (hS : cS h O st s) {A : Nat → Prop} (z : zfr A h h') (n : ∀ b, O b → ¬ A b) : cS h' O st s := by
  obtain ⟨ll, aq, re, rt, ea, ha, er, hr, mc, xs, qs, rs, hP⟩ := hS
  exact ⟨ll, aq, re, rt, ea, ha, er, hr, mc, xs, qs, rs, hP.fr z n⟩
theorem cS.up {O' : Nat → Prop} (hS : cS h O st s) (u : ∀ b, O b → O' b) : cS h O' st s := by
  obtain ⟨ll, aq, re, rt, ea, ha, er, hr, mc, xs, qs, rs, hP⟩ := hS
  exact ⟨ll, aq, re, rt, ea, ha, er, hr, mc, xs, qs, rs, hP.up u⟩
/-- a list's iterator at k -/
abbrev cIt (ll : Nat) (mc : Int32) (xs : List (Nat × Nat)) (k : Nat) (lr : Value) : zC := (8, [lr, zrf (cNd xs k), .int (nI k), .int mc, .ref ll])
theorem cLL.it (hL : cLL h ll mc xs) {it : Nat} (n : h it = none) {c : zC} : cLL (zup h it c) ll mc xs := hL.mv fun b k l _ hb => (zup_n (zfresh n hb)).trans hb
theorem cCs.at {cs : List sC} (hC : cCs h xs cs) {k : Nat} (hk : k < cs.length) : ∃ p, xs[k]? = some p ∧ h p.2 = some (2, cCl (sAt cs k)) := by
  obtain ⟨p, hp⟩ : ∃ p, xs[k]? = some p := ⟨_, List.getElem?_eq_getElem (by rw [hC.1]; exact hk)⟩
  exact ⟨p, hp, hC.2.1 k p _ hp (sAt_get hk)⟩
theorem sFind_is {cs : List sC} {id : Int32} {k : Nat} (hk : k < cs.length) (e : nI (sAt cs k 0) = id) (hn : ∀ j, j < k → ¬ nI (sAt cs j 0) = id) : sFind cs id = some k := by
  have ea : ∀ j (hj : j < cs.length), sAt cs j = cs[j] := fun j hj => by unfold sAt; rw [List.getD_eq_getElem?_getD, List.getElem?_eq_getElem hj]; rfl
  refine List.findIdx?_eq_some_iff_getElem.mpr ⟨hk, ?_, fun j hj => ?_⟩
  · rw [← ea k hk]; exact decide_eq_true e
  · rw [← ea j (by omega)]
    simp [hn j hj]
theorem sFind_no {cs : List sC} {id : Int32} (hn : ∀ j, j < cs.length → ¬ nI (sAt cs j 0) = id) : sFind cs id = none := by
  refine List.findIdx?_eq_none_iff.mpr fun c hc => ?_
  obtain ⟨j, hj⟩ := List.getElem?_of_mem hc
  have h1 := hn j (List.getElem?_eq_some_iff.mp hj).1
  rw [sAt_of hj] at h1
  simp [h1]
/-- the address of the kth claim -/
def cAd (xs : List (Nat × Nat)) (k : Nat) : Option Nat := (xs[k]?).map Prod.snd
theorem w_sFind (hP : cP h O st ll aq re rt ea ha er hr mc xs qs rs s) (h12 : s.2.1.length ≤ 12) (hid : ∀ i, i < s.2.1.length → sAt s.2.1 i 0 < 2 ^ 30) {id : Int32} : zK G mX2_find 6 2 [.ref st, .int id] h (zPu h (some (zrf ((sFind s.2.1 id).bind (cAd xs))))) := by
  obtain ⟨h1, ⟨hL, hC⟩, -⟩ := hP
  have hl := hL.1
  have hxs := hC.1
  have loop : ∀ (it : Nat) (n : h it = none) (m k : Nat) (lr v3 : Value), k + m = s.2.1.length → (∀ j, j < k → ¬ nI (sAt s.2.1 j 0) = id) → zW G mX2_find 6 0 8 [.ref st, .int id, .ref it, v3] [] (zup h it (cIt ll mc xs k lr)) (zPu h (some (zrf ((sFind s.2.1 id).bind (cAd xs))))) := by
    intro it n m
    induction m with
    | zero =>
      intro k lr v3 hk hno
      have hi := zup_s (h := h) (a := it) (c := cIt ll mc xs k lr)
      have hl1 := (zup_n (c := cIt ll mc xs k lr) (zfresh n hl)).trans hl
      refine zW.aload_n (pc' := 9) dX2_find_8 rfl rfl (zgS (zgS (zg0))) rfl ?_
      refine zW.callF (r' := 0) (pc' := 14) dX2_find_9 rfl l_X2_37_J25 rfl hi ⟨rfl, (Nat.le_of_ble_eq_true rfl)⟩ rfl (w_itHas hi hl1 (by omega) (by omega)) zc0 rfl (Nat.le_of_ble_eq_true rfl) (Nat.le_of_ble_eq_true rfl) (Nat.le_of_ble_eq_true rfl) (fun _ _ q9 => ?_) (fun _ _ q9 => by cases q9.1)
      obtain ⟨q8, e9⟩ := q9
      cases q8
      replace e9 := e9.symm
      subst e9
      rw [if_neg (by omega)]
      refine zW.if_eqN (pc' := 17) 40 dX2_find_14 rfl (by decide) (by omega) (fun b9 => ?_) (fun b9 => absurd b9 (by omega))
      refine zW.null (pc' := 41) dX2_find_40 rfl ?_
      refine zW.drop (zle.up n) ?_
      refine zW.aret dX2_find_41 rfl (Or.inl ⟨_, rfl⟩) rfl ?_
      rw [sFind_no (fun j hj => hno j (by omega))]
      exact ⟨rfl, rfl⟩
    | succ m ih =>
      intro k lr v3 hk hno
      have hi := zup_s (h := h) (a := it) (c := cIt ll mc xs k lr)
      have hl1 := (zup_n (c := cIt ll mc xs k lr) (zfresh n hl)).trans hl
      obtain ⟨p, hp, hc⟩ := hC.at (k := k) (by omega)
      refine zW.aload_n (pc' := 9) dX2_find_8 rfl rfl (zgS (zgS (zg0))) rfl ?_
      refine zW.callF (r' := 0) (pc' := 14) dX2_find_9 rfl l_X2_37_J25 rfl hi ⟨rfl, (Nat.le_of_ble_eq_true rfl)⟩ rfl (w_itHas hi hl1 (by omega) (by omega)) zc0 rfl (Nat.le_of_ble_eq_true rfl) (Nat.le_of_ble_eq_true rfl) (Nat.le_of_ble_eq_true rfl) (fun _ _ q9 => ?_) (fun _ _ q9 => by cases q9.1)
      obtain ⟨q8, e9⟩ := q9
      cases q8
      replace e9 := e9.symm
      subst e9
      rw [if_pos (by omega)]
      refine zW.if_eqN (pc' := 17) 40 dX2_find_14 rfl (by decide) (by omega) (fun b9 => absurd b9 (by omega)) (fun b9 => ?_)
      refine zW.aload_n (pc' := 18) dX2_find_17 rfl rfl (zgS (zgS (zg0))) rfl ?_
      refine zW.callF (r' := 0) (pc' := 23) dX2_find_18 rfl l_X2_43_J25 rfl hi ⟨rfl, (Nat.le_of_ble_eq_true rfl)⟩ rfl (w_itNext (hL.it n) hi hp (by omega)) zc0 rfl (Nat.le_of_ble_eq_true rfl) (Nat.le_of_ble_eq_true rfl) (Nat.le_of_ble_eq_true rfl) (fun _ _ q9 => ?_) (fun _ _ q9 => absurd q9 zO.no)
      obtain ⟨_, q8, e1, e9, -⟩ := q9
      cases q8
      subst e1
      rw [zup_up] at e9
      subst e9
      have hc1 := (zup_n (c := cIt ll mc xs (k + 1) (.ref p.1)) (zfresh n hc)).trans hc
      have hc2 := cCl_l hc1
      refine zW.castS (pc' := 26) dX2_find_23 rfl (lw_all_tbl q1032) hc2 ⟨rfl, (Nat.le_of_ble_eq_true rfl)⟩ rfl ?_
      refine zW.astore_n (pc' := 27) dX2_find_26 rfl rfl (Nat.le_of_ble_eq_true rfl) rfl (zsS (zsS (zsS (zs0)))) ?_
      refine zW.aload_n (pc' := 28) dX2_find_27 rfl rfl (zgS (zgS (zgS (zg0)))) rfl ?_
      refine zW.get (pc' := 31) dX2_find_28 rfl f_X2_95_2 hc2 ⟨rfl, (Nat.le_of_ble_eq_true rfl)⟩ rfl ?_
      refine zW.iload_n (pc' := 32) dX2_find_31 rfl rfl (zgS (zg0)) ?_
      by_cases q : nI (sAt s.2.1 k 0) = id
      · refine zW.icmp_ne (pc' := 35) 37 dX2_find_32 rfl (by decide) (fun b1 => ?_) (fun b1 => ?_)
        · exact absurd q b1
        refine zW.aload_n (pc' := 36) dX2_find_35 rfl rfl (zgS (zgS (zgS (zg0)))) rfl ?_
        refine zW.drop (zle.up n) ?_
        refine zW.aret dX2_find_36 rfl (Or.inl ⟨_, rfl⟩) rfl ?_
        rw [sFind_is (by omega) q hno]
        refine ⟨?_, rfl⟩
        show _ = Sum.inl (some (zrf (cAd xs k)))
        unfold cAd
        rw [hp]
        rfl
      · refine zW.icmp_ne (pc' := 35) 37 dX2_find_32 rfl (by decide) (fun b1 => ?_) (fun b1 => ?_)
        rotate_left
        · exact absurd b1 q
        refine zW.goto 8 dX2_find_37 (by decide) ?_
        refine ih (k + 1) _ _ (by omega) fun j hj => ?_
        by_cases z : j = k
        · rw [z]; exact q
        · exact hno j (by omega)
  show zW G mX2_find 6 2 0 [.ref st, .int id, zho, zho] [] h _
  refine zW.aload_n (pc' := 1) dX2_find_0 rfl rfl zg0 rfl ?_
  refine zW.get (pc' := 4) dX2_find_1 rfl f_X2_12_1 h1 ⟨rfl, (Nat.le_of_ble_eq_true rfl)⟩ rfl ?_
  refine zW.callU (r' := 2) (pc' := 7) dX2_find_4 rfl l_X2_33_J3 rfl hl ⟨rfl, (Nat.le_of_ble_eq_true rfl)⟩ rfl (w_llIter hL (by omega)) zc0 rfl (Nat.le_of_ble_eq_true rfl) (Nat.le_of_ble_eq_true rfl) (Nat.le_of_ble_eq_true rfl) (fun _ _ q9 => ?_) (fun _ _ q9 => absurd q9 zO.no)
  obtain ⟨_, q8, it, e1, n, e9, -⟩ := q9
  cases q8
  subst e1
  subst e9
  refine zW.astore_n (pc' := 8) dX2_find_7 rfl rfl (Nat.le_of_ble_eq_true rfl) rfl (zsS (zsS (zs0))) ?_
  exact loop it n s.2.1.length 0 .null zho (Nat.zero_add _) (fun j hj => absurd hj (Nat.not_lt_zero j))
end
