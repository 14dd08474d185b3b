/-! THE REFERENCE's own cells: one object (class 3), four arrays; all numbers are whole but errors, that stand one more -/
section
set_option maxRecDepth 100000
variable {G : zG} {M : zM} {d r pc pc' : Nat} {L L' st : List Value} {h0 : zH} {Q : zR → zH → Prop}
/-- addresses: the object, all, line, input, commands -/
abbrev tA : Type := Nat × Nat × Nat × Nat × Nat
/-- fields by their numbers; all, line, input, commands -/
abbrev tS : Type := (Nat → Nat) × (Nat → Nat) × (Nat → Nat) × (Nat → Nat) × (Nat → Nat)
def tfl (a : tA) (F : Nat → Nat) : List Value := [.int (nI (F 0)), .ref a.2.1, .int (nI (F 2)), .int (nI (F 3)), .int (nI (F 4)), .ref a.2.2.1, .int (nI (F 6)), .ref a.2.2.2.1, .int (nI (F 8)), .int (nI (F 9)), .int (nI (F 10) - 1), .int (nI (F 11) - 1), .int (nI (F 12) - 1), .ref a.2.2.2.2, .int (nI (F 14))]
def tH (h0 : zH) (a : tA) (T : tS) : zH := fun b => if b = a.1 then some (3, tfl a T.1) else if b = a.2.1 then some (100, ztab 1560 T.2.1) else if b = a.2.2.1 then some (102, ztab 40 T.2.2.1) else if b = a.2.2.2.1 then some (102, ztab 60 T.2.2.2.1) else if b = a.2.2.2.2 then some (100, ztab 305 T.2.2.2.2) else h0 b
/-- the addresses differ -/
def tD (a : tA) : Prop := a.1 ≠ a.2.1 ∧ a.1 ≠ a.2.2.1 ∧ a.1 ≠ a.2.2.2.1 ∧ a.1 ≠ a.2.2.2.2 ∧ a.2.1 ≠ a.2.2.1 ∧ a.2.1 ≠ a.2.2.2.1 ∧ a.2.1 ≠ a.2.2.2.2 ∧ a.2.2.1 ≠ a.2.2.2.1 ∧ a.2.2.1 ≠ a.2.2.2.2 ∧ a.2.2.2.1 ≠ a.2.2.2.2
variable {a : tA} {T : tS}
theorem tH_m : tH h0 a T a.1 = some (3, tfl a T.1) := if_pos rfl
theorem tH_1 (hD : tD a) : tH h0 a T a.2.1 = some (100, ztab 1560 T.2.1) := by
  unfold tH; rw [if_neg hD.1.symm, if_pos rfl]
theorem tH_2 (hD : tD a) : tH h0 a T a.2.2.1 = some (102, ztab 40 T.2.2.1) := by
  unfold tH; rw [if_neg hD.2.1.symm, if_neg hD.2.2.2.2.1.symm, if_pos rfl]
theorem tH_3 (hD : tD a) : tH h0 a T a.2.2.2.1 = some (102, ztab 60 T.2.2.2.1) := by
  unfold tH; rw [if_neg hD.2.2.1.symm, if_neg hD.2.2.2.2.2.1.symm, if_neg hD.2.2.2.2.2.2.2.1.symm, if_pos rfl]
theorem tH_4 (hD : tD a) : tH h0 a T a.2.2.2.2 = some (100, ztab 305 T.2.2.2.2) := by
  unfold tH; rw [if_neg hD.2.2.2.1.symm, if_neg hD.2.2.2.2.2.2.1.symm, if_neg hD.2.2.2.2.2.2.2.2.1.symm, if_neg hD.2.2.2.2.2.2.2.2.2.symm, if_pos rfl]
theorem tH_um {F' : Nat → Nat} : zup (tH h0 a T) a.1 (3, tfl a F') = tH h0 a (F', T.2) := by
  funext b
  unfold zup tH
  by_cases h : b = a.1
  · rw [if_pos h, if_pos h]
  · rw [if_neg h, if_neg h, if_neg h]
theorem tH_u1 (hD : tD a) {f : Nat → Nat} : zup (tH h0 a T) a.2.1 (100, ztab 1560 f) = tH h0 a (T.1, f, T.2.2) := by
  funext b
  unfold zup tH
  by_cases h : b = a.2.1
  · subst h; rw [if_pos rfl, if_neg hD.1.symm, if_pos rfl]
  · rw [if_neg h, if_neg h, if_neg h]
theorem tH_u2 (hD : tD a) {f : Nat → Nat} : zup (tH h0 a T) a.2.2.1 (102, ztab 40 f) = tH h0 a (T.1, T.2.1, f, T.2.2.2) := by
  funext b
  unfold zup tH
  by_cases h : b = a.2.2.1
  · subst h; rw [if_pos rfl, if_neg hD.2.1.symm, if_neg hD.2.2.2.2.1.symm, if_pos rfl]
  · rw [if_neg h, if_neg h, if_neg h]
theorem tH_u3 (hD : tD a) {f : Nat → Nat} : zup (tH h0 a T) a.2.2.2.1 (102, ztab 60 f) = tH h0 a (T.1, T.2.1, T.2.2.1, f, T.2.2.2.2) := by
  funext b
  unfold zup tH
  by_cases h : b = a.2.2.2.1
  · subst h; rw [if_pos rfl, if_neg hD.2.2.1.symm, if_neg hD.2.2.2.2.2.1.symm, if_neg hD.2.2.2.2.2.2.2.1.symm, if_pos rfl]
  · rw [if_neg h, if_neg h, if_neg h]
theorem tH_u4 (hD : tD a) {f : Nat → Nat} : zup (tH h0 a T) a.2.2.2.2 (100, ztab 305 f) = tH h0 a (T.1, T.2.1, T.2.2.1, T.2.2.2.1, f) := by
  funext b
  unfold zup tH
  by_cases h : b = a.2.2.2.2
  · subst h; rw [if_pos rfl, if_neg hD.2.2.2.1.symm, if_neg hD.2.2.2.2.2.2.1.symm, if_neg hD.2.2.2.2.2.2.2.2.1.symm, if_neg hD.2.2.2.2.2.2.2.2.2.symm, if_pos rfl]
  · rw [if_neg h, if_neg h, if_neg h]
/-- the reference's getfield, putfield, arrays -/
theorem zT.get {idx k : Nat} {v : Value} (hd : decode (zm_c M) pc = .ok (.getfield idx, 3)) (hn : pc + 3 = pc') (hf : zF (zm_y M).cls idx 3 k) (hv : (tfl a T.1)[k]? = some v) (kq : zW G M d r pc' L (v :: st) (tH h0 a T) Q) : zW G M d r pc L (.ref a.1 :: st) (tH h0 a T) Q :=
  zW.get hd hn hf tH_m ⟨rfl, Nat.le_of_ble_eq_true rfl⟩ hv kq
theorem zT.put {idx k : Nat} {v : Value} {F' : Nat → Nat} (hd : decode (zm_c M) pc = .ok (.putfield idx, 3)) (hn : pc + 3 = pc') (hf : zF (zm_y M).cls idx 3 k) (hw : zFw M 3 k v) (hs' : (tfl a T.1).set k v = tfl a F') (kq : zW G M d r pc' L st (tH h0 a (F', T.2)) Q) : zW G M d r pc L (v :: .ref a.1 :: st) (tH h0 a T) Q :=
  zW.put hd hn hf tH_m ⟨⟨rfl, Nat.le_of_ble_eq_true rfl⟩, Nat.le_of_ble_eq_true rfl⟩ hw hs' (by rw [tH_um]; exact kq)
theorem zT.putN {idx k x : Nat} (hd : decode (zm_c M) pc = .ok (.putfield idx, 3)) (hn : pc + 3 = pc') (hf : zF (zm_y M).cls idx 3 k) (hw : zFw M 3 k (.int (nI x))) (hs' : (tfl a T.1).set k (.int (nI x)) = tfl a (zu T.1 k x)) (kq : zW G M d r pc' L st (tH h0 a (zu T.1 k x, T.2)) Q) : zW G M d r pc L (.int (nI x) :: .ref a.1 :: st) (tH h0 a T) Q := zT.put hd hn hf hw hs' kq
theorem zT.putE {idx k x : Nat} (hd : decode (zm_c M) pc = .ok (.putfield idx, 3)) (hn : pc + 3 = pc') (hf : zF (zm_y M).cls idx 3 k) (hw : zFw M 3 k (.int (nI x - 1))) (hs' : (tfl a T.1).set k (.int (nI x - 1)) = tfl a (zu T.1 k x)) (kq : zW G M d r pc' L st (tH h0 a (zu T.1 k x, T.2)) Q) : zW G M d r pc L (.int (nI x - 1) :: .ref a.1 :: st) (tH h0 a T) Q := zT.put hd hn hf hw hs' kq
theorem zc0 : ∀ v ∈ ([] : List Value), v.category = 1 := fun _ h => by cases h
theorem zcc {v : Value} {l : List Value} (h : v.category = 1) (t : ∀ w ∈ l, w.category = 1) : ∀ w ∈ v :: l, w.category = 1 := List.forall_mem_cons.mpr ⟨h, t⟩
theorem zT.ald1 {j : Nat} (hd : decode (zm_c M) pc = .ok (.iaload, 1)) (hn : pc + 1 = pc') (hD : tD a) (hj : j < 1560) (kq : zW G M d r pc' L (.int (nI (T.2.1 j)) :: st) (tH h0 a T) Q) : zW G M d r pc L (.int (nI j) :: .ref a.2.1 :: st) (tH h0 a T) Q :=
  zW.ialdN hd hn (tH_1 hD) rfl hj (Nat.le_of_ble_eq_true rfl) kq
theorem zT.ast1 {j x : Nat} (hd : decode (zm_c M) pc = .ok (.iastore, 1)) (hn : pc + 1 = pc') (hD : tD a) (hj : j < 1560) (kq : zW G M d r pc' L st (tH h0 a (T.1, zu T.2.1 j x, T.2.2)) Q) : zW G M d r pc L (.int (nI x) :: .int (nI j) :: .ref a.2.1 :: st) (tH h0 a T) Q :=
  zW.iastN hd hn (tH_1 hD) hj (Nat.le_of_ble_eq_true rfl) (by rw [tH_u1 hD]; exact kq)
theorem zT.ald4 {j : Nat} (hd : decode (zm_c M) pc = .ok (.iaload, 1)) (hn : pc + 1 = pc') (hD : tD a) (hj : j < 305) (kq : zW G M d r pc' L (.int (nI (T.2.2.2.2 j)) :: st) (tH h0 a T) Q) : zW G M d r pc L (.int (nI j) :: .ref a.2.2.2.2 :: st) (tH h0 a T) Q :=
  zW.ialdN hd hn (tH_4 hD) rfl hj (Nat.le_of_ble_eq_true rfl) kq
theorem zT.ast4 {j x : Nat} (hd : decode (zm_c M) pc = .ok (.iastore, 1)) (hn : pc + 1 = pc') (hD : tD a) (hj : j < 305) (kq : zW G M d r pc' L st (tH h0 a (T.1, T.2.1, T.2.2.1, T.2.2.2.1, zu T.2.2.2.2 j x)) Q) : zW G M d r pc L (.int (nI x) :: .int (nI j) :: .ref a.2.2.2.2 :: st) (tH h0 a T) Q :=
  zW.iastN hd hn (tH_4 hD) hj (Nat.le_of_ble_eq_true rfl) (by rw [tH_u4 hD]; exact kq)
theorem zT.ald2 {j : Nat} (hd : decode (zm_c M) pc = .ok (.caload, 1)) (hn : pc + 1 = pc') (hD : tD a) (hj : j < 40) (kq : zW G M d r pc' L (.int (nI (T.2.2.1 j)) :: st) (tH h0 a T) Q) : zW G M d r pc L (.int (nI j) :: .ref a.2.2.1 :: st) (tH h0 a T) Q :=
  zW.caldN hd hn (tH_2 hD) rfl hj (Nat.le_of_ble_eq_true rfl) kq
theorem zT.ald3 {j : Nat} (hd : decode (zm_c M) pc = .ok (.caload, 1)) (hn : pc + 1 = pc') (hD : tD a) (hj : j < 60) (kq : zW G M d r pc' L (.int (nI (T.2.2.2.1 j)) :: st) (tH h0 a T) Q) : zW G M d r pc L (.int (nI j) :: .ref a.2.2.2.1 :: st) (tH h0 a T) Q :=
  zW.caldN hd hn (tH_3 hD) rfl hj (Nat.le_of_ble_eq_true rfl) kq
theorem zT.ast2 {j x : Nat} (hd : decode (zm_c M) pc = .ok (.castore, 1)) (hn : pc + 1 = pc') (hD : tD a) (hj : j < 40) (hx : x < 65536) (kq : zW G M d r pc' L st (tH h0 a (T.1, T.2.1, zu T.2.2.1 j x, T.2.2.2)) Q) : zW G M d r pc L (.int (nI x) :: .int (nI j) :: .ref a.2.2.1 :: st) (tH h0 a T) Q :=
  zW.castN' hd hn (tH_2 hD) hj hx (Nat.le_of_ble_eq_true rfl) (by rw [tH_u2 hD]; exact kq)
theorem zT.ast3 {j x : Nat} (hd : decode (zm_c M) pc = .ok (.castore, 1)) (hn : pc + 1 = pc') (hD : tD a) (hj : j < 60) (hx : x < 65536) (kq : zW G M d r pc' L st (tH h0 a (T.1, T.2.1, T.2.2.1, zu T.2.2.2.1 j x, T.2.2.2.2)) Q) : zW G M d r pc L (.int (nI x) :: .int (nI j) :: .ref a.2.2.2.1 :: st) (tH h0 a T) Q :=
  zW.castN' hd hn (tH_3 hD) hj hx (Nat.le_of_ble_eq_true rfl) (by rw [tH_u3 hD]; exact kq)
/-- a contract of the reference: the answer, the state behind -/
abbrev tQ (h0 : zH) (a : tA) (P : Option Value → tS → Prop) : zR → zH → Prop := fun o h' => ∃ v T', o = .inl v ∧ P v T' ∧ h' = tH h0 a T'
theorem zT.call {N : zM} {d' r' idx n : Nat} {st0 rest As : List Value} {P : Option Value → tS → Prop} (hd : decode (zm_c M) pc = .ok (.invokevirtual idx, 3)) (hn : pc + 3 = pc') (hcw : zCV (zm_y M).cls idx N n) (hcls : (zm_y N).cls = "ClaimRegistryModel") (hst : st0 = As.reverse ++ .ref a.1 :: rest)
    (hK : zK G N d' r' (.ref a.1 :: As) (tH h0 a T) (tQ h0 a P)) (hc1 : ∀ v ∈ As, v.category = 1) (hlen : As.length = n) (hln : n + 1 ≤ zm_n N) (hdd : d' + 1 ≤ d) (hW : (rest.map fun v => v.category).sum ≤ 8)
    (kq : ∀ v T', P v T' → zW G M d r pc' L (v.toList ++ rest) (tH h0 a T') Q) : zW G M d (r + r') pc L st0 (tH h0 a T) Q :=
  zW.callV hd hn hcw hst tH_m ⟨rfl, Nat.le_of_ble_eq_true rfl⟩ (T := TX3) (NF := 15) (by rw [hcls]; rfl) hK hc1 hlen hln hdd hW (fun v h' ⟨v', T', e1, e2, e3⟩ => by cases e1; subst e3; exact kq _ _ e2) (fun E h' ⟨v', T', e1, _⟩ => by cases e1)
end
