/-! THE REFERENCE's parser: a command -/
section
set_option maxRecDepth 100000
variable {G : zG} {h0 : zH} {a : tA} {T : tS} {tt nn n : Nat}
/-- a command: its kind and four numbers -/
abbrev pC : Type := Nat × Nat × Nat × Nat × Nat
/-- the numbers behind a word -/
def pArgs (l : List Nat) (w : Nat × Nat × Nat) : pC × Nat × Nat :=
  if w.1 = 97 then ((97, (pBehind l 1 w.2).1, (pNum l 1 (pBehind l 1 w.2).2).1, (pBehind l 3 (pNum l 1 (pBehind l 1 w.2).2).2).1, (pBehind l 3 (pBehind l 3 (pNum l 1 (pBehind l 1 w.2).2).2).2).1), (pBehind l 3 (pBehind l 3 (pNum l 1 (pBehind l 1 w.2).2).2).2).2)
  else if w.1 = 115 ∨ w.1 = 99 then ((w.1, (pBehind l 3 w.2).1, (pBehind l 1 (pBehind l 3 w.2).2).1, 0, 0), (pBehind l 1 (pBehind l 3 w.2).2).2)
  else if w.1 = 101 ∨ w.1 = 117 then ((w.1, (pBehind l 3 w.2).1, 0, 0, 0), (pBehind l 3 w.2).2)
  else if w.1 = 116 then (if w.2.2 = 0 ∧ l[w.2.1]? = some 32 then ((116, (pBehind l 3 w.2).1, 0, 0, 0), (pBehind l 3 w.2).2) else ((116, 1, 0, 0, 0), w.2))
  else ((w.1, (pBehind l 1 w.2).1, (pBehind l 3 (pBehind l 1 w.2).2).1, 0, 0), (pBehind l 3 (pBehind l 1 w.2).2).2)
def pFirst (x : Nat) : Prop := x = 97 ∨ x = 115 ∨ x = 99 ∨ x = 116 ∨ x = 114
def pCmd (l : List Nat) (h : Nat) : pC × Nat × Nat := match l[h]? with
  | some x => if x = 97 ∨ x = 115 ∨ x = 99 ∨ x = 116 ∨ x = 114 then pArgs l (pWord l x (h + 1, 0)) else ((0, 0, 0, 0, 0), h, h + 1)
  | none => ((0, 0, 0, 0, 0), h, h + 1)
/-- the nth command stands -/
def tK (Cm : Nat → Nat) (n : Nat) (c : pC) : Prop := Cm (5 * n) = c.1 ∧ Cm (5 * n + 1) = c.2.1 ∧ Cm (5 * n + 2) = c.2.2.1 ∧ Cm (5 * n + 3) = c.2.2.2.1 ∧ Cm (5 * n + 4) = c.2.2.2.2
/-- all but the parser's place, error, commands stands -/
def tCF (n : Nat) (T T' : tS) : Prop := (∀ f, f ≠ 9 → f ≠ 10 → f ≠ 14 → T'.1 f = T.1 f) ∧ T'.2.1 = T.2.1 ∧ T'.2.2.1 = T.2.2.1 ∧ T'.2.2.2.1 = T.2.2.2.1 ∧ ∀ j, j < 5 * n → T'.2.2.2.2 j = T.2.2.2.2 j
theorem tP.put {l : List Nat} {h e : Nat} {F A Ln In Cm Cm' : Nat → Nat} (hP : tP (F, A, Ln, In, Cm) l h e) : tP (F, A, Ln, In, Cm') l h e := hP
theorem pWord_k {l : List Nat} {x : Nat} {p : Nat × Nat} : (pWord l x p).1 = 97 ∨ (pWord l x p).1 = 115 ∨ (pWord l x p).1 = 99 ∨ (pWord l x p).1 = 101 ∨ (pWord l x p).1 = 117 ∨ (pWord l x p).1 = 116 ∨ (pWord l x p).1 = 114 := by
  unfold pWord
  split
  · exact Or.inr (Or.inr (Or.inl rfl))
  · split
    · exact Or.inr (Or.inr (Or.inr (Or.inr (Or.inr (Or.inl rfl)))))
    · split
      · exact Or.inr (Or.inr (Or.inr (Or.inr (Or.inr (Or.inr rfl)))))
      · split
        · split
          · exact Or.inr (Or.inr (Or.inr (Or.inr (Or.inl rfl))))
          · exact Or.inl rfl
        · split
          · exact Or.inr (Or.inr (Or.inr (Or.inl rfl)))
          · exact Or.inr (Or.inl rfl)
theorem w_behindS (hD : tD a) {l : List Nat} {p : Nat × Nat} (hP : tP T l p.1 p.2) {d : Nat} (hd : d ≤ 3) : zK G mX3_behind 4 0 [.ref a.1, .int (nI d)] (tH h0 a T) (tQ h0 a fun v T' => v = some (.int (nI (pBehind l d p).1)) ∧ tP T' l (pBehind l d p).2.1 (pBehind l d p).2.2 ∧ tPF T T') := w_behind hD hP hd
theorem w_numberS (hD : tD a) {l : List Nat} {p : Nat × Nat} (hP : tP T l p.1 p.2) {d : Nat} (hd : d ≤ 3) : zK G mX3_number 3 0 [.ref a.1, .int (nI d)] (tH h0 a T) (tQ h0 a fun v T' => v = some (.int (nI (pNum l d p).1)) ∧ tP T' l (pNum l d p).2.1 (pNum l d p).2.2 ∧ tPF T T') := w_number hD hP hd
/-- what a command leaves -/
abbrev tCm (T : tS) (l : List Nat) (n : Nat) (r : pC × Nat × Nat) : Option Value → tS → Prop := fun v T' => v = none ∧ tP T' l r.2.1 r.2.2 ∧ T'.1 14 = n + 1 ∧ tK T'.2.2.2.2 n r.1 ∧ tCF n T T'
/-- one more number of the command is stored; nothing else -/
theorem tCF.st {T1 : tS} {n j x : Nat} (h : tCF n T T1) (hj : 5 * n ≤ j) : tCF n T (T1.1, T1.2.1, T1.2.2.1, T1.2.2.2.1, zu T1.2.2.2.2 j x) :=
  ⟨h.1, h.2.1, h.2.2.1, h.2.2.2.1, fun i hi => by show zu _ _ _ i = _; rw [zu_n (by omega)]; exact h.2.2.2.2 i hi⟩
theorem tCF.pf {T1 T2 : tS} {n : Nat} (h : tCF n T T1) (g : tPF T1 T2) : tCF n T T2 :=
  ⟨fun f a b c => (g.1 f a b).trans (h.1 f a b c), by rw [g.2]; exact h.2.1, by rw [g.2]; exact h.2.2.1, by rw [g.2]; exact h.2.2.2.1, by rw [g.2]; exact h.2.2.2.2⟩
theorem tK.s0 {Cm : Nat → Nat} {n c0 c1 c2 c3 c4 x : Nat} (h : tK Cm n (c0, c1, c2, c3, c4)) : tK (zu Cm (5 * n) x) n (x, c1, c2, c3, c4) := by
  obtain ⟨h0, h1, h2, h3, h4⟩ := h
  exact ⟨zu_s, (zu_n (by omega)).trans h1, (zu_n (by omega)).trans h2, (zu_n (by omega)).trans h3, (zu_n (by omega)).trans h4⟩
theorem tK.s1 {Cm : Nat → Nat} {n c0 c1 c2 c3 c4 x : Nat} (h : tK Cm n (c0, c1, c2, c3, c4)) : tK (zu Cm (5 * n + 1) x) n (c0, x, c2, c3, c4) := by
  obtain ⟨h0, h1, h2, h3, h4⟩ := h
  exact ⟨(zu_n (by omega)).trans h0, zu_s, (zu_n (by omega)).trans h2, (zu_n (by omega)).trans h3, (zu_n (by omega)).trans h4⟩
theorem tK.s2 {Cm : Nat → Nat} {n c0 c1 c2 c3 c4 x : Nat} (h : tK Cm n (c0, c1, c2, c3, c4)) : tK (zu Cm (5 * n + 2) x) n (c0, c1, x, c3, c4) := by
  obtain ⟨h0, h1, h2, h3, h4⟩ := h
  exact ⟨(zu_n (by omega)).trans h0, (zu_n (by omega)).trans h1, zu_s, (zu_n (by omega)).trans h3, (zu_n (by omega)).trans h4⟩
theorem tK.s3 {Cm : Nat → Nat} {n c0 c1 c2 c3 c4 x : Nat} (h : tK Cm n (c0, c1, c2, c3, c4)) : tK (zu Cm (5 * n + 3) x) n (c0, c1, c2, x, c4) := by
  obtain ⟨h0, h1, h2, h3, h4⟩ := h
  exact ⟨(zu_n (by omega)).trans h0, (zu_n (by omega)).trans h1, (zu_n (by omega)).trans h2, zu_s, (zu_n (by omega)).trans h4⟩
theorem tK.s4 {Cm : Nat → Nat} {n c0 c1 c2 c3 c4 x : Nat} (h : tK Cm n (c0, c1, c2, c3, c4)) : tK (zu Cm (5 * n + 4) x) n (c0, c1, c2, c3, x) := by
  obtain ⟨h0, h1, h2, h3, h4⟩ := h
  exact ⟨(zu_n (by omega)).trans h0, (zu_n (by omega)).trans h1, (zu_n (by omega)).trans h2, (zu_n (by omega)).trans h3, zu_s⟩
/-- a command under way: the parser at p, its numbers so far c -/
def tCx (T T1 : tS) (l : List Nat) (n : Nat) (p : Nat × Nat) (c : pC) : Prop := tP T1 l p.1 p.2 ∧ T1.1 14 = n + 1 ∧ tK T1.2.2.2.2 n c ∧ tCF n T T1
theorem tCx.pf {T1 T2 : tS} {l : List Nat} {n : Nat} {p q : Nat × Nat} {c : pC} (h : tCx T T1 l n p c) (hP : tP T2 l q.1 q.2) (g : tPF T1 T2) : tCx T T2 l n q c :=
  ⟨hP, (g.1 14 (by decide) (by decide)).trans h.2.1, by rw [g.2]; exact h.2.2.1, h.2.2.2.pf g⟩
theorem tCx.put {T1 : tS} {l : List Nat} {n j x : Nat} {p : Nat × Nat} {c c' : pC} (h : tCx T T1 l n p c) (hj : 5 * n ≤ j) (hk : tK (zu T1.2.2.2.2 j x) n c') : tCx T (T1.1, T1.2.1, T1.2.2.1, T1.2.2.2.1, zu T1.2.2.2.2 j x) l n p c' := ⟨h.1, h.2.1, hk, h.2.2.2.st hj⟩
theorem tCx.out {T1 : tS} {l : List Nat} {n : Nat} {r : pC × Nat × Nat} (h : tCx T T1 l n r.2 r.1) : tQ h0 a (tCm T l n r) (.inl none) (tH h0 a T1) := ⟨none, T1, rfl, ⟨rfl, h.1, h.2.1, h.2.2.1, h.2.2.2⟩, rfl⟩
set_option maxHeartbeats 8000000 in
theorem w_cmdTail (hD : tD a) {T1 : tS} {l : List Nat} {n k : Nat} {p : Nat × Nat} (hn : n ≤ 60) (hC : tCx T T1 l n p (k, 0, 0, 0, 0)) (hk : k = 97 ∨ k = 115 ∨ k = 99 ∨ k = 101 ∨ k = 117 ∨ k = 116 ∨ k = 114) {v2 : Value} : zW G mX3_command 5 0 106 [.ref a.1, .int (nI (5 * n)), v2, .int (nI k)] [] (tH h0 a T1) (tQ h0 a (tCm T l n (pArgs l (k, p)))) := by
  have two : (k = 115 ∨ k = 99) → zW G mX3_command 5 0 219 [.ref a.1, .int (nI (5 * n)), v2, .int (nI k)] [] (tH h0 a T1) (tQ h0 a (tCm T l n (pArgs l (k, p)))) := by
    intro q
    have hA : pArgs l (k, p) = ((k, (pBehind l 3 p).1, (pBehind l 1 (pBehind l 3 p).2).1, 0, 0), (pBehind l 1 (pBehind l 3 p).2).2) := by
      rcases q with q | q <;> subst q <;> rfl
    rw [hA]
    refine zW.aload_n (pc' := 220) dX3_command_219 rfl rfl zg0 rfl ?_
    refine zT.get (pc' := 223) dX3_command_220 rfl f_X3_27_3 rfl ?_
    try dsimp only
    refine zW.iload_n (pc' := 224) dX3_command_223 rfl rfl (zgS (zg0)) ?_
    refine zW.iconst (pc' := 225) (nI 1) dX3_command_224 rfl (by decide) ?_
    refine zW.iaddN (pc' := 226) dX3_command_225 rfl ?_
    refine zW.aload_n (pc' := 227) dX3_command_226 rfl rfl zg0 rfl ?_
    refine zW.iconst (pc' := 228) (nI 3) dX3_command_227 rfl (by decide) ?_
    refine zT.call (pc' := 231) dX3_command_228 rfl l_X3_197 rfl rfl (w_behindS hD hC.1 (d := 3) (by decide)) (zcc rfl zc0) rfl (Nat.le_of_ble_eq_true rfl) (Nat.le_of_ble_eq_true rfl) (Nat.le_of_ble_eq_true rfl) (fun _ T2 ⟨e1, e2, e3⟩ => ?_)
    subst e1
    have hC2 := hC.pf e2 e3
    first | refine zT.ast1 (pc' := 232) dX3_command_231 rfl hD (by omega) ?_ | refine zT.ast4 (pc' := 232) dX3_command_231 rfl hD (by omega) ?_
    try dsimp only
    refine zW.aload_n (pc' := 233) dX3_command_232 rfl rfl zg0 rfl ?_
    refine zT.get (pc' := 236) dX3_command_233 rfl f_X3_27_3 rfl ?_
    try dsimp only
    refine zW.iload_n (pc' := 237) dX3_command_236 rfl rfl (zgS (zg0)) ?_
    refine zW.iconst (pc' := 238) (nI 2) dX3_command_237 rfl (by decide) ?_
    refine zW.iaddN (pc' := 239) dX3_command_238 rfl ?_
    refine zW.aload_n (pc' := 240) dX3_command_239 rfl rfl zg0 rfl ?_
    refine zW.iconst (pc' := 241) (nI 1) dX3_command_240 rfl (by decide) ?_
    have hC3 := hC2.put (j := 5 * n + 1) (x := (pBehind l 3 p).1) (by omega) hC2.2.2.1.s1
    refine zT.call (pc' := 244) dX3_command_241 rfl l_X3_197 rfl rfl (w_behindS hD hC3.1 (d := 1) (by decide)) (zcc rfl zc0) rfl (Nat.le_of_ble_eq_true rfl) (Nat.le_of_ble_eq_true rfl) (Nat.le_of_ble_eq_true rfl) (fun _ T3 ⟨e1, e4, e5⟩ => ?_)
    subst e1
    have hC4 := hC3.pf e4 e5
    first | refine zT.ast1 (pc' := 245) dX3_command_244 rfl hD (by omega) ?_ | refine zT.ast4 (pc' := 245) dX3_command_244 rfl hD (by omega) ?_
    try dsimp only
    refine zW.goto 326 dX3_command_245 (by decide) ?_
    have hC5 := hC4.put (j := 5 * n + 2) (x := (pBehind l 1 (pBehind l 3 p).2).1) (by omega) hC4.2.2.1.s2
    refine zW.vret dX3_command_326 rfl ?_
    exact hC5.out
  have one : (k = 101 ∨ k = 117) → zW G mX3_command 5 0 248 [.ref a.1, .int (nI (5 * n)), v2, .int (nI k)] [] (tH h0 a T1) (tQ h0 a (tCm T l n (pArgs l (k, p)))) := by
    intro q
    have hA : pArgs l (k, p) = ((k, (pBehind l 3 p).1, 0, 0, 0), (pBehind l 3 p).2) := by
      rcases q with q | q <;> subst q <;> rfl
    rw [hA]
    refine zW.aload_n (pc' := 249) dX3_command_248 rfl rfl zg0 rfl ?_
    refine zT.get (pc' := 252) dX3_command_249 rfl f_X3_27_3 rfl ?_
    try dsimp only
    refine zW.iload_n (pc' := 253) dX3_command_252 rfl rfl (zgS (zg0)) ?_
    refine zW.iconst (pc' := 254) (nI 1) dX3_command_253 rfl (by decide) ?_
    refine zW.iaddN (pc' := 255) dX3_command_254 rfl ?_
    refine zW.aload_n (pc' := 256) dX3_command_255 rfl rfl zg0 rfl ?_
    refine zW.iconst (pc' := 257) (nI 3) dX3_command_256 rfl (by decide) ?_
    refine zT.call (pc' := 260) dX3_command_257 rfl l_X3_197 rfl rfl (w_behindS hD hC.1 (d := 3) (by decide)) (zcc rfl zc0) rfl (Nat.le_of_ble_eq_true rfl) (Nat.le_of_ble_eq_true rfl) (Nat.le_of_ble_eq_true rfl) (fun _ T2 ⟨e1, e2, e3⟩ => ?_)
    subst e1
    have hC2 := hC.pf e2 e3
    first | refine zT.ast1 (pc' := 261) dX3_command_260 rfl hD (by omega) ?_ | refine zT.ast4 (pc' := 261) dX3_command_260 rfl hD (by omega) ?_
    try dsimp only
    refine zW.goto 326 dX3_command_261 (by decide) ?_
    have hC3 := hC2.put (j := 5 * n + 1) (x := (pBehind l 3 p).1) (by omega) hC2.2.2.1.s1
    refine zW.vret dX3_command_326 rfl ?_
    exact hC3.out
  refine zW.iload_n (pc' := 107) dX3_command_106 rfl rfl (zgS (zgS (zgS (zg0)))) ?_
  rcases hk with q | q | q | q | q | q | q
  · subst q
    have hA : pArgs l (97, p) = ((97, (pBehind l 1 p).1, (pNum l 1 (pBehind l 1 p).2).1, (pBehind l 3 (pNum l 1 (pBehind l 1 p).2).2).1, (pBehind l 3 (pBehind l 3 (pNum l 1 (pBehind l 1 p).2).2).2).1), (pBehind l 3 (pBehind l 3 (pNum l 1 (pBehind l 1 p).2).2).2).2) := rfl
    rw [hA]
    refine zW.lookup (off := 57) 164 dX3_command_107 (by decide) (by decide) (by decide) ?_
    refine zW.aload_n (pc' := 165) dX3_command_164 rfl rfl zg0 rfl ?_
    refine zT.get (pc' := 168) dX3_command_165 rfl f_X3_27_3 rfl ?_
    try dsimp only
    refine zW.iload_n (pc' := 169) dX3_command_168 rfl rfl (zgS (zg0)) ?_
    refine zW.iconst (pc' := 170) (nI 1) dX3_command_169 rfl (by decide) ?_
    refine zW.iaddN (pc' := 171) dX3_command_170 rfl ?_
    refine zW.aload_n (pc' := 172) dX3_command_171 rfl rfl zg0 rfl ?_
    refine zW.iconst (pc' := 173) (nI 1) dX3_command_172 rfl (by decide) ?_
    refine zT.call (pc' := 176) dX3_command_173 rfl l_X3_197 rfl rfl (w_behindS hD hC.1 (d := 1) (by decide)) (zcc rfl zc0) rfl (Nat.le_of_ble_eq_true rfl) (Nat.le_of_ble_eq_true rfl) (Nat.le_of_ble_eq_true rfl) (fun _ T2 ⟨e1, e2, e3⟩ => ?_)
    subst e1
    have hC2 := hC.pf e2 e3
    first | refine zT.ast1 (pc' := 177) dX3_command_176 rfl hD (by omega) ?_ | refine zT.ast4 (pc' := 177) dX3_command_176 rfl hD (by omega) ?_
    try dsimp only
    refine zW.aload_n (pc' := 178) dX3_command_177 rfl rfl zg0 rfl ?_
    refine zT.get (pc' := 181) dX3_command_178 rfl f_X3_27_3 rfl ?_
    try dsimp only
    refine zW.iload_n (pc' := 182) dX3_command_181 rfl rfl (zgS (zg0)) ?_
    refine zW.iconst (pc' := 183) (nI 2) dX3_command_182 rfl (by decide) ?_
    refine zW.iaddN (pc' := 184) dX3_command_183 rfl ?_
    refine zW.aload_n (pc' := 185) dX3_command_184 rfl rfl zg0 rfl ?_
    refine zW.iconst (pc' := 186) (nI 1) dX3_command_185 rfl (by decide) ?_
    have hC3 := hC2.put (j := 5 * n + 1) (x := (pBehind l 1 p).1) (by omega) hC2.2.2.1.s1
    refine zT.call (pc' := 189) dX3_command_186 rfl l_X3_185 rfl rfl (w_numberS hD hC3.1 (d := 1) (by decide)) (zcc rfl zc0) rfl (Nat.le_of_ble_eq_true rfl) (Nat.le_of_ble_eq_true rfl) (Nat.le_of_ble_eq_true rfl) (fun _ T3 ⟨e1, e4, e5⟩ => ?_)
    subst e1
    have hC4 := hC3.pf e4 e5
    first | refine zT.ast1 (pc' := 190) dX3_command_189 rfl hD (by omega) ?_ | refine zT.ast4 (pc' := 190) dX3_command_189 rfl hD (by omega) ?_
    try dsimp only
    refine zW.aload_n (pc' := 191) dX3_command_190 rfl rfl zg0 rfl ?_
    refine zT.get (pc' := 194) dX3_command_191 rfl f_X3_27_3 rfl ?_
    try dsimp only
    refine zW.iload_n (pc' := 195) dX3_command_194 rfl rfl (zgS (zg0)) ?_
    refine zW.iconst (pc' := 196) (nI 3) dX3_command_195 rfl (by decide) ?_
    refine zW.iaddN (pc' := 197) dX3_command_196 rfl ?_
    refine zW.aload_n (pc' := 198) dX3_command_197 rfl rfl zg0 rfl ?_
    refine zW.iconst (pc' := 199) (nI 3) dX3_command_198 rfl (by decide) ?_
    have hC5 := hC4.put (j := 5 * n + 2) (x := (pNum l 1 (pBehind l 1 p).2).1) (by omega) hC4.2.2.1.s2
    refine zT.call (pc' := 202) dX3_command_199 rfl l_X3_197 rfl rfl (w_behindS hD hC5.1 (d := 3) (by decide)) (zcc rfl zc0) rfl (Nat.le_of_ble_eq_true rfl) (Nat.le_of_ble_eq_true rfl) (Nat.le_of_ble_eq_true rfl) (fun _ T4 ⟨e1, e6, e7⟩ => ?_)
    subst e1
    have hC6 := hC5.pf e6 e7
    first | refine zT.ast1 (pc' := 203) dX3_command_202 rfl hD (by omega) ?_ | refine zT.ast4 (pc' := 203) dX3_command_202 rfl hD (by omega) ?_
    try dsimp only
    refine zW.aload_n (pc' := 204) dX3_command_203 rfl rfl zg0 rfl ?_
    refine zT.get (pc' := 207) dX3_command_204 rfl f_X3_27_3 rfl ?_
    try dsimp only
    refine zW.iload_n (pc' := 208) dX3_command_207 rfl rfl (zgS (zg0)) ?_
    refine zW.iconst (pc' := 209) (nI 4) dX3_command_208 rfl (by decide) ?_
    refine zW.iaddN (pc' := 210) dX3_command_209 rfl ?_
    refine zW.aload_n (pc' := 211) dX3_command_210 rfl rfl zg0 rfl ?_
    refine zW.iconst (pc' := 212) (nI 3) dX3_command_211 rfl (by decide) ?_
    have hC7 := hC6.put (j := 5 * n + 3) (x := (pBehind l 3 (pNum l 1 (pBehind l 1 p).2).2).1) (by omega) hC6.2.2.1.s3
    refine zT.call (pc' := 215) dX3_command_212 rfl l_X3_197 rfl rfl (w_behindS hD hC7.1 (d := 3) (by decide)) (zcc rfl zc0) rfl (Nat.le_of_ble_eq_true rfl) (Nat.le_of_ble_eq_true rfl) (Nat.le_of_ble_eq_true rfl) (fun _ T5 ⟨e1, e8, e9⟩ => ?_)
    subst e1
    have hC8 := hC7.pf e8 e9
    first | refine zT.ast1 (pc' := 216) dX3_command_215 rfl hD (by omega) ?_ | refine zT.ast4 (pc' := 216) dX3_command_215 rfl hD (by omega) ?_
    try dsimp only
    refine zW.goto 326 dX3_command_216 (by decide) ?_
    have hC9 := hC8.put (j := 5 * n + 4) (x := (pBehind l 3 (pBehind l 3 (pNum l 1 (pBehind l 1 p).2).2).2).1) (by omega) hC8.2.2.1.s4
    refine zW.vret dX3_command_326 rfl ?_
    exact hC9.out
  · subst q
    refine zW.lookup (off := 112) 219 dX3_command_107 (by decide) (by decide) (by decide) ?_
    exact two (Or.inl rfl)
  · subst q
    refine zW.lookup (off := 112) 219 dX3_command_107 (by decide) (by decide) (by decide) ?_
    exact two (Or.inr rfl)
  · subst q
    refine zW.lookup (off := 141) 248 dX3_command_107 (by decide) (by decide) (by decide) ?_
    exact one (Or.inl rfl)
  · subst q
    refine zW.lookup (off := 141) 248 dX3_command_107 (by decide) (by decide) (by decide) ?_
    exact one (Or.inr rfl)
  · subst q
    obtain ⟨h1, h2, h3, h4, h5, h6, h7, h8⟩ := hC.1
    have bad : ¬ (p.2 = 0 ∧ l[p.1]? = some 32) → zW G mX3_command 5 0 295 [.ref a.1, .int (nI (5 * n)), v2, .int (nI 116)] [.int (nI (5 * n + 1)), .ref a.2.2.2.2] (tH h0 a T1) (tQ h0 a (tCm T l n (pArgs l (116, p)))) := by
      intro q
      have hA : pArgs l (116, p) = ((116, 1, 0, 0, 0), p) := if_neg q
      rw [hA]
      refine zW.iconst (pc' := 296) (nI 1) dX3_command_295 rfl (by decide) ?_
      first | refine zT.ast1 (pc' := 297) dX3_command_296 rfl hD (by omega) ?_ | refine zT.ast4 (pc' := 297) dX3_command_296 rfl hD (by omega) ?_
      try dsimp only
      refine zW.goto 326 dX3_command_297 (by decide) ?_
      have hC3 := hC.put (j := 5 * n + 1) (x := 1) (by omega) hC.2.2.1.s1
      refine zW.vret dX3_command_326 rfl ?_
      exact hC3.out
    refine zW.lookup (off := 157) 264 dX3_command_107 (by decide) (by decide) (by decide) ?_
    refine zW.aload_n (pc' := 265) dX3_command_264 rfl rfl zg0 rfl ?_
    refine zT.get (pc' := 268) dX3_command_265 rfl f_X3_27_3 rfl ?_
    try dsimp only
    refine zW.iload_n (pc' := 269) dX3_command_268 rfl rfl (zgS (zg0)) ?_
    refine zW.iconst (pc' := 270) (nI 1) dX3_command_269 rfl (by decide) ?_
    refine zW.iaddN (pc' := 271) dX3_command_270 rfl ?_
    refine zW.aload_n (pc' := 272) dX3_command_271 rfl rfl zg0 rfl ?_
    refine zT.get (pc' := 275) dX3_command_272 rfl f_X3_176_3 rfl ?_
    try dsimp only
    rw [h5]
    refine zW.if_ge (pc' := 278) 295 dX3_command_275 rfl (by decide) (fun b1 => ?_) (fun b1 => ?_)
    · exact bad fun q => by
        rw [q.1] at b1
        exact absurd b1 (by decide)
    · have he : p.2 = 0 := (nI_elt (by omega)).mp (Int32.not_le.mp b1)
      refine zW.aload_n (pc' := 279) dX3_command_278 rfl rfl zg0 rfl ?_
      refine zT.call (pc' := 282) dX3_command_279 rfl l_X3_179 rfl rfl (w_next hD hC.1) zc0 rfl (Nat.le_of_ble_eq_true rfl) (Nat.le_of_ble_eq_true rfl) (Nat.le_of_ble_eq_true rfl) (fun _ _ ⟨e1, e2⟩ => ?_)
      subst e1; rw [e2]
      refine zW.bipush (pc' := 284) (nI 32) dX3_command_282 rfl (by decide) ?_
      refine zW.icmp_ne (pc' := 287) 295 dX3_command_284 rfl (by decide) (fun b2 => ?_) (fun b2 => ?_)
      · exact bad fun q => b2 ((pAt_eq h8 (by decide)).mpr q.2)
      · have hA : pArgs l (116, p) = ((116, (pBehind l 3 p).1, 0, 0, 0), (pBehind l 3 p).2) := if_pos (show p.2 = 0 ∧ l[p.1]? = some 32 from ⟨he, (pAt_eq h8 (by decide)).mp b2⟩)
        rw [hA]
        refine zW.aload_n (pc' := 288) dX3_command_287 rfl rfl zg0 rfl ?_
        refine zW.iconst (pc' := 289) (nI 3) dX3_command_288 rfl (by decide) ?_
        refine zT.call (pc' := 292) dX3_command_289 rfl l_X3_197 rfl rfl (w_behindS hD hC.1 (d := 3) (by decide)) (zcc rfl zc0) rfl (Nat.le_of_ble_eq_true rfl) (Nat.le_of_ble_eq_true rfl) (Nat.le_of_ble_eq_true rfl) (fun _ T2 ⟨e1, e2, e3⟩ => ?_)
        subst e1
        have hC2 := hC.pf e2 e3
        refine zW.goto 296 dX3_command_292 (by decide) ?_
        first | refine zT.ast1 (pc' := 297) dX3_command_296 rfl hD (by omega) ?_ | refine zT.ast4 (pc' := 297) dX3_command_296 rfl hD (by omega) ?_
        try dsimp only
        refine zW.goto 326 dX3_command_297 (by decide) ?_
        have hC3 := hC2.put (j := 5 * n + 1) (x := (pBehind l 3 p).1) (by omega) hC2.2.2.1.s1
        refine zW.vret dX3_command_326 rfl ?_
        exact hC3.out
  · subst q
    have hA : pArgs l (114, p) = ((114, (pBehind l 1 p).1, (pBehind l 3 (pBehind l 1 p).2).1, 0, 0), (pBehind l 3 (pBehind l 1 p).2).2) := rfl
    rw [hA]
    refine zW.lookup (off := 193) 300 dX3_command_107 (by decide) (by decide) (by decide) ?_
    refine zW.aload_n (pc' := 301) dX3_command_300 rfl rfl zg0 rfl ?_
    refine zT.get (pc' := 304) dX3_command_301 rfl f_X3_27_3 rfl ?_
    try dsimp only
    refine zW.iload_n (pc' := 305) dX3_command_304 rfl rfl (zgS (zg0)) ?_
    refine zW.iconst (pc' := 306) (nI 1) dX3_command_305 rfl (by decide) ?_
    refine zW.iaddN (pc' := 307) dX3_command_306 rfl ?_
    refine zW.aload_n (pc' := 308) dX3_command_307 rfl rfl zg0 rfl ?_
    refine zW.iconst (pc' := 309) (nI 1) dX3_command_308 rfl (by decide) ?_
    refine zT.call (pc' := 312) dX3_command_309 rfl l_X3_197 rfl rfl (w_behindS hD hC.1 (d := 1) (by decide)) (zcc rfl zc0) rfl (Nat.le_of_ble_eq_true rfl) (Nat.le_of_ble_eq_true rfl) (Nat.le_of_ble_eq_true rfl) (fun _ T2 ⟨e1, e2, e3⟩ => ?_)
    subst e1
    have hC2 := hC.pf e2 e3
    first | refine zT.ast1 (pc' := 313) dX3_command_312 rfl hD (by omega) ?_ | refine zT.ast4 (pc' := 313) dX3_command_312 rfl hD (by omega) ?_
    try dsimp only
    refine zW.aload_n (pc' := 314) dX3_command_313 rfl rfl zg0 rfl ?_
    refine zT.get (pc' := 317) dX3_command_314 rfl f_X3_27_3 rfl ?_
    try dsimp only
    refine zW.iload_n (pc' := 318) dX3_command_317 rfl rfl (zgS (zg0)) ?_
    refine zW.iconst (pc' := 319) (nI 2) dX3_command_318 rfl (by decide) ?_
    refine zW.iaddN (pc' := 320) dX3_command_319 rfl ?_
    refine zW.aload_n (pc' := 321) dX3_command_320 rfl rfl zg0 rfl ?_
    refine zW.iconst (pc' := 322) (nI 3) dX3_command_321 rfl (by decide) ?_
    have hC3 := hC2.put (j := 5 * n + 1) (x := (pBehind l 1 p).1) (by omega) hC2.2.2.1.s1
    refine zT.call (pc' := 325) dX3_command_322 rfl l_X3_197 rfl rfl (w_behindS hD hC3.1 (d := 3) (by decide)) (zcc rfl zc0) rfl (Nat.le_of_ble_eq_true rfl) (Nat.le_of_ble_eq_true rfl) (Nat.le_of_ble_eq_true rfl) (fun _ T3 ⟨e1, e4, e5⟩ => ?_)
    subst e1
    have hC4 := hC3.pf e4 e5
    first | refine zT.ast1 (pc' := 326) dX3_command_325 rfl hD (by omega) ?_ | refine zT.ast4 (pc' := 326) dX3_command_325 rfl hD (by omega) ?_
    try dsimp only
    have hC5 := hC4.put (j := 5 * n + 2) (x := (pBehind l 3 (pBehind l 1 p).2).1) (by omega) hC4.2.2.1.s2
    refine zW.vret dX3_command_326 rfl ?_
    exact hC5.out
end
