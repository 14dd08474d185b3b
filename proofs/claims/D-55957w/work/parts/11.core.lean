/-! THE JUDGEMENT: a method's run over a heap as a function; all context of the machine is inside. -/
section
set_option maxRecDepth 100000
abbrev zC : Type := Nat × List Value
abbrev zH : Type := Nat → Option zC
/-- classes' ids and slots; the heap at the law's start; the launch; old cells that are known -/
abbrev zG : Type := va_G × Heap × Launch × zH × (Nat → Nat)
abbrev zM : Type := MethodName × ByteArray × Nat × Option FieldType × List (Nat × Nat × Nat × Nat)
abbrev zR : Type := Option Value ⊕ String
abbrev zg_D (G : zG) : va_G := G.1
abbrev zg_H (G : zG) : Heap := G.2.1
abbrev zg_l (G : zG) : Launch := G.2.2.1
abbrev zg_k (G : zG) : zH := G.2.2.2.1
/-- addresses of the start: static arrays and objects, String constants -/
abbrev zg_a (G : zG) : Nat → Nat := G.2.2.2.2
abbrev zm_y (M : zM) : MethodName := M.1
abbrev zm_c (M : zM) : ByteArray := M.2.1
abbrev zm_n (M : zM) : Nat := M.2.2.1
abbrev zm_r (M : zM) : Option FieldType := M.2.2.2.1
abbrev zm_h (M : zM) : List (Nat × Nat × Nat × Nat) := M.2.2.2.2
/-- the lambdas' sites -/
def zLm (D : va_G) (_ : Heap) (ad : Nat → Nat) (s : State) : Prop := ∀ (i : Nat) x, lsites[i]? = some x → lSite (D.1 (50 + i)) (ad (50 + i)) s x
theorem zLm.moved {D : va_G} {H : Heap} {ad : Nat → Nat} {s U : State} (hW : s.WarmedH U.vm) (h : zLm D H ad s) : zLm D H ad U := fun i x q => (h i x q).moved hW
def zup (h : zH) (a : Nat) (c : zC) : zH := fun b => if b = a then some c else h b
theorem zup_s {h : zH} {a : Nat} {c : zC} : zup h a c a = some c := if_pos rfl
theorem zup_n {h : zH} {a b : Nat} {c : zC} (hb : b ≠ a) : zup h a c b = h b := if_neg hb
/-- types of arrays by number -/
def zty (k : Nat) : FieldType := if k = 100 then .int else if k = 101 then .long else if k = 102 then .char else if k = 103 then .byte else if k = 105 then .object "java/lang/Integer" else .object "java/lang/Object"
/-- an object's cell; of one that stood at the start it is not known that the machine keeps nothing beside it -/
def zOB (kk a : Nat) (cC : ClassId) (N : Nat) (iS : Nat → Nat) (H : Heap) (V : Nat → Value) : Prop := ∃ cell : Cell, H[a]? = some cell ∧ cell.cls = cC ∧ (cell.vm.isStatics = false ∧ cell.vm ≠ .unknown ∧ (kk < 1000 → cell.vm = .none)) ∧ ∀ k, k < N → cell.slots[iS k]? = some (V k)
theorem zOB.of {kk a N : Nat} {cC : ClassId} {iS : Nat → Nat} {H : Heap} {V : Nat → Value} (h : t_OB a cC N iS H V) : zOB kk a cC N iS H V := by
  obtain ⟨cell, h1, h2, h3, h4⟩ := h
  exact ⟨cell, h1, h2, ⟨by rw [h3]; rfl, by rw [h3]; exact (fun q => by cases q), fun _ => h3⟩, h4⟩
/-- an array's places; of one that stood at the start only the first ones are known, and what its length says -/
def zAr (kk : Nat) (s : Array Value) (l : List Value) : Prop := (kk < 1000 → s.toList = l) ∧ (∃ t, s.toList = l ++ t) ∧ s.size.toInt32 = Int32.ofNat l.length
theorem zAr.of {kk : Nat} {s : Array Value} {l : List Value} (e : s.toList = l) : zAr kk s l := ⟨fun _ => e, ⟨[], by rw [List.append_nil]; exact e⟩, by rw [← e, Array.length_toList]⟩
/-- a known cell, in the machine's heap; numbers: below 50 a class of zcl, 50 to 99 a lambda's, 100 to 104 arrays; 1000 more: of the start -/
def zAt (G : zG) (s : State) (a : Nat) (c : zC) (H : Heap) : Prop :=
  if c.1 % 1000 < 50 then ∃ r : vw_C, zcl[c.1 % 1000]? = some r ∧ c.2.length = r.2.2 ∧ zOB c.1 a ((zg_D G).1 (c.1 % 1000)) r.2.2 ((zg_D G).2 (c.1 % 1000)) H (vp_V c.2)
  else if c.1 % 1000 < 100 then ∃ cell : Cell, H[a]? = some cell ∧ cell.cls = (zg_D G).1 (c.1 % 1000) ∧ cell.vm = .none ∧ cell.slots.toList = c.2
  else ∃ cell : Cell, H[a]? = some cell ∧ s.isArrayOf cell (zty (c.1 % 1000)) ∧ cell.vm ≠ .unknown ∧ zAr c.1 cell.slots c.2 ∧ (c.1 < 1000 → va_RA s cell.cls (zty (c.1 % 1000)))
def zRep (G : zG) (s : State) (h : zH) (H : Heap) : Prop := ∀ a c, h a = some c → zAt G s a c H ∧ (c.1 < 1000 → (zg_H G).size ≤ a)
def zHp (G : zG) (s : State) (h : zH) (H : Heap) : Prop := zRep G s h H ∧ (zg_H G).size ≤ H.size ∧ ∀ q : Nat, q < (zg_H G).size → H[q]? = (zg_H G)[q]?
/-- which words ride -/
def zgood (w : Cond) : Bool := goodWord w || w.tabsOnly || (match w with | .fieldLinkNest .. => true | .methodLinkNest .. => true | .arrayOver (.object _) => true | _ => false)
theorem zword_moved {w : Cond} {A A' : Array Value} {s U : State} (hg : zgood w = true) (hW : s.WarmedH U.vm) (h : w.before A s = true) : w.before A' U = true := by
  unfold zgood at hg
  rw [Bool.or_eq_true, Bool.or_eq_true] at hg
  rcases hg with (hg | hg) | hg
  · exact word_at hW (good_of_word hg) h
  · have h1 := Cond.tabsOnly_warm (args' := A') (T := U) hW w hg h
    rwa [State.setVm_self] at h1
  · cases w <;> first | (cases hg; done) | skip
    all_goals first | (rename_i t; cases t <;> first | (cases hg; done) | exact va_AO.use (va_AO.moved hW.alike (va_AO.of h))) | exact va_tabs rfl (rfl : (s.setVm U.vm).vm = U.vm) (Cond.fieldLinkNest_warmed (args := A) hW h) | exact va_tabs rfl (rfl : (s.setVm U.vm).vm = U.vm) (Cond.methodLinkNest_warmed (args := A) hW h)
theorem zAt.kept {G : zG} {s : State} {a : Nat} {c : zC} {H H1 : Heap} (h : zAt G s a c H) (hq : H1[a]? = H[a]?) : zAt G s a c H1 := by
  unfold zAt at h ⊢
  split
  · rename_i h0
    rw [if_pos h0] at h
    obtain ⟨r, h1, h2, cell, h3, h4⟩ := h
    exact ⟨r, h1, h2, cell, hq.trans h3, h4⟩
  · rename_i h0
    rw [if_neg h0] at h
    split
    · rename_i h5
      rw [if_pos h5] at h
      obtain ⟨cell, h1, h2⟩ := h
      exact ⟨cell, hq.trans h1, h2⟩
    · rename_i h5
      rw [if_neg h5] at h
      obtain ⟨cell, h1, h2⟩ := h
      exact ⟨cell, hq.trans h1, h2⟩
theorem zAt.lt {G : zG} {s : State} {a : Nat} {c : zC} {H : Heap} (h : zAt G s a c H) : a < H.size := by
  unfold zAt at h
  split at h
  · obtain ⟨r, h1, h2, cell, h3, -⟩ := h
    exact (Array.getElem?_eq_some_iff.mp h3).1
  · split at h
    · obtain ⟨cell, h3, -⟩ := h
      exact (Array.getElem?_eq_some_iff.mp h3).1
    · obtain ⟨cell, h3, -⟩ := h
      exact (Array.getElem?_eq_some_iff.mp h3).1
theorem zAt.moved {G : zG} {u U : State} {a : Nat} {c : zC} {H : Heap} (hvm : u.vm.Alike U.vm) (h : zAt G u a c H) : zAt G U a c H := by
  unfold zAt at h ⊢
  split
  · rename_i h0
    rw [if_pos h0] at h
    exact h
  · rename_i h0
    rw [if_neg h0] at h
    split
    · rename_i h5
      rw [if_pos h5] at h
      exact h
    · rename_i h5
      rw [if_neg h5] at h
      obtain ⟨cell, h1, h2, h3, h4, h6⟩ := h
      exact ⟨cell, h1, State.isArrayOf_alike hvm h2, h3, h4, fun q => (h6 q).moved hvm⟩
theorem zRep.moved {G : zG} {u U : State} {h : zH} {H : Heap} (hvm : u.vm.Alike U.vm) (hR : zRep G u h H) : zRep G U h H := fun a c q => ⟨(hR a c q).1.moved hvm, (hR a c q).2⟩
theorem zHp.moved {G : zG} {u U : State} {h : zH} {H : Heap} (hvm : u.vm.Alike U.vm) (hR : zHp G u h H) : zHp G U h H := ⟨hR.1.moved hvm, hR.2⟩
/-- h1 knows no more than h -/
def zle (h1 h : zH) : Prop := ∀ a c, h1 a = some c → h a = some c
theorem zle.rf {h : zH} : zle h h := fun _ _ q => q
theorem zle.tr {h1 h2 h3 : zH} (a : zle h1 h2) (b : zle h2 h3) : zle h1 h3 := fun x c q => b x c (a x c q)
theorem zHp.sub {G : zG} {s : State} {h h1 : zH} {H : Heap} (hs : zle h1 h) (hR : zHp G s h H) : zHp G s h1 H := ⟨fun a c q => hR.1 a c (hs a c q), hR.2⟩
def zfree (G : zG) : Addr → Prop := fun q => (zg_H G).size ≤ q
/-- the statics that are read: class, name, type, value -/
def zstat (ad : Nat → Nat) : List (String × String × String × Value) := [("java/lang/String", "COMPACT_STRINGS", "Z", .int 1), ("java/lang/Integer$IntegerCache", "high", "I", .int 127), ("java/lang/Integer$IntegerCache", "cache", "[Ljava/lang/Integer;", .ref (ad 0)), ("java/lang/Integer", "DigitOnes", "[B", .ref (ad 1)), ("java/lang/Integer", "DigitTens", "[B", .ref (ad 2)), ("java/util/ArrayList", "DEFAULTCAPACITY_EMPTY_ELEMENTDATA", "[Ljava/lang/Object;", .ref (ad 3)), ("java/util/ImmutableCollections", "EMPTY", "Ljava/lang/Object;", .ref (ad 4)), ("java/util/ImmutableCollections", "$assertionsDisabled", "Z", .int 1)]
/-- the String constants that are loaded: class, pool entry, text; the i-th lies at address 100 + i of the table -/
def zlit : List (String × Nat × String) := [("ClaimRegistry", 366, " @"), ("ClaimRegistry", 371, " s"), ("ClaimRegistry", 373, " c"), ("ClaimRegistry", 375, " !"), ("ClaimRegistry", 398, "add"), ("ClaimRegistry", 403, "sign"), ("ClaimRegistry", 405, "countersign"), ("ClaimRegistry", 407, "settle"), ("ClaimRegistry", 408, "tick"), ("ClaimRegistry", 409, "audit"), ("ClaimRegistry$Parser", 7, "add"), ("ClaimRegistry$Parser", 9, "sign"), ("ClaimRegistry$Parser", 11, "countersign"), ("ClaimRegistry$Parser", 13, "settle"), ("ClaimRegistry$Parser", 15, "tick"), ("ClaimRegistry$Parser", 17, "audit"), ("ClaimRegistry$Parser", 19, "rate"), ("java/lang/StringLatin1", 151, "")]
/-- exceptions that are not caught as one another -/
def zNc : List (String × String) := [("java/lang/IllegalStateException", "java/lang/IllegalArgumentException"), ("java/util/NoSuchElementException", "java/lang/IllegalArgumentException"), ("java/util/NoSuchElementException", "java/lang/IllegalStateException"), ("java/lang/IllegalArgumentException", "java/util/NoSuchElementException"), ("java/lang/IllegalStateException", "java/util/NoSuchElementException")]
def zEx (G : zG) (s : State) : Prop :=
  vx_Zq Bundle.tN "UNASSIGNED_STACK" Bundle.steD (zfree G) s (zg_H G) ∧ vx_Zq Bundle.tN "SUPPRESSED_SENTINEL" Bundle.listD (zfree G) s (zg_H G) ∧
  (∀ (i : Nat) z, (zstat (zg_a G))[i]? = some z → va_Z z.1 z.2.1 z.2.2.1 z.2.2.2 (zfree G) s (zg_H G)) ∧
  (va_Zq "jdk/internal/util/Preconditions" "SIOOBE_FORMATTER" "Ljava/util/function/BiFunction;" (zfree G) s (zg_H G) ∧ va_Mi "[Ljava/lang/Object;" (zg_a G 5) s ∧ (∀ w ∈ defaultWords_1, zgood w = true → w.before #[] s = true) ∧ (∀ z ∈ zNc, va_Nc z.1 z.2 s) ∧ s.vm.findClass "java/lang/IllegalStateException" = some (G.1.1 70)) ∧
  (∀ (i : Nat) z, zlit[i]? = some z → vk_R z.1 z.2.1 z.2.2 (zg_a G (100 + i)) s) ∧ zLm G.1 G.2.1 (zg_a G) s
theorem zEx.moved {G : zG} {s U : State} (hW : s.WarmedH U.vm) (h : zEx G s) : zEx G U :=
  ⟨h.1.moved hW.alike, h.2.1.moved hW.alike, fun i z hz => (h.2.2.1 i z hz).moved hW.alike, ⟨h.2.2.2.1.1.moved hW.alike, h.2.2.2.1.2.1.moved hW.alike, fun w hw hg => zword_moved hg hW (h.2.2.2.1.2.2.1 w hw hg), fun z hz => (h.2.2.2.1.2.2.2.1 z hz).moved hW.alike, by rw [hW.alike.findClass]; exact h.2.2.2.1.2.2.2.2⟩, fun i z hz => (h.2.2.2.2.1 i z hz).warm hW, h.2.2.2.2.2.moved hW⟩
/-- the tables, at a state -/
def zTb (G : zG) (s : State) : Prop :=
  (∀ w ∈ lw_tbl, zgood w = true → w.before #[] s = true) ∧ (∀ (k : Nat) (r : vw_C), zcl[k]? = some r → u_Kn s r.1 r.2.1 r.2.2 ((zg_D G).1 k) ((zg_D G).2 k)) ∧
  (∀ a c, (zg_k G) a = some c → zAt G s a c (zg_H G) ∧ 1000 ≤ c.1) ∧ (zg_l G).stackTraces = false ∧ zEx G s
theorem zTb.moved {G : zG} {s U : State} (hW : s.WarmedH U.vm) (h : zTb G s) : zTb G U :=
  ⟨fun w hw hg => zword_moved hg hW (h.1 w hw hg), fun k r hk => u_Kn_moved hW.alike (h.2.1 k r hk), fun a c q => ⟨(h.2.2.1 a c q).1.moved hW.alike, (h.2.2.1 a c q).2⟩, h.2.2.2.1, h.2.2.2.2.moved hW⟩
theorem zTb.w {G : zG} {s : State} (h : zTb G s) {w : Cond} (hw : w ∈ lw_tbl) (hg : zgood w = true) {A : Array Value} : w.before A s = true := zword_moved hg (State.WarmedH.refl s) (h.1 w hw hg)
/-- locals by place; a place that isn't set holds zho -/
def zho : Value := .retAddr 0
def zL (ls : Array Slot) (n : Nat) (L : List Value) : Prop := ls.size = n ∧ L.length = n ∧ lv_wf ls ∧ (∀ v ∈ L, v.category = 1) ∧ ∀ (i : Nat) (v : Value), L[i]? = some v → v ≠ zho → ls[i]? = some (.val v)
def zpr (L : List Value) : List (Nat × Value) := (List.range L.length).filterMap fun i => (L[i]?).bind fun v => if v = zho then none else some (i, v)
theorem zpr_mem {L : List Value} {q : Nat × Value} : q ∈ zpr L ↔ L[q.1]? = some q.2 ∧ q.2 ≠ zho := by
  unfold zpr
  rw [List.mem_filterMap]
  constructor
  · rintro ⟨i, -, h⟩
    cases hv : L[i]? with
    | none => rw [hv] at h; cases h
    | some v =>
      rw [hv, Option.bind_some] at h
      by_cases hz : v = zho
      · rw [if_pos hz] at h; cases h
      · rw [if_neg hz] at h
        cases h
        exact ⟨hv, hz⟩
  · rintro ⟨h1, h2⟩
    refine ⟨q.1, List.mem_range.mpr (List.getElem?_eq_some_iff.mp h1).1, ?_⟩
    rw [h1, Option.bind_some, if_neg h2]
theorem zL.lv {ls : Array Slot} {n : Nat} {L : List Value} (h : zL ls n L) : lv_has ls n (zpr L) := ⟨h.1, h.2.2.1, fun q hq => h.2.2.2.2 q.1 q.2 (zpr_mem.mp hq).1 (zpr_mem.mp hq).2⟩
theorem zL.at {ls : Array Slot} {n : Nat} {L : List Value} (h : zL ls n L) {i : Nat} {v : Value} (hv : L[i]? = some v) (hn : v ≠ zho) : ls[i]? = some (.val v) := h.2.2.2.2 i v hv hn
theorem zL.set {ls ls' : Array Slot} {n : Nat} {L : List Value} (h : zL ls n L) {i : Nat} {x : Value} (hi : i < n) (hc : x.category = 1)
    (h' : lv_has ls' n ((i, x) :: (zpr L).filter (fun q => !(q.1 == i) && !(q.1 + 1 == i && q.2.category == 2)))) : zL ls' n (L.set i x) := by
  refine ⟨h'.1, by rw [List.length_set]; exact h.2.1, h'.2.1, fun v hv => ?_, fun j v hj hz => ?_⟩
  · rcases List.mem_or_eq_of_mem_set hv with q | q
    · exact h.2.2.2.1 v q
    · rw [q]; exact hc
  · by_cases hji : j = i
    · subst hji
      rw [List.getElem?_set_self (by rw [h.2.1]; exact hi)] at hj
      cases hj
      exact h'.2.2 (_, _) List.mem_cons_self
    · rw [List.getElem?_set_ne (Ne.symm hji)] at hj
      refine h'.2.2 (j, v) (List.mem_cons_of_mem _ (List.mem_filter.mpr ⟨zpr_mem.mpr ⟨hj, hz⟩, ?_⟩))
      have hc1 : v.category = 1 := h.2.2.2.1 v (List.mem_of_getElem? hj)
      simp [hji, hc1]
/-- what holds of a method's activation -/
def zAct (G : zG) (M : zM) (d : Nat) (p : Program) (R : Room) (s : State) (m : MethodId) (meth : Method) (c : Code) : Prop :=
  p.tables.exec = Jvm.exec ∧ c.code = zm_c M ∧ meth.sig.returnType = zm_r M ∧ c.maxLocals = zm_n M ∧ s.vm.findClass (zm_y M).cls = some m.cls ∧ meth.locks = false ∧ c.exceptionTable.toList = tableOf (zm_h M) ∧ meth.name = (zm_y M).name ∧ zTb G s ∧ (d ≤ R.frames ∧ 128 * d ≤ R.locals) ∧ (s.methodNamed? (zm_y M) = some m) ∧ (zg_H G).size ≤ s.heap.size ∧ ∀ q : Nat, q < (zg_H G).size → s.heap[q]? = (zg_H G)[q]?
def zQc (G : zG) (Q : zR → zH → Prop) : Array Value → State → Outcome → State → Prop := fun _ _ o t => ∃ v h', o = .returned v ∧ Q (.inl v) h' ∧ zHp G t h' t.heap
def zXC (G : zG) (Q : zR → zH → Prop) : String → State → State → Prop := fun E _ t => ∃ h', Q (.inr E) h' ∧ zHp G t h' t.heap
/-- THE JUDGEMENT: method M with depth d and room r left stands at pc with locals L, stack st, heap h, and comes to an end with Q -/
def zW (G : zG) (M : zM) (d r pc : Nat) (L : List Value) (st : List Value) (h : zH) (Q : zR → zH → Prop) : Prop :=
  ∀ (p : Program) (e : Env) (R : Room) (s : State) (m : MethodId) (args : Array Value) (below : List Frame) (meth : Method) (c : Code), zAct G M d p R s m meth c →
   ∀ (H : Heap) (locs : List Loc) (cells slots : Nat) (ls : Array Slot), zHp G s h H → (∀ z ∈ locs, (zg_H G).size ≤ z.base) → cells + r ≤ R.cells → slots + 4 * r ≤ R.slots → zL ls (zm_n M) L →
    W p (zg_l G) e R s m args below meth c H locs cells slots (vx_MQ below (zQc G Q) (zXC G Q) args s R.cells R.slots (zfree G)) (F0 m pc ls st)
/-- the same with an exception of class E thrown at pc -/
def zX (G : zG) (M : zM) (d r pc : Nat) (L : List Value) (E : String) (h : zH) (Q : zR → zH → Prop) : Prop :=
  ∀ (p : Program) (e : Env) (R : Room) (s : State) (m : MethodId) (args : Array Value) (below : List Frame) (meth : Method) (c : Code), zAct G M d p R s m meth c →
   ∀ (H : Heap) (locs : List Loc) (cells slots : Nat) (ls : Array Slot) (rest : List Value) (q : Addr) (ce : Cell), zHp G s h H → (∀ z ∈ locs, (zg_H G).size ≤ z.base) → cells + r ≤ R.cells → slots + 4 * r ≤ R.slots → zL ls (zm_n M) L →
    H[q]? = some ce → ce.vm = .none → s.vm.findClass E = some ce.cls →
    vx_W p (zg_l G) e R s m args below meth c H locs cells slots (vx_MQ below (zQc G Q) (zXC G Q) args s R.cells R.slots (zfree G)) (F0 m pc ls rest) q
/-- a method's contract: the judgement at its entry -/
def zK (G : zG) (M : zM) (d r : Nat) (As : List Value) (h : zH) (Q : zR → zH → Prop) : Prop := zW G M d r 0 (As ++ List.replicate (zm_n M - As.length) zho) [] h Q
theorem zW.post {G : zG} {M : zM} {d r pc : Nat} {L st : List Value} {h : zH} {Q Q1 : zR → zH → Prop} (k : zW G M d r pc L st h Q1) (hQ : ∀ o h', Q1 o h' → Q o h') : zW G M d r pc L st h Q := by
  intro p e R s m args below meth c A H locs cells slots ls hH hl hc hs hL T hT X
  obtain ⟨t, a1, o, b1, b2, b3⟩ := k p e R s m args below meth c A H locs cells slots ls hH hl hc hs hL T hT X
  refine ⟨t, a1, o, b1, b2, ?_⟩
  rcases b3 with ⟨⟨v, h', e1, e2, e3⟩, e4⟩ | ⟨q, e0, E, ce, L', ⟨h', e1, e2⟩, e3⟩
  · exact Or.inl ⟨⟨v, h', e1, hQ _ _ e2, e3⟩, e4⟩
  · exact Or.inr ⟨q, e0, E, ce, L', ⟨h', hQ _ _ e1, e2⟩, e3⟩
theorem zW.drop {G : zG} {M : zM} {d r pc : Nat} {L st : List Value} {h h1 : zH} {Q : zR → zH → Prop} (hs : zle h1 h) (k : zW G M d r pc L st h1 Q) : zW G M d r pc L st h Q :=
  fun p e R s m args below meth c A H locs cells slots ls hH hl hc hs' hL => k p e R s m args below meth c A H locs cells slots ls (hH.sub hs) hl hc hs' hL
theorem zW.pay {G : zG} {M : zM} {d r r1 pc : Nat} {L st : List Value} {h : zH} {Q : zR → zH → Prop} (k : zW G M d r1 pc L st h Q) (hr : r1 ≤ r) : zW G M d r pc L st h Q :=
  fun p e R s m args below meth c A H locs cells slots ls hH hl hc hs' hL => k p e R s m args below meth c A H locs cells slots ls hH hl (by omega) (by omega) hL
theorem zW.deep {G : zG} {M : zM} {d d1 r pc : Nat} {L st : List Value} {h : zH} {Q : zR → zH → Prop} (k : zW G M d1 r pc L st h Q) (hd : d1 ≤ d) : zW G M d r pc L st h Q := by
  intro p e R s m args below meth c A
  obtain ⟨a1, a2, a3, a4, a5, a6, a7, a8, a9, a10, a11⟩ := A
  exact k p e R s m args below meth c ⟨a1, a2, a3, a4, a5, a6, a7, a8, a9, ⟨by omega, by omega⟩, a11⟩
/-- an old cell that is known -/
theorem zW.old {G : zG} {M : zM} {d r pc : Nat} {L st : List Value} {h : zH} {Q : zR → zH → Prop} {a : Nat} {c0 : zC} (ha : zg_k G a = some c0) (k : zW G M d r pc L st (zup h a c0) Q) : zW G M d r pc L st h Q := by
  intro p e R s m args below meth c A H locs cells slots ls hH hl hc hs hL
  refine k p e R s m args below meth c A H locs cells slots ls ⟨fun b x hb => ?_, hH.2⟩ hl hc hs hL
  by_cases hba : b = a
  · subst hba
    rw [zup_s] at hb
    cases hb
    obtain ⟨-, -, -, -, -, -, -, -, hT, -⟩ := A
    obtain ⟨h1, h2⟩ := hT.2.2.1 b c0 ha
    exact ⟨h1.kept (hH.2.2 b h1.lt), fun q => absurd q (by omega)⟩
  · rw [zup_n hba] at hb
    exact hH.1 b x hb
theorem zW.congr {G : zG} {M : zM} {d r pc : Nat} {L L1 st st1 : List Value} {h h1 : zH} {Q : zR → zH → Prop} (k : zW G M d r pc L1 st1 h1 Q) (eL : L = L1) (es : st = st1) (eh : h = h1) : zW G M d r pc L st h Q := by
  subst eL; subst es; subst eh; exact k
end
