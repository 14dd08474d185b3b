/-! ArrayList of commands -/
section
set_option maxRecDepth 100000
variable {G : zG} {M : zM} {d r pc pc' : Nat} {L st : List Value} {h h' H : zH} {Q : zR → zH → Prop} {a n al ea x it i : Nat} {es : List Nat}
theorem zW.getC {idx a : Nat} {fs : List Value} (hd : decode (zm_c M) pc = .ok (.invokevirtual idx, 3)) (hn : pc + 3 = pc') (hlk : Cond.methodLink (zm_y M).cls idx ⟨"java/lang/Object", "getClass", "()Ljava/lang/Class;"⟩ ∈ lw_tbl) (hh : h a = some (104, fs)) (hdd : 1 ≤ d) (hW : (st.map fun v => v.category).sum ≤ 8) (kq : zW G M d r pc' L (.ref (zg_a G 5) :: st) h Q) : zW G M d r pc L (.ref a :: st) h Q := sorry
theorem nI_sh1_all : ∀ n : Fin 256, nI n.1 >>> (nI 1 &&& 31) = nI (n.1 / 2) := sorry
/-- the slots of a list of commands -/
def eTab (es : List Nat) (t : Nat) : List Value := es.map Value.ref ++ List.replicate t .null
theorem eTab_len {t : Nat} : (eTab es t).length = es.length + t := sorry
theorem eTab_get {t : Nat} (h : es[i]? = some x) : (eTab es t)[i]? = some (.ref x) := sorry
theorem eTab_set {t : Nat} : (eTab es (t + 1)).set es.length (.ref x) = eTab (es ++ [x]) t := sorry
/-- the list: its object, its array -/
def cAL (G : zG) (h : zH) (al ea : Nat) (es : List Nat) : Prop := ∃ (mc : Int32) (kk t : Nat), h al = some (11, [.int mc, .ref ea, .int (nI es.length)]) ∧ h ea = some (kk, eTab es t) ∧ (kk = 104 ∧ 0 < es.length ∨ ea = zg_a G 3 ∧ kk = 1104 ∧ es = [] ∧ t = 0) ∧ es.length + t ≤ 100 ∧ ∀ x ∈ es, ∃ l, h x = some (5, l)
theorem zObj_cmd {l : List Value} : zObj ((5, l) : zC) := sorry
theorem w_alSize (k : cAL G h al ea es) : zK G mJ39_size 1 0 [.ref al] h (zPu h (some (.int (nI es.length)))) := sorry
/-- what is known of the empty array -/
def zkE (G : zG) : Prop := zg_k G (zg_a G 3) = some (1104, [])
theorem w_alInit (hk : zkn G h) (hE : zkE G) (ha : h al = some (11, [.int 0, .null, .int 0])) : zK G mJ39_init 3 0 [.ref al] h (zO fun o h' => o = none ∧ cAL G h' al (zg_a G 3) [] ∧ zfr (fun b => b = al) h h') := sorry
/-- a bigger array -/
theorem w_copyO {N u : Nat} (hea : h ea = some (104, eTab es 0)) (hN : es.length ≤ N) (hN2 : N ≤ 100) (hu : 1 ≤ u ∧ N ≤ 4 * u) (hx : ∀ x ∈ es, ∃ l, h x = some (5, l)) : zK G mJ17_copyOf_2 3 u [.ref ea, .int (nI N)] h (zO fun o h' => ∃ b, o = some (.ref b) ∧ h b = none ∧ h' = zup h b (104, eTab es (N - es.length)) ∧ h' b = some (104, eTab es (N - es.length))) := sorry
theorem es5_put {k : Nat} {l : List Value} {c : zC} {b : Nat} (hy : ∀ y ∈ es, ∃ l, h y = some (5, l)) (e : h' = zup h b c) (hb : h b = some (k, l)) (hk : 5 ≠ k) : ∀ y ∈ es, ∃ l, h' y = some (5, l) := sorry
theorem cAL.kk {kk : Nat} {ea : Nat} {t : Nat} (hkk : kk = 104 ∧ 0 < es.length ∨ ea = zg_a G 3 ∧ kk = 1104 ∧ es = [] ∧ t = 0) : 104 ≤ kk % 1000 := sorry
/-- the list grows: behind it there is room for one more -/
abbrev cGr (h : zH) (al : Nat) (mc : Int32) (es : List Nat) : zR → zH → Prop := zO fun o h' => ∃ (b t : Nat), o = some (.ref b) ∧ h b = none ∧ h' al = some (11, [.int mc, .ref b, .int (nI es.length)]) ∧ h' b = some (104, eTab es (t + 1)) ∧ es.length + (t + 1) ≤ 100 ∧ zfr (fun c => c = al) h h'
theorem w_alGrow2 {mc : Int32} {kk : Nat} (ha : h al = some (11, [.int mc, .ref ea, .int (nI es.length)])) (hea : h ea = some (kk, eTab es 0)) (hkk : kk = 104 ∧ 0 < es.length ∨ ea = zg_a G 3 ∧ kk = 1104 ∧ es = [] ∧ 0 = 0) (hx : ∀ x ∈ es, ∃ l, h x = some (5, l)) (hn : es.length ≤ 61) : zK G mJ39_grow_2 4 25 [.ref al, .int (nI (es.length + 1))] h (cGr h al mc es) := sorry
theorem w_alGrow {mc : Int32} {kk : Nat} (ha : h al = some (11, [.int mc, .ref ea, .int (nI es.length)])) (hea : h ea = some (kk, eTab es 0)) (hkk : kk = 104 ∧ 0 < es.length ∨ ea = zg_a G 3 ∧ kk = 1104 ∧ es = [] ∧ 0 = 0) (hx : ∀ x ∈ es, ∃ l, h x = some (5, l)) (hn : es.length ≤ 61) : zK G mJ39_grow 5 25 [.ref al] h (cGr h al mc es) := sorry
abbrev cAdd (G : zG) (h : zH) (al ea : Nat) (es : List Nat) (x : Nat) (ov : Option Value) : zR → zH → Prop := zO fun o h' => o = ov ∧ ∃ ea', cAL G h' al ea' (es ++ [x]) ∧ ((ea' = ea ∧ 0 < es.length) ∨ h ea' = none) ∧ zfr (fun c => c = al ∨ (c = ea ∧ 0 < es.length)) h h'
theorem w_alAdd2 {l : List Value} (k : cAL G h al ea es) (hn : es.length ≤ 61) (hxx : h x = some (5, l)) : zK G mJ39_add_2 6 25 [.ref al, .ref x, .ref ea, .int (nI es.length)] h (cAdd G h al ea es x none) := sorry
theorem w_alAdd {l : List Value} (k : cAL G h al ea es) (hn : es.length ≤ 61) (hxx : h x = some (5, l)) : zK G mJ39_add 7 25 [.ref al, .ref x] h (cAdd G h al ea es x (some (.int (nI 1)))) := sorry
/-- the list's iterator at i -/
def cAIt (h : zH) (it al : Nat) (mc : Int32) (i : Nat) : Prop := ∃ lr : Int32, h it = some (12, [.int (nI i), .int lr, .int mc, .ref al])
theorem w_alIter {mc : Int32} {n : Nat} (ha : h al = some (11, [.int mc, .ref ea, .int (nI n)])) : zK G mJ39_iterator 3 1 [.ref al] h (zO fun o h' => ∃ it, o = some (.ref it) ∧ h it = none ∧ cAIt h' it al mc 0 ∧ zfr (fun _ => False) h h') := sorry
theorem w_aiHas {mc : Int32} {n i : Nat} (ha : h al = some (11, [.int mc, .ref ea, .int (nI n)])) (hi : cAIt h it al mc i) (hn : n ≤ 100 ∧ i ≤ n) : zK G mJ23_hasNext 1 0 [.ref it] h (zPu h (some (.int (nI (if i = n then 0 else 1))))) := sorry
theorem w_aiNext {mc : Int32} {t : Nat} {kk : Nat} (ha : h al = some (11, [.int mc, .ref ea, .int (nI es.length)])) (hea : h ea = some (kk, eTab es t)) (hkk : 104 ≤ kk % 1000) (hb : es.length + t ≤ 100) (hi : cAIt h it al mc i) (hx : es[i]? = some x) : zK G mJ23_next 2 0 [.ref it] h (zO fun o h' => o = some (.ref x) ∧ cAIt h' it al mc (i + 1) ∧ zfr (fun b => b = it) h h') := sorry
end

