/-! ArrayDeque: seventeen slots, items from the head on -/
section
set_option maxRecDepth 100000
variable {G : zG} {M : zM} {d r pc pc' : Nat} {L st : List Value} {h h' h0 : zH} {Q : zR → zH → Prop} {a ar hd it : Nat} {its : List Nat}
def qtab (f : Nat → Option Nat) : List Value := (List.range 17).map fun i => zrf (f i)
def zuo (f : Nat → Option Nat) (k : Nat) (o : Option Nat) : Nat → Option Nat := fun i => if i = k then o else f i
theorem zuo_s {f : Nat → Option Nat} {k : Nat} {o : Option Nat} : zuo f k o k = o := sorry
theorem zuo_n {f : Nat → Option Nat} {k j : Nat} {o : Option Nat} (hj : j ≠ k) : zuo f k o j = f j := sorry
theorem qtab_len {f : Nat → Option Nat} : (qtab f).length = 17 := sorry
theorem qtab_n {f : Nat → Option Nat} : Int32.ofNat (qtab f).length = nI 17 := sorry
theorem qtab_get {f : Nat → Option Nat} {j : Nat} (hj : j < 17) : (qtab f)[j]? = some (zrf (f j)) := sorry
theorem qtab_set {f : Nat → Option Nat} {j : Nat} {o : Option Nat} : (qtab f).set j (zrf o) = qtab (zuo f j o) := sorry
theorem qtab_nul : List.replicate 17 Value.null = qtab fun _ => none := sorry
theorem nI_nn {j : Nat} (hj : j < 2 ^ 31) : ¬ nI j < 0 := sorry
theorem nI_cl {j : Nat} (hj : j < 2 ^ 31) : (nI j).toNatClampNeg = j := sorry
theorem zW.aaldQ {kk j : Nat} {f : Nat → Option Nat} (hd : decode (zm_c M) pc = .ok (.aaload, 1)) (hn : pc + 1 = pc') (hh : h a = some (kk, qtab f)) (hj : j < 17 ∧ 104 ≤ kk % 1000) (kq : zW G M d r pc' L (zrf (f j) :: st) h Q) : zW G M d r pc L (.int (nI j) :: .ref a :: st) h Q := sorry
theorem zW.aastQK {b j : Nat} {f : Nat → Option Nat} {cb : zC} (hd : decode (zm_c M) pc = .ok (.aastore, 1)) (hn : pc + 1 = pc') (hh : h a = some (104, qtab f)) (hj : j < 17) (hb : h b = some cb) (ho : zObj cb) (kq : ∀ h', h' = zup h a (104, qtab (zuo f j (some b))) → h' a = some (104, qtab (zuo f j (some b))) → zW G M d r pc' L st h' Q) : zW G M d r pc L (.ref b :: .int (nI j) :: .ref a :: st) h Q := sorry
theorem zW.aastNK {j : Nat} {f : Nat → Option Nat} (hd : decode (zm_c M) pc = .ok (.aastore, 1)) (hn : pc + 1 = pc') (hh : h a = some (104, qtab f)) (hj : j < 17) (kq : ∀ h', h' = zup h a (104, qtab (zuo f j none)) → h' a = some (104, qtab (zuo f j none)) → zW G M d r pc' L st h' Q) : zW G M d r pc L (.null :: .int (nI j) :: .ref a :: st) h Q := sorry
theorem zW.anewK {idx N u : Nat} {n : Int32} {fs : List Value} (hd : decode (zm_c M) pc = .ok (.anewarray idx, 3)) (hn : pc + 3 = pc') (hlk : Cond.classLink (zm_y M).cls idx "java/lang/Object" ∈ lw_tbl) (hov : Cond.arrayOver (.object "java/lang/Object") ∈ lw_tbl) (hn0 : ¬ n < 0) (hN : n.toNatClampNeg = N) (hb : N * 4 ≤ 536870912) (hu : 1 ≤ u ∧ N ≤ 4 * u) (hf : List.replicate N Value.null = fs) (kq : ∀ a h', h a = none → h' = zup h a (104, fs) → h' a = some (104, fs) → zW G M d r pc' L (.ref a :: st) h' Q) : zW G M d (r + u) pc L (.int n :: st) h Q := sorry
/-- deque a, its slots ar, the head's place, the items -/
def cDQ (h : zH) (a ar hd : Nat) (its : List Nat) : Prop := (hd < 17 ∧ its.length ≤ 16) ∧ h a = some (9, [.ref ar, .int (nI hd), .int (nI ((hd + its.length) % 17))]) ∧ ∃ f, h ar = some (104, qtab f) ∧ ∀ i x, its[i]? = some x → f ((hd + i) % 17) = some x
def cDf (a ar : Nat) : Nat → Prop := fun b => b = a ∨ b = ar
theorem cDQ.mv (hQ : cDQ h a ar hd its) (z : ∀ b k l, (b = a ∨ b = ar) → h b = some (k, l) → h' b = some (k, l)) : cDQ h' a ar hd its := sorry
theorem cDQ.fr (hQ : cDQ h a ar hd its) {A : Nat → Prop} (z : zfr A h h') (n1 : ¬ A a) (n2 : ¬ A ar) : cDQ h' a ar hd its := sorry
theorem w_dqInc {i : Nat} (hi : i < 17) : zK G mJ4_inc 1 0 [.int (nI i), .int (nI 17)] h (zPu h (some (.int (nI ((i + 1) % 17))))) := sorry
theorem w_dqDec {i : Nat} (hi : i < 17) : zK G mJ4_dec 1 0 [.int (nI i), .int (nI 17)] h (zPu h (some (.int (nI ((i + 16) % 17))))) := sorry
theorem dqSub_all : ∀ i j : Fin 17, i.1 < j.1 → ((nI i.1 - nI j.1 < 0) ∧ nI i.1 - nI j.1 + nI 17 = nI (i.1 + 17 - j.1)) := sorry
theorem w_dqSub {i j : Nat} (hi : i < 17) (hj : j < 17) : zK G mJ4_sub 1 0 [.int (nI i), .int (nI j), .int (nI 17)] h (zPu h (some (.int (nI ((i + 17 - j) % 17))))) := sorry
theorem w_dqSize (hQ : cDQ h a ar hd its) : zK G mJ4_size 2 0 [.ref a] h (zPu h (some (.int (nI its.length)))) := sorry
theorem w_dqEmpty (hQ : cDQ h a ar hd its) : zK G mJ4_isEmpty 1 0 [.ref a] h (zPu h (some (.int (nI (if its = [] then 1 else 0))))) := sorry
theorem w_dqAt {f : Nat → Option Nat} {j : Nat} (har : h ar = some (104, qtab f)) (hj : j < 17) : zK G mJ4_elementAt 1 0 [.ref ar, .int (nI j)] h (zPu h (some (zrf (f j)))) := sorry
theorem w_dqAtN {f : Nat → Option Nat} {j x : Nat} (har : h ar = some (104, qtab f)) (hj : j < 17) (hx : f j = some x) : zK G mJ4_nonNullElementAt 1 0 [.ref ar, .int (nI j)] h (zPu h (some (.ref x))) := sorry
/-- a new deque -/
theorem w_dqInit {x : Value} (ha : h a = some (9, [x, .int 0, .int 0])) : zK G mJ4_init 2 5 [.ref a] h (zO fun v h' => v = none ∧ ∃ ar, h ar = none ∧ cDQ h' a ar 0 [] ∧ zfr (fun b => b = a) h h') := sorry
theorem w_dqAddLast (hQ : cDQ h a ar hd its) (hl : its.length ≤ 15) {x : Nat} {cb : zC} (hx : h x = some cb) (hO : zObj cb) (hxa : x ≠ a) : zK G mJ4_addLast 2 0 [.ref a, .ref x] h (zO fun v h' => v = none ∧ cDQ h' a ar hd (its ++ [x]) ∧ zfr (cDf a ar) h h') := sorry
theorem w_dqAddFirst (hQ : cDQ h a ar hd its) (hl : its.length ≤ 15) {x : Nat} {cb : zC} (hx : h x = some cb) (hO : zObj cb) (hxa : x ≠ a) : zK G mJ4_addFirst 2 0 [.ref a, .ref x] h (zO fun v h' => v = none ∧ cDQ h' a ar ((hd + 16) % 17) (x :: its) ∧ zfr (cDf a ar) h h') := sorry
theorem w_dqFirst {x : Nat} (hQ : cDQ h a ar hd (x :: its)) : zK G mJ4_getFirst 2 0 [.ref a] h (zPu h (some (.ref x))) := sorry
theorem w_dqPollFirst {x : Nat} (hQ : cDQ h a ar hd (x :: its)) : zK G mJ4_pollFirst 2 0 [.ref a] h (zO fun v h' => v = some (.ref x) ∧ cDQ h' a ar ((hd + 1) % 17) its ∧ zfr (cDf a ar) h h') := sorry
theorem w_dqRemFirst {x : Nat} (hQ : cDQ h a ar hd (x :: its)) : zK G mJ4_removeFirst 3 0 [.ref a] h (zO fun v h' => v = some (.ref x) ∧ cDQ h' a ar ((hd + 1) % 17) its ∧ zfr (cDf a ar) h h') := sorry
theorem w_dqPollLast {x : Nat} (hQ : cDQ h a ar hd (its ++ [x])) : zK G mJ4_pollLast 2 0 [.ref a] h (zO fun v h' => v = some (.ref x) ∧ cDQ h' a ar hd its ∧ zfr (cDf a ar) h h') := sorry
theorem w_dqRemLast {x : Nat} (hQ : cDQ h a ar hd (its ++ [x])) : zK G mJ4_removeLast 3 0 [.ref a] h (zO fun v h' => v = some (.ref x) ∧ cDQ h' a ar hd its ∧ zfr (cDf a ar) h h') := sorry
end

