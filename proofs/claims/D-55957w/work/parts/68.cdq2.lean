/-! ArrayDeque: iterators, taking out of the middle -/
section
set_option maxRecDepth 100000
variable {G : zG} {M : zM} {d r pc pc' : Nat} {L st : List Value} {h h' h0 : zH} {Q : zR → zH → Prop} {a ar hd it : Nat} {its : List Nat}
/-- a deque's iterator at k of n -/
abbrev cDi (a hd n k : Nat) (lr : Int32) : zC := (10, [.int (nI ((hd + k) % 17)), .int (nI (n - k)), .int lr, .ref a])
theorem cDQ.nk (hQ : cDQ h a ar hd its) {k : Nat} {l : List Value} (hi : h it = some (k, l)) (hk : k ≠ 9 ∧ k ≠ 104) : a ≠ it ∧ ar ≠ it := sorry
theorem cDQ.nn (hQ : cDQ h a ar hd its) (hi : h it = none) : a ≠ it ∧ ar ≠ it := sorry
theorem w_diInit (hQ : cDQ h a ar hd its) (hi : h it = some (10, [.int 0, .int 0, .int 0, .null])) : zK G mJ30_init 3 0 [.ref it, .ref a] h (zPk h none it (cDi a hd its.length 0 (-1))) := sorry
theorem w_dqIter (hQ : cDQ h a ar hd its) : zK G mJ4_iterator 4 1 [.ref a] h (zO fun v h' => ∃ it, v = some (.ref it) ∧ h it = none ∧ h' = zup h it (cDi a hd its.length 0 (-1)) ∧ h' it = some (cDi a hd its.length 0 (-1))) := sorry
theorem w_diHas {n k : Nat} {lr : Int32} (hi : h it = some (cDi a hd n k lr)) (hn : n ≤ 16) : zK G mJ30_hasNext 1 0 [.ref it] h (zPu h (some (.int (nI (if k < n then 1 else 0))))) := sorry
theorem w_diNext (hQ : cDQ h a ar hd its) {k x : Nat} {lr : Int32} (hi : h it = some (cDi a hd its.length k lr)) (hx : its[k]? = some x) : zK G mJ30_next 2 0 [.ref it] h (zPk h (some (.ref x)) it (cDi a hd its.length (k + 1) (nI ((hd + k) % 17)))) := sorry
def qcp (f : Nat → Option Nat) (i j n : Nat) : Nat → Option Nat := fun k => if j ≤ k ∧ k < j + n then f (i + (k - j)) else f k
theorem zcp_q {f : Nat → Option Nat} {i j n : Nat} (hi : i + n ≤ 17) (hj : j + n ≤ 17) : zcp (qtab f) (qtab f) i j n = qtab (qcp f i j n) := sorry
theorem zW.acopyQ {idx i j n : Nat} {f : Nat → Option Nat} (hd' : decode (zm_c M) pc = .ok (.invokestatic idx, 3)) (hn : pc + 3 = pc') (hl1 : Cond.methodLink (zm_y M).cls idx Stand.acN ∈ lw_tbl) (ha : h a = some (104, qtab f)) (hi : i + n ≤ 17) (hj : j + n ≤ 17)
    (hv : ∀ t, t < n → ∃ x c, f (i + t) = some x ∧ h x = some c ∧ zObj c) (hdd : 1 ≤ d) (hW : (st.map fun v => v.category).sum ≤ 8)
    (kq : ∀ h', h' = zup h a (104, qtab (qcp f i j n)) → h' a = some (104, qtab (qcp f i j n)) → zW G M d r pc' L st h' Q) : zW G M d r pc L (.int (nI n) :: .int (nI j) :: .ref a :: .int (nI i) :: .ref a :: st) h Q := sorry
theorem dq_fin {f f' : Nat → Option Nat} {j hd' : Nat} (hf : ∀ i x, its[i]? = some x → f ((hd + i) % 17) = some x) (hh : ∀ t, t + 1 < its.length → f' ((hd' + t) % 17) = f ((hd + (if t < j then t else t + 1)) % 17)) (hj : j < its.length) : ∀ t y, (its.eraseIdx j)[t]? = some y → f' ((hd' + t) % 17) = some y := sorry
end

