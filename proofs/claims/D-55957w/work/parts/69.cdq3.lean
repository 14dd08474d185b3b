/-! ArrayDeque: an item is taken out of the middle -/
section
set_option maxRecDepth 100000
variable {G : zG} {h h' h0 : zH} {a ar hd it : Nat} {its : List Nat}
/-- items, that are Integers, stand behind changes of the deque -/
theorem dq_kn {f : Nat → Option Nat} {x : List Value} (ha : h a = some (9, x)) (har : h ar = some (104, qtab f)) (hf : ∀ i x, its[i]? = some x → f ((hd + i) % 17) = some x) (hO : ∀ x ∈ its, ∃ k v, cInt h x k v) {h1 : zH} (z : zfr (cDf a ar) h h1) (p : Nat) (hp : ∃ i, i < its.length ∧ p = (hd + i) % 17) : ∃ x c, f p = some x ∧ h1 x = some c ∧ zObj c := sorry
set_option maxHeartbeats 8000000 in
theorem w_dqDelete (hQ : cDQ h a ar hd its) (hO : ∀ x ∈ its, ∃ k v, cInt h x k v) {j : Nat} (hj : j < its.length) : zK G mJ4_delete 2 0 [.ref a, .int (nI ((hd + j) % 17))] h (zO fun v h' => ∃ b hd', v = some (.int (nI b)) ∧ ((b = 0 ∧ hd' = (hd + 1) % 17) ∨ (b = 1 ∧ hd' = hd)) ∧ cDQ h' a ar hd' (its.eraseIdx j) ∧ zfr (cDf a ar) h h') := sorry
/-- the iterator takes out what it gave last -/
theorem w_diRemove (hQ : cDQ h a ar hd its) (hO : ∀ x ∈ its, ∃ k v, cInt h x k v) {k : Nat} (hk : k < its.length) (hi : h it = some (cDi a hd its.length (k + 1) (nI ((hd + k) % 17)))) : zK G mJ30_remove 3 0 [.ref it] h (zO fun v h' => v = none ∧ ∃ hd', cDQ h' a ar hd' (its.eraseIdx k) ∧ h' it = some (cDi a hd' (its.length - 1) k (-1)) ∧ zfr (fun b => b = it ∨ cDf a ar b) h h') := sorry
end

