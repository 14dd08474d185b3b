/-! List.of: seven constants (printed by mk9v.py) -/
section
set_option maxRecDepth 100000
variable {G : zG} {M : zM} {d r pc pc' : Nat} {L st : List Value} {h h' : zH} {Q : zR → zH → Prop} {a n kw ka : Nat}
theorem zW.aastL {a b i : Nat} {fs : List Value} {cb : zC} (hd : decode (zm_c M) pc = .ok (.aastore, 1)) (hn : pc + 1 = pc') (hh : h a = some (104, fs)) (hi : i < fs.length ∧ i < 2 ^ 31) (hb : h b = some cb) (ho : zObj cb) (kq : ∀ h', h' = zup h a (104, fs.set i (.ref b)) → h' a = some (104, fs.set i (.ref b)) → zW G M d r pc' L st h' Q) : zW G M d r pc L (.ref b :: .int (nI i) :: .ref a :: st) h Q := sorry
theorem zW.aaldL {a i kk : Nat} {fs : List Value} {v : Value} (hd : decode (zm_c M) pc = .ok (.aaload, 1)) (hn : pc + 1 = pc') (hh : h a = some (kk, fs)) (hk : 104 ≤ kk % 1000) (hv : fs[i]? = some v) (hi : i < 2 ^ 31) (kq : zW G M d r pc' L (v :: st) h Q) : zW G M d r pc L (.int (nI i) :: .ref a :: st) h Q := sorry
theorem zObj_str {k : Nat} {l : List Value} (hk : k % 1000 = 14) : zObj ((k, l) : zC) := sorry
/-- the keywords' addresses -/
def kTab (G : zG) : List Value := (List.range 7).map fun i => .ref (zg_a G (110 + i))
theorem kTab_len : (kTab G).length = 7 := sorry
theorem kTab_get {i : Nat} (hi : i < 7) : (kTab G)[i]? = some (.ref (zg_a G (110 + i))) := sorry
/-- the list of keywords and its array -/
def cKw (G : zG) (h : zH) (kw ka : Nat) : Prop := h kw = some (16, [.ref ka, .int (nI 0)]) ∧ h ka = some (104, kTab G)
theorem cKw.fr {X : Nat → Prop} (k : cKw G h kw ka) (z : zfr X h h') (n1 : ¬ X kw) (n2 : ¬ X ka) : cKw G h' kw ka := sorry
theorem w_ac0 : zK G mJ0_init 1 0 [.ref a] h (zPu h none) := sorry
theorem w_lnInit (ha : h n = some (16, [.null, .int 0])) : zK G mJ38_init 4 0 [.ref n, .ref a, .int (nI 0)] h (zPk h none n (16, [.ref a, .int (nI 0)])) := sorry
theorem w_reqNN : zK G mJ26_requireNonNull 1 0 [.ref a] h (zPu h (some (.ref a))) := sorry
theorem w_trusted (ha : h a = some (104, kTab G)) : zK G mJ28_listFromTrustedArray 5 1 [.ref a] h (zO fun o h' => ∃ n, o = some (.ref n) ∧ h n = none ∧ cKw G h' n a ∧ zfr (fun _ => False) h h') := sorry
theorem w_listOf (hk : zkn G h) (hS : zkS G) : zK G mJ34_of 6 3 [.ref (zg_a G 110), .ref (zg_a G 111), .ref (zg_a G 112), .ref (zg_a G 113), .ref (zg_a G 114), .ref (zg_a G 115), .ref (zg_a G 116)] h (zO fun o h' => ∃ kw ka, o = some (.ref kw) ∧ (h kw = none ∧ h ka = none) ∧ cKw G h' kw ka ∧ zfr (fun _ => False) h h') := sorry
end

