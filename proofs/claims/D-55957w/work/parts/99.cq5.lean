/-! THE CLASS's chains -/
section
set_option maxRecDepth 100000
variable {G : zG} {h : zH} {O : Nat → Prop} {x st ll aq re rt ea ha er hr tt nn n i : Nat} {mc : Int32} {xs : List (Nat × Nat)} {qs rs : List Nat} {s : sS} {fs : List Value} {id y z : Int32} {Q9 : zR → zH → Prop}
theorem cIs.nil {h : zH} : cIs h (fun _ => True) [] [] := sorry
theorem zfr.self {h : zH} {a : Nat} {c : zC} (_ : h a = some c) : zfr (fun b => b = a) h h := sorry
theorem c_creditorsOf (hx : h x = some (0, .ref st :: fs)) (hP : cP h O st ll aq re rt ea ha er hr mc xs qs rs s) (hI : sI tt nn n s) {m : Nat} (hm : m < 256) : zK G mX1_creditorsOf 6 2 [.ref x, .int (nI m)] h (zPu h (some (.int (nI (sStep s m))))) := sorry
/-- a chain's length as the class has it -/
def cLenV (s : sS) (a b : Nat) : Int32 := if bLen s a b = 0 then -1 else nI (bLen s a b)
theorem c_byRounds (hx : h x = some (0, .ref st :: fs)) (hP : cP h O st ll aq re rt ea ha er hr mc xs qs rs s) (hI : sI tt nn n s) {a b : Nat} (ha8 : a < 8) (hb8 : b < 8) : zK G mX1_shortestChainByRounds 26 16 [.ref x, .int (nI a), .int (nI b)] h (zPu h (some (.int (cLenV s a b)))) := sorry
/-- a person's claims are looked through -/
theorem c_scIn (hk : zkn G h) (hZ : zkI G) (hx : h x = some (0, .ref st :: fs)) (hP : cP h O st ll aq re rt ea ha er hr mc xs qs rs s) (hI : sI tt nn n s) {a b p l : Nat} {f : Nat → Nat} {Q : List Nat} (hp8 : p < 8) (hV : bV f Q) (hl : l + Q.length + bUn f + 1 ≤ 9) {ar qd ed it r : Nat} (n1 : h ar = none) (n2 : h qd = none) (n3 : h ed = none) (n4 : h it = none)
    (fin : ∀ (H : zH) (hd : Nat) (its : List Nat) (v8 v9 : Value), zfr (fun _ => False) h H → H ar = some (100, ztab 8 (bIn s p l s.2.1.length (f, Q)).1) → cDQ H qd ed hd its → cIs H (fun _ => True) its (bIn s p l s.2.1.length (f, Q)).2 → zW G mX1_shortestChain 24 r 26 [.ref x, .int (nI a), .int (nI b), .ref ar, .ref qd, .int (nI 0), .int (nI p), .int (nI l), v8, v9] [] H Q9) :
    ∀ (m k : Nat) (H : zH) (hd : Nat) (its : List Nat) (lr v9 : Value), k + m = s.2.1.length → zfr (fun _ => False) h H → H ar = some (100, ztab 8 (bIn s p l k (f, Q)).1) → cDQ H qd ed hd its → cIs H (fun _ => True) its (bIn s p l k (f, Q)).2 → H it = some (cIt ll mc xs k lr) → zW G mX1_shortestChain 24 (r + m) 77 [.ref x, .int (nI a), .int (nI b), .ref ar, .ref qd, .int (nI 0), .int (nI p), .int (nI l), .ref it, v9] [] H Q9 := sorry
/-- the search's loop -/
theorem c_scOut (hk : zkn G h) (hZ : zkI G) (hx : h x = some (0, .ref st :: fs)) (hP : cP h O st ll aq re rt ea ha er hr mc xs qs rs s) (hI : sI tt nn n s) {a b : Nat} (hb8 : b < 8) {ar qd ed : Nat} (n1 : h ar = none) (n2 : h qd = none) (n3 : h ed = none) :
    ∀ (m : Nat) (first : Bool) (H : zH) (hd : Nat) (its : List Nat) (f : Nat → Nat) (Q : List Nat) (v6 v7 v8 v9 : Value), Q.length + bUn f ≤ m → bV f Q → (first = true → ∀ c, f c = 0) → zfr (fun _ => False) h H → H ar = some (100, ztab 8 f) → cDQ H qd ed hd its → cIs H (fun _ => True) its Q → zW G mX1_shortestChain 24 (14 * m) 26 [.ref x, .int (nI a), .int (nI b), .ref ar, .ref qd, .int (nI (if first = true then 1 else 0)), v6, v7, v8, v9] [] H (zPu h (some (.int (if bOut s m first (f, Q) b = 0 then -1 else nI (bOut s m first (f, Q) b))))) := sorry
theorem c_shortestChain (hk : zkn G h) (hZ : zkI G) (hx : h x = some (0, .ref st :: fs)) (hP : cP h O st ll aq re rt ea ha er hr mc xs qs rs s) (hI : sI tt nn n s) {a b : Nat} (ha8 : a < 8) (hb8 : b < 8) : zK G mX1_shortestChain 24 135 [.ref x, .int (nI a), .int (nI b)] h (zPu h (some (.int (cLenV s a b)))) := sorry
end

