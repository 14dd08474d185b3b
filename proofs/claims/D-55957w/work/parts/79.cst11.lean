/-! State.expire, tick, advance -/
section
set_option maxRecDepth 100000
variable {G : zG} {h h' h0 h1 : zH} {O O' A B : Nat → Prop} {st ll aq re rt ea er ha hr c it : Nat} {mc : Int32} {xs : List (Nat × Nat)} {qs rs : List Nat} {s : sS} {tt nn jj : Nat}
theorem zext_tr (z : zfr A h h1) : ∀ b, zext (zext O h) h1 b → zext O h b := sorry
theorem zext_up (z : zfr A h h1) : ∀ b, zext O h1 b → zext O h b := sorry
theorem w_stExpire (hk : zkn G h) (hZ : zkI G) (hN : nn ≤ 10000) (hT : tt ≤ 100000) (hI : sI tt nn jj s) (hP : cP h O st ll aq re rt ea ha er hr mc xs qs rs s) : zK G mX2_expire 6 26 [.ref st] h (zO fun v h' => v = some (.int (nI (sExpire s).1)) ∧ cS h' (zext O h) st (sExpire s).2 ∧ zfr O h h') := sorry
theorem w_stTick (hk : zkn G h) (hZ : zkI G) (hN : nn ≤ 10000) (hT : tt < 100000) (hI : sI tt nn jj s) (hE : sE s) (hS : cS h O st s) : zK G mX2_tick 7 28 [.ref st] h (zO fun v h' => v = some (.int (nI (sTick s).1)) ∧ cS h' (zext O h) st (sTick s).2 ∧ zfr O h h') := sorry
theorem w_stAdvance (hk : zkn G h) (hZ : zkI G) (hN : nn ≤ 10000) {t : Nat} (hT : tt + t ≤ 100000) (hI : sI tt nn jj s) (hE : sE s) (hS : cS h O st s) : zK G mX2_advance 8 (28 * t) [.ref st, .int (nI t)] h (zO fun v h' => v = some (.int (nI (sTicks s t).1)) ∧ cS h' (zext O h) st (sTicks s t).2 ∧ zfr O h h') := sorry
end

