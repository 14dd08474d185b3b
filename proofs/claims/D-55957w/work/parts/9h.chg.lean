/-! THE CLASS's changes: add, sign, countersign, settle -/
section
set_option maxRecDepth 100000
variable {G : zG} {h h' h1 : zH} {O U V : Nat → Prop} {x st tt nn e : Nat} {X : List zA} {w : sW} {id y z p q u : Int32} {R : sR}
theorem cChg.no {k v : Nat} {s' : sS} {E : String} (e1 : R = (k + 1, v, s')) (hE : cEx (k + 1) = E) : cChg x e X U h w R (.inr E) h := sorry
theorem cChg.ok {v : Nat} {s' : sS} (e1 : R = (0, v, s')) (k : cReg x e X (s', wB e w) h' (zext U h) ∧ zfr U h h') : cChg x e X U h w R (.inl (some (.int (nI v)))) h' := sorry
theorem cRest.hx {wr : List sS × Option sS × List Nat × List Nat × Nat × Nat} (k : cRest x st e X wr h V) : ∃ fs, h x = some (0, .ref st :: fs) ∧ V x := sorry
theorem cP.rf {ll aq re rt ea ha er hr : Nat} {mc : Int32} {xs : List (Nat × Nat)} {qs rs : List Nat} {s : sS} (_ : cP h O st ll aq re rt ea ha er hr mc xs qs rs s) : zfr O h h := sorry
theorem cCl_sg {c : sC} {m e : Nat} : cCl (zu (zu c 6 (m + 1)) 4 e) = [.int (nI (c 0)), .int (nI (c 1)), .int (nI (c 2)), .int (nI (c 3)), .int (nI e), .int (nI m), .int (nI (c 7) - 1), .int (nI (c 5))] := sorry
theorem cCl_cg {c : sC} {m e : Nat} : cCl (zu (zu c 7 (m + 1)) 4 e) = [.int (nI (c 0)), .int (nI (c 1)), .int (nI (c 2)), .int (nI (c 3)), .int (nI e), .int (nI (c 6) - 1), .int (nI m), .int (nI (c 5))] := sorry
theorem c_add (hk : zkn G h) (hZ : zkI G) (hG : cReg x e X w h U) (he : e ≤ 1) (hJ : sJ tt nn w.1) (hN : nn ≤ 10000) (hT : tt + 50 < 100000) : zK G mX1_add 30 1500 [.ref x, .int y, .int z, .int p, .int u] h (cChg x e X U h w (sAdd w.1 y z p u)) := sorry
theorem c_sign (hk : zkn G h) (hZ : zkI G) (hG : cReg x e X w h U) (he : e ≤ 1) (hJ : sJ tt nn w.1) (hN : nn ≤ 10000) (hT : tt + 50 < 100000) : zK G mX1_sign 30 1500 [.ref x, .int id, .int y] h (cChg x e X U h w (sSign w.1 id y)) := sorry
theorem c_countersign (hk : zkn G h) (hZ : zkI G) (hG : cReg x e X w h U) (he : e ≤ 1) (hJ : sJ tt nn w.1) (hN : nn ≤ 10000) (hT : tt + 50 < 100000) : zK G mX1_countersign 30 1500 [.ref x, .int id, .int y] h (cChg x e X U h w (sCosign w.1 id y)) := sorry
theorem c_settle (hk : zkn G h) (hZ : zkI G) (hG : cReg x e X w h U) (he : e ≤ 1) (hJ : sJ tt nn w.1) (hN : nn ≤ 10000) : zK G mX1_settle 30 1500 [.ref x, .int id] h (cChg x e X U h w (sSettle w.1 id)) := sorry
end

