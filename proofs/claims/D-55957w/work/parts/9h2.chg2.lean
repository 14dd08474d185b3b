/-! THE CLASS's changes: tick, advance, audit, setRate; the worlds' other calls -/
section
set_option maxRecDepth 100000
variable {G : zG} {h h' h1 : zH} {O U V : Nat → Prop} {x st tt nn e : Nat} {X : List zA} {w : sW} {id y z p q u : Int32} {R : sR}
/-- a tick's outcome -/
def sTick1 (s : sS) : sR := (0, (sTick s).1, (sTick s).2)
theorem c_tick (hk : zkn G h) (hZ : zkI G) (hG : cReg x e X w h U) (he : e ≤ 1) (hJ : sJ tt nn w.1) (hN : nn ≤ 10000) (hT : tt + 50 < 100000) : zK G mX1_tick 30 1500 [.ref x] h (cChg x e X U h w (sTick1 w.1)) := sorry
theorem c_advance (hk : zkn G h) (hZ : zkI G) (hG : cReg x e X w h U) (he : e ≤ 1) (hJ : sJ tt nn w.1) (hN : nn ≤ 10000) (hT : tt + 50 < 100000) : zK G mX1_advance 30 1500 [.ref x, .int y] h (cChg x e X U h w (sAdvance w.1 y)) := sorry
theorem c_audit (hk : zkn G h) (hZ : zkI G) (hG : cReg x e X w h U) (he : e ≤ 1) (hJ : sJ tt nn w.1) (hN : nn ≤ 10000) : zK G mX1_audit 30 1500 [.ref x, .int y] h (cChg x e X U h w (sAudit w.1 y)) := sorry
theorem c_setRate (hk : zkn G h) (hZ : zkI G) (hG : cReg x e X w h U) (he : e ≤ 1) (hJ : sJ tt nn w.1) (hN : nn ≤ 10000) : zK G mX1_setRate 30 1500 [.ref x, .int y, .int z] h (cChg x e X U h w (sSetRate w.1 y z)) := sorry
end

