/-! THE CLASS's beginChange -/
section
set_option maxRecDepth 100000
variable {G : zG} {h h' h1 : zH} {O U V : Nat → Prop} {x st hq tt nn : Nat} {X T : List zA} {s : sS} {w : sW} {SH : List Nat} {fs : List Value} {v1 v2 v3 v4 v5 : Value} {sv ib lb : Value}
theorem w_stCopyJ (hk : zkn G h) (hZ : zkI G) (hS : cS h O st s) (hJ : sJ tt nn s) (hN : nn ≤ 10000) : zK G mX2_copy 8 78 [.ref st] h (cCopy h s) := sorry
theorem zObj_st {l : List Value} : zObj ((1, l) : zC) := sorry
theorem c_begin0 (hk : zkn G h) (hZ : zkI G) (hS : cS h O st s) (hJ : sJ tt nn s) (hN : nn ≤ 10000) {olds : List sS} (hl : SH.length = olds.length) (h8 : olds.length ≤ 8) (hR : zSep (iO x [.ref st, sv, .ref hq, ib, lb, .int (nI 0), v1, v2] :: iD hq SH :: (iH SH olds ++ T)) h V) : zK G mX1_beginChange 9 78 [.ref x] h (zO fun v h' => v = none ∧ ∃ SH', SH'.length = (sPush olds s).length ∧ zSep (iO x [.ref st, sv, .ref hq, ib, lb, .int (nI 0), v1, v2] :: iD hq SH' :: (iH SH' (sPush olds s) ++ T)) h' (zext V h) ∧ zfr V h h') := sorry
theorem c_begin (hk : zkn G h) (hZ : zkI G) (hS : cS h O st w.1) (hJ : sJ tt nn w.1) (hN : nn ≤ 10000) {e : Nat} (he : e ≤ 1) (hR : cRest x st e X w.2 h V) : zK G mX1_beginChange 9 78 [.ref x] h (zO fun v h' => v = none ∧ cRest x st e X (wB e w) h' (zext V h) ∧ zfr V h h') := sorry
end

