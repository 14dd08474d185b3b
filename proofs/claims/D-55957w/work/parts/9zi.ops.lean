/-! THE LAW's operations: the class's contracts in one form; what they leave is in order -/
section
set_option maxRecDepth 100000
variable {G : zG} {m : zM} {args : List Value} {h h' : zH} {U : Nat → Prop} {x o R T N n1 n2 n3 : Nat} {a : tA} {w w' : sW} {q : Nat × Int32} {S : tS} {P : Int64 → Prop} {Es : List String} {RR : sR} {l : List Nat} {s : sS} {cs : List pC} {c y z : Int32} {f : Nat}
theorem kUp {d : Nat} {Q : zR → zH → Prop} (k : zK G m d R args h Q) (hd : d ≤ 40) (hR : R ≤ 46060) : zK G m 40 46060 args h Q := sorry
theorem kQ (hG : cReg x 0 [] w h U) (k : ∀ {st ll aq re rt ea ha er hr : Nat} {mc : Int32} {xs : List (Nat × Nat)} {qs rs : List Nat} {O : Nat → Prop} {fs : List Value}, h x = some (0, .ref st :: fs) → cP h O st ll aq re rt ea ha er hr mc xs qs rs w.1 → zK G m 40 R args h (cAns Es h q)) (hR : R ≤ 46060) : zK G m 40 46060 args h (cOut x U h Es (q.1, q.2, w)) := sorry
theorem kL {lv : Option Value} (hG : cReg x 0 [] w h U) (k : ∀ {st ll aq re rt ea ha er hr : Nat} {mc : Int32} {xs : List (Nat × Nat)} {qs rs : List Nat} {O : Nat → Prop} {fs : List Value}, h x = some (0, .ref st :: fs) → cP h O st ll aq re rt ea ha er hr mc xs qs rs w.1 → zK G m 40 R args h (zPu h lv)) (hR : R ≤ 46060) : zK G m 40 46060 args h (zPu h lv) := sorry
theorem kC (k : zK G m 30 1500 args h (cChg x 0 [] U h w RR)) (hG : cReg x 0 [] w h U) (hs : RR.1 ≠ 0 → sTh RR.1 n1 n2 n3 ≠ 0 ∧ Es[sTh RR.1 n1 n2 n3 - 1]? = some (cEx RR.1)) : zK G m 40 46060 args h (cOut x U h Es (sEnd w RR n1 n2 n3)) := sorry
theorem th_012 {b : Nat} (hb : b < 4) (h1 : b ≠ 1) (h0 : b ≠ 0) : sTh b 0 1 2 ≠ 0 ∧ [eArg, eSta][sTh b 0 1 2 - 1]? = some (cEx b) := sorry
theorem th_123 {b : Nat} (hb : b < 4) (h0 : b ≠ 0) : sTh b 1 2 3 ≠ 0 ∧ [eElt, eArg, eSta][sTh b 1 2 3 - 1]? = some (cEx b) := sorry
theorem th_102 {b : Nat} (hb : b = 0 ∨ b = 1 ∨ b = 3) (h0 : b ≠ 0) : sTh b 1 0 2 ≠ 0 ∧ [eElt, eSta][sTh b 1 0 2 - 1]? = some (cEx b) := sorry
theorem th_010 {b : Nat} (hb : b = 0 ∨ b = 2) (h0 : b ≠ 0) : sTh b 0 1 0 ≠ 0 ∧ [eArg][sTh b 0 1 0 - 1]? = some (cEx b) := sorry
theorem sTick1_eq : sTick1 s = sAdvance s (nI 1) := sorry
/-! the world stays in order -/
theorem sPush_mem {H : List sS} {s t : sS} (h : t ∈ sPush H s) : t ∈ H ∨ t = s := sorry
theorem wOk.push (k : wOk T N w) {s' : sS} {T' N' : Nat} (hT : T ≤ T') (hN : N ≤ N') (hs : sJ T' N' s') {l i : List Nat} {e f : Nat} (he : e < 2 ^ 30) (hf : f < 2 ^ 30) : wOk T' N' (s', sPush w.2.1 w.1, w.2.2.1, l, i, e, f) := sorry
theorem wOk.fin (k : wOk T N w) (hR : sJ (T + 50) (N + 1) RR.2.2) : wOk (T + 3100) (N + 62) (sEnd w RR n1 n2 n3).2.2 := sorry
theorem wOk.same (k : wOk T N w) : wOk (T + 3100) (N + 62) w := sorry
theorem wOk.app (k : wOk T N w) : wOk (T + 3100) (N + 62) (sAppend w c).2.2 := sorry
theorem wOk.form (k : wOk T N w) : wOk (T + 3100) (N + 62) (sForm w c).2.2 := sorry
theorem wOk.undo (k : wOk T N w) : wOk (T + 3100) (N + 62) (sUndo w).2.2 := sorry
theorem wOk.save (k : wOk T N w) : wOk (T + 3100) (N + 62) (sSave w) := sorry
theorem wOk.rest (k : wOk T N w) : wOk (T + 3100) (N + 62) (sRestore w).2.2 := sorry
theorem sDos_J : ∀ {cs : List pC} {s : sS} {T N : Nat}, sJ T N s → N + cs.length ≤ 10000 → sJ (T + 50 * cs.length) (N + cs.length) (sDos cs s).2 := sorry
theorem pLoop_len : ∀ {m : Nat} {p : Nat × Nat} {cs : List pC}, (pLoop l m p cs).1.length ≤ cs.length + m := sorry
theorem pLoop_ok (hl : ∀ x ∈ l, x < 128) : ∀ {m : Nat} {p : Nat × Nat} {cs : List pC}, pOk p → p.1 ≤ l.length → pOk (pLoop l m p cs).2 ∧ (pLoop l m p cs).2.1 ≤ l.length := sorry
theorem pParse_b (hl : ∀ x ∈ l, x < 128) (hn : l.length ≤ 60) : (pParse l).2 ≤ 61 ∧ (pParse l).1.length ≤ 61 := sorry
theorem wOk.run (k : wOk T N w) (hl : ∀ x ∈ w.2.2.2.2.1, x < 128) (hn : w.2.2.2.2.1.length ≤ 60) (hN : N + 62 ≤ 10000) : wOk (T + 3100) (N + 62) (sRun w).2.2 := sorry
/-! answers that are 0 or 1 -/
theorem b01 {P : Prop} [Decidable P] : nI (if P then 0 else 1) = nI 0 ∨ nI (if P then 0 else 1) = nI 1 := sorry
theorem b10 {P : Prop} [Decidable P] : nI (if P then 1 else 0) = nI 0 ∨ nI (if P then 1 else 0) = nI 1 := sorry
theorem qIs01 (h : (qIs s c f).1 = 0) : (qIs s c f).2 = nI 0 ∨ (qIs s c f).2 = nI 1 := sorry
theorem qCanS01 (h : (qCanS s c y).1 = 0) : (qCanS s c y).2 = nI 0 ∨ (qCanS s c y).2 = nI 1 := sorry
theorem qCanC01 (h : (qCanC s c y).1 = 0) : (qCanC s c y).2 = nI 0 ∨ (qCanC s c y).2 = nI 1 := sorry
theorem qOwes01 (h : (qOwes s c y).1 = 0) : (qOwes s c y).2 = nI 0 ∨ (qOwes s c y).2 = nI 1 := sorry
/-! what the world gives -/
theorem cReg.chars (hG : cReg x 0 [] w h U) : (∀ y ∈ w.2.2.2.1, y < 128) ∧ ∀ y ∈ w.2.2.2.2.1, y < 128 := sorry
theorem lwM.kn (k : lwM G x o a w w' P S h) : zkn G h := sorry
theorem lwM.tt (k : lwM G x o a w w' P S h) : tD a ∧ tW S w' := sorry
theorem lwM.chars (k : lwM G x o a w w' P S h) : (∀ y ∈ w.2.2.2.1, y < 128) ∧ ∀ y ∈ w.2.2.2.2.1, y < 128 := sorry
theorem lwM.reg (k : lwM G x o a w w' P S h) : ∃ U, cReg x 0 [] w h U := sorry
/-- the law's world at the loop's head -/
def lwI (G : zG) (x o : Nat) (a : tA) (T N : Nat) (h : zH) : Prop := ∃ w S, lwM G x o a w w (fun _ => True) S h ∧ wOk T N w
end

