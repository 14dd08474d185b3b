/-! ROWS: ends of a method, throws, catches -/
section
set_option maxRecDepth 100000
variable {G : zG} {M : zM} {d r pc pc' : Nat} {L L' st : List Value} {h : zH} {Q : zR → zH → Prop}
theorem zW.iret {ty : FieldType} {v : Int32} (hd : decode (zm_c M) pc = .ok (.ireturn, 1)) (hr : zm_r M = some ty) (hv : narrow ty (.int v) = .int v) (hq : Q (.inl (some (.int v))) h) : zW G M d r pc L [.int v] h Q := sorry
theorem zW.lret {v : Int64} (hd : decode (zm_c M) pc = .ok (.lreturn, 1)) (hr : zm_r M = some .long) (hq : Q (.inl (some (.long v))) h) : zW G M d r pc L [.long v] h Q := sorry
theorem zW.aret {v : Value} {rt : FieldType} (hd : decode (zm_c M) pc = .ok (.areturn, 1)) (hr : zm_r M = some rt) (hrt : (∃ n, rt = .object n) ∨ ∃ t, rt = .array t) (hv : zir v = true) (hq : Q (.inl (some v)) h) : zW G M d r pc L [v] h Q := sorry
theorem zW.vret (hd : decode (zm_c M) pc = .ok (.return_, 1)) (hr : zm_r M = none) (hq : Q (.inl none) h) : zW G M d r pc L [] h Q := sorry
/-- not caught here -/
theorem zX.out {E : String} (ho : ∀ x ∈ tableOf (zm_h M), covers x pc = false) (hq : Q (.inr E) h) : zX G M d r pc L E h Q := sorry
theorem zX.out0 {E : String} (ho : zm_h M = []) (hq : Q (.inr E) h) : zX G M d r pc L E h Q := sorry
/-- caught by a row of the table: its class is name, the rows ahead don't take it -/
theorem zX.catch {E name : String} (pre : List ExceptionTableEntry) (x : ExceptionTableEntry) (suf : List ExceptionTableEntry) (hsplit : tableOf (zm_h M) = pre ++ x :: suf) (tg : Nat) (htg : x.handlerPc = tg)
    (hpass : ∀ z ∈ pre, covers z pc = false ∨ (z.catchType ≠ 0 ∧ ∃ nm : String, Cond.classLink (zm_y M).cls z.catchType nm ∈ lw_tbl ∧ ∀ s, zTb G s → va_Nc E nm s)) (hx : covers x pc = true) (h0 : x.catchType ≠ 0)
    (hlk : Cond.classLink (zm_y M).cls x.catchType name ∈ lw_tbl) (hca : Cond.castable E name ∈ lw_tbl) (kq : ∀ q, zW G M d r tg L [.ref q] h Q) : zX G M d r pc L E h Q := sorry
/-- what a throw of a new exception without message asks -/
def zT (own : String) (ik ic : Nat) (cls : String) (names : List String) : Prop := Bundle.fit cls = true ∧ (∀ n ∈ names, Bundle.fit n = true) ∧ (∀ w ∈ Cond.classLink own ik cls :: Cond.initialized cls :: vx_at0 own ic cls names, w ∈ lw_tbl ∧ zgood w = true ∧ vx_ot w = true) ∧ names.length ≤ 6
theorem zW.throw0 {ik ic : Nat} {cls : String} {names : List String} (hT : zT (zm_y M).cls ik ic cls names) (d0 : decode (zm_c M) pc = .ok (.new ik, 3)) (d3 : decode (zm_c M) (pc + 3) = .ok (.dup, 1)) (d4 : decode (zm_c M) (pc + 4) = .ok (.invokespecial ic, 3)) (d7 : decode (zm_c M) (pc + 7) = .ok (.athrow, 1))
    (ho : ∀ x ∈ tableOf (zm_h M), covers x (pc + 7) = false) (hst : (st.map fun v => v.category).sum ≤ 8) (hdd : 10 ≤ d) (hr : 2 ≤ r) (hq : Q (.inr cls) h) : zW G M d r pc L st h Q := sorry
end

