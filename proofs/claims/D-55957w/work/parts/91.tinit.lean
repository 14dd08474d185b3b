/-! THE REFERENCE's constructor -/
section
set_option maxRecDepth 100000
variable {G : zG} {M : zM} {d r pc pc' : Nat} {L st0 : List Value} {h h' h0 : zH} {Q : zR → zH → Prop} {a : tA} {T : tS}
theorem zW.newaCK {N u : Nat} {n : Int32} (hd : decode (zm_c M) pc = .ok (.newarray .char, 2)) (hn : pc + 2 = pc') (hn0 : ¬ n < 0) (hN : n.toNatClampNeg = N) (hb : N * 2 ≤ 536870912) (hu : 1 ≤ u ∧ N ≤ 4 * u) (kq : ∀ a h', h a = none → h' = zup h a (102, ztab N fun _ => 0) → h' a = some (102, ztab N fun _ => 0) → zW G M d r pc' L (.ref a :: st0) h' Q) : zW G M d (r + u) pc L (.int n :: st0) h Q := sorry
/-- the reference's cells stand in h -/
def tIn (h : zH) (a : tA) (T : tS) : Prop := h a.1 = some (3, tfl a T.1) ∧ h a.2.1 = some (100, ztab 1560 T.2.1) ∧ h a.2.2.1 = some (102, ztab 40 T.2.2.1) ∧ h a.2.2.2.1 = some (102, ztab 60 T.2.2.2.1) ∧ h a.2.2.2.2 = some (100, ztab 305 T.2.2.2.2)
theorem tIn.eq (hT : tIn h a T) : tH h a T = h := sorry
theorem tIn.of (hD : tD a) : tIn (tH h a T) a T := sorry
/-- the start's world -/
def sW0 : sW := ((sZero, [], [], []), [], none, [], [], 0, 0)
theorem w_refInit {r0 : Nat} (hr : h r0 = some (3, [.int 0, .null, .int 0, .int 0, .int 0, .null, .int 0, .null, .int 0, .int 0, .int 0, .int 0, .int 0, .null, .int 0])) : zK G mX3_init 2 492 [.ref r0] h (zO fun v h' => v = none ∧ ∃ a T, a.1 = r0 ∧ tD a ∧ tIn h' a T ∧ tW T sW0 ∧ zfr (fun b => b = r0) h h' ∧ h a.2.1 = none ∧ h a.2.2.1 = none ∧ h a.2.2.2.1 = none ∧ h a.2.2.2.2 = none) := sorry
end

