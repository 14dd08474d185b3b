/-! ROWS on whole numbers: ints that are nI n -/
section
set_option maxRecDepth 100000
variable {G : zG} {M : zM} {d r pc pc' : Nat} {L L' st : List Value} {h : zH} {Q : zR → zH → Prop}
theorem nI_mul (a b : Nat) : nI a * nI b = nI (a * b) := sorry
theorem nI_sub {a b : Nat} (hb : b ≤ a) : nI a - nI b = nI (a - b) := sorry
theorem nI_inj {a b : Nat} (h : nI a = nI b) (ha : a < 2 ^ 31) (hb : b < 2 ^ 31) : a = b := sorry
theorem zW.iaddN {a b : Nat} (hd : decode (zm_c M) pc = .ok (.iadd, 1)) (hn : pc + 1 = pc') (k : zW G M d r pc' L (.int (nI (a + b)) :: st) h Q) : zW G M d r pc L (.int (nI b) :: .int (nI a) :: st) h Q := sorry
theorem zW.imulN {a b : Nat} (hd : decode (zm_c M) pc = .ok (.imul, 1)) (hn : pc + 1 = pc') (k : zW G M d r pc' L (.int (nI (a * b)) :: st) h Q) : zW G M d r pc L (.int (nI b) :: .int (nI a) :: st) h Q := sorry
theorem zW.isubN {a b : Nat} (hd : decode (zm_c M) pc = .ok (.isub, 1)) (hn : pc + 1 = pc') (hb : b ≤ a) (k : zW G M d r pc' L (.int (nI (a - b)) :: st) h Q) : zW G M d r pc L (.int (nI b) :: .int (nI a) :: st) h Q := sorry
theorem zW.iincN {i n a : Nat} (hd : decode (zm_c M) pc = .ok (.iinc i (n : Int), 3)) (hn : pc + 3 = pc') (hb : i < zm_n M) (hx : L[i]? = some (.int (nI a))) (hs' : L.set i (.int (nI (a + n))) = L') (k : zW G M d r pc' L' st h Q) : zW G M d r pc L st h Q := sorry
theorem zW.icmp_eqN {a b : Nat} {off : Int} (tg : Nat) (hd : decode (zm_c M) pc = .ok (.if_icmp .eq off, 3)) (hn : pc + 3 = pc') (ht : (pc : Int) + off = (tg : Int)) (ha : a < 2 ^ 31) (hb : b < 2 ^ 31) (kt : a = b → zW G M d r tg L st h Q) (kf : ¬ a = b → zW G M d r pc' L st h Q) : zW G M d r pc L (.int (nI b) :: .int (nI a) :: st) h Q := sorry
theorem zW.icmp_neN {a b : Nat} {off : Int} (tg : Nat) (hd : decode (zm_c M) pc = .ok (.if_icmp .ne off, 3)) (hn : pc + 3 = pc') (ht : (pc : Int) + off = (tg : Int)) (ha : a < 2 ^ 31) (hb : b < 2 ^ 31) (kt : ¬ a = b → zW G M d r tg L st h Q) (kf : a = b → zW G M d r pc' L st h Q) : zW G M d r pc L (.int (nI b) :: .int (nI a) :: st) h Q := sorry
theorem zW.icmp_geN {a b : Nat} {off : Int} (tg : Nat) (hd : decode (zm_c M) pc = .ok (.if_icmp .ge off, 3)) (hn : pc + 3 = pc') (ht : (pc : Int) + off = (tg : Int)) (ha : a < 2 ^ 31) (hb : b < 2 ^ 31) (kt : b ≤ a → zW G M d r tg L st h Q) (kf : a < b → zW G M d r pc' L st h Q) : zW G M d r pc L (.int (nI b) :: .int (nI a) :: st) h Q := sorry
theorem zW.icmp_ltN {a b : Nat} {off : Int} (tg : Nat) (hd : decode (zm_c M) pc = .ok (.if_icmp .lt off, 3)) (hn : pc + 3 = pc') (ht : (pc : Int) + off = (tg : Int)) (ha : a < 2 ^ 31) (hb : b < 2 ^ 31) (kt : a < b → zW G M d r tg L st h Q) (kf : b ≤ a → zW G M d r pc' L st h Q) : zW G M d r pc L (.int (nI b) :: .int (nI a) :: st) h Q := sorry
theorem zW.icmp_gtN {a b : Nat} {off : Int} (tg : Nat) (hd : decode (zm_c M) pc = .ok (.if_icmp .gt off, 3)) (hn : pc + 3 = pc') (ht : (pc : Int) + off = (tg : Int)) (ha : a < 2 ^ 31) (hb : b < 2 ^ 31) (kt : b < a → zW G M d r tg L st h Q) (kf : a ≤ b → zW G M d r pc' L st h Q) : zW G M d r pc L (.int (nI b) :: .int (nI a) :: st) h Q := sorry
theorem zW.icmp_leN {a b : Nat} {off : Int} (tg : Nat) (hd : decode (zm_c M) pc = .ok (.if_icmp .le off, 3)) (hn : pc + 3 = pc') (ht : (pc : Int) + off = (tg : Int)) (ha : a < 2 ^ 31) (hb : b < 2 ^ 31) (kt : a ≤ b → zW G M d r tg L st h Q) (kf : b < a → zW G M d r pc' L st h Q) : zW G M d r pc L (.int (nI b) :: .int (nI a) :: st) h Q := sorry
theorem nI_eq0 {a : Nat} (ha : a < 2 ^ 31) : nI a = 0 ↔ a = 0 := sorry
theorem zW.if_eqN {a : Nat} {off : Int} (tg : Nat) (hd : decode (zm_c M) pc = .ok (.ifCond .eq off, 3)) (hn : pc + 3 = pc') (ht : (pc : Int) + off = (tg : Int)) (ha : a < 2 ^ 31) (kt : a = 0 → zW G M d r tg L st h Q) (kf : ¬ a = 0 → zW G M d r pc' L st h Q) : zW G M d r pc L (.int (nI a) :: st) h Q := sorry
theorem zW.if_neN {a : Nat} {off : Int} (tg : Nat) (hd : decode (zm_c M) pc = .ok (.ifCond .ne off, 3)) (hn : pc + 3 = pc') (ht : (pc : Int) + off = (tg : Int)) (ha : a < 2 ^ 31) (kt : ¬ a = 0 → zW G M d r tg L st h Q) (kf : a = 0 → zW G M d r pc' L st h Q) : zW G M d r pc L (.int (nI a) :: st) h Q := sorry
theorem zW.if_leN {a : Nat} {off : Int} (tg : Nat) (hd : decode (zm_c M) pc = .ok (.ifCond .le off, 3)) (hn : pc + 3 = pc') (ht : (pc : Int) + off = (tg : Int)) (ha : a < 2 ^ 31) (kt : a = 0 → zW G M d r tg L st h Q) (kf : ¬ a = 0 → zW G M d r pc' L st h Q) : zW G M d r pc L (.int (nI a) :: st) h Q := sorry
theorem zW.if_gtN {a : Nat} {off : Int} (tg : Nat) (hd : decode (zm_c M) pc = .ok (.ifCond .gt off, 3)) (hn : pc + 3 = pc') (ht : (pc : Int) + off = (tg : Int)) (ha : a < 2 ^ 31) (kt : ¬ a = 0 → zW G M d r tg L st h Q) (kf : a = 0 → zW G M d r pc' L st h Q) : zW G M d r pc L (.int (nI a) :: st) h Q := sorry
theorem zW.if_geN {a : Nat} {off : Int} (tg : Nat) (hd : decode (zm_c M) pc = .ok (.ifCond .ge off, 3)) (ht : (pc : Int) + off = (tg : Int)) (ha : a < 2 ^ 31) (kt : zW G M d r tg L st h Q) : zW G M d r pc L (.int (nI a) :: st) h Q := sorry
theorem zW.if_ltN {a : Nat} {off : Int} {tg : Nat} (hd : decode (zm_c M) pc = .ok (.ifCond .lt off, 3)) (hn : pc + 3 = pc') (ht : (pc : Int) + off = (tg : Int)) (ha : a < 2 ^ 31) (kf : zW G M d r pc' L st h Q) : zW G M d r pc L (.int (nI a) :: st) h Q := sorry
theorem zW.idivN {a b : Nat} (hd : decode (zm_c M) pc = .ok (.idiv, 1)) (hn : pc + 1 = pc') (ha : a < 2 ^ 31) (h0 : 0 < b) (hb : b < 2 ^ 31) (k : zW G M d r pc' L (.int (nI (a / b)) :: st) h Q) : zW G M d r pc L (.int (nI b) :: .int (nI a) :: st) h Q := sorry
theorem zW.iremN {a b : Nat} (hd : decode (zm_c M) pc = .ok (.irem, 1)) (hn : pc + 1 = pc') (ha : a < 2 ^ 31) (h0 : 0 < b) (hb : b < 2 ^ 31) (k : zW G M d r pc' L (.int (nI (a % b)) :: st) h Q) : zW G M d r pc L (.int (nI b) :: .int (nI a) :: st) h Q := sorry
/-- tables of numbers -/
def ztab (n : Nat) (f : Nat → Nat) : List Value := (List.range n).map fun i => Value.int (nI (f i))
def zu (f : Nat → Nat) (k x : Nat) : Nat → Nat := fun j => if j = k then x else f j
theorem zu_s {f : Nat → Nat} {k x : Nat} : zu f k x k = x := sorry
theorem zu_n {f : Nat → Nat} {k x j : Nat} (hj : j ≠ k) : zu f k x j = f j := sorry
theorem ztab_len {n : Nat} {f : Nat → Nat} : (ztab n f).length = n := sorry
theorem ztab_get {n j : Nat} {f : Nat → Nat} (hj : j < n) : (ztab n f)[j]? = some (.int (nI (f j))) := sorry
theorem ztab_set {n j x : Nat} {f : Nat → Nat} : (ztab n f).set j (.int (nI x)) = ztab n (zu f j x) := sorry
theorem ztab_congr {n : Nat} {f g : Nat → Nat} (h : ∀ i, i < n → f i = g i) : ztab n f = ztab n g := sorry
theorem zW.ialdN {kk a n j : Nat} {f : Nat → Nat} (hd : decode (zm_c M) pc = .ok (.iaload, 1)) (hn : pc + 1 = pc') (hh : h a = some (kk, ztab n f)) (hk : kk % 1000 = 100) (hj : j < n) (hn0 : n < 2 ^ 31) (kq : zW G M d r pc' L (.int (nI (f j)) :: st) h Q) : zW G M d r pc L (.int (nI j) :: .ref a :: st) h Q := sorry
theorem zW.iastN {a n j x : Nat} {f : Nat → Nat} (hd : decode (zm_c M) pc = .ok (.iastore, 1)) (hn : pc + 1 = pc') (hh : h a = some (100, ztab n f)) (hj : j < n) (hn0 : n < 2 ^ 31) (kq : zW G M d r pc' L st (zup h a (100, ztab n (zu f j x))) Q) : zW G M d r pc L (.int (nI x) :: .int (nI j) :: .ref a :: st) h Q := sorry
theorem zW.caldN {kk a n j : Nat} {f : Nat → Nat} (hd : decode (zm_c M) pc = .ok (.caload, 1)) (hn : pc + 1 = pc') (hh : h a = some (kk, ztab n f)) (hk : kk % 1000 = 102) (hj : j < n) (hn0 : n < 2 ^ 31) (kq : zW G M d r pc' L (.int (nI (f j)) :: st) h Q) : zW G M d r pc L (.int (nI j) :: .ref a :: st) h Q := sorry
theorem nI_char {x : Nat} (hx : x < 65536) : narrow .char (.int (nI x)) = .int (nI x) := sorry
theorem zW.castN' {a n j x : Nat} {f : Nat → Nat} (hd : decode (zm_c M) pc = .ok (.castore, 1)) (hn : pc + 1 = pc') (hh : h a = some (102, ztab n f)) (hj : j < n) (hx : x < 65536) (hn0 : n < 2 ^ 31) (kq : zW G M d r pc' L st (zup h a (102, ztab n (zu f j x))) Q) : zW G M d r pc L (.int (nI x) :: .int (nI j) :: .ref a :: st) h Q := sorry
end

