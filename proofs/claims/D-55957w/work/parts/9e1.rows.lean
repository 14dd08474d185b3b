/-! rows for bytes, clones, class objects, String constants by ldc_w, statics of unknown value -/
section
set_option maxRecDepth 100000
variable {G : zG} {M : zM} {d r pc pc' : Nat} {L st : List Value} {h : zH} {Q : zR → zH → Prop}
/-- bytes of letters below 128 -/
def btab (l : List Nat) : List Value := l.map fun x => Value.int (nI x)
theorem btab_len {l : List Nat} : (btab l).length = l.length := sorry
theorem btab_n {l : List Nat} {n : Nat} (e : l.length = n) : Int32.ofNat (btab l).length = nI n := sorry
theorem btab_get {l : List Nat} {j x : Nat} (hx : l[j]? = some x) : (btab l)[j]? = some (.int (nI x)) := sorry
theorem btab_set {l : List Nat} {j x : Nat} : (btab l).set j (.int (nI x)) = btab (l.set j x) := sorry
theorem btab_cp {l1 l2 : List Nat} {i j n : Nat} : zcp (btab l1) (btab l2) i j n = btab (l2.take j ++ (l1.drop i).take n ++ l2.drop (j + n)) := sorry
theorem btab_rep {n : Nat} : List.replicate n (.int 0) = btab (List.replicate n 0) := sorry
theorem nI_byte_all : ∀ x : Fin 128, narrow .byte (.int (nI x.1)) = .int (nI x.1) ∧ fits .byte (.int (nI x.1)) = true ∧ (nI x.1).toInt8.toInt32 = nI x.1 ∧ (nI x.1 &&& 255) = nI x.1 ∧ ((nI x.1).toUInt32 % 65536).toInt32 = nI x.1 := sorry
theorem btab_fit {l : List Nat} (hl : ∀ x ∈ l, x < 128) : ∀ v ∈ btab l, fits .byte v = true := sorry
theorem zW.baldN {kk a j x : Nat} {l : List Nat} (hd : decode (zm_c M) pc = .ok (.baload, 1)) (hn : pc + 1 = pc') (hh : h a = some (kk, btab l)) (hk : kk % 1000 = 103) (hx : l[j]? = some x) (hb : l.length < 2 ^ 31) (kq : zW G M d r pc' L (.int (nI x) :: st) h Q) : zW G M d r pc L (.int (nI j) :: .ref a :: st) h Q := sorry
theorem zW.bastN {a j x : Nat} {l : List Nat} (hd : decode (zm_c M) pc = .ok (.bastore, 1)) (hn : pc + 1 = pc') (hh : h a = some (103, btab l)) (hj : j < l.length) (hx : x < 128) (hb : l.length < 2 ^ 31) (kq : ∀ h', h' = zup h a (103, btab (l.set j x)) → h' a = some (103, btab (l.set j x)) → zW G M d r pc' L st h' Q) : zW G M d r pc L (.int (nI x) :: .int (nI j) :: .ref a :: st) h Q := sorry
theorem zW.newaBK {N u : Nat} {n : Int32} (hd : decode (zm_c M) pc = .ok (.newarray .byte, 2)) (hn : pc + 2 = pc') (hn0 : ¬ n < 0) (hN : n.toNatClampNeg = N) (hb : N ≤ 536870912) (hu : 1 ≤ u ∧ N ≤ 4 * u) (kq : ∀ a h', h a = none → h' = zup h a (103, btab (List.replicate N 0)) → h' a = some (103, btab (List.replicate N 0)) → zW G M d r pc' L (.ref a :: st) h' Q) : zW G M d (r + u) pc L (.int n :: st) h Q := sorry
theorem zW.acopyB {idx a b kk i j n : Nat} {l1 l2 : List Nat} (hd : decode (zm_c M) pc = .ok (.invokestatic idx, 3)) (hn : pc + 3 = pc') (hl1 : Cond.methodLink (zm_y M).cls idx Stand.acN ∈ lw_tbl) (ha : h a = some (kk, btab l1)) (hb : h b = some (103, btab l2)) (hk : kk % 1000 = 103) (hi : i + n ≤ l1.length) (hj : j + n ≤ l2.length) (h31 : l1.length < 2 ^ 30 ∧ l2.length < 2 ^ 30) (hx : ∀ x ∈ l1, x < 128) (hdd : 1 ≤ d) (hW : (st.map fun v => v.category).sum ≤ 8)
    (kq : ∀ h', h' = zup h b (103, btab (l2.take j ++ (l1.drop i).take n ++ l2.drop (j + n))) → h' b = some (103, btab (l2.take j ++ (l1.drop i).take n ++ l2.drop (j + n))) → zW G M d r pc' L st h' Q) : zW G M d r pc L (.int (nI n) :: .int (nI j) :: .ref b :: .int (nI i) :: .ref a :: st) h Q := sorry
theorem nI_sub_le {q m : Nat} (hq : q < 2 ^ 30) (hm : m < 2 ^ 30) : nI q - nI m ≤ 0 ↔ q ≤ m := sorry
theorem nI_sh0 {x : Int32} : x >>> (nI 0 &&& 31) = x := sorry
theorem nI_sl0 {x : Int32} : x <<< (nI 0 &&& 31) = x := sorry
theorem zW.ishr0 {x : Int32} (hd : decode (zm_c M) pc = .ok (.ishr, 1)) (hn : pc + 1 = pc') (k : zW G M d r pc' L (.int x :: st) h Q) : zW G M d r pc L (.int (nI 0) :: .int x :: st) h Q := sorry
theorem zW.ishl0 {x : Int32} (hd : decode (zm_c M) pc = .ok (.ishl, 1)) (hn : pc + 1 = pc') (k : zW G M d r pc' L (.int x :: st) h Q) : zW G M d r pc L (.int (nI 0) :: .int x :: st) h Q := sorry
theorem zW.iandB {x : Nat} (hd : decode (zm_c M) pc = .ok (.iand, 1)) (hn : pc + 1 = pc') (hx : x < 128) (k : zW G M d r pc' L (.int (nI x) :: st) h Q) : zW G M d r pc L (.int (nI 255) :: .int (nI x) :: st) h Q := sorry
theorem zW.i2cB {x : Nat} (hd : decode (zm_c M) pc = .ok (.i2c, 1)) (hn : pc + 1 = pc') (hx : x < 128) (k : zW G M d r pc' L (.int (nI x) :: st) h Q) : zW G M d r pc L (.int (nI x) :: st) h Q := sorry
theorem zW.i2bB {x : Nat} (hd : decode (zm_c M) pc = .ok (.i2b, 1)) (hn : pc + 1 = pc') (hx : x < 128) (k : zW G M d r pc' L (.int (nI x) :: st) h Q) : zW G M d r pc L (.int (nI x) :: st) h Q := sorry
theorem zW.ldcM {idx : Nat} (hd : decode (zm_c M) pc = .ok (.ldc idx, 2)) (hn : pc + 2 = pc') (hlk : Cond.classLink (zm_y M).cls idx "[Ljava/lang/Object;" ∈ lw_tbl) (kq : zW G M d r pc' L (.ref (zg_a G 5) :: st) h Q) : zW G M d r pc L st h Q := sorry
theorem zW.ldcSW {idx j : Nat} {tx : String} (hd : decode (zm_c M) pc = .ok (.ldc_w idx, 3)) (hn : pc + 3 = pc') (hz : zlit[j]? = some ((zm_y M).cls, idx, tx)) (kq : zW G M d r pc' L (.ref (zg_a G (100 + j)) :: st) h Q) : zW G M d r pc L st h Q := sorry
/-- a static of unknown value -/
theorem zW.getsQ {idx : Nat} (hd : decode (zm_c M) pc = .ok (.getstatic idx, 3)) (hn : pc + 3 = pc') (hlk : Cond.fieldLink (zm_y M).cls idx "jdk/internal/util/Preconditions" "SIOOBE_FORMATTER" "Ljava/util/function/BiFunction;" ∈ lw_tbl) (kq : ∀ o, zW G M d r pc' L (zrf o :: st) h Q) : zW G M d r pc L st h Q := sorry
/-- a byte array's clone -/
theorem zW.cloneB {a u idx : Nat} {l : List Nat} (hd : decode (zm_c M) pc = .ok (.invokevirtual idx, 3)) (hn : pc + 3 = pc') (hlk : Cond.methodLink (zm_y M).cls idx ⟨"[B", "clone", "()Ljava/lang/Object;"⟩ ∈ lw_tbl) (hh : h a = some (103, btab l)) (hx : ∀ x ∈ l, x < 128) (hu : 1 ≤ u ∧ l.length ≤ 4 * u) (hdd : 1 ≤ d) (hW : (st.map fun v => v.category).sum ≤ 8)
    (kq : ∀ b h', h b = none → h' = zup h b (103, btab l) → h' b = some (103, btab l) → zW G M d r pc' L (.ref b :: st) h' Q) : zW G M d (r + u) pc L (.ref a :: st) h Q := sorry
/-- a fresh byte array is cast to what it is -/
theorem zW.castB {idx a : Nat} {fs : List Value} (hd : decode (zm_c M) pc = .ok (.checkcast idx, 3)) (hn : pc + 3 = pc') (hlk : Cond.classLink (zm_y M).cls idx "[B" ∈ lw_tbl) (hh : h a = some (103, fs)) (kq : zW G M d r pc' L (.ref a :: st) h Q) : zW G M d r pc L (.ref a :: st) h Q := sorry
end

