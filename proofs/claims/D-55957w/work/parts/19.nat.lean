/-! ROWS on whole numbers: ints that are nI n -/
section
set_option maxRecDepth 100000
variable {G : zG} {M : zM} {d r pc pc' : Nat} {L L' st : List Value} {h : zH} {Q : zR → zH → Prop}
theorem nI_mul (a b : Nat) : nI a * nI b = nI (a * b) := by
  unfold nI
  rw [Int32.ofNat_mul]
theorem nI_sub {a b : Nat} (hb : b ≤ a) : nI a - nI b = nI (a - b) := by
  have h := nI_add (a - b) b
  rw [Nat.sub_add_cancel hb] at h
  rw [← h, Int32.add_sub_cancel]
theorem nI_inj {a b : Nat} (h : nI a = nI b) (ha : a < 2 ^ 31) (hb : b < 2 ^ 31) : a = b := (nI_eq ha hb).mp h
theorem zW.iaddN {a b : Nat} (hd : decode (zm_c M) pc = .ok (.iadd, 1)) (hn : pc + 1 = pc') (k : zW G M d r pc' L (.int (nI (a + b)) :: st) h Q) : zW G M d r pc L (.int (nI b) :: .int (nI a) :: st) h Q :=
  zW.iadd hd hn (by rw [nI_add]; exact k)
theorem zW.imulN {a b : Nat} (hd : decode (zm_c M) pc = .ok (.imul, 1)) (hn : pc + 1 = pc') (k : zW G M d r pc' L (.int (nI (a * b)) :: st) h Q) : zW G M d r pc L (.int (nI b) :: .int (nI a) :: st) h Q :=
  zW.imul hd hn (by rw [nI_mul]; exact k)
theorem zW.isubN {a b : Nat} (hd : decode (zm_c M) pc = .ok (.isub, 1)) (hn : pc + 1 = pc') (hb : b ≤ a) (k : zW G M d r pc' L (.int (nI (a - b)) :: st) h Q) : zW G M d r pc L (.int (nI b) :: .int (nI a) :: st) h Q :=
  zW.isub hd hn (by rw [nI_sub hb]; exact k)
theorem zW.iincN {i n a : Nat} (hd : decode (zm_c M) pc = .ok (.iinc i (n : Int), 3)) (hn : pc + 3 = pc') (hb : i < zm_n M) (hx : L[i]? = some (.int (nI a))) (hs' : L.set i (.int (nI (a + n))) = L') (k : zW G M d r pc' L' st h Q) : zW G M d r pc L st h Q :=
  zW.iinc (nI (a + n)) hd hn hb hx (by rw [← nI_add]; congr 1) hs' k
theorem zW.icmp_eqN {a b : Nat} {off : Int} (tg : Nat) (hd : decode (zm_c M) pc = .ok (.if_icmp .eq off, 3)) (hn : pc + 3 = pc') (ht : (pc : Int) + off = (tg : Int)) (ha : a < 2 ^ 31) (hb : b < 2 ^ 31) (kt : a = b → zW G M d r tg L st h Q) (kf : ¬ a = b → zW G M d r pc' L st h Q) : zW G M d r pc L (.int (nI b) :: .int (nI a) :: st) h Q :=
  zW.icmp_eq tg hd hn ht (fun q => kt ((nI_eq ha hb).mp q)) (fun q => kf (fun z => q (by rw [z])))
theorem zW.icmp_neN {a b : Nat} {off : Int} (tg : Nat) (hd : decode (zm_c M) pc = .ok (.if_icmp .ne off, 3)) (hn : pc + 3 = pc') (ht : (pc : Int) + off = (tg : Int)) (ha : a < 2 ^ 31) (hb : b < 2 ^ 31) (kt : ¬ a = b → zW G M d r tg L st h Q) (kf : a = b → zW G M d r pc' L st h Q) : zW G M d r pc L (.int (nI b) :: .int (nI a) :: st) h Q :=
  zW.icmp_ne tg hd hn ht (fun q => kt (fun z => q (by rw [z]))) (fun q => kf ((nI_eq ha hb).mp q))
theorem zW.icmp_geN {a b : Nat} {off : Int} (tg : Nat) (hd : decode (zm_c M) pc = .ok (.if_icmp .ge off, 3)) (hn : pc + 3 = pc') (ht : (pc : Int) + off = (tg : Int)) (ha : a < 2 ^ 31) (hb : b < 2 ^ 31) (kt : b ≤ a → zW G M d r tg L st h Q) (kf : a < b → zW G M d r pc' L st h Q) : zW G M d r pc L (.int (nI b) :: .int (nI a) :: st) h Q :=
  zW.icmp_ge tg hd hn ht (fun q => kt ((nI_leI hb ha).mp q)) (fun q => kf (Nat.not_le.mp fun z => q ((nI_leI hb ha).mpr z)))
theorem zW.icmp_ltN {a b : Nat} {off : Int} (tg : Nat) (hd : decode (zm_c M) pc = .ok (.if_icmp .lt off, 3)) (hn : pc + 3 = pc') (ht : (pc : Int) + off = (tg : Int)) (ha : a < 2 ^ 31) (hb : b < 2 ^ 31) (kt : a < b → zW G M d r tg L st h Q) (kf : b ≤ a → zW G M d r pc' L st h Q) : zW G M d r pc L (.int (nI b) :: .int (nI a) :: st) h Q :=
  zW.icmp_lt tg hd hn ht (fun q => kt ((nI_ltI ha hb).mp q)) (fun q => kf (Nat.not_lt.mp fun z => q ((nI_ltI ha hb).mpr z)))
theorem zW.icmp_gtN {a b : Nat} {off : Int} (tg : Nat) (hd : decode (zm_c M) pc = .ok (.if_icmp .gt off, 3)) (hn : pc + 3 = pc') (ht : (pc : Int) + off = (tg : Int)) (ha : a < 2 ^ 31) (hb : b < 2 ^ 31) (kt : b < a → zW G M d r tg L st h Q) (kf : a ≤ b → zW G M d r pc' L st h Q) : zW G M d r pc L (.int (nI b) :: .int (nI a) :: st) h Q :=
  zW.icmp_gt tg hd hn ht (fun q => kt ((nI_ltI hb ha).mp q)) (fun q => kf (Nat.not_lt.mp fun z => q ((nI_ltI hb ha).mpr z)))
theorem zW.icmp_leN {a b : Nat} {off : Int} (tg : Nat) (hd : decode (zm_c M) pc = .ok (.if_icmp .le off, 3)) (hn : pc + 3 = pc') (ht : (pc : Int) + off = (tg : Int)) (ha : a < 2 ^ 31) (hb : b < 2 ^ 31) (kt : a ≤ b → zW G M d r tg L st h Q) (kf : b < a → zW G M d r pc' L st h Q) : zW G M d r pc L (.int (nI b) :: .int (nI a) :: st) h Q :=
  zW.icmp_le tg hd hn ht (fun q => kt ((nI_leI ha hb).mp q)) (fun q => kf (Nat.not_le.mp fun z => q ((nI_leI ha hb).mpr z)))
theorem nI_eq0 {a : Nat} (ha : a < 2 ^ 31) : nI a = 0 ↔ a = 0 := by rw [← nI_0, nI_eq ha (by decide)]
theorem zW.if_eqN {a : Nat} {off : Int} (tg : Nat) (hd : decode (zm_c M) pc = .ok (.ifCond .eq off, 3)) (hn : pc + 3 = pc') (ht : (pc : Int) + off = (tg : Int)) (ha : a < 2 ^ 31) (kt : a = 0 → zW G M d r tg L st h Q) (kf : ¬ a = 0 → zW G M d r pc' L st h Q) : zW G M d r pc L (.int (nI a) :: st) h Q :=
  zW.if_eq tg hd hn ht (fun q => kt ((nI_eq0 ha).mp q)) (fun q => kf (fun z => q ((nI_eq0 ha).mpr z)))
theorem zW.if_neN {a : Nat} {off : Int} (tg : Nat) (hd : decode (zm_c M) pc = .ok (.ifCond .ne off, 3)) (hn : pc + 3 = pc') (ht : (pc : Int) + off = (tg : Int)) (ha : a < 2 ^ 31) (kt : ¬ a = 0 → zW G M d r tg L st h Q) (kf : a = 0 → zW G M d r pc' L st h Q) : zW G M d r pc L (.int (nI a) :: st) h Q :=
  zW.if_ne tg hd hn ht (fun q => kt (fun z => q ((nI_eq0 ha).mpr z))) (fun q => kf ((nI_eq0 ha).mp q))
theorem zW.if_leN {a : Nat} {off : Int} (tg : Nat) (hd : decode (zm_c M) pc = .ok (.ifCond .le off, 3)) (hn : pc + 3 = pc') (ht : (pc : Int) + off = (tg : Int)) (ha : a < 2 ^ 31) (kt : a = 0 → zW G M d r tg L st h Q) (kf : ¬ a = 0 → zW G M d r pc' L st h Q) : zW G M d r pc L (.int (nI a) :: st) h Q :=
  zW.if_le tg hd hn ht (fun q => kt (Nat.le_zero.mp ((nI_leI ha (by decide)).mp (by rw [nI_0]; exact q)))) (fun q => kf (fun z => q (by subst z; rw [nI_0]; exact Int32.le_refl _)))
theorem zW.if_gtN {a : Nat} {off : Int} (tg : Nat) (hd : decode (zm_c M) pc = .ok (.ifCond .gt off, 3)) (hn : pc + 3 = pc') (ht : (pc : Int) + off = (tg : Int)) (ha : a < 2 ^ 31) (kt : ¬ a = 0 → zW G M d r tg L st h Q) (kf : a = 0 → zW G M d r pc' L st h Q) : zW G M d r pc L (.int (nI a) :: st) h Q :=
  zW.if_gt tg hd hn ht (fun q => kt (fun z => by subst z; rw [nI_0] at q; exact Int32.lt_irrefl q)) (fun q => kf (Nat.le_zero.mp (Nat.not_lt.mp fun z => q (by rw [← nI_0]; exact (nI_ltI (by decide) ha).mpr z))))
theorem zW.if_geN {a : Nat} {off : Int} (tg : Nat) (hd : decode (zm_c M) pc = .ok (.ifCond .ge off, 3)) (ht : (pc : Int) + off = (tg : Int)) (ha : a < 2 ^ 31) (kt : zW G M d r tg L st h Q) : zW G M d r pc L (.int (nI a) :: st) h Q :=
  zW.if_ge tg hd rfl ht (fun _ => kt) (fun q => absurd (nI_pos' ha) q)
theorem zW.if_ltN {a : Nat} {off : Int} {tg : Nat} (hd : decode (zm_c M) pc = .ok (.ifCond .lt off, 3)) (hn : pc + 3 = pc') (ht : (pc : Int) + off = (tg : Int)) (ha : a < 2 ^ 31) (kf : zW G M d r pc' L st h Q) : zW G M d r pc L (.int (nI a) :: st) h Q :=
  zW.if_lt tg hd hn ht (fun q => absurd q (nI_pos ha)) (fun _ => kf)
theorem zW.idivN {a b : Nat} (hd : decode (zm_c M) pc = .ok (.idiv, 1)) (hn : pc + 1 = pc') (ha : a < 2 ^ 31) (h0 : 0 < b) (hb : b < 2 ^ 31) (k : zW G M d r pc' L (.int (nI (a / b)) :: st) h Q) : zW G M d r pc L (.int (nI b) :: .int (nI a) :: st) h Q :=
  zW.idiv hd hn (nI_ne0 h0 hb) (by rw [pk_div ha h0 hb]; exact k)
theorem zW.iremN {a b : Nat} (hd : decode (zm_c M) pc = .ok (.irem, 1)) (hn : pc + 1 = pc') (ha : a < 2 ^ 31) (h0 : 0 < b) (hb : b < 2 ^ 31) (k : zW G M d r pc' L (.int (nI (a % b)) :: st) h Q) : zW G M d r pc L (.int (nI b) :: .int (nI a) :: st) h Q :=
  zW.irem hd hn (nI_ne0 h0 hb) (by rw [pk_rem ha h0 hb]; exact k)
/-- tables of numbers -/
def ztab (n : Nat) (f : Nat → Nat) : List Value := (List.range n).map fun i => Value.int (nI (f i))
def zu (f : Nat → Nat) (k x : Nat) : Nat → Nat := fun j => if j = k then x else f j
theorem zu_s {f : Nat → Nat} {k x : Nat} : zu f k x k = x := if_pos rfl
theorem zu_n {f : Nat → Nat} {k x j : Nat} (hj : j ≠ k) : zu f k x j = f j := if_neg hj
theorem ztab_len {n : Nat} {f : Nat → Nat} : (ztab n f).length = n := by simp [ztab]
theorem ztab_get {n j : Nat} {f : Nat → Nat} (hj : j < n) : (ztab n f)[j]? = some (.int (nI (f j))) := by simp [ztab, hj]
theorem ztab_set {n j x : Nat} {f : Nat → Nat} : (ztab n f).set j (.int (nI x)) = ztab n (zu f j x) := by
  apply List.ext_getElem?
  intro i
  by_cases hi : i < n
  · rw [ztab_get hi, List.getElem?_set]
    by_cases hij : j = i
    · subst hij
      rw [if_pos rfl, ztab_len, if_pos hi, zu_s]
    · rw [if_neg hij, ztab_get hi, zu_n (Ne.symm hij)]
  · rw [List.getElem?_eq_none (by rw [List.length_set, ztab_len]; omega), List.getElem?_eq_none (by rw [ztab_len]; omega)]
theorem ztab_congr {n : Nat} {f g : Nat → Nat} (h : ∀ i, i < n → f i = g i) : ztab n f = ztab n g := by
  unfold ztab
  apply List.map_congr_left
  intro i hi
  rw [h i (List.mem_range.mp hi)]
theorem zW.ialdN {kk a n j : Nat} {f : Nat → Nat} (hd : decode (zm_c M) pc = .ok (.iaload, 1)) (hn : pc + 1 = pc') (hh : h a = some (kk, ztab n f)) (hk : kk % 1000 = 100) (hj : j < n) (hn0 : n < 2 ^ 31) (kq : zW G M d r pc' L (.int (nI (f j)) :: st) h Q) : zW G M d r pc L (.int (nI j) :: .ref a :: st) h Q :=
  zW.iald hd hn hh hk (nI_pos (Nat.lt_trans hj hn0)) (by rw [nI_clamp (Nat.lt_trans hj hn0)]; exact ztab_get hj) kq
theorem zW.iastN {a n j x : Nat} {f : Nat → Nat} (hd : decode (zm_c M) pc = .ok (.iastore, 1)) (hn : pc + 1 = pc') (hh : h a = some (100, ztab n f)) (hj : j < n) (hn0 : n < 2 ^ 31) (kq : zW G M d r pc' L st (zup h a (100, ztab n (zu f j x))) Q) : zW G M d r pc L (.int (nI x) :: .int (nI j) :: .ref a :: st) h Q :=
  zW.iast hd hn hh (nI_pos (Nat.lt_trans hj hn0)) (by rw [nI_clamp (Nat.lt_trans hj hn0), ztab_len]; exact hj) (by rw [nI_clamp (Nat.lt_trans hj hn0)]; exact ztab_set) kq
theorem zW.caldN {kk a n j : Nat} {f : Nat → Nat} (hd : decode (zm_c M) pc = .ok (.caload, 1)) (hn : pc + 1 = pc') (hh : h a = some (kk, ztab n f)) (hk : kk % 1000 = 102) (hj : j < n) (hn0 : n < 2 ^ 31) (kq : zW G M d r pc' L (.int (nI (f j)) :: st) h Q) : zW G M d r pc L (.int (nI j) :: .ref a :: st) h Q :=
  zW.cald hd hn hh hk (nI_pos (Nat.lt_trans hj hn0)) (by rw [nI_clamp (Nat.lt_trans hj hn0)]; exact ztab_get hj) kq
theorem nI_char {x : Nat} (hx : x < 65536) : narrow .char (.int (nI x)) = .int (nI x) := by
  have h1 := vp_nar_char (nI x)
  have h2 : (nI x).toUInt32.toUInt16.toUInt32.toInt32 = nI x := by
    rw [← lg_i2c_nf]
    exact lg_i2c_word (by rw [nI_toInt (by omega)]; omega) (by rw [nI_toInt (by omega)]; omega)
  show Value.int (vp_nar .char (nI x)) = _
  rw [h1, h2]
theorem zW.castN' {a n j x : Nat} {f : Nat → Nat} (hd : decode (zm_c M) pc = .ok (.castore, 1)) (hn : pc + 1 = pc') (hh : h a = some (102, ztab n f)) (hj : j < n) (hx : x < 65536) (hn0 : n < 2 ^ 31) (kq : zW G M d r pc' L st (zup h a (102, ztab n (zu f j x))) Q) : zW G M d r pc L (.int (nI x) :: .int (nI j) :: .ref a :: st) h Q :=
  zW.cast hd hn hh (nI_pos (Nat.lt_trans hj hn0)) (by rw [nI_clamp (Nat.lt_trans hj hn0), ztab_len]; exact hj) (by rw [nI_clamp (Nat.lt_trans hj hn0), nI_char hx]; exact ztab_set) kq
end
