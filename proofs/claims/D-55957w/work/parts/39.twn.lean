/-! THE REFERENCE's questions: pairs and chains -/
section
set_option maxRecDepth 100000
variable {G : zG} {h0 : zH} {a : tA} {T : tS} {tt nn n : Nat}
theorem nI_or {x y : Nat} : nI x ||| nI y = nI (x ||| y) := by
  apply Int32.toBitVec_inj.mp
  rw [Int32.toBitVec_or]
  show BitVec.ofNat 32 x ||| BitVec.ofNat 32 y = BitVec.ofNat 32 (x ||| y)
  rw [BitVec.ofNat_or]
theorem bt_all : ∀ x : Fin 256, ∀ i : Fin 8, (nI x.1 >>> (nI i.1 &&& 31)) &&& nI 1 = nI (if x.1.testBit i.1 = true then 1 else 0) := by decide +kernel
theorem bt {x i : Nat} (hx : x < 256) (hi : i < 8) : (nI x >>> (nI i &&& 31)) &&& nI 1 = nI (if x.testBit i = true then 1 else 0) := bt_all ⟨x, hx⟩ ⟨i, hi⟩
theorem sh_all : ∀ i : Fin 8, nI 1 <<< (nI i.1 &&& 31) = nI (2 ^ i.1) := by decide +kernel
theorem sh {i : Nat} (hi : i < 8) : nI 1 <<< (nI i &&& 31) = nI (2 ^ i) := sh_all ⟨i, hi⟩
theorem pow8 {i : Nat} (hi : i < 8) : 2 ^ i < 256 := Nat.pow_lt_pow_right (by decide) hi
/-- who is owed by a set, by the first k claims -/
def sCr (s : sS) (x : Nat) : Nat → Nat
  | 0 => 0
  | k + 1 => if x.testBit (sAt s.2.1 k 1) = true then sCr s x k ||| 2 ^ sAt s.2.1 k 2 else sCr s x k
def sStep (s : sS) (x : Nat) : Nat := sCr s x s.2.1.length
def sNth (s : sS) (x : Nat) : Nat → Nat
  | 0 => x
  | k + 1 => sStep s (sNth s x k)
def sRch (s : sS) (x : Nat) : Nat → Nat
  | 0 => 0
  | k + 1 => sRch s x k ||| sNth s x (k + 1)
theorem sCr_lt {s : sS} (hI : sI tt nn n s) {x k : Nat} (hk : k ≤ s.2.1.length) : sCr s x k < 256 := by
  induction k with
  | zero => show 0 < 256; decide
  | succ k ih =>
    unfold sCr
    have := (hI.at (i := k) (by omega)).2.2.1
    split
    · exact Nat.or_lt_two_pow (n := 8) (ih (by omega)) (pow8 this)
    · exact ih (by omega)
theorem sNth_lt {s : sS} (hI : sI tt nn n s) {x k : Nat} (hx : x < 256) : sNth s x k < 256 := by
  cases k with
  | zero => exact hx
  | succ k => exact sCr_lt hI (Nat.le_refl _)
theorem sRch_lt {s : sS} (hI : sI tt nn n s) {x k : Nat} (hx : x < 256) : sRch s x k < 256 := by
  induction k with
  | zero => show 0 < 256; decide
  | succ k ih => exact Nat.or_lt_two_pow (n := 8) ih (sNth_lt hI hx)
theorem w_owedBySet (hD : tD a) {s : sS} (hR : tR T.2.1 0 s) (hI : sI tt nn n s) {x : Nat} (hx : x < 256) : zK G mX3_owedBySet 2 0 [.ref a.1, .int (nI x)] (tH h0 a T) (tQ h0 a fun v T' => v = some (.int (nI (sStep s x))) ∧ T' = T) := by
  have hac := hR.ac
  have h12 := hR.n12
  have loop : ∀ n k, k + n = s.2.1.length → zW G mX3_owedBySet 2 0 4 [.ref a.1, .int (nI x), .int (nI (sCr s x k)), .int (nI k)] [] (tH h0 a T) (tQ h0 a fun v T' => v = some (.int (nI (sStep s x))) ∧ T' = T) := by
    intro n
    induction n with
    | zero =>
      intro k hk
      have hk : k = s.2.1.length := by omega
      subst hk
      refine zW.iload_n (pc' := 5) dX3_owedBySet_4 rfl rfl (zgS (zgS (zgS (zg0)))) ?_
      refine zW.aload_n (pc' := 6) dX3_owedBySet_5 rfl rfl zg0 rfl ?_
      refine zT.get (pc' := 9) dX3_owedBySet_6 rfl f_X3_9_3 rfl ?_
      try dsimp only
      refine zW.iconst (pc' := 10) (nI 2) dX3_owedBySet_9 rfl (by decide) ?_
      first | refine zT.ald1 (pc' := 11) dX3_owedBySet_10 rfl hD (by omega) ?_ | refine zT.ald4 (pc' := 11) dX3_owedBySet_10 rfl hD (by omega) ?_
      try dsimp only
      refine zW.icmp_geN (pc' := 14) 49 dX3_owedBySet_11 rfl (by decide) (by omega) (by omega) (fun b9 => ?_) (fun b9 => absurd b9 (by omega))
      refine zW.iload_n (pc' := 50) dX3_owedBySet_49 rfl rfl (zgS (zgS (zg0))) ?_
      refine zW.iret dX3_owedBySet_50 rfl (rfl) ?_
      exact ⟨_, _, rfl, ⟨rfl, rfl⟩, rfl⟩
    | succ n ih =>
      intro k hk
      have hkl : k < s.2.1.length := by omega
      have hc := hI.at hkl
      refine zW.iload_n (pc' := 5) dX3_owedBySet_4 rfl rfl (zgS (zgS (zgS (zg0)))) ?_
      refine zW.aload_n (pc' := 6) dX3_owedBySet_5 rfl rfl zg0 rfl ?_
      refine zT.get (pc' := 9) dX3_owedBySet_6 rfl f_X3_9_3 rfl ?_
      try dsimp only
      refine zW.iconst (pc' := 10) (nI 2) dX3_owedBySet_9 rfl (by decide) ?_
      first | refine zT.ald1 (pc' := 11) dX3_owedBySet_10 rfl hD (by omega) ?_ | refine zT.ald4 (pc' := 11) dX3_owedBySet_10 rfl hD (by omega) ?_
      try dsimp only
      refine zW.icmp_geN (pc' := 14) 49 dX3_owedBySet_11 rfl (by decide) (by omega) (by omega) (fun b9 => absurd b9 (by omega)) (fun b9 => ?_)
      refine zW.iload_n (pc' := 15) dX3_owedBySet_14 rfl rfl (zgS (zgS (zg0))) ?_
      refine zW.iload_n (pc' := 16) dX3_owedBySet_15 rfl rfl (zgS (zg0)) ?_
      refine zW.aload_n (pc' := 17) dX3_owedBySet_16 rfl rfl zg0 rfl ?_
      refine zW.iload_n (pc' := 18) dX3_owedBySet_17 rfl rfl (zgS (zgS (zgS (zg0)))) ?_
      refine zW.iconst (pc' := 19) (nI 1) dX3_owedBySet_18 rfl (by decide) ?_
      refine zT.call (pc' := 22) dX3_owedBySet_19 rfl l_X3_43 rfl rfl (w_cS hD hR hkl (by omega)) (zcc rfl (zcc rfl zc0)) rfl (Nat.le_of_ble_eq_true rfl) (Nat.le_of_ble_eq_true rfl) (Nat.le_of_ble_eq_true rfl) (fun _ _ ⟨e1, e2⟩ => ?_)
      subst e1; rw [e2]
      refine zW.ishr (pc' := 23) dX3_owedBySet_22 rfl ?_
      refine zW.iconst (pc' := 24) (nI 1) dX3_owedBySet_23 rfl (by decide) ?_
      refine zW.iand (pc' := 25) dX3_owedBySet_24 rfl ?_
      try dsimp only [Option.toList, List.cons_append, List.nil_append]
      rw [bt hx hc.2.1]
      refine zW.iconst (pc' := 26) (nI 1) dX3_owedBySet_25 rfl (by decide) ?_
      refine zW.icmp_neN (pc' := 29) 40 dX3_owedBySet_26 rfl (by decide) (z01) (by omega) (fun h2 => ?_) (fun h2 => ?_)
      · have h2' : ¬ x.testBit (sAt s.2.1 k 1) = true := fun q => by rw [if_pos q] at h2; exact h2 rfl
        refine zW.iconst (pc' := 41) (nI 0) dX3_owedBySet_40 rfl (by decide) ?_
        refine zW.ior (pc' := 42) dX3_owedBySet_41 rfl ?_
        try dsimp only
        rw [nI_or]
        refine zW.istore_n (pc' := 43) dX3_owedBySet_42 rfl rfl (Nat.le_of_ble_eq_true rfl) (zsS (zsS (zs0))) ?_
        refine zW.iincN (pc' := 46) (n := 1) dX3_owedBySet_43 rfl (Nat.le_of_ble_eq_true rfl) (zgS (zgS (zgS (zg0)))) (zsS (zsS (zsS (zs0)))) ?_
        refine zW.goto 4 dX3_owedBySet_46 (by decide) ?_
        refine zW.congr (ih (k + 1) (by omega)) ?_ rfl rfl
        show _ = [_, _, Value.int (nI (sCr s x (k + 1))), _]
        rw [sCr, if_neg h2', Nat.or_zero]
      · have h2' : x.testBit (sAt s.2.1 k 1) = true := by
          by_cases q : x.testBit (sAt s.2.1 k 1) = true
          · exact q
          · rw [if_neg q] at h2; exact absurd h2 (by decide)
        refine zW.iconst (pc' := 30) (nI 1) dX3_owedBySet_29 rfl (by decide) ?_
        refine zW.aload_n (pc' := 31) dX3_owedBySet_30 rfl rfl zg0 rfl ?_
        refine zW.iload_n (pc' := 32) dX3_owedBySet_31 rfl rfl (zgS (zgS (zgS (zg0)))) ?_
        refine zW.iconst (pc' := 33) (nI 2) dX3_owedBySet_32 rfl (by decide) ?_
        refine zT.call (pc' := 36) dX3_owedBySet_33 rfl l_X3_43 rfl rfl (w_cS hD hR hkl (by omega)) (zcc rfl (zcc rfl zc0)) rfl (Nat.le_of_ble_eq_true rfl) (Nat.le_of_ble_eq_true rfl) (Nat.le_of_ble_eq_true rfl) (fun _ _ ⟨e1, e2⟩ => ?_)
        subst e1; rw [e2]
        refine zW.ishl (pc' := 37) dX3_owedBySet_36 rfl ?_
        try dsimp only [Option.toList, List.cons_append, List.nil_append]
        rw [sh hc.2.2.1]
        refine zW.goto 41 dX3_owedBySet_37 (by decide) ?_
        refine zW.ior (pc' := 42) dX3_owedBySet_41 rfl ?_
        rw [nI_or]
        refine zW.istore_n (pc' := 43) dX3_owedBySet_42 rfl rfl (Nat.le_of_ble_eq_true rfl) (zsS (zsS (zs0))) ?_
        refine zW.iincN (pc' := 46) (n := 1) dX3_owedBySet_43 rfl (Nat.le_of_ble_eq_true rfl) (zgS (zgS (zgS (zg0)))) (zsS (zsS (zsS (zs0)))) ?_
        refine zW.goto 4 dX3_owedBySet_46 (by decide) ?_
        refine zW.congr (ih (k + 1) (by omega)) ?_ rfl rfl
        show _ = [_, _, Value.int (nI (sCr s x (k + 1))), _]
        rw [sCr, if_pos h2']
  show zW G mX3_owedBySet 2 0 0 [.ref a.1, .int (nI x), zho, zho] [] (tH h0 a T) _
  refine zW.iconst (pc' := 1) (nI 0) dX3_owedBySet_0 rfl (by decide) ?_
  refine zW.istore_n (pc' := 2) dX3_owedBySet_1 rfl rfl (Nat.le_of_ble_eq_true rfl) (zsS (zsS (zs0))) ?_
  refine zW.iconst (pc' := 3) (nI 0) dX3_owedBySet_2 rfl (by decide) ?_
  refine zW.istore_n (pc' := 4) dX3_owedBySet_3 rfl rfl (Nat.le_of_ble_eq_true rfl) (zsS (zsS (zsS (zs0)))) ?_
  exact loop _ 0 (Nat.zero_add _)
def sSeek (s : sS) (x t : Nat) : Nat → Nat → Option Nat
  | 0, _ => none
  | m + 1, k => if (sNth s x (k + 1)).testBit t = true then some (k + 1) else sSeek s x t m (k + 1)
def qChain (s : sS) (f t : Int32) : Nat × Int32 := if sIn f (nI 0) (nI 7) = true ∧ sIn t (nI 0) (nI 7) = true then (match sSeek s (2 ^ iN f) (iN t) 8 0 with | none => (2, nI 0) | some k => (0, nI k)) else (1, nI 0)
theorem w_chainLength (hD : tD a) {w : sW} (hW : tW T w) (hI : sI tt nn n w.1) {f t : Int32} : zK G mX3_chainLength 3 0 [.ref a.1, .int f, .int t] (tH h0 a T) (tAns h0 a w (qChain w.1 f t)) := by
  have bad : ¬ (sIn f (nI 0) (nI 7) = true ∧ sIn t (nI 0) (nI 7) = true) → zW G mX3_chainLength 3 0 19 [.ref a.1, .int f, .int t, zho, zho] [.ref a.1] (tH h0 a T) (tAns h0 a w (qChain w.1 f t)) := by
    intro q
    unfold qChain
    rw [if_neg q]
    refine zW.iconst (pc' := 20) (nI 1) dX3_chainLength_19 rfl (by decide) ?_
    refine zT.putN (pc' := 23) dX3_chainLength_20 rfl f_X3_30_3 (zFw.of ft_3_0 rfl rfl) rfl ?_
    try dsimp only
    refine zW.aload_n (pc' := 24) dX3_chainLength_23 rfl rfl zg0 rfl ?_
    refine zT.get (pc' := 27) dX3_chainLength_24 rfl f_X3_30_3 rfl ?_
    try dsimp only
    rw [zu_s]
    refine zW.iconst (pc' := 28) (nI 1) dX3_chainLength_27 rfl (by decide) ?_
    refine zW.icmp_neN (pc' := 31) 33 dX3_chainLength_28 rfl (by decide) (by omega) (by omega) (fun b9 => absurd b9 (by omega)) (fun b9 => ?_)
    refine zW.iconst (pc' := 32) (nI 0) dX3_chainLength_31 rfl (by decide) ?_
    refine zW.iret dX3_chainLength_32 rfl (rfl) ?_
    exact tO.q hW
  show zW G mX3_chainLength 3 0 0 [.ref a.1, .int f, .int t, zho, zho] [] (tH h0 a T) _
  by_cases q1 : sIn f (nI 0) (nI 7) = true
  rotate_left
  · refine zW.aload_n (pc' := 1) dX3_chainLength_0 rfl rfl zg0 rfl ?_
    refine zW.iload_n (pc' := 2) dX3_chainLength_1 rfl rfl (zgS (zg0)) ?_
    refine zW.callS (pc' := 5) dX3_chainLength_2 rfl l_X3_59 rfl (w_pers0 q1) (zcc rfl zc0) rfl (Nat.le_of_ble_eq_true rfl) (Nat.le_of_ble_eq_true rfl) (Nat.le_of_ble_eq_true rfl) (fun _ _ ⟨e1, e3⟩ => ?_) (fun _ _ q9 => by cases q9.1)
    cases e1; subst e3
    refine zW.if_eqN (pc' := 8) 19 dX3_chainLength_5 rfl (by decide) (by omega) (fun b9 => ?_) (fun b9 => absurd b9 (by omega))
    exact bad fun q => q1 q.1
  by_cases q2 : sIn t (nI 0) (nI 7) = true
  rotate_left
  · refine zW.aload_n (pc' := 1) dX3_chainLength_0 rfl rfl zg0 rfl ?_
    refine zW.iload_n (pc' := 2) dX3_chainLength_1 rfl rfl (zgS (zg0)) ?_
    refine zW.callS (pc' := 5) dX3_chainLength_2 rfl l_X3_59 rfl (w_pers1 q1) (zcc rfl zc0) rfl (Nat.le_of_ble_eq_true rfl) (Nat.le_of_ble_eq_true rfl) (Nat.le_of_ble_eq_true rfl) (fun _ _ ⟨e1, e3⟩ => ?_) (fun _ _ q9 => by cases q9.1)
    cases e1; subst e3
    refine zW.if_eqN (pc' := 8) 19 dX3_chainLength_5 rfl (by decide) (by omega) (fun b9 => absurd b9 (by omega)) (fun b9 => ?_)
    refine zW.iload_n (pc' := 9) dX3_chainLength_8 rfl rfl (zgS (zgS (zg0))) ?_
    refine zW.callS (pc' := 12) dX3_chainLength_9 rfl l_X3_59 rfl (w_pers0 q2) (zcc rfl zc0) rfl (Nat.le_of_ble_eq_true rfl) (Nat.le_of_ble_eq_true rfl) (Nat.le_of_ble_eq_true rfl) (fun _ _ ⟨e1, e3⟩ => ?_) (fun _ _ q9 => by cases q9.1)
    cases e1; subst e3
    refine zW.if_eqN (pc' := 15) 19 dX3_chainLength_12 rfl (by decide) (by omega) (fun b9 => ?_) (fun b9 => absurd b9 (by omega))
    exact bad fun q => q2 q.2
  unfold qChain
  rw [if_pos ⟨q1, q2⟩]
  clear bad
  refine zW.aload_n (pc' := 1) dX3_chainLength_0 rfl rfl zg0 rfl ?_
  refine zW.iload_n (pc' := 2) dX3_chainLength_1 rfl rfl (zgS (zg0)) ?_
  refine zW.callS (pc' := 5) dX3_chainLength_2 rfl l_X3_59 rfl (w_pers1 q1) (zcc rfl zc0) rfl (Nat.le_of_ble_eq_true rfl) (Nat.le_of_ble_eq_true rfl) (Nat.le_of_ble_eq_true rfl) (fun _ _ ⟨e1, e3⟩ => ?_) (fun _ _ q9 => by cases q9.1)
  cases e1; subst e3
  refine zW.if_eqN (pc' := 8) 19 dX3_chainLength_5 rfl (by decide) (by omega) (fun b9 => absurd b9 (by omega)) (fun b9 => ?_)
  refine zW.iload_n (pc' := 9) dX3_chainLength_8 rfl rfl (zgS (zgS (zg0))) ?_
  refine zW.callS (pc' := 12) dX3_chainLength_9 rfl l_X3_59 rfl (w_pers1 q2) (zcc rfl zc0) rfl (Nat.le_of_ble_eq_true rfl) (Nat.le_of_ble_eq_true rfl) (Nat.le_of_ble_eq_true rfl) (fun _ _ ⟨e1, e3⟩ => ?_) (fun _ _ q9 => by cases q9.1)
  cases e1; subst e3
  refine zW.if_eqN (pc' := 15) 19 dX3_chainLength_12 rfl (by decide) (by omega) (fun b9 => absurd b9 (by omega)) (fun b9 => ?_)
  obtain ⟨f, ef, -, hf, if'⟩ := sIn_nat q1 (by decide) (by decide)
  obtain ⟨t, et, -, ht, it'⟩ := sIn_nat q2 (by decide) (by decide)
  rw [if', it']
  clear q1 q2 if' it'
  subst ef et
  refine zW.iconst (pc' := 16) (nI 2) dX3_chainLength_15 rfl (by decide) ?_
  refine zW.goto 20 dX3_chainLength_16 (by decide) ?_
  refine zT.putN (pc' := 23) dX3_chainLength_20 rfl f_X3_30_3 (zFw.of ft_3_0 rfl rfl) rfl ?_
  try dsimp only
  refine zW.aload_n (pc' := 24) dX3_chainLength_23 rfl rfl zg0 rfl ?_
  refine zT.get (pc' := 27) dX3_chainLength_24 rfl f_X3_30_3 rfl ?_
  try dsimp only
  rw [zu_s]
  refine zW.iconst (pc' := 28) (nI 1) dX3_chainLength_27 rfl (by decide) ?_
  refine zW.icmp_neN (pc' := 31) 33 dX3_chainLength_28 rfl (by decide) (by omega) (by omega) (fun b9 => ?_) (fun b9 => absurd b9 (by omega))
  refine zW.iconst (pc' := 34) (nI 1) dX3_chainLength_33 rfl (by decide) ?_
  refine zW.iload_n (pc' := 35) dX3_chainLength_34 rfl rfl (zgS (zg0)) ?_
  refine zW.ishl (pc' := 36) dX3_chainLength_35 rfl ?_
  rw [sh (by omega)]
  refine zW.istore_n (pc' := 37) dX3_chainLength_36 rfl rfl (Nat.le_of_ble_eq_true rfl) (zsS (zsS (zsS (zs0)))) ?_
  refine zW.iconst (pc' := 38) (nI 1) dX3_chainLength_37 rfl (by decide) ?_
  refine zW.istore (pc' := 40) dX3_chainLength_38 rfl (Nat.le_of_ble_eq_true rfl) (zsS (zsS (zsS (zsS (zs0))))) ?_
  have hx : 2 ^ f < 256 := pow8 (by omega)
  have loop : ∀ m k, k + m = 8 → zW G mX3_chainLength 3 0 40 [.ref a.1, .int (nI f), .int (nI t), .int (nI (sNth w.1 (2 ^ f) k)), .int (nI (k + 1))] [] (tH h0 a (zu T.1 0 2, T.2)) (tAns h0 a w (match sSeek w.1 (2 ^ f) t m k with | none => (2, nI 0) | some k => (0, nI k))) := by
    intro m
    induction m with
    | zero =>
      intro k hk
      have hk : k = 8 := by omega
      subst hk
      refine zW.iload (pc' := 42) dX3_chainLength_40 rfl (zgS (zgS (zgS (zgS (zg0))))) ?_
      refine zW.bipush (pc' := 44) (nI 8) dX3_chainLength_42 rfl (by decide) ?_
      refine zW.icmp_gtN (pc' := 47) 78 dX3_chainLength_44 rfl (by decide) (by omega) (by omega) (fun b9 => ?_) (fun b9 => absurd b9 (by omega))
      refine zW.iconst (pc' := 79) (nI 0) dX3_chainLength_78 rfl (by decide) ?_
      refine zW.iret dX3_chainLength_79 rfl (rfl) ?_
      exact tO.q hW
    | succ m ih =>
      intro k hk
      have hlt := sNth_lt hI (k := k) hx
      have hlt1 := sNth_lt hI (k := k + 1) hx
      refine zW.iload (pc' := 42) dX3_chainLength_40 rfl (zgS (zgS (zgS (zgS (zg0))))) ?_
      refine zW.bipush (pc' := 44) (nI 8) dX3_chainLength_42 rfl (by decide) ?_
      refine zW.icmp_gtN (pc' := 47) 78 dX3_chainLength_44 rfl (by decide) (by omega) (by omega) (fun b9 => absurd b9 (by omega)) (fun b9 => ?_)
      refine zW.aload_n (pc' := 48) dX3_chainLength_47 rfl rfl zg0 rfl ?_
      refine zW.iload_n (pc' := 49) dX3_chainLength_48 rfl rfl (zgS (zgS (zgS (zg0)))) ?_
      refine zT.call (pc' := 52) dX3_chainLength_49 rfl l_X3_146 rfl rfl (w_owedBySet (T := (zu T.1 0 2, T.2)) hD hW.1 hI hlt) (zcc rfl zc0) rfl (Nat.le_of_ble_eq_true rfl) (Nat.le_of_ble_eq_true rfl) (Nat.le_of_ble_eq_true rfl) (fun _ _ ⟨e1, e2⟩ => ?_)
      subst e1; rw [e2]
      refine zW.istore_n (pc' := 53) dX3_chainLength_52 rfl rfl (Nat.le_of_ble_eq_true rfl) (zsS (zsS (zsS (zs0)))) ?_
      refine zW.iload_n (pc' := 54) dX3_chainLength_53 rfl rfl (zgS (zgS (zgS (zg0)))) ?_
      refine zW.iload_n (pc' := 55) dX3_chainLength_54 rfl rfl (zgS (zgS (zg0))) ?_
      refine zW.ishr (pc' := 56) dX3_chainLength_55 rfl ?_
      refine zW.iconst (pc' := 57) (nI 1) dX3_chainLength_56 rfl (by decide) ?_
      have hb := bt hlt1 (i := t) (by omega)
      rw [show nI 1 = (1 : Int32) from rfl] at hb
      refine zW.iand (pc' := 58) dX3_chainLength_57 rfl ?_
      show zW G mX3_chainLength 3 0 58 [_, _, _, .int (nI (sNth w.1 (2 ^ f) (k + 1))), _] [.int ((nI (sNth w.1 (2 ^ f) (k + 1)) >>> (nI t &&& 31)) &&& 1)] _ _
      rw [hb]
      by_cases q : (sNth w.1 (2 ^ f) (k + 1)).testBit t = true
      · rw [if_pos q]
        have hs : sSeek w.1 (2 ^ f) t (m + 1) k = some (k + 1) := by rw [sSeek, if_pos q]
        rw [hs]
        refine zW.if_neN (pc' := 61) 64 dX3_chainLength_58 rfl (by decide) (by omega) (fun b9 => ?_) (fun b9 => absurd b9 (by omega))
        refine zW.aload_n (pc' := 65) dX3_chainLength_64 rfl rfl zg0 rfl ?_
        refine zW.iconst (pc' := 66) (nI 0) dX3_chainLength_65 rfl (by decide) ?_
        refine zT.putN (pc' := 69) dX3_chainLength_66 rfl f_X3_30_3 (zFw.of ft_3_0 rfl rfl) rfl ?_
        try dsimp only
        refine zW.iload (pc' := 71) dX3_chainLength_69 rfl (zgS (zgS (zgS (zgS (zg0))))) ?_
        refine zW.iret dX3_chainLength_71 rfl (rfl) ?_
        rw [zu_zu]
        exact tO.q hW
      · rw [if_neg q]
        have hs : sSeek w.1 (2 ^ f) t (m + 1) k = sSeek w.1 (2 ^ f) t m (k + 1) := by rw [sSeek, if_neg q]
        rw [hs]
        refine zW.if_neN (pc' := 61) 64 dX3_chainLength_58 rfl (by decide) (by omega) (fun b9 => absurd b9 (by omega)) (fun b9 => ?_)
        refine zW.goto 72 dX3_chainLength_61 (by decide) ?_
        refine zW.iincN (pc' := 75) (n := 1) dX3_chainLength_72 rfl (Nat.le_of_ble_eq_true rfl) (zgS (zgS (zgS (zgS (zg0))))) (zsS (zsS (zsS (zsS (zs0))))) ?_
        refine zW.goto 40 dX3_chainLength_75 (by decide) ?_
        exact ih (k + 1) (by omega)
  exact loop 8 0 rfl
theorem w_chainLengthByRounds (hD : tD a) {w : sW} (hW : tW T w) (hI : sI tt nn n w.1) {f t : Int32} : zK G mX3_chainLengthByRounds 4 0 [.ref a.1, .int f, .int t] (tH h0 a T) (tAns h0 a w (qChain w.1 f t)) := by
  show zW G mX3_chainLengthByRounds 4 0 0 [.ref a.1, .int f, .int t] [] (tH h0 a T) _
  refine zW.aload_n (pc' := 1) dX3_chainLengthByRounds_0 rfl rfl zg0 rfl ?_
  refine zW.iload_n (pc' := 2) dX3_chainLengthByRounds_1 rfl rfl (zgS (zg0)) ?_
  refine zW.iload_n (pc' := 3) dX3_chainLengthByRounds_2 rfl rfl (zgS (zgS (zg0))) ?_
  refine zT.call (pc' := 6) dX3_chainLengthByRounds_3 rfl l_X3_149 rfl rfl (w_chainLength hD hW hI) (zcc rfl (zcc rfl zc0)) rfl (Nat.le_of_ble_eq_true rfl) (Nat.le_of_ble_eq_true rfl) (Nat.le_of_ble_eq_true rfl) (fun _ T1 ⟨e1, e2⟩ => ?_)
  subst e1
  refine zW.iret dX3_chainLengthByRounds_6 rfl (rfl) ?_
  exact ⟨_, T1, rfl, ⟨rfl, e2⟩, rfl⟩
theorem w_reached (hD : tD a) {s : sS} (hR : tR T.2.1 0 s) (hI : sI tt nn n s) {p : Nat} (hp : p < 8) : zK G mX3_reached 3 0 [.ref a.1, .int (nI p)] (tH h0 a T) (tQ h0 a fun v T' => v = some (.int (nI (sRch s (2 ^ p) 8))) ∧ T' = T) := by
  have hx : 2 ^ p < 256 := pow8 (by omega)
  have loop : ∀ m k, k + m = 8 → zW G mX3_reached 3 0 9 [.ref a.1, .int (nI p), .int (nI (sRch s (2 ^ p) k)), .int (nI (sNth s (2 ^ p) k)), .int (nI k)] [] (tH h0 a T) (tQ h0 a fun v T' => v = some (.int (nI (sRch s (2 ^ p) 8))) ∧ T' = T) := by
    intro m
    induction m with
    | zero =>
      intro k hk
      have hk : k = 8 := by omega
      subst hk
      refine zW.iload (pc' := 11) dX3_reached_9 rfl (zgS (zgS (zgS (zgS (zg0))))) ?_
      refine zW.bipush (pc' := 13) (nI 8) dX3_reached_11 rfl (by decide) ?_
      refine zW.icmp_geN (pc' := 16) 32 dX3_reached_13 rfl (by decide) (by omega) (by omega) (fun b9 => ?_) (fun b9 => absurd b9 (by omega))
      refine zW.iload_n (pc' := 33) dX3_reached_32 rfl rfl (zgS (zgS (zg0))) ?_
      refine zW.iret dX3_reached_33 rfl (rfl) ?_
      exact ⟨_, _, rfl, ⟨rfl, rfl⟩, rfl⟩
    | succ m ih =>
      intro k hk
      have hlt := sNth_lt hI (k := k) hx
      refine zW.iload (pc' := 11) dX3_reached_9 rfl (zgS (zgS (zgS (zgS (zg0))))) ?_
      refine zW.bipush (pc' := 13) (nI 8) dX3_reached_11 rfl (by decide) ?_
      refine zW.icmp_geN (pc' := 16) 32 dX3_reached_13 rfl (by decide) (by omega) (by omega) (fun b9 => absurd b9 (by omega)) (fun b9 => ?_)
      refine zW.aload_n (pc' := 17) dX3_reached_16 rfl rfl zg0 rfl ?_
      refine zW.iload_n (pc' := 18) dX3_reached_17 rfl rfl (zgS (zgS (zgS (zg0)))) ?_
      refine zT.call (pc' := 21) dX3_reached_18 rfl l_X3_146 rfl rfl (w_owedBySet hD hR hI hlt) (zcc rfl zc0) rfl (Nat.le_of_ble_eq_true rfl) (Nat.le_of_ble_eq_true rfl) (Nat.le_of_ble_eq_true rfl) (fun _ _ ⟨e1, e2⟩ => ?_)
      subst e1; rw [e2]
      refine zW.istore_n (pc' := 22) dX3_reached_21 rfl rfl (Nat.le_of_ble_eq_true rfl) (zsS (zsS (zsS (zs0)))) ?_
      refine zW.iload_n (pc' := 23) dX3_reached_22 rfl rfl (zgS (zgS (zg0))) ?_
      refine zW.iload_n (pc' := 24) dX3_reached_23 rfl rfl (zgS (zgS (zgS (zg0)))) ?_
      refine zW.ior (pc' := 25) dX3_reached_24 rfl ?_
      rw [nI_or]
      refine zW.istore_n (pc' := 26) dX3_reached_25 rfl rfl (Nat.le_of_ble_eq_true rfl) (zsS (zsS (zs0))) ?_
      refine zW.iincN (pc' := 29) (n := 1) dX3_reached_26 rfl (Nat.le_of_ble_eq_true rfl) (zgS (zgS (zgS (zgS (zg0))))) (zsS (zsS (zsS (zsS (zs0))))) ?_
      refine zW.goto 9 dX3_reached_29 (by decide) ?_
      exact ih (k + 1) (by omega)
  show zW G mX3_reached 3 0 0 [.ref a.1, .int (nI p), zho, zho, zho] [] (tH h0 a T) _
  refine zW.iconst (pc' := 1) (nI 0) dX3_reached_0 rfl (by decide) ?_
  refine zW.istore_n (pc' := 2) dX3_reached_1 rfl rfl (Nat.le_of_ble_eq_true rfl) (zsS (zsS (zs0))) ?_
  refine zW.iconst (pc' := 3) (nI 1) dX3_reached_2 rfl (by decide) ?_
  refine zW.iload_n (pc' := 4) dX3_reached_3 rfl rfl (zgS (zg0)) ?_
  refine zW.ishl (pc' := 5) dX3_reached_4 rfl ?_
  rw [sh hp]
  refine zW.istore_n (pc' := 6) dX3_reached_5 rfl rfl (Nat.le_of_ble_eq_true rfl) (zsS (zsS (zsS (zs0)))) ?_
  refine zW.iconst (pc' := 7) (nI 0) dX3_reached_6 rfl (by decide) ?_
  refine zW.istore (pc' := 9) dX3_reached_7 rfl (Nat.le_of_ble_eq_true rfl) (zsS (zsS (zsS (zsS (zs0))))) ?_
  exact loop 8 0 rfl
def qReach (s : sS) (p : Int32) : Nat × Int32 := if sIn p (nI 0) (nI 7) = true then (0, nI (sRch s (2 ^ iN p) 8)) else (1, nI 0)
theorem w_reachableFrom (hD : tD a) {w : sW} (hW : tW T w) (hI : sI tt nn n w.1) {p : Int32} : zK G mX3_reachableFrom 4 0 [.ref a.1, .int p] (tH h0 a T) (tAns h0 a w (qReach w.1 p)) := by
  show zW G mX3_reachableFrom 4 0 0 [.ref a.1, .int p] [] (tH h0 a T) _
  unfold qReach
  by_cases q : sIn p (nI 0) (nI 7) = true
  rotate_left
  · rw [if_neg q]
    refine zW.aload_n (pc' := 1) dX3_reachableFrom_0 rfl rfl zg0 rfl ?_
    refine zW.iload_n (pc' := 2) dX3_reachableFrom_1 rfl rfl (zgS (zg0)) ?_
    refine zW.callS (pc' := 5) dX3_reachableFrom_2 rfl l_X3_59 rfl (w_pers0 q) (zcc rfl zc0) rfl (Nat.le_of_ble_eq_true rfl) (Nat.le_of_ble_eq_true rfl) (Nat.le_of_ble_eq_true rfl) (fun _ _ ⟨e1, e3⟩ => ?_) (fun _ _ q9 => by cases q9.1)
    cases e1; subst e3
    refine zT.call (pc' := 8) dX3_reachableFrom_5 rfl l_X3_124 rfl rfl (w_fine0) (zcc rfl zc0) rfl (Nat.le_of_ble_eq_true rfl) (Nat.le_of_ble_eq_true rfl) (Nat.le_of_ble_eq_true rfl) (fun _ _ ⟨e1, e2⟩ => ?_)
    subst e1; rw [e2]
    refine zW.if_eqN (pc' := 11) 19 dX3_reachableFrom_8 rfl (by decide) (by omega) (fun b9 => ?_) (fun b9 => absurd b9 (by omega))
    refine zW.iconst (pc' := 20) (nI 0) dX3_reachableFrom_19 rfl (by decide) ?_
    refine zW.iret dX3_reachableFrom_20 rfl (rfl) ?_
    exact tO.q hW
  · rw [if_pos q]
    obtain ⟨n, en, -, hn, iw⟩ := sIn_nat q (by decide) (by decide)
    rw [iw]
    refine zW.aload_n (pc' := 1) dX3_reachableFrom_0 rfl rfl zg0 rfl ?_
    refine zW.iload_n (pc' := 2) dX3_reachableFrom_1 rfl rfl (zgS (zg0)) ?_
    refine zW.callS (pc' := 5) dX3_reachableFrom_2 rfl l_X3_59 rfl (w_pers1 q) (zcc rfl zc0) rfl (Nat.le_of_ble_eq_true rfl) (Nat.le_of_ble_eq_true rfl) (Nat.le_of_ble_eq_true rfl) (fun _ _ ⟨e1, e3⟩ => ?_) (fun _ _ q9 => by cases q9.1)
    cases e1; subst e3
    refine zT.call (pc' := 8) dX3_reachableFrom_5 rfl l_X3_124 rfl rfl (w_fine1) (zcc rfl zc0) rfl (Nat.le_of_ble_eq_true rfl) (Nat.le_of_ble_eq_true rfl) (Nat.le_of_ble_eq_true rfl) (fun _ _ ⟨e1, e2⟩ => ?_)
    subst e1; rw [e2]
    refine zW.if_eqN (pc' := 11) 19 dX3_reachableFrom_8 rfl (by decide) (by omega) (fun b9 => absurd b9 (by omega)) (fun b9 => ?_)
    subst en
    refine zW.aload_n (pc' := 12) dX3_reachableFrom_11 rfl rfl zg0 rfl ?_
    refine zW.iload_n (pc' := 13) dX3_reachableFrom_12 rfl rfl (zgS (zg0)) ?_
    refine zT.call (pc' := 16) dX3_reachableFrom_13 rfl l_X3_152 rfl rfl (w_reached (T := (zu T.1 0 0, T.2)) hD hW.1 hI (by omega)) (zcc rfl zc0) rfl (Nat.le_of_ble_eq_true rfl) (Nat.le_of_ble_eq_true rfl) (Nat.le_of_ble_eq_true rfl) (fun _ _ ⟨e1, e2⟩ => ?_)
    subst e1; rw [e2]
    refine zW.goto 20 dX3_reachableFrom_16 (by decide) ?_
    refine zW.iret dX3_reachableFrom_20 rfl (rfl) ?_
    exact tO.q hW
def sCyc (s : sS) : Nat → Nat := sUp fun k => if (sRch s (2 ^ k) 8).testBit k = true then 1 else 0
theorem sCyc_le {s : sS} {k : Nat} : sCyc s k ≤ k := by
  induction k with
  | zero => exact Nat.le_refl _
  | succ k ih =>
    show sCyc s k + (if (sRch s (2 ^ k) 8).testBit k = true then 1 else 0) ≤ _
    split <;> omega
def qCycle (s : sS) : Nat × Int32 := (0, nI (if sCyc s 8 = 0 then 0 else 1))
theorem w_hasCycle (hD : tD a) {w : sW} (hW : tW T w) (hI : sI tt nn n w.1) : zK G mX3_hasCycle 4 0 [.ref a.1] (tH h0 a T) (tAns h0 a w (qCycle w.1)) := by
  unfold qCycle
  have loop : ∀ m k, k + m = 8 → zW G mX3_hasCycle 4 0 9 [.ref a.1, .int (nI (sCyc w.1 k)), .int (nI k)] [] (tH h0 a (zu T.1 0 0, T.2)) (tAns h0 a w (0, nI (if sCyc w.1 8 = 0 then 0 else 1))) := by
    intro m
    induction m with
    | zero =>
      intro k hk
      have hk : k = 8 := by omega
      subst hk
      have hle := sCyc_le (s := w.1) (k := 8)
      refine zW.iload_n (pc' := 10) dX3_hasCycle_9 rfl rfl (zgS (zgS (zg0))) ?_
      refine zW.bipush (pc' := 12) (nI 8) dX3_hasCycle_10 rfl (by decide) ?_
      refine zW.icmp_geN (pc' := 15) 33 dX3_hasCycle_12 rfl (by decide) (by omega) (by omega) (fun b9 => ?_) (fun b9 => absurd b9 (by omega))
      refine zW.iload_n (pc' := 34) dX3_hasCycle_33 rfl rfl (zgS (zg0)) ?_
      refine zW.if_leN (pc' := 37) 41 dX3_hasCycle_34 rfl (by decide) (by omega) (fun b1 => ?_) (fun b1 => ?_)
      · rw [if_pos b1]
        refine zW.iconst (pc' := 42) (nI 0) dX3_hasCycle_41 rfl (by decide) ?_
        refine zW.iret dX3_hasCycle_42 rfl (rfl) ?_
        exact tO.q hW
      · rw [if_neg b1]
        refine zW.iconst (pc' := 38) (nI 1) dX3_hasCycle_37 rfl (by decide) ?_
        refine zW.goto 42 dX3_hasCycle_38 (by decide) ?_
        refine zW.iret dX3_hasCycle_42 rfl (rfl) ?_
        exact tO.q hW
    | succ m ih =>
      intro k hk
      refine zW.iload_n (pc' := 10) dX3_hasCycle_9 rfl rfl (zgS (zgS (zg0))) ?_
      refine zW.bipush (pc' := 12) (nI 8) dX3_hasCycle_10 rfl (by decide) ?_
      refine zW.icmp_geN (pc' := 15) 33 dX3_hasCycle_12 rfl (by decide) (by omega) (by omega) (fun b9 => absurd b9 (by omega)) (fun b9 => ?_)
      refine zW.iload_n (pc' := 16) dX3_hasCycle_15 rfl rfl (zgS (zg0)) ?_
      refine zW.aload_n (pc' := 17) dX3_hasCycle_16 rfl rfl zg0 rfl ?_
      refine zW.iload_n (pc' := 18) dX3_hasCycle_17 rfl rfl (zgS (zgS (zg0))) ?_
      refine zT.call (pc' := 21) dX3_hasCycle_18 rfl l_X3_152 rfl rfl (w_reached (T := (zu T.1 0 0, T.2)) hD hW.1 hI (p := k) (by omega)) (zcc rfl zc0) rfl (Nat.le_of_ble_eq_true rfl) (Nat.le_of_ble_eq_true rfl) (Nat.le_of_ble_eq_true rfl) (fun _ _ ⟨e1, e2⟩ => ?_)
      subst e1; rw [e2]
      refine zW.iload_n (pc' := 22) dX3_hasCycle_21 rfl rfl (zgS (zgS (zg0))) ?_
      refine zW.ishr (pc' := 23) dX3_hasCycle_22 rfl ?_
      refine zW.iconst (pc' := 24) (nI 1) dX3_hasCycle_23 rfl (by decide) ?_
      refine zW.iand (pc' := 25) dX3_hasCycle_24 rfl ?_
      try dsimp only [Option.toList, List.cons_append, List.nil_append]
      rw [bt (sRch_lt hI (pow8 (by omega))) (by omega)]
      refine zW.iaddN (pc' := 26) dX3_hasCycle_25 rfl ?_
      refine zW.istore_n (pc' := 27) dX3_hasCycle_26 rfl rfl (Nat.le_of_ble_eq_true rfl) (zsS (zs0)) ?_
      refine zW.iincN (pc' := 30) (n := 1) dX3_hasCycle_27 rfl (Nat.le_of_ble_eq_true rfl) (zgS (zgS (zg0))) (zsS (zsS (zs0))) ?_
      refine zW.goto 9 dX3_hasCycle_30 (by decide) ?_
      exact ih (k + 1) (by omega)
  show zW G mX3_hasCycle 4 0 0 [.ref a.1, zho, zho] [] (tH h0 a T) _
  refine zW.aload_n (pc' := 1) dX3_hasCycle_0 rfl rfl zg0 rfl ?_
  refine zW.iconst (pc' := 2) (nI 0) dX3_hasCycle_1 rfl (by decide) ?_
  refine zT.putN (pc' := 5) dX3_hasCycle_2 rfl f_X3_30_3 (zFw.of ft_3_0 rfl rfl) rfl ?_
  try dsimp only
  refine zW.iconst (pc' := 6) (nI 0) dX3_hasCycle_5 rfl (by decide) ?_
  refine zW.istore_n (pc' := 7) dX3_hasCycle_6 rfl rfl (Nat.le_of_ble_eq_true rfl) (zsS (zs0)) ?_
  refine zW.iconst (pc' := 8) (nI 0) dX3_hasCycle_7 rfl (by decide) ?_
  refine zW.istore_n (pc' := 9) dX3_hasCycle_8 rfl rfl (Nat.le_of_ble_eq_true rfl) (zsS (zsS (zs0))) ?_
  exact loop 8 0 rfl
end
