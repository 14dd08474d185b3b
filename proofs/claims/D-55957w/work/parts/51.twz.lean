/-! THE REFERENCE: a command is done, a program is run -/
section
set_option maxRecDepth 100000
variable {G : zG} {h0 : zH} {a : tA} {T : tS} {tt nn n : Nat}
def sDo (s : sS) (c : pC) : sR :=
  if c.1 = 97 then sAdd s (nI c.2.1) (nI c.2.2.1) (nI c.2.2.2.1) (nI c.2.2.2.2)
  else if c.1 = 115 then sSign s (nI c.2.1) (nI c.2.2.1)
  else if c.1 = 99 then sCosign s (nI c.2.1) (nI c.2.2.1)
  else if c.1 = 101 then sSettle s (nI c.2.1)
  else if c.1 = 117 then sAudit s (nI c.2.1)
  else if c.1 = 116 then sAdvance s (nI c.2.1)
  else sSetRate s (nI c.2.1) (nI c.2.2.1)
theorem sJ.doc {T N : Nat} {s : sS} (h : sJ T N s) (hN : N ≤ 10000) {c : pC} : sJ (T + 50) (N + 1) (sDo s c).2.2 := by
  unfold sDo
  split
  · exact h.add
  · split
    · exact h.sign
    · split
      · exact h.cosign
      · split
        · exact h.settle
        · split
          · exact h.audit hN
          · split
            · exact h.advance
            · exact h.setRate
def pk (k : Nat) : Prop := k = 97 ∨ k = 115 ∨ k = 99 ∨ k = 101 ∨ k = 117 ∨ k = 116 ∨ k = 114 ∨ k = 0
theorem pArgs_k {l : List Nat} {w : Nat × Nat × Nat} (h : pk w.1) : pk (pArgs l w).1.1 := by
  unfold pArgs
  split
  · exact Or.inl rfl
  · split
    · exact h
    · split
      · exact h
      · split
        · split
          · exact Or.inr (Or.inr (Or.inr (Or.inr (Or.inr (Or.inl rfl)))))
          · exact Or.inr (Or.inr (Or.inr (Or.inr (Or.inr (Or.inl rfl)))))
        · exact h
theorem pCmd_k {l : List Nat} {h : Nat} : pk (pCmd l h).1.1 := by
  unfold pCmd
  split
  · split
    · refine pArgs_k ?_
      rcases pWord_k (l := l) (p := (h + 1, 0)) with q | q | q | q | q | q | q
      · exact Or.inl q
      · exact Or.inr (Or.inl q)
      · exact Or.inr (Or.inr (Or.inl q))
      · exact Or.inr (Or.inr (Or.inr (Or.inl q)))
      · exact Or.inr (Or.inr (Or.inr (Or.inr (Or.inl q))))
      · exact Or.inr (Or.inr (Or.inr (Or.inr (Or.inr (Or.inl q)))))
      · exact Or.inr (Or.inr (Or.inr (Or.inr (Or.inr (Or.inr (Or.inl q))))))
    · exact Or.inr (Or.inr (Or.inr (Or.inr (Or.inr (Or.inr (Or.inr rfl))))))
  · exact Or.inr (Or.inr (Or.inr (Or.inr (Or.inr (Or.inr (Or.inr rfl))))))
theorem pLoop_k {l : List Nat} : ∀ {m : Nat} {p : Nat × Nat} {cs : List pC}, (∀ c ∈ cs, pk c.1) → ∀ c ∈ (pLoop l m p cs).1, pk c.1 := by
  intro m
  induction m with
  | zero => intro p cs h; exact h
  | succ m ih =>
    intro p cs h
    rw [pLoop]
    split
    · refine ih fun c hc => ?_
      rcases List.mem_append.mp hc with q | q
      · exact h c q
      · rw [List.mem_singleton.mp q]; exact pCmd_k
    · exact h
theorem pParse_k {l : List Nat} : ∀ c ∈ (pParse l).1, pk c.1 := pLoop_k fun c hc => by rw [List.mem_singleton.mp hc]; exact pCmd_k
set_option maxHeartbeats 8000000 in
theorem w_does (hD : tD a) {s : sS} (hR : tR T.2.1 0 s) (hJ : sJ tt nn s) (hT : tt + 50 < 100000) (hN : nn ≤ 10000) {i : Nat} (hi : i ≤ 60) {c : pC} (hK : tK T.2.2.2.2 i c) (hk : pk c.1) : zK G mX3_does 6 0 [.ref a.1, .int (nI (5 * i))] (tH h0 a T) (tQ h0 a (tC T s (sDo s c))) := by
  have hB := hJ.1.tB (by omega) hN
  obtain ⟨k, x1, x2, x3, x4⟩ := c
  obtain ⟨k0, k1, k2, k3, k4⟩ := hK
  dsimp only at k0 k1 k2 k3 k4 hk
  show zW G mX3_does 6 0 0 [.ref a.1, .int (nI (5 * i)), zho, zho] [] (tH h0 a T) _
  refine zW.aload_n (pc' := 1) dX3_does_0 rfl rfl zg0 rfl ?_
  refine zT.get (pc' := 4) dX3_does_1 rfl f_X3_27_3 rfl ?_
  try dsimp only
  refine zW.iload_n (pc' := 5) dX3_does_4 rfl rfl (zgS (zg0)) ?_
  refine zW.iconst (pc' := 6) (nI 1) dX3_does_5 rfl (by decide) ?_
  refine zW.iaddN (pc' := 7) dX3_does_6 rfl ?_
  first | refine zT.ald1 (pc' := 8) dX3_does_7 rfl hD (by omega) ?_ | refine zT.ald4 (pc' := 8) dX3_does_7 rfl hD (by omega) ?_
  try dsimp only
  rw [k1]
  refine zW.istore_n (pc' := 9) dX3_does_8 rfl rfl (Nat.le_of_ble_eq_true rfl) (zsS (zsS (zs0))) ?_
  refine zW.aload_n (pc' := 10) dX3_does_9 rfl rfl zg0 rfl ?_
  refine zT.get (pc' := 13) dX3_does_10 rfl f_X3_27_3 rfl ?_
  try dsimp only
  refine zW.iload_n (pc' := 14) dX3_does_13 rfl rfl (zgS (zg0)) ?_
  refine zW.iconst (pc' := 15) (nI 2) dX3_does_14 rfl (by decide) ?_
  refine zW.iaddN (pc' := 16) dX3_does_15 rfl ?_
  first | refine zT.ald1 (pc' := 17) dX3_does_16 rfl hD (by omega) ?_ | refine zT.ald4 (pc' := 17) dX3_does_16 rfl hD (by omega) ?_
  try dsimp only
  rw [k2]
  refine zW.istore_n (pc' := 18) dX3_does_17 rfl rfl (Nat.le_of_ble_eq_true rfl) (zsS (zsS (zsS (zs0)))) ?_
  refine zW.aload_n (pc' := 19) dX3_does_18 rfl rfl zg0 rfl ?_
  refine zT.get (pc' := 22) dX3_does_19 rfl f_X3_27_3 rfl ?_
  try dsimp only
  refine zW.iload_n (pc' := 23) dX3_does_22 rfl rfl (zgS (zg0)) ?_
  first | refine zT.ald1 (pc' := 24) dX3_does_23 rfl hD (by omega) ?_ | refine zT.ald4 (pc' := 24) dX3_does_23 rfl hD (by omega) ?_
  try dsimp only
  rw [k0]
  have rate : sDo s (k, x1, x2, x3, x4) = sSetRate s (nI x1) (nI x2) → zW G mX3_does 6 0 139 [.ref a.1, .int (nI (5 * i)), .int (nI x1), .int (nI x2)] [] (tH h0 a T) (tQ h0 a (tC T s (sDo s (k, x1, x2, x3, x4)))) := by
    intro e
    rw [e]
    refine zW.aload_n (pc' := 140) dX3_does_139 rfl rfl zg0 rfl ?_
    refine zW.iload_n (pc' := 141) dX3_does_140 rfl rfl (zgS (zgS (zg0))) ?_
    refine zW.iload_n (pc' := 142) dX3_does_141 rfl rfl (zgS (zgS (zgS (zg0)))) ?_
    refine zT.call (pc' := 145) dX3_does_142 rfl l_X3_121 rfl rfl (w_setsRate hD hR) (zcc rfl (zcc rfl zc0)) rfl (Nat.le_of_ble_eq_true rfl) (Nat.le_of_ble_eq_true rfl) (Nat.le_of_ble_eq_true rfl) (fun _ T2 hC => ?_)
    rw [hC.v]
    refine zW.iret dX3_does_145 rfl (rfl) ?_
    exact ⟨_, T2, rfl, hC.vv, rfl⟩
  rcases hk with q | q | q | q | q | q | q | q
  · subst q
    rw [show sDo s (97, x1, x2, x3, x4) = sAdd s (nI x1) (nI x2) (nI x3) (nI x4) from rfl]
    refine zW.lookup (off := 60) 84 dX3_does_24 (by decide) (by decide) (by decide) ?_
    refine zW.aload_n (pc' := 85) dX3_does_84 rfl rfl zg0 rfl ?_
    refine zW.iload_n (pc' := 86) dX3_does_85 rfl rfl (zgS (zgS (zg0))) ?_
    refine zW.iload_n (pc' := 87) dX3_does_86 rfl rfl (zgS (zgS (zgS (zg0)))) ?_
    refine zW.aload_n (pc' := 88) dX3_does_87 rfl rfl zg0 rfl ?_
    refine zT.get (pc' := 91) dX3_does_88 rfl f_X3_27_3 rfl ?_
    try dsimp only
    refine zW.iload_n (pc' := 92) dX3_does_91 rfl rfl (zgS (zg0)) ?_
    refine zW.iconst (pc' := 93) (nI 3) dX3_does_92 rfl (by decide) ?_
    refine zW.iaddN (pc' := 94) dX3_does_93 rfl ?_
    first | refine zT.ald1 (pc' := 95) dX3_does_94 rfl hD (by omega) ?_ | refine zT.ald4 (pc' := 95) dX3_does_94 rfl hD (by omega) ?_
    try dsimp only
    rw [k3]
    refine zW.aload_n (pc' := 96) dX3_does_95 rfl rfl zg0 rfl ?_
    refine zT.get (pc' := 99) dX3_does_96 rfl f_X3_27_3 rfl ?_
    try dsimp only
    refine zW.iload_n (pc' := 100) dX3_does_99 rfl rfl (zgS (zg0)) ?_
    refine zW.iconst (pc' := 101) (nI 4) dX3_does_100 rfl (by decide) ?_
    refine zW.iaddN (pc' := 102) dX3_does_101 rfl ?_
    first | refine zT.ald1 (pc' := 103) dX3_does_102 rfl hD (by omega) ?_ | refine zT.ald4 (pc' := 103) dX3_does_102 rfl hD (by omega) ?_
    try dsimp only
    rw [k4]
    refine zT.call (pc' := 106) dX3_does_103 rfl l_X3_66 rfl rfl (w_adds hD hR) (zcc rfl (zcc rfl (zcc rfl (zcc rfl zc0)))) rfl (Nat.le_of_ble_eq_true rfl) (Nat.le_of_ble_eq_true rfl) (Nat.le_of_ble_eq_true rfl) (fun _ T2 hC => ?_)
    rw [hC.v]
    refine zW.iret dX3_does_106 rfl (rfl) ?_
    exact ⟨_, T2, rfl, hC.vv, rfl⟩
  · subst q
    rw [show sDo s (115, x1, x2, x3, x4) = sSign s (nI x1) (nI x2) from rfl]
    refine zW.lookup (off := 83) 107 dX3_does_24 (by decide) (by decide) (by decide) ?_
    refine zW.aload_n (pc' := 108) dX3_does_107 rfl rfl zg0 rfl ?_
    refine zW.iload_n (pc' := 109) dX3_does_108 rfl rfl (zgS (zgS (zg0))) ?_
    refine zW.iload_n (pc' := 110) dX3_does_109 rfl rfl (zgS (zgS (zgS (zg0)))) ?_
    refine zT.call (pc' := 113) dX3_does_110 rfl l_X3_83 rfl rfl (w_signs hD hR hB) (zcc rfl (zcc rfl zc0)) rfl (Nat.le_of_ble_eq_true rfl) (Nat.le_of_ble_eq_true rfl) (Nat.le_of_ble_eq_true rfl) (fun _ T2 hC => ?_)
    rw [hC.v]
    refine zW.iret dX3_does_113 rfl (rfl) ?_
    exact ⟨_, T2, rfl, hC.vv, rfl⟩
  · subst q
    rw [show sDo s (99, x1, x2, x3, x4) = sCosign s (nI x1) (nI x2) from rfl]
    refine zW.lookup (off := 90) 114 dX3_does_24 (by decide) (by decide) (by decide) ?_
    refine zW.aload_n (pc' := 115) dX3_does_114 rfl rfl zg0 rfl ?_
    refine zW.iload_n (pc' := 116) dX3_does_115 rfl rfl (zgS (zgS (zg0))) ?_
    refine zW.iload_n (pc' := 117) dX3_does_116 rfl rfl (zgS (zgS (zgS (zg0)))) ?_
    refine zT.call (pc' := 120) dX3_does_117 rfl l_X3_89 rfl rfl (w_countersigns hD hR hB) (zcc rfl (zcc rfl zc0)) rfl (Nat.le_of_ble_eq_true rfl) (Nat.le_of_ble_eq_true rfl) (Nat.le_of_ble_eq_true rfl) (fun _ T2 hC => ?_)
    rw [hC.v]
    refine zW.iret dX3_does_120 rfl (rfl) ?_
    exact ⟨_, T2, rfl, hC.vv, rfl⟩
  · subst q
    rw [show sDo s (101, x1, x2, x3, x4) = sSettle s (nI x1) from rfl]
    refine zW.lookup (off := 97) 121 dX3_does_24 (by decide) (by decide) (by decide) ?_
    refine zW.aload_n (pc' := 122) dX3_does_121 rfl rfl zg0 rfl ?_
    refine zW.iload_n (pc' := 123) dX3_does_122 rfl rfl (zgS (zgS (zg0))) ?_
    refine zT.call (pc' := 126) dX3_does_123 rfl l_X3_96 rfl rfl (w_settles hD hR hB (fun j hj => hJ.1.qu hj)) (zcc rfl zc0) rfl (Nat.le_of_ble_eq_true rfl) (Nat.le_of_ble_eq_true rfl) (Nat.le_of_ble_eq_true rfl) (fun _ T2 hC => ?_)
    rw [hC.v]
    refine zW.iret dX3_does_126 rfl (rfl) ?_
    exact ⟨_, T2, rfl, hC.vv, rfl⟩
  · subst q
    rw [show sDo s (117, x1, x2, x3, x4) = sAudit s (nI x1) from rfl]
    refine zW.lookup (off := 103) 127 dX3_does_24 (by decide) (by decide) (by decide) ?_
    refine zW.aload_n (pc' := 128) dX3_does_127 rfl rfl zg0 rfl ?_
    refine zW.iload_n (pc' := 129) dX3_does_128 rfl rfl (zgS (zgS (zg0))) ?_
    refine zT.call (pc' := 132) dX3_does_129 rfl l_X3_118 rfl rfl (w_audits hD hR hJ.1 hJ.2 (by omega) hN) (zcc rfl zc0) rfl (Nat.le_of_ble_eq_true rfl) (Nat.le_of_ble_eq_true rfl) (Nat.le_of_ble_eq_true rfl) (fun _ T2 hC => ?_)
    rw [hC.v]
    refine zW.iret dX3_does_132 rfl (rfl) ?_
    exact ⟨_, T2, rfl, hC.vv, rfl⟩
  · subst q
    rw [show sDo s (116, x1, x2, x3, x4) = sAdvance s (nI x1) from rfl]
    refine zW.lookup (off := 109) 133 dX3_does_24 (by decide) (by decide) (by decide) ?_
    refine zW.aload_n (pc' := 134) dX3_does_133 rfl rfl zg0 rfl ?_
    refine zW.iload_n (pc' := 135) dX3_does_134 rfl rfl (zgS (zgS (zg0))) ?_
    refine zT.call (pc' := 138) dX3_does_135 rfl l_X3_112 rfl rfl (w_passes hD hR hJ.1 hJ.2 hT hN) (zcc rfl zc0) rfl (Nat.le_of_ble_eq_true rfl) (Nat.le_of_ble_eq_true rfl) (Nat.le_of_ble_eq_true rfl) (fun _ T2 hC => ?_)
    rw [hC.v]
    refine zW.iret dX3_does_138 rfl (rfl) ?_
    exact ⟨_, T2, rfl, hC.vv, rfl⟩
  · subst q
    refine zW.lookup (off := 115) 139 dX3_does_24 (by decide) (by decide) (by decide) ?_
    exact rate rfl
  · subst q
    refine zW.lookup (off := 115) 139 dX3_does_24 (by decide) (by decide) (by decide) ?_
    exact rate rfl
def sDos : List pC → sS → Nat × sS
  | [], s => (0, s)
  | c :: cs, s => if (sDo s c).1 = 0 then ((sDos cs (sDo s c).2.2).1 + 1, (sDos cs (sDo s c).2.2).2) else (0, s)
theorem sDos_le : ∀ {cs : List pC} {s : sS}, (sDos cs s).1 ≤ cs.length := by
  intro cs
  induction cs with
  | nil => intro s; exact Nat.le_refl _
  | cons c cs ih =>
    intro s
    rw [sDos]
    split
    · exact Nat.succ_le_succ ih
    · exact Nat.zero_le _
/-- the commands cs are done, all or none -/
def sRunA (w : sW) (cs : List pC) : Nat × Int32 × sW :=
  if (sDos cs w.1).1 = cs.length then (0, nI cs.length, ((sDos cs w.1).2, sPush w.2.1 w.1, w.2.2.1, w.2.2.2.1, [], w.2.2.2.2.2.1, w.2.2.2.2.2.2))
  else (2, nI 0, (w.1, w.2.1, w.2.2.1, w.2.2.2.1, [], w.2.2.2.2.2.1, (sDos cs w.1).1 + 1))
theorem sRunA_bad {w : sW} {cs : List pC} {k : Nat} (h : (sDos cs w.1).1 = k) (hk : k < cs.length) : sRunA w cs = (2, nI 0, (w.1, w.2.1, w.2.2.1, w.2.2.2.1, [], w.2.2.2.2.2.1, k + 1)) := by
  unfold sRunA
  rw [h, if_neg (by omega)]
theorem sRunA_good {w : sW} {cs : List pC} {s' : sS} (h : (sDos cs w.1).1 = cs.length) (h2 : (sDos cs w.1).2 = s') : sRunA w cs = (0, nI cs.length, (s', sPush w.2.1 w.1, w.2.2.1, w.2.2.2.1, [], w.2.2.2.2.2.1, w.2.2.2.2.2.2)) := by
  unfold sRunA
  rw [if_pos h, h2]
/-- a run of the program that stands in the input -/
def sRun (w : sW) : Nat × Int32 × sW :=
  if (pParse w.2.2.2.2.1).2 = 0 then sRunA w (pParse w.2.2.2.2.1).1
  else (1, nI 0, (w.1, w.2.1, w.2.2.1, w.2.2.2.1, [], (pParse w.2.2.2.2.1).2, w.2.2.2.2.2.2))
theorem tX.in0 {T T' : tS} {w : sW} {s : sS} {e f : Nat} (h : tX T w) (hA : ∀ j, 130 ≤ j → j < 1300 → T'.2.1 j = T.2.1 j) (hL : T'.2.2.1 = T.2.2.1) (hF : ∀ f, f = 2 ∨ f = 3 ∨ f = 6 → T'.1 f = T.1 f) (h8 : T'.1 8 = 0) (h11 : T'.1 11 = e) (h12 : T'.1 12 = f) : tX T' (s, w.2.1, w.2.2.1, w.2.2.2.1, [], e, f) := by
  obtain ⟨⟨h1, h2, h3⟩, ⟨h4, h5⟩, ⟨h6, h7, h8'⟩, h9⟩ := h
  refine ⟨⟨(hF 2 (Or.inl rfl)).trans h1, h2, fun i S hS => (h3 i S hS).cg fun j hj => hA _ (by omega) ?_⟩, ⟨(hF 3 (Or.inr (Or.inl rfl))).trans h4, fun S hS => (h5 S hS).cg fun j hj => hA _ (by omega) (by omega)⟩, ⟨(hF 6 (Or.inr (Or.inr rfl))).trans h6, h7, fun i x hx => by rw [hL]; exact h8' i x hx⟩, ⟨h8, Nat.zero_le _, fun i x hx => by cases hx⟩, h11, h12⟩
  have hS' : w.2.1[i]? = some S := hS
  have := (List.getElem?_eq_some_iff.mp hS').1
  omega
set_option maxHeartbeats 8000000 in
theorem w_run (hD : tD a) {w : sW} (hW : tW T w) (hJ : sJ tt nn w.1) (hT : tt + 50 * 62 < 100000) (hN : nn + 61 ≤ 10000) (hc : ∀ x ∈ w.2.2.2.2.1, x < 128) : zK G mX3_run 7 0 [.ref a.1] (tH h0 a T) (tO h0 a (sRun w).1 (.int (sRun w).2.1) (sRun w).2.2) := by
  have hX := hW.2
  obtain ⟨-, -, -, ⟨x1, x2, x3⟩, x4, x5⟩ := hW.2
  unfold sRun
  show zW G mX3_run 7 0 0 [.ref a.1, zho, zho] [] (tH h0 a T) _
  refine zW.aload_n (pc' := 1) dX3_run_0 rfl rfl zg0 rfl ?_
  refine zT.call (pc' := 4) dX3_run_1 rfl l_X3_203 rfl rfl (w_parse hD x1 x2 x3 hc) zc0 rfl (Nat.le_of_ble_eq_true rfl) (Nat.le_of_ble_eq_true rfl) (Nat.le_of_ble_eq_true rfl) (fun _ T1 ⟨e1, p10, p14, pK, pF, p61, p62⟩ => ?_)
  subst e1
  generalize hr : pParse w.2.2.2.2.1 = r at *
  have hkk : ∀ c ∈ r.1, pk c.1 := by rw [← hr]; exact pParse_k
  have g8 : zu T1.1 8 0 8 = 0 := zu_s
  have g : ∀ f, f ≠ 8 → zu T1.1 8 0 f = T1.1 f := fun f hf => zu_n hf
  have gF : ∀ f, f = 2 ∨ f = 3 ∨ f = 6 → zu T1.1 8 0 f = T.1 f := fun f hf => (g f (by omega)).trans (pF.1 f (by omega) (by omega) (by omega))
  have g11 : zu T1.1 8 0 11 = w.2.2.2.2.2.1 := (g 11 (by decide)).trans ((pF.1 11 (by decide) (by decide) (by decide)).trans x4)
  have g12 : zu T1.1 8 0 12 = w.2.2.2.2.2.2 := (g 12 (by decide)).trans ((pF.1 12 (by decide) (by decide) (by decide)).trans x5)
  have hR1 : tR T1.2.1 0 w.1 := by rw [pF.2.1]; exact hW.1
  by_cases he : r.2 = 0
  rotate_left
  · rw [if_neg he]
    refine zW.aload_n (pc' := 5) dX3_run_4 rfl rfl zg0 rfl ?_
    refine zW.iconst (pc' := 6) (nI 0) dX3_run_5 rfl (by decide) ?_
    refine zT.putN (pc' := 9) dX3_run_6 rfl f_X3_170_3 (zFw.of ft_3_8 rfl rfl) rfl ?_
    try dsimp only
    refine zW.aload_n (pc' := 10) dX3_run_9 rfl rfl zg0 rfl ?_
    refine zT.get (pc' := 13) dX3_run_10 rfl f_X3_176_3 rfl ?_
    try dsimp only
    rw [g 10 (by decide), p10]
    refine zW.if_lt (pc' := 16) 31 dX3_run_13 rfl (by decide) (fun b1 => ?_) (fun b1 => ?_)
    · exact absurd ((nI_elt (by omega)).mp b1) he
    refine zW.aload_n (pc' := 17) dX3_run_16 rfl rfl zg0 rfl ?_
    refine zW.aload_n (pc' := 18) dX3_run_17 rfl rfl zg0 rfl ?_
    refine zT.get (pc' := 21) dX3_run_18 rfl f_X3_176_3 rfl ?_
    try dsimp only
    refine zT.putE (pc' := 24) dX3_run_21 rfl f_X3_20_3 (zFw.of ft_3_11 rfl rfl) rfl ?_
    try dsimp only
    refine zW.aload_n (pc' := 25) dX3_run_24 rfl rfl zg0 rfl ?_
    refine zW.iconst (pc' := 26) (nI 1) dX3_run_25 rfl (by decide) ?_
    refine zT.putN (pc' := 29) dX3_run_26 rfl f_X3_30_3 (zFw.of ft_3_0 rfl rfl) rfl ?_
    try dsimp only
    refine zW.iconst (pc' := 30) (nI 0) dX3_run_29 rfl (by decide) ?_
    refine zW.iret dX3_run_30 rfl (rfl) ?_
    have k : ∀ f, f ≠ 11 → f ≠ 0 → zu (zu (zu T1.1 8 0) 11 (zu T1.1 8 0 10)) 0 1 f = zu T1.1 8 0 f := fun f q1 q2 => (zu_n q2).trans (zu_n q1)
    have k11 : zu (zu (zu T1.1 8 0) 11 (zu T1.1 8 0 10)) 0 1 11 = r.2 := (zu_n (by decide)).trans (zu_s.trans ((g 10 (by decide)).trans p10))
    have k0 : zu (zu (zu T1.1 8 0) 11 (zu T1.1 8 0 10)) 0 1 0 = 1 := zu_s
    refine ⟨_, (zu (zu (zu T1.1 8 0) 11 (zu T1.1 8 0 10)) 0 1, T1.2), rfl, ⟨rfl, k0, hR1, hX.in0 (fun j _ _ => by rw [show T1.2.1 = T.2.1 from pF.2.1]) pF.2.2.1 (fun f hf => (k f (by omega) (by omega)).trans (gF f hf)) ((k 8 (by decide) (by decide)).trans g8) k11 ((k 12 (by decide) (by decide)).trans g12)⟩, rfl⟩
  · rw [if_pos he]
    refine zW.aload_n (pc' := 5) dX3_run_4 rfl rfl zg0 rfl ?_
    refine zW.iconst (pc' := 6) (nI 0) dX3_run_5 rfl (by decide) ?_
    refine zT.putN (pc' := 9) dX3_run_6 rfl f_X3_170_3 (zFw.of ft_3_8 rfl rfl) rfl ?_
    try dsimp only
    refine zW.aload_n (pc' := 10) dX3_run_9 rfl rfl zg0 rfl ?_
    refine zT.get (pc' := 13) dX3_run_10 rfl f_X3_176_3 rfl ?_
    try dsimp only
    rw [g 10 (by decide), p10, he]
    refine zW.if_lt (pc' := 16) 31 dX3_run_13 rfl (by decide) (fun b1 => ?_) (fun b1 => ?_)
    rotate_left
    · exact absurd ((nI_elt (e := 0) (by omega)).mpr rfl) b1
    refine zW.aload_n (pc' := 32) dX3_run_31 rfl rfl zg0 rfl ?_
    refine zT.call (pc' := 35) dX3_run_32 rfl l_X3_63 rfl rfl (w_begins hD) zc0 rfl (Nat.le_of_ble_eq_true rfl) (Nat.le_of_ble_eq_true rfl) (Nat.le_of_ble_eq_true rfl) (fun _ _ ⟨e1, e2⟩ => ?_)
    subst e1; rw [e2]
    dsimp only
    have hR2 : tR (tcp T1.2.1 0 10 130) 0 w.1 := tR.cpo (k := 0) hR1 (by decide)
    have h10 : tR (tcp T1.2.1 0 10 130) (130 * 10) w.1 := tR.cp (f := 0) hR1
    have hA2 : ∀ j, 130 ≤ j → j < 1300 → tcp T1.2.1 0 10 130 j = T.2.1 j := fun j j1 j2 => by
      unfold tcp
      rw [if_neg (by omega), pF.2.1]
    have bad : ∀ (T4 : tS) (k : Nat), k < r.1.length → (sDos r.1 w.1).1 = k → tF (zu T1.1 8 0, tcp T1.2.1 0 10 130, T1.2.2) T4 → zW G mX3_run 7 0 61 [.ref a.1, .int (nI k), zho] [] (tH h0 a T4) (tO h0 a (sRunA w r.1).1 (.int (sRunA w r.1).2.1) (sRunA w r.1).2.2) := by
      intro T4 k hk hek hF
      rw [sRunA_bad hek hk]
      have f : ∀ f, f ≠ 4 → T4.1 f = zu T1.1 8 0 f := hF.2.1
      refine zW.iload_n (pc' := 62) dX3_run_61 rfl rfl (zgS (zg0)) ?_
      refine zW.aload_n (pc' := 63) dX3_run_62 rfl rfl zg0 rfl ?_
      refine zT.get (pc' := 66) dX3_run_63 rfl f_X3_191_3 rfl ?_
      try dsimp only
      rw [f 14 (by decide), g 14 (by decide), p14]
      refine zW.icmp_neN (pc' := 69) 73 dX3_run_66 rfl (by decide) (by omega) (by omega) (fun b9 => ?_) (fun b9 => absurd b9 (by omega))
      refine zW.iconst (pc' := 74) (nI 0) dX3_run_73 rfl (by decide) ?_
      refine zW.istore_n (pc' := 75) dX3_run_74 rfl rfl (Nat.le_of_ble_eq_true rfl) (zsS (zsS (zs0))) ?_
      refine zW.aload_n (pc' := 76) dX3_run_75 rfl rfl zg0 rfl ?_
      refine zW.iload_n (pc' := 77) dX3_run_76 rfl rfl (zgS (zgS (zg0))) ?_
      refine zW.if_eqN (pc' := 80) 87 dX3_run_77 rfl (by decide) (by omega) (fun b9 => ?_) (fun b9 => absurd b9 (by omega))
      refine zW.iload_n (pc' := 88) dX3_run_87 rfl rfl (zgS (zg0)) ?_
      rw [nI_e1 (n := k)]
      refine zT.putE (pc' := 91) dX3_run_88 rfl f_X3_24_3 (zFw.of ft_3_12 rfl rfl) rfl ?_
      try dsimp only
      refine zW.aload_n (pc' := 92) dX3_run_91 rfl rfl zg0 rfl ?_
      refine zW.aload_n (pc' := 93) dX3_run_92 rfl rfl zg0 rfl ?_
      refine zT.get (pc' := 96) dX3_run_93 rfl f_X3_191_3 rfl ?_
      try dsimp only
      refine zT.putN (pc' := 99) dX3_run_96 rfl f_X3_40_3 (zFw.of ft_3_4 rfl rfl) rfl ?_
      try dsimp only
      refine zW.aload_n (pc' := 100) dX3_run_99 rfl rfl zg0 rfl ?_
      refine zW.iload_n (pc' := 101) dX3_run_100 rfl rfl (zgS (zgS (zg0))) ?_
      refine zW.if_eqN (pc' := 104) 108 dX3_run_101 rfl (by decide) (by omega) (fun b9 => ?_) (fun b9 => absurd b9 (by omega))
      refine zW.iconst (pc' := 109) (nI 3) dX3_run_108 rfl (by decide) ?_
      refine zW.iconst (pc' := 110) (nI 0) dX3_run_109 rfl (by decide) ?_
      refine zW.iconst (pc' := 111) (nI 0) dX3_run_110 rfl (by decide) ?_
      refine zW.iconst (pc' := 112) (nI 2) dX3_run_111 rfl (by decide) ?_
      have k4 : ∀ f, f ≠ 12 → f ≠ 4 → zu (zu T4.1 12 (k + 1)) 4 (zu T4.1 12 (k + 1) 14) f = zu T1.1 8 0 f := fun j q1 q2 => (zu_n q2).trans ((zu_n q1).trans (f j q2))
      have k12 : zu (zu T4.1 12 (k + 1)) 4 (zu T4.1 12 (k + 1) 14) 12 = k + 1 := (zu_n (by decide)).trans zu_s
      have hX4 : tX (zu (zu T4.1 12 (k + 1)) 4 (zu T4.1 12 (k + 1) 14), T4.2) (w.1, w.2.1, w.2.2.1, w.2.2.2.1, [], w.2.2.2.2.2.1, k + 1) := hX.in0 (fun j j1 j2 => (hF.1 j j1).trans (hA2 j j1 j2)) (by show T4.2.2.1 = _; rw [hF.2.2]; exact pF.2.2.1) (fun j hj => (k4 j (by omega) (by omega)).trans (gF j hj)) ((k4 8 (by decide) (by decide)).trans g8) ((k4 11 (by decide) (by decide)).trans g11) k12
      have h104 : tR T4.2.1 (130 * 10) w.1 := h10.cg fun j hj => hF.1 _ (by omega)
      refine zT.call (pc' := 115) dX3_run_112 rfl l_X3_70 rfl rfl (w_ends hD (s := w.1) hX4 h104 (by' := 3) (n1 := 0) (n2 := 0) (n3 := 2) (by decide) (by decide) (by decide) (by decide) (fun q => absurd q (by decide))) (zcc rfl (zcc rfl (zcc rfl (zcc rfl zc0)))) rfl (Nat.le_of_ble_eq_true rfl) (Nat.le_of_ble_eq_true rfl) (Nat.le_of_ble_eq_true rfl) (fun _ T5 ⟨e3, e4, e5⟩ => ?_)
      subst e3
      rw [if_neg (show ¬ sTh 3 0 0 2 = 0 by decide)] at e5
      refine zW.iret dX3_run_115 rfl (rfl) ?_
      exact ⟨_, T5, rfl, ⟨rfl, e4, e5⟩, rfl⟩
    have good : ∀ (T4 : tS) (s' : sS), (sDos r.1 w.1).1 = r.1.length → (sDos r.1 w.1).2 = s' → tR T4.2.1 0 s' → tF (zu T1.1 8 0, tcp T1.2.1 0 10 130, T1.2.2) T4 → zW G mX3_run 7 0 61 [.ref a.1, .int (nI r.1.length), zho] [] (tH h0 a T4) (tO h0 a (sRunA w r.1).1 (.int (sRunA w r.1).2.1) (sRunA w r.1).2.2) := by
      intro T4 s' hek hes hR4 hF
      rw [sRunA_good hek hes]
      have f : ∀ f, f ≠ 4 → T4.1 f = zu T1.1 8 0 f := hF.2.1
      refine zW.iload_n (pc' := 62) dX3_run_61 rfl rfl (zgS (zg0)) ?_
      refine zW.aload_n (pc' := 63) dX3_run_62 rfl rfl zg0 rfl ?_
      refine zT.get (pc' := 66) dX3_run_63 rfl f_X3_191_3 rfl ?_
      try dsimp only
      rw [f 14 (by decide), g 14 (by decide), p14]
      refine zW.icmp_neN (pc' := 69) 73 dX3_run_66 rfl (by decide) (by omega) (by omega) (fun b9 => absurd b9 (by omega)) (fun b9 => ?_)
      refine zW.iconst (pc' := 70) (nI 1) dX3_run_69 rfl (by decide) ?_
      refine zW.goto 74 dX3_run_70 (by decide) ?_
      refine zW.istore_n (pc' := 75) dX3_run_74 rfl rfl (Nat.le_of_ble_eq_true rfl) (zsS (zsS (zs0))) ?_
      refine zW.aload_n (pc' := 76) dX3_run_75 rfl rfl zg0 rfl ?_
      refine zW.iload_n (pc' := 77) dX3_run_76 rfl rfl (zgS (zgS (zg0))) ?_
      refine zW.if_eqN (pc' := 80) 87 dX3_run_77 rfl (by decide) (by omega) (fun b9 => absurd b9 (by omega)) (fun b9 => ?_)
      refine zW.aload_n (pc' := 81) dX3_run_80 rfl rfl zg0 rfl ?_
      refine zT.get (pc' := 84) dX3_run_81 rfl f_X3_24_3 rfl ?_
      try dsimp only
      refine zW.goto 88 dX3_run_84 (by decide) ?_
      refine zT.putE (pc' := 91) dX3_run_88 rfl f_X3_24_3 (zFw.of ft_3_12 rfl rfl) rfl ?_
      try dsimp only
      refine zW.aload_n (pc' := 92) dX3_run_91 rfl rfl zg0 rfl ?_
      refine zW.aload_n (pc' := 93) dX3_run_92 rfl rfl zg0 rfl ?_
      refine zT.get (pc' := 96) dX3_run_93 rfl f_X3_191_3 rfl ?_
      try dsimp only
      refine zT.putN (pc' := 99) dX3_run_96 rfl f_X3_40_3 (zFw.of ft_3_4 rfl rfl) rfl ?_
      try dsimp only
      refine zW.aload_n (pc' := 100) dX3_run_99 rfl rfl zg0 rfl ?_
      refine zW.iload_n (pc' := 101) dX3_run_100 rfl rfl (zgS (zgS (zg0))) ?_
      refine zW.if_eqN (pc' := 104) 108 dX3_run_101 rfl (by decide) (by omega) (fun b9 => absurd b9 (by omega)) (fun b9 => ?_)
      refine zW.iconst (pc' := 105) (nI 0) dX3_run_104 rfl (by decide) ?_
      refine zW.goto 109 dX3_run_105 (by decide) ?_
      refine zW.iconst (pc' := 110) (nI 0) dX3_run_109 rfl (by decide) ?_
      refine zW.iconst (pc' := 111) (nI 0) dX3_run_110 rfl (by decide) ?_
      refine zW.iconst (pc' := 112) (nI 2) dX3_run_111 rfl (by decide) ?_
      have k4 : ∀ j, j ≠ 12 → j ≠ 4 → zu (zu T4.1 12 (T4.1 12)) 4 (zu T4.1 12 (T4.1 12) 14) j = zu T1.1 8 0 j := fun j q1 q2 => (zu_n q2).trans ((zu_n q1).trans (f j q2))
      have k12 : zu (zu T4.1 12 (T4.1 12)) 4 (zu T4.1 12 (T4.1 12) 14) 12 = w.2.2.2.2.2.2 := (zu_n (by decide)).trans (zu_s.trans ((f 12 (by decide)).trans g12))
      have kr : zu (zu T4.1 12 (T4.1 12)) 4 (zu T4.1 12 (T4.1 12) 14) 4 = r.1.length := zu_s.trans ((zu_n (by decide)).trans ((f 14 (by decide)).trans ((g 14 (by decide)).trans p14)))
      have hX4 : tX (zu (zu T4.1 12 (T4.1 12)) 4 (zu T4.1 12 (T4.1 12) 14), T4.2) (w.1, w.2.1, w.2.2.1, w.2.2.2.1, [], w.2.2.2.2.2.1, w.2.2.2.2.2.2) := hX.in0 (fun j j1 j2 => (hF.1 j j1).trans (hA2 j j1 j2)) (by show T4.2.2.1 = _; rw [hF.2.2]; exact pF.2.2.1) (fun j hj => (k4 j (by omega) (by omega)).trans (gF j hj)) ((k4 8 (by decide) (by decide)).trans g8) ((k4 11 (by decide) (by decide)).trans g11) k12
      have h104 : tR T4.2.1 (130 * 10) w.1 := h10.cg fun j hj => hF.1 _ (by omega)
      refine zT.call (pc' := 115) dX3_run_112 rfl l_X3_70 rfl rfl (w_ends hD (s := s') hX4 h104 (by' := 0) (n1 := 0) (n2 := 0) (n3 := 2) (by decide) (by decide) (by decide) (by decide) (fun _ => hR4)) (zcc rfl (zcc rfl (zcc rfl (zcc rfl zc0)))) rfl (Nat.le_of_ble_eq_true rfl) (Nat.le_of_ble_eq_true rfl) (Nat.le_of_ble_eq_true rfl) (fun _ T5 ⟨e3, e4, e5⟩ => ?_)
      subst e3
      rw [if_pos (show sTh 0 0 0 2 = 0 by decide)] at e5
      rw [if_pos (show sTh 0 0 0 2 = 0 by decide), show (zu (zu T4.1 12 (T4.1 12)) 4 (zu T4.1 12 (T4.1 12) 14), T4.2).1 4 = r.1.length from kr]
      refine zW.iret dX3_run_115 rfl (rfl) ?_
      exact ⟨_, T5, rfl, ⟨rfl, e4, e5⟩, rfl⟩
    have loop : ∀ (cs : List pC) (i : Nat) (T4 : tS) (s4 : sS), i + cs.length = r.1.length → (∀ j c, cs[j]? = some c → r.1[i + j]? = some c) → tR T4.2.1 0 s4 → sJ (tt + 50 * i) (nn + i) s4 → tF (zu T1.1 8 0, tcp T1.2.1 0 10 130, T1.2.2) T4 → (sDos r.1 w.1).1 = i + (sDos cs s4).1 → (sDos r.1 w.1).2 = (sDos cs s4).2 → zW G mX3_run 7 0 37 [.ref a.1, .int (nI i), zho] [] (tH h0 a T4) (tO h0 a (sRunA w r.1).1 (.int (sRunA w r.1).2.1) (sRunA w r.1).2.2) := by
      intro cs
      induction cs with
      | nil =>
        intro i T4 s4 hi hcs hR4 hJ4 hF e1 e2
        have hi : i = r.1.length := hi
        subst hi
        have hf := hF.2.1 14 (by decide)
        dsimp only at hf
        refine zW.iload_n (pc' := 38) dX3_run_37 rfl rfl (zgS (zg0)) ?_
        refine zW.aload_n (pc' := 39) dX3_run_38 rfl rfl zg0 rfl ?_
        refine zT.get (pc' := 42) dX3_run_39 rfl f_X3_191_3 rfl ?_
        try dsimp only
        rw [hf, g 14 (by decide), p14]
        refine zW.icmp_geN (pc' := 45) 61 dX3_run_42 rfl (by decide) (by omega) (by omega) (fun b9 => ?_) (fun b9 => absurd b9 (by omega))
        exact good T4 s4 e1 e2 hR4 hF
      | cons c cs ih =>
        intro i T4 s4 hi hcs hR4 hJ4 hF e1 e2
        have hf := hF.2.1 14 (by decide)
        dsimp only at hf
        rw [List.length_cons] at hi
        have hc0 : r.1[i]? = some c := hcs 0 c rfl
        have hKc : tK T4.2.2.2.2 i c := by
          rw [hF.2.2]
          exact pK i c hc0
        rw [sDos] at e1 e2
        refine zW.iload_n (pc' := 38) dX3_run_37 rfl rfl (zgS (zg0)) ?_
        refine zW.aload_n (pc' := 39) dX3_run_38 rfl rfl zg0 rfl ?_
        refine zT.get (pc' := 42) dX3_run_39 rfl f_X3_191_3 rfl ?_
        try dsimp only
        rw [hf, g 14 (by decide), p14]
        refine zW.icmp_geN (pc' := 45) 61 dX3_run_42 rfl (by decide) (by omega) (by omega) (fun b9 => absurd b9 (by omega)) (fun b9 => ?_)
        refine zW.aload_n (pc' := 46) dX3_run_45 rfl rfl zg0 rfl ?_
        refine zW.iconst (pc' := 47) (nI 5) dX3_run_46 rfl (by decide) ?_
        refine zW.iload_n (pc' := 48) dX3_run_47 rfl rfl (zgS (zg0)) ?_
        refine zW.imulN (pc' := 49) dX3_run_48 rfl ?_
        refine zT.call (pc' := 52) dX3_run_49 rfl l_X3_206 rfl rfl (w_does hD hR4 hJ4 (by omega) (by omega) (by omega) hKc (hkk c (List.mem_of_getElem? hc0))) (zcc rfl zc0) rfl (Nat.le_of_ble_eq_true rfl) (Nat.le_of_ble_eq_true rfl) (Nat.le_of_ble_eq_true rfl) (fun _ T5 hC => ?_)
        rw [hC.v]
        have hlt : (sDo s4 c).1 < 2 ^ 31 := by
          have : (sDo s4 c).1 < 4 := by
            unfold sDo
            split
            · exact sAdd_c.1
            · split
              · exact sSign_c
              · split
                · exact sCosign_c
                · split
                  · rcases sSettle_c (s := s4) (id := nI c.2.1) with q | q | q <;> omega
                  · split
                    · rcases sAudit_c (s := s4) (t := nI c.2.1) with q | q <;> omega
                    · split
                      · rcases sAdvance_c (s := s4) (t := nI c.2.1) with q | q <;> omega
                      · rcases sSetRate_c (s := s4) (p := nI c.2.1) (v := nI c.2.2.1) with q | q <;> omega
          omega
        by_cases q : (sDo s4 c).1 = 0
        · rw [if_pos q] at e1 e2
          refine zW.if_neN (pc' := 55) 61 dX3_run_52 rfl (by decide) (by omega) (fun b9 => absurd b9 (by omega)) (fun b9 => ?_)
          refine zW.iincN (pc' := 58) (n := 1) dX3_run_55 rfl (Nat.le_of_ble_eq_true rfl) (zgS (zg0)) (zsS (zs0)) ?_
          refine zW.goto 37 dX3_run_58 (by decide) ?_
          obtain ⟨-, c2, -, -, c5⟩ := hC
          refine ih (i + 1) T5 (sDo s4 c).2.2 (by omega) (fun j d hj => ?_) c2 ((hJ4.doc (by omega)).up (by omega) (by omega)) (hF.tr c5) (by rw [e1]; show i + (_ + 1) = _; omega) e2
          rw [Nat.add_assoc, Nat.add_comm 1 j]
          exact hcs (j + 1) d hj
        · rw [if_neg q] at e1 e2
          refine zW.if_neN (pc' := 55) 61 dX3_run_52 rfl (by decide) (by omega) (fun b9 => ?_) (fun b9 => absurd b9 (by omega))
          obtain ⟨-, -, -, -, c5⟩ := hC
          exact bad T5 i (by omega) e1 (hF.tr c5)
    refine zW.iconst (pc' := 36) (nI 0) dX3_run_35 rfl (by decide) ?_
    refine zW.istore_n (pc' := 37) dX3_run_36 rfl rfl (Nat.le_of_ble_eq_true rfl) (zsS (zs0)) ?_
    exact loop r.1 0 (zu T1.1 8 0, tcp T1.2.1 0 10 130, T1.2.2) w.1 (Nat.zero_add _) (fun j c hj => by rw [Nat.zero_add]; exact hj) hR2 (hJ.up (Nat.le_add_right _ _) (Nat.le_add_right _ _)) tF.rf (Nat.zero_add _).symm rfl
end
