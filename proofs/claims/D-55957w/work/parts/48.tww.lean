/-! THE REFERENCE's parser: a word -/
section
set_option maxRecDepth 100000
variable {G : zG} {h0 : zH} {a : tA} {T : tS} {tt nn n : Nat}
def pThree (l : List Nat) (x y z : Nat) (p : Nat × Nat) : Nat × Nat := pNeeds l z (pNeeds l y (pNeeds l x p))
/-- the rest of a word, behind its first letter: its kind, the place, the error -/
def pWord (l : List Nat) (first : Nat) (p : Nat × Nat) : Nat × Nat × Nat :=
  if first = 99 then (99, pNeeds l 110 (pThree l 115 105 103 (pThree l 116 101 114 (pThree l 111 117 110 p))))
  else if first = 116 then (116, pThree l 105 99 107 p)
  else if first = 114 then (114, pThree l 97 116 101 p)
  else if first = 97 then (if l[p.1]? = some 117 then (117, pNeeds l 116 (pThree l 117 100 105 p)) else (97, pNeeds l 100 (pNeeds l 100 p)))
  else (if l[p.1]? = some 101 then (101, pNeeds l 101 (pNeeds l 108 (pThree l 101 116 116 p))) else (115, pThree l 105 103 110 p))
theorem w_threeS (hD : tD a) {l : List Nat} {p : Nat × Nat} (hP : tP T l p.1 p.2) {c1 c2 c3 : Nat} (hc1 : c1 < 128) (hc2 : c2 < 128) (hc3 : c3 < 128) : zK G mX3_three 3 0 [.ref a.1, .int (nI c1), .int (nI c2), .int (nI c3)] (tH h0 a T) (tQ h0 a fun v T' => v = none ∧ tP T' l (pThree l c1 c2 c3 p).1 (pThree l c1 c2 c3 p).2 ∧ tPF T T') := w_three hD hP hc1 hc2 hc3
theorem w_needsS (hD : tD a) {l : List Nat} {p : Nat × Nat} (hP : tP T l p.1 p.2) {c : Nat} (hc : c < 128) : zK G mX3_needs 2 0 [.ref a.1, .int (nI c)] (tH h0 a T) (tQ h0 a fun v T' => v = none ∧ tP T' l (pNeeds l c p).1 (pNeeds l c p).2 ∧ tPF T T') := w_needs hD hP hc
set_option maxHeartbeats 8000000 in
theorem w_word (hD : tD a) {l : List Nat} {p : Nat × Nat} (hP : tP T l p.1 p.2) {first : Nat} (hf : first = 97 ∨ first = 115 ∨ first = 99 ∨ first = 116 ∨ first = 114) : zK G mX3_word 4 0 [.ref a.1, .int (nI first)] (tH h0 a T) (tQ h0 a fun v T' => v = some (.int (nI (pWord l first p).1)) ∧ tP T' l (pWord l first p).2.1 (pWord l first p).2.2 ∧ tPF T T') := by
  have h8 := hP.2.2.2.2.2.2.2
  unfold pWord
  show zW G mX3_word 4 0 0 [.ref a.1, .int (nI first), zho] [] (tH h0 a T) _
  refine zW.aload_n (pc' := 1) dX3_word_0 rfl rfl zg0 rfl ?_
  refine zT.call (pc' := 4) dX3_word_1 rfl l_X3_179 rfl rfl (w_next hD hP) zc0 rfl (Nat.le_of_ble_eq_true rfl) (Nat.le_of_ble_eq_true rfl) (Nat.le_of_ble_eq_true rfl) (fun _ _ ⟨e1, e2⟩ => ?_)
  subst e1; rw [e2]
  refine zW.istore_n (pc' := 5) dX3_word_4 rfl rfl (Nat.le_of_ble_eq_true rfl) (zsS (zsS (zs0))) ?_
  refine zW.iload_n (pc' := 6) dX3_word_5 rfl rfl (zgS (zg0)) ?_
  rcases hf with q | q | q | q | q
  · subst q
    rw [if_neg (by decide), if_neg (by decide), if_neg (by decide), if_pos rfl]
    refine zW.lookup (off := 107) 113 dX3_word_6 (by decide) (by decide) (by decide) ?_
    refine zW.iload_n (pc' := 114) dX3_word_113 rfl rfl (zgS (zgS (zg0))) ?_
    refine zW.bipush (pc' := 116) (nI 117) dX3_word_114 rfl (by decide) ?_
    refine zW.icmp_ne (pc' := 119) 138 dX3_word_116 rfl (by decide) (fun b1 => ?_) (fun b1 => ?_)
    · have hq : ¬ l[p.1]? = some 117 := fun q => b1 ((pAt_eq h8 (by decide)).mpr q)
      rw [if_neg hq]
      refine zW.aload_n (pc' := 139) dX3_word_138 rfl rfl zg0 rfl ?_
      refine zW.bipush (pc' := 141) (nI 100) dX3_word_139 rfl (by decide) ?_
      refine zT.call (pc' := 144) dX3_word_141 rfl l_X3_182 rfl rfl (w_needsS hD hP (c := 100) (by decide)) (zcc rfl zc0) rfl (Nat.le_of_ble_eq_true rfl) (Nat.le_of_ble_eq_true rfl) (Nat.le_of_ble_eq_true rfl) (fun _ T1 ⟨e1, e2, e3⟩ => ?_)
      subst e1
      refine zW.aload_n (pc' := 145) dX3_word_144 rfl rfl zg0 rfl ?_
      refine zW.bipush (pc' := 147) (nI 100) dX3_word_145 rfl (by decide) ?_
      refine zT.call (pc' := 150) dX3_word_147 rfl l_X3_182 rfl rfl (w_needsS hD e2 (c := 100) (by decide)) (zcc rfl zc0) rfl (Nat.le_of_ble_eq_true rfl) (Nat.le_of_ble_eq_true rfl) (Nat.le_of_ble_eq_true rfl) (fun _ T2 ⟨e1, e4, e5⟩ => ?_)
      subst e1
      refine zW.bipush (pc' := 152) (nI 97) dX3_word_150 rfl (by decide) ?_
      refine zW.iret dX3_word_152 rfl (rfl) ?_
      exact ⟨_, T2, rfl, ⟨rfl, e4, e3.tr e5⟩, rfl⟩
    · have hq : l[p.1]? = some 117 := (pAt_eq h8 (by decide)).mp b1
      rw [if_pos hq]
      refine zW.aload_n (pc' := 120) dX3_word_119 rfl rfl zg0 rfl ?_
      refine zW.bipush (pc' := 122) (nI 117) dX3_word_120 rfl (by decide) ?_
      refine zW.bipush (pc' := 124) (nI 100) dX3_word_122 rfl (by decide) ?_
      refine zW.bipush (pc' := 126) (nI 105) dX3_word_124 rfl (by decide) ?_
      refine zT.call (pc' := 129) dX3_word_126 rfl l_X3_188 rfl rfl (w_threeS hD hP (c1 := 117) (c2 := 100) (c3 := 105) (by decide) (by decide) (by decide)) (zcc rfl (zcc rfl (zcc rfl zc0))) rfl (Nat.le_of_ble_eq_true rfl) (Nat.le_of_ble_eq_true rfl) (Nat.le_of_ble_eq_true rfl) (fun _ T1 ⟨e1, e2, e3⟩ => ?_)
      subst e1
      refine zW.aload_n (pc' := 130) dX3_word_129 rfl rfl zg0 rfl ?_
      refine zW.bipush (pc' := 132) (nI 116) dX3_word_130 rfl (by decide) ?_
      refine zT.call (pc' := 135) dX3_word_132 rfl l_X3_182 rfl rfl (w_needsS hD e2 (c := 116) (by decide)) (zcc rfl zc0) rfl (Nat.le_of_ble_eq_true rfl) (Nat.le_of_ble_eq_true rfl) (Nat.le_of_ble_eq_true rfl) (fun _ T2 ⟨e1, e4, e5⟩ => ?_)
      subst e1
      refine zW.bipush (pc' := 137) (nI 117) dX3_word_135 rfl (by decide) ?_
      refine zW.iret dX3_word_137 rfl (rfl) ?_
      exact ⟨_, T2, rfl, ⟨rfl, e4, e3.tr e5⟩, rfl⟩
  · subst q
    rw [if_neg (by decide), if_neg (by decide), if_neg (by decide), if_neg (by decide)]
    refine zW.lookup (off := 147) 153 dX3_word_6 (by decide) (by decide) (by decide) ?_
    refine zW.iload_n (pc' := 154) dX3_word_153 rfl rfl (zgS (zgS (zg0))) ?_
    refine zW.bipush (pc' := 156) (nI 101) dX3_word_154 rfl (by decide) ?_
    refine zW.icmp_ne (pc' := 159) 184 dX3_word_156 rfl (by decide) (fun b1 => ?_) (fun b1 => ?_)
    · have hq : ¬ l[p.1]? = some 101 := fun q => b1 ((pAt_eq h8 (by decide)).mpr q)
      rw [if_neg hq]
      refine zW.aload_n (pc' := 185) dX3_word_184 rfl rfl zg0 rfl ?_
      refine zW.bipush (pc' := 187) (nI 105) dX3_word_185 rfl (by decide) ?_
      refine zW.bipush (pc' := 189) (nI 103) dX3_word_187 rfl (by decide) ?_
      refine zW.bipush (pc' := 191) (nI 110) dX3_word_189 rfl (by decide) ?_
      refine zT.call (pc' := 194) dX3_word_191 rfl l_X3_188 rfl rfl (w_threeS hD hP (c1 := 105) (c2 := 103) (c3 := 110) (by decide) (by decide) (by decide)) (zcc rfl (zcc rfl (zcc rfl zc0))) rfl (Nat.le_of_ble_eq_true rfl) (Nat.le_of_ble_eq_true rfl) (Nat.le_of_ble_eq_true rfl) (fun _ T1 ⟨e1, e2, e3⟩ => ?_)
      subst e1
      refine zW.bipush (pc' := 196) (nI 115) dX3_word_194 rfl (by decide) ?_
      refine zW.iret dX3_word_196 rfl (rfl) ?_
      exact ⟨_, T1, rfl, ⟨rfl, e2, e3⟩, rfl⟩
    · have hq : l[p.1]? = some 101 := (pAt_eq h8 (by decide)).mp b1
      rw [if_pos hq]
      refine zW.aload_n (pc' := 160) dX3_word_159 rfl rfl zg0 rfl ?_
      refine zW.bipush (pc' := 162) (nI 101) dX3_word_160 rfl (by decide) ?_
      refine zW.bipush (pc' := 164) (nI 116) dX3_word_162 rfl (by decide) ?_
      refine zW.bipush (pc' := 166) (nI 116) dX3_word_164 rfl (by decide) ?_
      refine zT.call (pc' := 169) dX3_word_166 rfl l_X3_188 rfl rfl (w_threeS hD hP (c1 := 101) (c2 := 116) (c3 := 116) (by decide) (by decide) (by decide)) (zcc rfl (zcc rfl (zcc rfl zc0))) rfl (Nat.le_of_ble_eq_true rfl) (Nat.le_of_ble_eq_true rfl) (Nat.le_of_ble_eq_true rfl) (fun _ T1 ⟨e1, e2, e3⟩ => ?_)
      subst e1
      refine zW.aload_n (pc' := 170) dX3_word_169 rfl rfl zg0 rfl ?_
      refine zW.bipush (pc' := 172) (nI 108) dX3_word_170 rfl (by decide) ?_
      refine zT.call (pc' := 175) dX3_word_172 rfl l_X3_182 rfl rfl (w_needsS hD e2 (c := 108) (by decide)) (zcc rfl zc0) rfl (Nat.le_of_ble_eq_true rfl) (Nat.le_of_ble_eq_true rfl) (Nat.le_of_ble_eq_true rfl) (fun _ T2 ⟨e1, e4, e5⟩ => ?_)
      subst e1
      refine zW.aload_n (pc' := 176) dX3_word_175 rfl rfl zg0 rfl ?_
      refine zW.bipush (pc' := 178) (nI 101) dX3_word_176 rfl (by decide) ?_
      refine zT.call (pc' := 181) dX3_word_178 rfl l_X3_182 rfl rfl (w_needsS hD e4 (c := 101) (by decide)) (zcc rfl zc0) rfl (Nat.le_of_ble_eq_true rfl) (Nat.le_of_ble_eq_true rfl) (Nat.le_of_ble_eq_true rfl) (fun _ T3 ⟨e1, e6, e7⟩ => ?_)
      subst e1
      refine zW.bipush (pc' := 183) (nI 101) dX3_word_181 rfl (by decide) ?_
      refine zW.iret dX3_word_183 rfl (rfl) ?_
      exact ⟨_, T3, rfl, ⟨rfl, e6, e3.tr (e5.tr e7)⟩, rfl⟩
  · subst q
    rw [if_pos rfl]
    refine zW.lookup (off := 42) 48 dX3_word_6 (by decide) (by decide) (by decide) ?_
    refine zW.aload_n (pc' := 49) dX3_word_48 rfl rfl zg0 rfl ?_
    refine zW.bipush (pc' := 51) (nI 111) dX3_word_49 rfl (by decide) ?_
    refine zW.bipush (pc' := 53) (nI 117) dX3_word_51 rfl (by decide) ?_
    refine zW.bipush (pc' := 55) (nI 110) dX3_word_53 rfl (by decide) ?_
    refine zT.call (pc' := 58) dX3_word_55 rfl l_X3_188 rfl rfl (w_threeS hD hP (c1 := 111) (c2 := 117) (c3 := 110) (by decide) (by decide) (by decide)) (zcc rfl (zcc rfl (zcc rfl zc0))) rfl (Nat.le_of_ble_eq_true rfl) (Nat.le_of_ble_eq_true rfl) (Nat.le_of_ble_eq_true rfl) (fun _ T1 ⟨e1, e2, e3⟩ => ?_)
    subst e1
    refine zW.aload_n (pc' := 59) dX3_word_58 rfl rfl zg0 rfl ?_
    refine zW.bipush (pc' := 61) (nI 116) dX3_word_59 rfl (by decide) ?_
    refine zW.bipush (pc' := 63) (nI 101) dX3_word_61 rfl (by decide) ?_
    refine zW.bipush (pc' := 65) (nI 114) dX3_word_63 rfl (by decide) ?_
    refine zT.call (pc' := 68) dX3_word_65 rfl l_X3_188 rfl rfl (w_threeS hD e2 (c1 := 116) (c2 := 101) (c3 := 114) (by decide) (by decide) (by decide)) (zcc rfl (zcc rfl (zcc rfl zc0))) rfl (Nat.le_of_ble_eq_true rfl) (Nat.le_of_ble_eq_true rfl) (Nat.le_of_ble_eq_true rfl) (fun _ T2 ⟨e1, e4, e5⟩ => ?_)
    subst e1
    refine zW.aload_n (pc' := 69) dX3_word_68 rfl rfl zg0 rfl ?_
    refine zW.bipush (pc' := 71) (nI 115) dX3_word_69 rfl (by decide) ?_
    refine zW.bipush (pc' := 73) (nI 105) dX3_word_71 rfl (by decide) ?_
    refine zW.bipush (pc' := 75) (nI 103) dX3_word_73 rfl (by decide) ?_
    refine zT.call (pc' := 78) dX3_word_75 rfl l_X3_188 rfl rfl (w_threeS hD e4 (c1 := 115) (c2 := 105) (c3 := 103) (by decide) (by decide) (by decide)) (zcc rfl (zcc rfl (zcc rfl zc0))) rfl (Nat.le_of_ble_eq_true rfl) (Nat.le_of_ble_eq_true rfl) (Nat.le_of_ble_eq_true rfl) (fun _ T3 ⟨e1, e6, e7⟩ => ?_)
    subst e1
    refine zW.aload_n (pc' := 79) dX3_word_78 rfl rfl zg0 rfl ?_
    refine zW.bipush (pc' := 81) (nI 110) dX3_word_79 rfl (by decide) ?_
    refine zT.call (pc' := 84) dX3_word_81 rfl l_X3_182 rfl rfl (w_needsS hD e6 (c := 110) (by decide)) (zcc rfl zc0) rfl (Nat.le_of_ble_eq_true rfl) (Nat.le_of_ble_eq_true rfl) (Nat.le_of_ble_eq_true rfl) (fun _ T4 ⟨e1, e8, e9⟩ => ?_)
    subst e1
    refine zW.bipush (pc' := 86) (nI 99) dX3_word_84 rfl (by decide) ?_
    refine zW.iret dX3_word_86 rfl (rfl) ?_
    exact ⟨_, T4, rfl, ⟨rfl, e8, e3.tr (e5.tr (e7.tr e9))⟩, rfl⟩
  · subst q
    rw [if_neg (by decide), if_pos rfl]
    refine zW.lookup (off := 81) 87 dX3_word_6 (by decide) (by decide) (by decide) ?_
    refine zW.aload_n (pc' := 88) dX3_word_87 rfl rfl zg0 rfl ?_
    refine zW.bipush (pc' := 90) (nI 105) dX3_word_88 rfl (by decide) ?_
    refine zW.bipush (pc' := 92) (nI 99) dX3_word_90 rfl (by decide) ?_
    refine zW.bipush (pc' := 94) (nI 107) dX3_word_92 rfl (by decide) ?_
    refine zT.call (pc' := 97) dX3_word_94 rfl l_X3_188 rfl rfl (w_threeS hD hP (c1 := 105) (c2 := 99) (c3 := 107) (by decide) (by decide) (by decide)) (zcc rfl (zcc rfl (zcc rfl zc0))) rfl (Nat.le_of_ble_eq_true rfl) (Nat.le_of_ble_eq_true rfl) (Nat.le_of_ble_eq_true rfl) (fun _ T1 ⟨e1, e2, e3⟩ => ?_)
    subst e1
    refine zW.bipush (pc' := 99) (nI 116) dX3_word_97 rfl (by decide) ?_
    refine zW.iret dX3_word_99 rfl (rfl) ?_
    exact ⟨_, T1, rfl, ⟨rfl, e2, e3⟩, rfl⟩
  · subst q
    rw [if_neg (by decide), if_neg (by decide), if_pos rfl]
    refine zW.lookup (off := 94) 100 dX3_word_6 (by decide) (by decide) (by decide) ?_
    refine zW.aload_n (pc' := 101) dX3_word_100 rfl rfl zg0 rfl ?_
    refine zW.bipush (pc' := 103) (nI 97) dX3_word_101 rfl (by decide) ?_
    refine zW.bipush (pc' := 105) (nI 116) dX3_word_103 rfl (by decide) ?_
    refine zW.bipush (pc' := 107) (nI 101) dX3_word_105 rfl (by decide) ?_
    refine zT.call (pc' := 110) dX3_word_107 rfl l_X3_188 rfl rfl (w_threeS hD hP (c1 := 97) (c2 := 116) (c3 := 101) (by decide) (by decide) (by decide)) (zcc rfl (zcc rfl (zcc rfl zc0))) rfl (Nat.le_of_ble_eq_true rfl) (Nat.le_of_ble_eq_true rfl) (Nat.le_of_ble_eq_true rfl) (fun _ T1 ⟨e1, e2, e3⟩ => ?_)
    subst e1
    refine zW.bipush (pc' := 112) (nI 114) dX3_word_110 rfl (by decide) ?_
    refine zW.iret dX3_word_112 rfl (rfl) ?_
    exact ⟨_, T1, rfl, ⟨rfl, e2, e3⟩, rfl⟩
end
