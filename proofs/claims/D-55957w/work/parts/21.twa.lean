/-! THE REFERENCE: small methods -/
section
set_option maxRecDepth 100000
variable {G : zG} {h0 : zH} {a : tA} {T : tS}
/-- thrown() -/
theorem w_thrown : zK G mX3_thrown 1 0 [.ref a.1] (tH h0 a T) (tQ h0 a fun v T' => v = some (.int (nI (T.1 0))) ∧ T' = T) := by
  show zW G mX3_thrown 1 0 0 [.ref a.1] [] (tH h0 a T) _
  refine zW.aload_n (pc' := 1) dX3_thrown_0 rfl rfl zg0 rfl ?_
  refine zT.get (pc' := 4) dX3_thrown_1 rfl f_X3_30_3 rfl ?_
  refine zW.iret dX3_thrown_4 rfl (rfl) ?_
  exact ⟨_, _, rfl, ⟨rfl, rfl⟩, rfl⟩
/-- c(at, what) -/
theorem w_c (hD : tD a) {k f : Nat} (hj : 22 + 8 * k + f < 1560) : zK G mX3_c 1 0 [.ref a.1, .int (nI k), .int (nI f)] (tH h0 a T) (tQ h0 a fun v T' => v = some (.int (nI (T.2.1 (22 + 8 * k + f)))) ∧ T' = T) := by
  show zW G mX3_c 1 0 0 [.ref a.1, .int (nI k), .int (nI f)] [] (tH h0 a T) _
  refine zW.aload_n (pc' := 1) dX3_c_0 rfl rfl zg0 rfl ?_
  refine zT.get (pc' := 4) dX3_c_1 rfl f_X3_9_3 rfl ?_
  refine zW.bipush (pc' := 6) (nI 22) dX3_c_4 rfl (by decide) ?_
  refine zW.bipush (pc' := 8) (nI 8) dX3_c_6 rfl (by decide) ?_
  refine zW.iload_n (pc' := 9) dX3_c_8 rfl rfl (zgS (zg0)) ?_
  refine zW.imulN (pc' := 10) dX3_c_9 rfl ?_
  refine zW.iaddN (pc' := 11) dX3_c_10 rfl ?_
  refine zW.iload_n (pc' := 12) dX3_c_11 rfl rfl (zgS (zgS (zg0))) ?_
  refine zW.iaddN (pc' := 13) dX3_c_12 rfl ?_
  first | refine zT.ald1 (pc' := 14) dX3_c_13 rfl hD (by omega) ?_ | refine zT.ald4 (pc' := 14) dX3_c_13 rfl hD (by omega) ?_
  refine zW.iret dX3_c_14 rfl (rfl) ?_
  exact ⟨_, _, rfl, ⟨rfl, rfl⟩, rfl⟩
/-- set(at, what, v) -/
theorem w_set (hD : tD a) {k f x : Nat} (hj : 22 + 8 * k + f < 1560) : zK G mX3_set 1 0 [.ref a.1, .int (nI k), .int (nI f), .int (nI x)] (tH h0 a T) (tQ h0 a fun v T' => v = none ∧ T' = (T.1, zu T.2.1 (22 + 8 * k + f) x, T.2.2)) := by
  show zW G mX3_set 1 0 0 [.ref a.1, .int (nI k), .int (nI f), .int (nI x)] [] (tH h0 a T) _
  refine zW.aload_n (pc' := 1) dX3_set_0 rfl rfl zg0 rfl ?_
  refine zT.get (pc' := 4) dX3_set_1 rfl f_X3_9_3 rfl ?_
  refine zW.bipush (pc' := 6) (nI 22) dX3_set_4 rfl (by decide) ?_
  refine zW.bipush (pc' := 8) (nI 8) dX3_set_6 rfl (by decide) ?_
  refine zW.iload_n (pc' := 9) dX3_set_8 rfl rfl (zgS (zg0)) ?_
  refine zW.imulN (pc' := 10) dX3_set_9 rfl ?_
  refine zW.iaddN (pc' := 11) dX3_set_10 rfl ?_
  refine zW.iload_n (pc' := 12) dX3_set_11 rfl rfl (zgS (zgS (zg0))) ?_
  refine zW.iaddN (pc' := 13) dX3_set_12 rfl ?_
  refine zW.iload_n (pc' := 14) dX3_set_13 rfl rfl (zgS (zgS (zgS (zg0)))) ?_
  first | refine zT.ast1 (pc' := 15) dX3_set_14 rfl hD (by omega) ?_ | refine zT.ast4 (pc' := 15) dX3_set_14 rfl hD (by omega) ?_
  refine zW.vret dX3_set_15 rfl ?_
  exact ⟨_, _, rfl, ⟨rfl, rfl⟩, rfl⟩
/-- isFine(is) -/
theorem w_isFine {b : Nat} (hb : b = 0 ∨ b = 1) : zK G mX3_isFine 1 0 [.ref a.1, .int (nI b)] (tH h0 a T) (tQ h0 a fun v T' => v = some (.int (nI b)) ∧ T' = (zu T.1 0 (1 - b), T.2)) := by
  show zW G mX3_isFine 1 0 0 [.ref a.1, .int (nI b)] [] (tH h0 a T) _
  refine zW.aload_n (pc' := 1) dX3_isFine_0 rfl rfl zg0 rfl ?_
  refine zW.iload_n (pc' := 2) dX3_isFine_1 rfl rfl (zgS (zg0)) ?_
  refine zW.if_eqN (pc' := 5) 9 dX3_isFine_2 rfl (by decide) (by omega) (fun h1 => ?_) (fun h1 => ?_)
  · subst h1
    refine zW.iconst (pc' := 10) (nI 1) dX3_isFine_9 rfl (by decide) ?_
    refine zT.putN (pc' := 13) dX3_isFine_10 rfl f_X3_30_3 (zFw.of ft_3_0 rfl rfl) rfl ?_
    refine zW.iload_n (pc' := 14) dX3_isFine_13 rfl rfl (zgS (zg0)) ?_
    refine zW.iret dX3_isFine_14 rfl (rfl) ?_
    exact ⟨_, _, rfl, ⟨rfl, rfl⟩, rfl⟩
  · have h2 : b = 1 := by omega
    subst h2
    refine zW.iconst (pc' := 6) (nI 0) dX3_isFine_5 rfl (by decide) ?_
    refine zW.goto 10 dX3_isFine_6 (by decide) ?_
    refine zT.putN (pc' := 13) dX3_isFine_10 rfl f_X3_30_3 (zFw.of ft_3_0 rfl rfl) rfl ?_
    refine zW.iload_n (pc' := 14) dX3_isFine_13 rfl rfl (zgS (zg0)) ?_
    refine zW.iret dX3_isFine_14 rfl (rfl) ?_
    exact ⟨_, _, rfl, ⟨rfl, rfl⟩, rfl⟩
end
