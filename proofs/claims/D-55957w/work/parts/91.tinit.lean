/-! THE REFERENCE's constructor -/
section
set_option maxRecDepth 100000
variable {G : zG} {M : zM} {d r pc pc' : Nat} {L st0 : List Value} {h h' h0 : zH} {Q : zR → zH → Prop} {a : tA} {T : tS}
theorem zW.newaCK {N u : Nat} {n : Int32} (hd : decode (zm_c M) pc = .ok (.newarray .char, 2)) (hn : pc + 2 = pc') (hn0 : ¬ n < 0) (hN : n.toNatClampNeg = N) (hb : N * 2 ≤ 536870912) (hu : 1 ≤ u ∧ N ≤ 4 * u) (kq : ∀ a h', h a = none → h' = zup h a (102, ztab N fun _ => 0) → h' a = some (102, ztab N fun _ => 0) → zW G M d r pc' L (.ref a :: st0) h' Q) : zW G M d (r + u) pc L (.int n :: st0) h Q :=
  zW.newa (kk := 102) hd hn (by decide) rfl (lw_all_tbl q2625) (fun _ _ q => q) hn0 hN hb hu rfl fun a n => by
    rw [show List.replicate N (defaultValue (newarray.typeOf .char)) = ztab N fun _ => 0 from ztab_0]
    exact kq a _ n rfl zup_s
/-- the reference's cells stand in h -/
def tIn (h : zH) (a : tA) (T : tS) : Prop := h a.1 = some (3, tfl a T.1) ∧ h a.2.1 = some (100, ztab 1560 T.2.1) ∧ h a.2.2.1 = some (102, ztab 40 T.2.2.1) ∧ h a.2.2.2.1 = some (102, ztab 60 T.2.2.2.1) ∧ h a.2.2.2.2 = some (100, ztab 305 T.2.2.2.2)
theorem tIn.eq (hT : tIn h a T) : tH h a T = h := by
  obtain ⟨h1, h2, h3, h4, h5⟩ := hT
  funext b
  unfold tH
  split
  · rename_i q; rw [q, h1]
  · split
    · rename_i q; rw [q, h2]
    · split
      · rename_i q; rw [q, h3]
      · split
        · rename_i q; rw [q, h4]
        · split
          · rename_i q; rw [q, h5]
          · rfl
theorem tIn.of (hD : tD a) : tIn (tH h a T) a T := ⟨tH_m, tH_1 hD, tH_2 hD, tH_3 hD, tH_4 hD⟩
/-- the start's world -/
def sW0 : sW := ((sZero, [], [], []), [], none, [], [], 0, 0)
theorem w_refInit {r0 : Nat} (hr : h r0 = some (3, [.int 0, .null, .int 0, .int 0, .int 0, .null, .int 0, .null, .int 0, .int 0, .int 0, .int 0, .int 0, .null, .int 0])) : zK G mX3_init 2 492 [.ref r0] h (zO fun v h' => v = none ∧ ∃ a T, a.1 = r0 ∧ tD a ∧ tIn h' a T ∧ tW T sW0 ∧ zfr (fun b => b = r0) h h' ∧ h a.2.1 = none ∧ h a.2.2.1 = none ∧ h a.2.2.2.1 = none ∧ h a.2.2.2.2 = none) := by
  have hf := zfr.rf (A := fun b => b = r0) (h := h)
  show zW G mX3_init 2 492 0 [.ref r0, zho] [] h _
  refine zW.aload_n (pc' := 1) dX3_init_0 rfl rfl zg0 rfl ?_
  refine zW.objInit (pc' := 4) dX3_init_1 rfl (lw_all_tbl q2578) (lw_all_tbl q151) (lw_all_tbl q152) (Nat.le_of_ble_eq_true rfl) (Nat.le_of_ble_eq_true rfl) ?_
  refine zW.aload_n (pc' := 5) dX3_init_4 rfl rfl zg0 rfl ?_
  refine zW.sipush (pc' := 8) (nI 1560) dX3_init_5 rfl (by decide) ?_
  refine zW.newaIK (u := 390) (N := 1560) (pc' := 10) dX3_init_8 rfl (by decide) (by decide) (by decide) ⟨by decide, by decide⟩ (fun a1 _ na1 e9 k9 => ?_)
  have hr := zpres e9 (zfresh na1 hr) hr
  have oa1 := hf.nn0 na1
  have hf := hf.new e9 na1
  have ha1 := k9
  clear k9
  refine zW.putK (pc' := 13) dX3_init_10 rfl f_X3_9_3 hr ⟨⟨rfl, (Nat.le_of_ble_eq_true rfl)⟩, (Nat.le_of_ble_eq_true rfl)⟩ (zFw.fin ft_3_1 rfl rfl rfl rfl rfl) (zsS (zs0)) (fun _ e9 k9 => ?_)
  have ha1 := zpres e9 (zne ha1 hr (by decide)) ha1
  have hf := hf.put e9 hr (by decide) (Or.inl rfl)
  replace hr := k9
  clear e9 k9
  refine zW.aload_n (pc' := 14) dX3_init_13 rfl rfl zg0 rfl ?_
  refine zW.bipush (pc' := 16) (nI 40) dX3_init_14 rfl (by decide) ?_
  refine zW.newaCK (u := 10) (N := 40) (pc' := 18) dX3_init_16 rfl (by decide) (by decide) (by decide) ⟨by decide, by decide⟩ (fun a2 _ na2 e9 k9 => ?_)
  have hr := zpres e9 (zfresh na2 hr) hr
  have ha1 := zpres e9 (zfresh na2 ha1) ha1
  have oa2 := hf.nn0 na2
  have hf := hf.new e9 na2
  have ha2 := k9
  clear k9
  refine zW.putK (pc' := 21) dX3_init_18 rfl f_X3_13_3 hr ⟨⟨rfl, (Nat.le_of_ble_eq_true rfl)⟩, (Nat.le_of_ble_eq_true rfl)⟩ (zFw.fin ft_3_5 rfl rfl rfl rfl rfl) (zsS (zsS (zsS (zsS (zsS (zs0)))))) (fun _ e9 k9 => ?_)
  have ha1 := zpres e9 (zne ha1 hr (by decide)) ha1
  have ha2 := zpres e9 (zne ha2 hr (by decide)) ha2
  have hf := hf.put e9 hr (by decide) (Or.inl rfl)
  replace hr := k9
  clear e9 k9
  refine zW.aload_n (pc' := 22) dX3_init_21 rfl rfl zg0 rfl ?_
  refine zW.bipush (pc' := 24) (nI 60) dX3_init_22 rfl (by decide) ?_
  refine zW.newaCK (u := 15) (N := 60) (pc' := 26) dX3_init_24 rfl (by decide) (by decide) (by decide) ⟨by decide, by decide⟩ (fun a3 _ na3 e9 k9 => ?_)
  have hr := zpres e9 (zfresh na3 hr) hr
  have ha1 := zpres e9 (zfresh na3 ha1) ha1
  have q_ha2_a3 := zfresh na3 ha2
  have ha2 := zpres e9 (zfresh na3 ha2) ha2
  have oa3 := hf.nn0 na3
  have hf := hf.new e9 na3
  have ha3 := k9
  clear k9
  refine zW.putK (pc' := 29) dX3_init_26 rfl f_X3_17_3 hr ⟨⟨rfl, (Nat.le_of_ble_eq_true rfl)⟩, (Nat.le_of_ble_eq_true rfl)⟩ (zFw.fin ft_3_7 rfl rfl rfl rfl rfl) (zsS (zsS (zsS (zsS (zsS (zsS (zsS (zs0)))))))) (fun _ e9 k9 => ?_)
  have ha1 := zpres e9 (zne ha1 hr (by decide)) ha1
  have ha2 := zpres e9 (zne ha2 hr (by decide)) ha2
  have ha3 := zpres e9 (zne ha3 hr (by decide)) ha3
  have hf := hf.put e9 hr (by decide) (Or.inl rfl)
  replace hr := k9
  clear e9 k9
  refine zW.aload_n (pc' := 30) dX3_init_29 rfl rfl zg0 rfl ?_
  refine zW.iconst (pc' := 31) (-1) dX3_init_30 rfl (by decide) ?_
  refine zW.putK (pc' := 34) dX3_init_31 rfl f_X3_20_3 hr ⟨⟨rfl, (Nat.le_of_ble_eq_true rfl)⟩, (Nat.le_of_ble_eq_true rfl)⟩ (zFw.of ft_3_11 rfl rfl) (zsS (zsS (zsS (zsS (zsS (zsS (zsS (zsS (zsS (zsS (zsS (zs0)))))))))))) (fun _ e9 k9 => ?_)
  have ha1 := zpres e9 (zne ha1 hr (by decide)) ha1
  have ha2 := zpres e9 (zne ha2 hr (by decide)) ha2
  have ha3 := zpres e9 (zne ha3 hr (by decide)) ha3
  have hf := hf.put e9 hr (by decide) (Or.inl rfl)
  replace hr := k9
  clear e9 k9
  refine zW.aload_n (pc' := 35) dX3_init_34 rfl rfl zg0 rfl ?_
  refine zW.iconst (pc' := 36) (-1) dX3_init_35 rfl (by decide) ?_
  refine zW.putK (pc' := 39) dX3_init_36 rfl f_X3_24_3 hr ⟨⟨rfl, (Nat.le_of_ble_eq_true rfl)⟩, (Nat.le_of_ble_eq_true rfl)⟩ (zFw.of ft_3_12 rfl rfl) (zsS (zsS (zsS (zsS (zsS (zsS (zsS (zsS (zsS (zsS (zsS (zsS (zs0))))))))))))) (fun _ e9 k9 => ?_)
  have ha1 := zpres e9 (zne ha1 hr (by decide)) ha1
  have ha2 := zpres e9 (zne ha2 hr (by decide)) ha2
  have ha3 := zpres e9 (zne ha3 hr (by decide)) ha3
  have hf := hf.put e9 hr (by decide) (Or.inl rfl)
  replace hr := k9
  clear e9 k9
  refine zW.aload_n (pc' := 40) dX3_init_39 rfl rfl zg0 rfl ?_
  refine zW.sipush (pc' := 43) (nI 305) dX3_init_40 rfl (by decide) ?_
  refine zW.newaIK (u := 77) (N := 305) (pc' := 45) dX3_init_43 rfl (by decide) (by decide) (by decide) ⟨by decide, by decide⟩ (fun a4 _ na4 e9 k9 => ?_)
  have hr := zpres e9 (zfresh na4 hr) hr
  have q_ha1_a4 := zfresh na4 ha1
  have ha1 := zpres e9 (zfresh na4 ha1) ha1
  have ha2 := zpres e9 (zfresh na4 ha2) ha2
  have ha3 := zpres e9 (zfresh na4 ha3) ha3
  have oa4 := hf.nn0 na4
  have hf := hf.new e9 na4
  have ha4 := k9
  clear k9
  refine zW.putK (pc' := 48) dX3_init_45 rfl f_X3_27_3 hr ⟨⟨rfl, (Nat.le_of_ble_eq_true rfl)⟩, (Nat.le_of_ble_eq_true rfl)⟩ (zFw.fin ft_3_13 rfl rfl rfl rfl rfl) (zsS (zsS (zsS (zsS (zsS (zsS (zsS (zsS (zsS (zsS (zsS (zsS (zsS (zs0)))))))))))))) (fun _ e9 k9 => ?_)
  have ha1 := zpres e9 (zne ha1 hr (by decide)) ha1
  have ha2 := zpres e9 (zne ha2 hr (by decide)) ha2
  have ha3 := zpres e9 (zne ha3 hr (by decide)) ha3
  have ha4 := zpres e9 (zne ha4 hr (by decide)) ha4
  have hf := hf.put e9 hr (by decide) (Or.inl rfl)
  replace hr := k9
  clear e9 k9
  refine zW.iconst (pc' := 49) (nI 0) dX3_init_48 rfl (by decide) ?_
  refine zW.istore_n (pc' := 50) dX3_init_49 rfl rfl (Nat.le_of_ble_eq_true rfl) (zsS (zs0)) ?_
  refine zW.iload_n (pc' := 51) dX3_init_50 rfl rfl (zgS (zg0)) ?_
  refine zW.iconst (pc' := 52) (nI 4) dX3_init_51 rfl (by decide) ?_
  refine zW.icmp_geN (pc' := 55) 71 dX3_init_52 rfl (by decide) (by omega) (by omega) (fun b9 => absurd b9 (by omega)) (fun b9 => ?_)
  refine zW.aload_n (pc' := 56) dX3_init_55 rfl rfl zg0 rfl ?_
  refine zW.get (pc' := 59) dX3_init_56 rfl f_X3_9_3 hr ⟨rfl, (Nat.le_of_ble_eq_true rfl)⟩ rfl ?_
  refine zW.bipush (pc' := 61) (nI 10) dX3_init_59 rfl (by decide) ?_
  refine zW.iload_n (pc' := 62) dX3_init_61 rfl rfl (zgS (zg0)) ?_
  refine zW.iaddN (pc' := 63) dX3_init_62 rfl ?_
  refine zW.iconst (pc' := 64) (nI 5) dX3_init_63 rfl (by decide) ?_
  refine zW.iastNK (pc' := 65) dX3_init_64 rfl ha1 (by omega) (Nat.le_of_ble_eq_true rfl) (fun _ e9 k9 => ?_)
  have hr := zpres e9 (zne hr ha1 (by decide)) hr
  have ha2 := zpres e9 (zne ha2 ha1 (by decide)) ha2
  have ha3 := zpres e9 (zne ha3 ha1 (by decide)) ha3
  have ha4 := zpres e9 (Ne.symm q_ha1_a4) ha4
  have hf := hf.put e9 ha1 (by decide) (Or.inr oa1)
  replace ha1 := k9
  clear e9 k9
  refine zW.iincN (pc' := 68) (n := 1) dX3_init_65 rfl (Nat.le_of_ble_eq_true rfl) (zgS (zg0)) (zsS (zs0)) ?_
  refine zW.goto 50 dX3_init_68 (by decide) ?_
  refine zW.iload_n (pc' := 51) dX3_init_50 rfl rfl (zgS (zg0)) ?_
  refine zW.iconst (pc' := 52) (nI 4) dX3_init_51 rfl (by decide) ?_
  refine zW.icmp_geN (pc' := 55) 71 dX3_init_52 rfl (by decide) (by omega) (by omega) (fun b9 => absurd b9 (by omega)) (fun b9 => ?_)
  refine zW.aload_n (pc' := 56) dX3_init_55 rfl rfl zg0 rfl ?_
  refine zW.get (pc' := 59) dX3_init_56 rfl f_X3_9_3 hr ⟨rfl, (Nat.le_of_ble_eq_true rfl)⟩ rfl ?_
  refine zW.bipush (pc' := 61) (nI 10) dX3_init_59 rfl (by decide) ?_
  refine zW.iload_n (pc' := 62) dX3_init_61 rfl rfl (zgS (zg0)) ?_
  refine zW.iaddN (pc' := 63) dX3_init_62 rfl ?_
  refine zW.iconst (pc' := 64) (nI 5) dX3_init_63 rfl (by decide) ?_
  refine zW.iastNK (pc' := 65) dX3_init_64 rfl ha1 (by omega) (Nat.le_of_ble_eq_true rfl) (fun _ e9 k9 => ?_)
  have hr := zpres e9 (zne hr ha1 (by decide)) hr
  have ha2 := zpres e9 (zne ha2 ha1 (by decide)) ha2
  have ha3 := zpres e9 (zne ha3 ha1 (by decide)) ha3
  have ha4 := zpres e9 (Ne.symm q_ha1_a4) ha4
  have hf := hf.put e9 ha1 (by decide) (Or.inr oa1)
  replace ha1 := k9
  clear e9 k9
  refine zW.iincN (pc' := 68) (n := 1) dX3_init_65 rfl (Nat.le_of_ble_eq_true rfl) (zgS (zg0)) (zsS (zs0)) ?_
  refine zW.goto 50 dX3_init_68 (by decide) ?_
  refine zW.iload_n (pc' := 51) dX3_init_50 rfl rfl (zgS (zg0)) ?_
  refine zW.iconst (pc' := 52) (nI 4) dX3_init_51 rfl (by decide) ?_
  refine zW.icmp_geN (pc' := 55) 71 dX3_init_52 rfl (by decide) (by omega) (by omega) (fun b9 => absurd b9 (by omega)) (fun b9 => ?_)
  refine zW.aload_n (pc' := 56) dX3_init_55 rfl rfl zg0 rfl ?_
  refine zW.get (pc' := 59) dX3_init_56 rfl f_X3_9_3 hr ⟨rfl, (Nat.le_of_ble_eq_true rfl)⟩ rfl ?_
  refine zW.bipush (pc' := 61) (nI 10) dX3_init_59 rfl (by decide) ?_
  refine zW.iload_n (pc' := 62) dX3_init_61 rfl rfl (zgS (zg0)) ?_
  refine zW.iaddN (pc' := 63) dX3_init_62 rfl ?_
  refine zW.iconst (pc' := 64) (nI 5) dX3_init_63 rfl (by decide) ?_
  refine zW.iastNK (pc' := 65) dX3_init_64 rfl ha1 (by omega) (Nat.le_of_ble_eq_true rfl) (fun _ e9 k9 => ?_)
  have hr := zpres e9 (zne hr ha1 (by decide)) hr
  have ha2 := zpres e9 (zne ha2 ha1 (by decide)) ha2
  have ha3 := zpres e9 (zne ha3 ha1 (by decide)) ha3
  have ha4 := zpres e9 (Ne.symm q_ha1_a4) ha4
  have hf := hf.put e9 ha1 (by decide) (Or.inr oa1)
  replace ha1 := k9
  clear e9 k9
  refine zW.iincN (pc' := 68) (n := 1) dX3_init_65 rfl (Nat.le_of_ble_eq_true rfl) (zgS (zg0)) (zsS (zs0)) ?_
  refine zW.goto 50 dX3_init_68 (by decide) ?_
  refine zW.iload_n (pc' := 51) dX3_init_50 rfl rfl (zgS (zg0)) ?_
  refine zW.iconst (pc' := 52) (nI 4) dX3_init_51 rfl (by decide) ?_
  refine zW.icmp_geN (pc' := 55) 71 dX3_init_52 rfl (by decide) (by omega) (by omega) (fun b9 => absurd b9 (by omega)) (fun b9 => ?_)
  refine zW.aload_n (pc' := 56) dX3_init_55 rfl rfl zg0 rfl ?_
  refine zW.get (pc' := 59) dX3_init_56 rfl f_X3_9_3 hr ⟨rfl, (Nat.le_of_ble_eq_true rfl)⟩ rfl ?_
  refine zW.bipush (pc' := 61) (nI 10) dX3_init_59 rfl (by decide) ?_
  refine zW.iload_n (pc' := 62) dX3_init_61 rfl rfl (zgS (zg0)) ?_
  refine zW.iaddN (pc' := 63) dX3_init_62 rfl ?_
  refine zW.iconst (pc' := 64) (nI 5) dX3_init_63 rfl (by decide) ?_
  refine zW.iastNK (pc' := 65) dX3_init_64 rfl ha1 (by omega) (Nat.le_of_ble_eq_true rfl) (fun _ e9 k9 => ?_)
  have hr := zpres e9 (zne hr ha1 (by decide)) hr
  have ha2 := zpres e9 (zne ha2 ha1 (by decide)) ha2
  have ha3 := zpres e9 (zne ha3 ha1 (by decide)) ha3
  have ha4 := zpres e9 (Ne.symm q_ha1_a4) ha4
  have hf := hf.put e9 ha1 (by decide) (Or.inr oa1)
  replace ha1 := k9
  clear e9 k9
  refine zW.iincN (pc' := 68) (n := 1) dX3_init_65 rfl (Nat.le_of_ble_eq_true rfl) (zgS (zg0)) (zsS (zs0)) ?_
  refine zW.goto 50 dX3_init_68 (by decide) ?_
  refine zW.iload_n (pc' := 51) dX3_init_50 rfl rfl (zgS (zg0)) ?_
  refine zW.iconst (pc' := 52) (nI 4) dX3_init_51 rfl (by decide) ?_
  refine zW.icmp_geN (pc' := 55) 71 dX3_init_52 rfl (by decide) (by omega) (by omega) (fun b9 => ?_) (fun b9 => absurd b9 (by omega))
  refine zW.vret dX3_init_71 rfl ?_
  have eF : tfl (r0, a1, a2, a3, a4) (fun i => if i = 10 then 1 else 0) = [.int 0, .ref a1, .int 0, .int 0, .int 0, .ref a2, .int 0, .ref a3, .int 0, .int 0, .int 0, .int (-1), .int (-1), .ref a4, .int 0] := by
    have n0 : nI 0 = 0 := by decide
    have n1 : nI 0 - 1 = -1 := by decide
    have n2 : nI 1 - 1 = 0 := by decide
    show ([.int (nI 0), .ref a1, .int (nI 0), .int (nI 0), .int (nI 0), .ref a2, .int (nI 0), .ref a3, .int (nI 0), .int (nI 0), .int (nI 1 - 1), .int (nI 0 - 1), .int (nI 0 - 1), .ref a4, .int (nI 0)] : List Value) = _
    rw [n1, n2, n0]
  rw [← eF] at hr
  refine ⟨_, rfl, rfl, (r0, a1, a2, a3, a4), (fun i => if i = 10 then 1 else 0, zu (zu (zu (zu (fun _ => 0) (10 + 0) 5) (10 + (0 + 1)) 5) (10 + (0 + 1 + 1)) 5) (10 + (0 + 1 + 1 + 1)) 5, fun _ => 0, fun _ => 0, fun _ => 0), rfl, ?_, ⟨hr, ha1, ha2, ha3, ha4⟩, ?_, hf, oa1, oa2, oa3, oa4⟩
  · exact ⟨zne hr ha1 (by decide), zne hr ha2 (by decide), zne hr ha3 (by decide), zne hr ha4 (by decide), zne ha1 ha2 (by decide), zne ha1 ha3 (by decide), q_ha1_a4, q_ha2_a3, zne ha2 ha4 (by decide), zne ha3 ha4 (by decide)⟩
  · refine ⟨⟨fun i hi h2 h9 => ?_, rfl, rfl, fun i c hc => (by cases hc), fun i x hx => (by cases hx), fun i x hx => (by cases hx), Nat.zero_le _, rfl, Nat.zero_le _⟩, ⟨rfl, Nat.zero_le _, fun i S hS => (by cases hS)⟩, ⟨rfl, fun S hS => (by cases hS)⟩, ⟨rfl, Nat.zero_le _, fun i x hx => (by cases hx)⟩, ⟨rfl, Nat.zero_le _, fun i x hx => (by cases hx)⟩, rfl, rfl⟩
    have : i = 0 ∨ i = 1 ∨ i = 2 ∨ i = 3 ∨ i = 4 ∨ i = 5 ∨ i = 6 ∨ i = 7 ∨ i = 8 ∨ i = 9 ∨ i = 10 ∨ i = 11 ∨ i = 12 ∨ i = 13 := by omega
    rcases this with q | q | q | q | q | q | q | q | q | q | q | q | q | q <;> subst q <;> rfl
end
