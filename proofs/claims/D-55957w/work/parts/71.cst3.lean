/-! a new State -/
section
set_option maxRecDepth 100000
variable {G : zG} {M : zM} {d r pc pc' : Nat} {L st0 : List Value} {h h' h0 : zH} {Q : zR → zH → Prop} {O O' : Nat → Prop} {st ll aq re rt ea ha er hr a : Nat} {mc : Int32} {xs : List (Nat × Nat)} {qs rs : List Nat} {s : sS}
theorem ztab_0 {n : Nat} : List.replicate n (Value.int 0) = ztab n fun _ => 0 := by
  apply List.ext_getElem?
  intro i
  by_cases hi : i < n
  · rw [List.getElem?_replicate, if_pos hi, ztab_get hi]; rfl
  · rw [List.getElem?_eq_none (by rw [List.length_replicate]; omega), List.getElem?_eq_none (by rw [ztab_len]; omega)]
theorem zW.newaIK {N u : Nat} {n : Int32} (hd : decode (zm_c M) pc = .ok (.newarray .int, 2)) (hn : pc + 2 = pc') (hn0 : ¬ n < 0) (hN : n.toNatClampNeg = N) (hb : N * 4 ≤ 536870912) (hu : 1 ≤ u ∧ N ≤ 4 * u) (kq : ∀ a h', h a = none → h' = zup h a (100, ztab N fun _ => 0) → h' a = some (100, ztab N fun _ => 0) → zW G M d r pc' L (.ref a :: st0) h' Q) : zW G M d (r + u) pc L (.int n :: st0) h Q :=
  zW.newa (kk := 100) hd hn (by decide) rfl (lw_all_tbl q263) (fun _ _ q => q) hn0 hN hb hu rfl fun a n => by
    rw [show List.replicate N (defaultValue (newarray.typeOf .int)) = ztab N fun _ => 0 from ztab_0]
    exact kq a _ n rfl zup_s
theorem zW.iastNK {a n j x : Nat} {f : Nat → Nat} (hd : decode (zm_c M) pc = .ok (.iastore, 1)) (hn : pc + 1 = pc') (hh : h a = some (100, ztab n f)) (hj : j < n) (hn0 : n < 2 ^ 31) (kq : ∀ h', h' = zup h a (100, ztab n (zu f j x)) → h' a = some (100, ztab n (zu f j x)) → zW G M d r pc' L st0 h' Q) : zW G M d r pc L (.int (nI x) :: .int (nI j) :: .ref a :: st0) h Q :=
  zW.iastN hd hn hh hj hn0 (kq _ rfl zup_s)
def sZero : Nat → Nat := fun i => if 10 ≤ i ∧ i < 14 then 5 else 0
theorem w_stInit (hst : h st = some (1, [.null, .null, .null, .null, .int 0, .int 0, .int 0, .int 0, .int 0, .long 0, .long 0, .long 0])) : zK G mX2_init 6 14 [.ref st] h (zO fun v h' => v = none ∧ ∃ ll aq re rt ea er, cP h' (fun b => b = st ∨ h b = none) st ll aq re rt ea 0 er 0 (nI 0) [] [] [] (sZero, [], [], []) ∧ zfr (fun b => b = st) h h') := by
  have hf := zfr.rf (A := fun b => b = st) (h := h)
  show zW G mX2_init 6 14 0 [.ref st, zho] [] h _
  refine zW.aload_n (pc' := 1) dX2_init_0 rfl rfl zg0 rfl ?_
  refine zW.objInit (pc' := 4) dX2_init_1 rfl (lw_all_tbl q158) (lw_all_tbl q151) (lw_all_tbl q152) (Nat.le_of_ble_eq_true rfl) (Nat.le_of_ble_eq_true rfl) ?_
  refine zW.aload_n (pc' := 5) dX2_init_4 rfl rfl zg0 rfl ?_
  refine zW.newK (u := 1) (pc' := 8) dX2_init_5 rfl n_X2_9 zd_6 (fun ll _ nll e9 k9 => ?_)
  have hst := zpres e9 (zfresh nll hst) hst
  have oll := hf.nn0 nll
  have hf := hf.new e9 nll
  have hll := k9
  clear k9
  refine zW.dup (pc' := 9) dX2_init_8 rfl rfl ?_
  refine zW.callI (r' := 0) (pc' := 12) dX2_init_9 rfl l_X2_11 rfl (w_llInit hll) zc0 rfl (Nat.le_of_ble_eq_true rfl) (Nat.le_of_ble_eq_true rfl) (Nat.le_of_ble_eq_true rfl) (fun _ _ q9 => ?_) (fun _ _ q9 => absurd q9 zO.no)
  obtain ⟨_, q8, e1, e9, k9⟩ := q9
  cases q8
  subst e1
  have hst := zpres e9 (zne hst hll (by decide)) hst
  have hf := hf.put e9 hll (by decide) (Or.inr oll)
  replace hll := k9
  clear e9 k9
  refine zW.putK (pc' := 15) dX2_init_12 rfl f_X2_12_1 hst ⟨⟨rfl, (Nat.le_of_ble_eq_true rfl)⟩, (Nat.le_of_ble_eq_true rfl)⟩ (zFw.fin ft_1_0 rfl rfl rfl rfl rfl) zs0 (fun _ e9 k9 => ?_)
  have hll := zpres e9 (zne hll hst (by decide)) hll
  have hf := hf.put e9 hst (by decide) (Or.inl rfl)
  replace hst := k9
  clear e9 k9
  refine zW.aload_n (pc' := 16) dX2_init_15 rfl rfl zg0 rfl ?_
  refine zW.newK (u := 1) (pc' := 19) dX2_init_16 rfl n_X2_18 zd_9 (fun aq _ naq e9 k9 => ?_)
  have hst := zpres e9 (zfresh naq hst) hst
  have hll := zpres e9 (zfresh naq hll) hll
  have oaq := hf.nn0 naq
  have hf := hf.new e9 naq
  have haq := k9
  clear k9
  refine zW.dup (pc' := 20) dX2_init_19 rfl rfl ?_
  refine zW.callI (r' := 5) (pc' := 23) dX2_init_20 rfl l_X2_20 rfl (w_dqInit haq) zc0 rfl (Nat.le_of_ble_eq_true rfl) (Nat.le_of_ble_eq_true rfl) (Nat.le_of_ble_eq_true rfl) (fun _ _ q9 => ?_) (fun _ _ q9 => absurd q9 zO.no)
  obtain ⟨_, q8, e1, ea, nea, hQa, z1⟩ := q9
  cases q8
  subst e1
  have oea := hf.nn0 nea
  have hst := z1.at hst (zne hst haq (by decide))
  have hll := z1.at hll (zne hll haq (by decide))
  have hf := hf.tr z1 fun b hb => Or.inr (by rw [hb]; exact oaq)
  obtain ⟨-, haq, fa, hea, -⟩ := hQa
  refine zW.putK (pc' := 26) dX2_init_23 rfl f_X2_21_1 hst ⟨⟨rfl, (Nat.le_of_ble_eq_true rfl)⟩, (Nat.le_of_ble_eq_true rfl)⟩ (zFw.fin ft_1_1 rfl rfl rfl rfl rfl) (zsS (zs0)) (fun _ e9 k9 => ?_)
  have hll := zpres e9 (zne hll hst (by decide)) hll
  have haq := zpres e9 (zne haq hst (by decide)) haq
  have hea := zpres e9 (zne hea hst (by decide)) hea
  have hf := hf.put e9 hst (by decide) (Or.inl rfl)
  replace hst := k9
  clear e9 k9
  refine zW.aload_n (pc' := 27) dX2_init_26 rfl rfl zg0 rfl ?_
  refine zW.newK (u := 1) (pc' := 30) dX2_init_27 rfl n_X2_18 zd_9 (fun re _ nre e9 k9 => ?_)
  have hst := zpres e9 (zfresh nre hst) hst
  have hll := zpres e9 (zfresh nre hll) hll
  have q_haq_re := zfresh nre haq
  have haq := zpres e9 (zfresh nre haq) haq
  have hea := zpres e9 (zfresh nre hea) hea
  have ore := hf.nn0 nre
  have hf := hf.new e9 nre
  have hre := k9
  clear k9
  refine zW.dup (pc' := 31) dX2_init_30 rfl rfl ?_
  refine zW.callI (r' := 5) (pc' := 34) dX2_init_31 rfl l_X2_20 rfl (w_dqInit hre) zc0 rfl (Nat.le_of_ble_eq_true rfl) (Nat.le_of_ble_eq_true rfl) (Nat.le_of_ble_eq_true rfl) (fun _ _ q9 => ?_) (fun _ _ q9 => absurd q9 zO.no)
  obtain ⟨_, q8, e1, er, ner, hQr, z2⟩ := q9
  cases q8
  subst e1
  have oer := hf.nn0 ner
  have neae := zfresh ner hea
  have hst := z2.at hst (zne hst hre (by decide))
  have hll := z2.at hll (zne hll hre (by decide))
  have hea := z2.at hea (zne hea hre (by decide))
  have haq := z2.at haq q_haq_re
  have hf := hf.tr z2 fun b hb => Or.inr (by rw [hb]; exact ore)
  obtain ⟨-, hre, fe, her, -⟩ := hQr
  refine zW.putK (pc' := 37) dX2_init_34 rfl f_X2_25_1 hst ⟨⟨rfl, (Nat.le_of_ble_eq_true rfl)⟩, (Nat.le_of_ble_eq_true rfl)⟩ (zFw.fin ft_1_2 rfl rfl rfl rfl rfl) (zsS (zsS (zs0))) (fun _ e9 k9 => ?_)
  have hll := zpres e9 (zne hll hst (by decide)) hll
  have haq := zpres e9 (zne haq hst (by decide)) haq
  have hea := zpres e9 (zne hea hst (by decide)) hea
  have hre := zpres e9 (zne hre hst (by decide)) hre
  have her := zpres e9 (zne her hst (by decide)) her
  have hf := hf.put e9 hst (by decide) (Or.inl rfl)
  replace hst := k9
  clear e9 k9
  refine zW.aload_n (pc' := 38) dX2_init_37 rfl rfl zg0 rfl ?_
  refine zW.iconst (pc' := 39) (nI 4) dX2_init_38 rfl (by decide) ?_
  refine zW.newaIK (u := 1) (N := 4) (pc' := 41) dX2_init_39 rfl (by decide) (by decide) (by decide) ⟨by decide, by decide⟩ (fun rt _ nrt e9 k9 => ?_)
  have hst := zpres e9 (zfresh nrt hst) hst
  have hll := zpres e9 (zfresh nrt hll) hll
  have haq := zpres e9 (zfresh nrt haq) haq
  have hea := zpres e9 (zfresh nrt hea) hea
  have hre := zpres e9 (zfresh nrt hre) hre
  have her := zpres e9 (zfresh nrt her) her
  have ort := hf.nn0 nrt
  have hf := hf.new e9 nrt
  have hrt := k9
  clear k9
  refine zW.putK (pc' := 44) dX2_init_41 rfl f_X2_28_1 hst ⟨⟨rfl, (Nat.le_of_ble_eq_true rfl)⟩, (Nat.le_of_ble_eq_true rfl)⟩ (zFw.fin ft_1_3 rfl rfl rfl rfl rfl) (zsS (zsS (zsS (zs0)))) (fun _ e9 k9 => ?_)
  have hll := zpres e9 (zne hll hst (by decide)) hll
  have haq := zpres e9 (zne haq hst (by decide)) haq
  have hea := zpres e9 (zne hea hst (by decide)) hea
  have hre := zpres e9 (zne hre hst (by decide)) hre
  have her := zpres e9 (zne her hst (by decide)) her
  have hrt := zpres e9 (zne hrt hst (by decide)) hrt
  have hf := hf.put e9 hst (by decide) (Or.inl rfl)
  replace hst := k9
  clear e9 k9
  refine zW.iconst (pc' := 45) (nI 0) dX2_init_44 rfl (by decide) ?_
  refine zW.istore_n (pc' := 46) dX2_init_45 rfl rfl (Nat.le_of_ble_eq_true rfl) (zsS (zs0)) ?_
  refine zW.iload_n (pc' := 47) dX2_init_46 rfl rfl (zgS (zg0)) ?_
  refine zW.iconst (pc' := 48) (nI 4) dX2_init_47 rfl (by decide) ?_
  refine zW.icmp_geN (pc' := 51) 64 dX2_init_48 rfl (by decide) (by omega) (by omega) (fun b9 => absurd b9 (by omega)) (fun b9 => ?_)
  refine zW.aload_n (pc' := 52) dX2_init_51 rfl rfl zg0 rfl ?_
  refine zW.get (pc' := 55) dX2_init_52 rfl f_X2_28_1 hst ⟨rfl, (Nat.le_of_ble_eq_true rfl)⟩ rfl ?_
  refine zW.iload_n (pc' := 56) dX2_init_55 rfl rfl (zgS (zg0)) ?_
  refine zW.iconst (pc' := 57) (nI 5) dX2_init_56 rfl (by decide) ?_
  refine zW.iastNK (pc' := 58) dX2_init_57 rfl hrt (by omega) (Nat.le_of_ble_eq_true rfl) (fun _ e9 k9 => ?_)
  have hst := zpres e9 (zne hst hrt (by decide)) hst
  have hll := zpres e9 (zne hll hrt (by decide)) hll
  have haq := zpres e9 (zne haq hrt (by decide)) haq
  have hea := zpres e9 (zne hea hrt (by decide)) hea
  have hre := zpres e9 (zne hre hrt (by decide)) hre
  have her := zpres e9 (zne her hrt (by decide)) her
  have hf := hf.put e9 hrt (by decide) (Or.inr ort)
  replace hrt := k9
  clear e9 k9
  refine zW.iincN (pc' := 61) (n := 1) dX2_init_58 rfl (Nat.le_of_ble_eq_true rfl) (zgS (zg0)) (zsS (zs0)) ?_
  refine zW.goto 46 dX2_init_61 (by decide) ?_
  refine zW.iload_n (pc' := 47) dX2_init_46 rfl rfl (zgS (zg0)) ?_
  refine zW.iconst (pc' := 48) (nI 4) dX2_init_47 rfl (by decide) ?_
  refine zW.icmp_geN (pc' := 51) 64 dX2_init_48 rfl (by decide) (by omega) (by omega) (fun b9 => absurd b9 (by omega)) (fun b9 => ?_)
  refine zW.aload_n (pc' := 52) dX2_init_51 rfl rfl zg0 rfl ?_
  refine zW.get (pc' := 55) dX2_init_52 rfl f_X2_28_1 hst ⟨rfl, (Nat.le_of_ble_eq_true rfl)⟩ rfl ?_
  refine zW.iload_n (pc' := 56) dX2_init_55 rfl rfl (zgS (zg0)) ?_
  refine zW.iconst (pc' := 57) (nI 5) dX2_init_56 rfl (by decide) ?_
  refine zW.iastNK (pc' := 58) dX2_init_57 rfl hrt (by omega) (Nat.le_of_ble_eq_true rfl) (fun _ e9 k9 => ?_)
  have hst := zpres e9 (zne hst hrt (by decide)) hst
  have hll := zpres e9 (zne hll hrt (by decide)) hll
  have haq := zpres e9 (zne haq hrt (by decide)) haq
  have hea := zpres e9 (zne hea hrt (by decide)) hea
  have hre := zpres e9 (zne hre hrt (by decide)) hre
  have her := zpres e9 (zne her hrt (by decide)) her
  have hf := hf.put e9 hrt (by decide) (Or.inr ort)
  replace hrt := k9
  clear e9 k9
  refine zW.iincN (pc' := 61) (n := 1) dX2_init_58 rfl (Nat.le_of_ble_eq_true rfl) (zgS (zg0)) (zsS (zs0)) ?_
  refine zW.goto 46 dX2_init_61 (by decide) ?_
  refine zW.iload_n (pc' := 47) dX2_init_46 rfl rfl (zgS (zg0)) ?_
  refine zW.iconst (pc' := 48) (nI 4) dX2_init_47 rfl (by decide) ?_
  refine zW.icmp_geN (pc' := 51) 64 dX2_init_48 rfl (by decide) (by omega) (by omega) (fun b9 => absurd b9 (by omega)) (fun b9 => ?_)
  refine zW.aload_n (pc' := 52) dX2_init_51 rfl rfl zg0 rfl ?_
  refine zW.get (pc' := 55) dX2_init_52 rfl f_X2_28_1 hst ⟨rfl, (Nat.le_of_ble_eq_true rfl)⟩ rfl ?_
  refine zW.iload_n (pc' := 56) dX2_init_55 rfl rfl (zgS (zg0)) ?_
  refine zW.iconst (pc' := 57) (nI 5) dX2_init_56 rfl (by decide) ?_
  refine zW.iastNK (pc' := 58) dX2_init_57 rfl hrt (by omega) (Nat.le_of_ble_eq_true rfl) (fun _ e9 k9 => ?_)
  have hst := zpres e9 (zne hst hrt (by decide)) hst
  have hll := zpres e9 (zne hll hrt (by decide)) hll
  have haq := zpres e9 (zne haq hrt (by decide)) haq
  have hea := zpres e9 (zne hea hrt (by decide)) hea
  have hre := zpres e9 (zne hre hrt (by decide)) hre
  have her := zpres e9 (zne her hrt (by decide)) her
  have hf := hf.put e9 hrt (by decide) (Or.inr ort)
  replace hrt := k9
  clear e9 k9
  refine zW.iincN (pc' := 61) (n := 1) dX2_init_58 rfl (Nat.le_of_ble_eq_true rfl) (zgS (zg0)) (zsS (zs0)) ?_
  refine zW.goto 46 dX2_init_61 (by decide) ?_
  refine zW.iload_n (pc' := 47) dX2_init_46 rfl rfl (zgS (zg0)) ?_
  refine zW.iconst (pc' := 48) (nI 4) dX2_init_47 rfl (by decide) ?_
  refine zW.icmp_geN (pc' := 51) 64 dX2_init_48 rfl (by decide) (by omega) (by omega) (fun b9 => absurd b9 (by omega)) (fun b9 => ?_)
  refine zW.aload_n (pc' := 52) dX2_init_51 rfl rfl zg0 rfl ?_
  refine zW.get (pc' := 55) dX2_init_52 rfl f_X2_28_1 hst ⟨rfl, (Nat.le_of_ble_eq_true rfl)⟩ rfl ?_
  refine zW.iload_n (pc' := 56) dX2_init_55 rfl rfl (zgS (zg0)) ?_
  refine zW.iconst (pc' := 57) (nI 5) dX2_init_56 rfl (by decide) ?_
  refine zW.iastNK (pc' := 58) dX2_init_57 rfl hrt (by omega) (Nat.le_of_ble_eq_true rfl) (fun _ e9 k9 => ?_)
  have hst := zpres e9 (zne hst hrt (by decide)) hst
  have hll := zpres e9 (zne hll hrt (by decide)) hll
  have haq := zpres e9 (zne haq hrt (by decide)) haq
  have hea := zpres e9 (zne hea hrt (by decide)) hea
  have hre := zpres e9 (zne hre hrt (by decide)) hre
  have her := zpres e9 (zne her hrt (by decide)) her
  have hf := hf.put e9 hrt (by decide) (Or.inr ort)
  replace hrt := k9
  clear e9 k9
  refine zW.iincN (pc' := 61) (n := 1) dX2_init_58 rfl (Nat.le_of_ble_eq_true rfl) (zgS (zg0)) (zsS (zs0)) ?_
  refine zW.goto 46 dX2_init_61 (by decide) ?_
  refine zW.iload_n (pc' := 47) dX2_init_46 rfl rfl (zgS (zg0)) ?_
  refine zW.iconst (pc' := 48) (nI 4) dX2_init_47 rfl (by decide) ?_
  refine zW.icmp_geN (pc' := 51) 64 dX2_init_48 rfl (by decide) (by omega) (by omega) (fun b9 => ?_) (fun b9 => absurd b9 (by omega))
  refine zW.vret dX2_init_64 rfl ?_
  have hL : cLL _ ll (nI 0) [] := cLL_nil hll
  have hQa2 : cDQ _ aq ea 0 [] := ⟨⟨by decide, by decide⟩, haq, fa, hea, fun i x e => by cases e⟩
  have hQr2 : cDQ _ re er 0 [] := ⟨⟨by decide, by decide⟩, hre, fe, her, fun i x e => by cases e⟩
  refine ⟨_, rfl, rfl, ll, aq, re, rt, ea, er, ⟨hst, ⟨hL, rfl, (fun i p c e => by cases e), List.Pairwise.nil⟩, ⟨hQa2, rfl, fun i q x e => by cases e⟩, ⟨hQr2, rfl, fun i q x e => by cases e⟩, ⟨q_haq_re, neae⟩, ?_, Or.inl rfl, (fun b hb => Or.inr (hb.elim (fun q => by rw [q]; exact oll) fun q => by cases q)), (fun p hp => by cases hp), ⟨Or.inr oaq, Or.inr oea⟩, ⟨Or.inr ore, Or.inr oer⟩, Or.inr ort⟩, hf⟩
  rw [hrt]
  congr 2
end
