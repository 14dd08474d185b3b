/-! THE LAW: from its entry -/
section
set_option maxRecDepth 100000
variable {G : zG} {h : zH} {Q : zR → zH → Prop} {b : Nat} {xs : List Value}
theorem wOk_0 : wOk 0 0 sW0 := by
  have hJ : sJ 0 0 ((sZero, [], [], []) : sS) := by
    refine ⟨⟨⟨Nat.le_refl _, Nat.le_refl _, rfl, rfl, fun i hi => ?_⟩, ⟨Nat.le_refl _, rfl, Nat.le_refl _⟩, ⟨by decide, fun c hc => (by cases hc), List.Pairwise.nil⟩, ⟨List.nodup_nil, fun q => ⟨fun z => (by cases z), fun z => (by cases z)⟩⟩, by decide, fun q hq => (by cases hq)⟩, fun c hc => (by cases hc)⟩
    show sZero (10 + i) ≤ 20
    unfold sZero
    split <;> omega
  exact ⟨hJ, fun s hs => (by cases hs), fun s hs => (by cases hs), Nat.le_of_ble_eq_true rfl, Nat.le_of_ble_eq_true rfl⟩
theorem lw_begin (hZ : zkI G) (hS : zkS G) (hL : zkL G) (hE : zkE G) (hF : zkD G) (hk : zkn G h) (hb : zg_k G b = some (1100, xs)) (hxs : ∀ j, j < xs.length → ∃ y : Int32, xs[j]? = some (.int y)) (h120 : xs.length ≤ 120) (hQ : ∀ h', Q (.inl (some (.int (nI 1)))) h') : zW G mL_law 42 1106200 0 [.ref b, zho, zho, zho, zho, zho, zho] [] h Q := by
  have zf := zfr.rf (A := fun _ => False) (h := h)
  refine zW.pay (r1 := 1106198 + 2) ?_ (Nat.le_refl _)
  refine zW.newK (u := 2) (pc' := 3) dL_law_0 rfl n_X0_8 zd_0 (fun x _ nx e9 k9 => ?_)
  have ox := zf.nn0 nx
  have zf := zf.new e9 nx
  have hx := k9
  clear k9
  clear e9
  refine zW.dup (pc' := 4) dL_law_3 rfl rfl ?_
  refine zW.pay (r1 := 1106100 + 40) ?_ (Nat.le_of_ble_eq_true rfl)
  refine zW.callI (r' := 40) (pc' := 7) dL_law_4 rfl l_X0_172 rfl (c_init hx) zc0 rfl (Nat.le_of_ble_eq_true rfl) (Nat.le_of_ble_eq_true rfl) (Nat.le_of_ble_eq_true rfl) (fun _ H1 q9 => ?_) (fun _ _ q9 => absurd q9 zO.no)
  obtain ⟨_, q8, e1, hG, z1⟩ := q9
  cases q8
  subst e1
  have z1 := zf.tr z1 fun b hb => Or.inr (by rw [hb]; exact ox)
  have hG := hG.shut
  have zf := zfr.rf (A := fun _ => False) (h := H1)
  refine zW.astore_n (pc' := 8) dL_law_7 rfl rfl (Nat.le_of_ble_eq_true rfl) rfl (zsS (zs0)) ?_
  refine zW.pay (r1 := 1106096 + 4) ?_ (Nat.le_refl _)
  refine zW.newK (u := 4) (pc' := 11) dL_law_8 rfl n_X0_173 zd_3 (fun m _ nm e9 k9 => ?_)
  have om := zf.nn0 nm
  have zf := zf.new e9 nm
  have hm := k9
  clear k9
  clear e9
  have hG := hG.fr zf fun b _ _ q => q
  refine zW.dup (pc' := 12) dL_law_11 rfl rfl ?_
  refine zW.pay (r1 := 1105600 + 492) ?_ (Nat.le_of_ble_eq_true rfl)
  refine zW.callI (r' := 492) (pc' := 15) dL_law_12 rfl l_X0_175 rfl (w_refInit hm) zc0 rfl (Nat.le_of_ble_eq_true rfl) (Nat.le_of_ble_eq_true rfl) (Nat.le_of_ble_eq_true rfl) (fun _ H3 q9 => ?_) (fun _ _ q9 => absurd q9 zO.no)
  obtain ⟨_, q8, e1, a, S, ea, hD, hI, hW, z3, n1, n2, n3, n4⟩ := q9
  cases q8
  subst e1
  subst ea
  have zH3 : zfr (fun _ => False) H1 H3 := zf.tr z3 fun b hb => Or.inr (by rw [hb]; exact om)
  have hG := hG.fr z3 fun c hc _ e => hc.2 (by rw [e]; exact om)
  have a0 : H1 a.1 = none := om
  have a1 := zf.nn0 n1
  have a2 := zf.nn0 n2
  have a3 := zf.nn0 n3
  have a4 := zf.nn0 n4
  have hk1 := (z1.tr zH3 fun b q => q.elim).kn hk
  refine zW.astore_n (pc' := 16) dL_law_15 rfl rfl (Nat.le_of_ble_eq_true rfl) rfl (zsS (zsS (zs0))) ?_
  refine zW.iconst (pc' := 17) (nI 1) dL_law_16 rfl (by decide) ?_
  refine zW.pay (r1 := 46060 * 24 + 1) ?_ (Nat.le_of_ble_eq_true rfl)
  refine zW.newa (at_ := .long) (kk := 101) (N := 1) (u := 1) (pc' := 19) dL_law_17 rfl (by decide) rfl (lw_all_tbl q3072) (fun _ _ q => q) (by decide) (by decide) (by decide) ⟨by decide, by decide⟩ rfl (fun o no => ?_)
  have zo : zfr (fun _ => False) H3 (zup H3 o (101, List.replicate 1 (defaultValue (newarray.typeOf .long)))) := zfr.rf.new rfl no
  have o1 := zH3.nn0 no
  obtain ⟨i0, i1, i2, i3, i4⟩ := hI
  refine zW.astore_n (pc' := 20) dL_law_19 rfl rfl (Nat.le_of_ble_eq_true rfl) rfl (zsS (zsS (zsS (zs0)))) ?_
  refine zW.iconst (pc' := 21) (nI 0) dL_law_20 rfl (by decide) ?_
  refine zW.istore (pc' := 23) dL_law_21 rfl (Nat.le_of_ble_eq_true rfl) (zsS (zsS (zsS (zsS (zs0))))) ?_
  refine lw_loop hZ hS hL hE hF hb hxs h120 hQ 24 0 _ _ _ rfl ⟨sW0, S, ?_, wOk_0⟩
  exact ⟨_, 0, ⟨hG.fr zo fun c _ _ q => q, fun c hc => zo.2.1 c (zH3.2.1 c hc.2)⟩, ⟨fun q => q.2 o1, fun q => q.2 a0, fun q => q.2 a1, fun q => q.2 a2, fun q => q.2 a3, fun q => q.2 a4⟩, ⟨hD, hW, zo.at i0 fun q => q, zo.at i1 fun q => q, zo.at i2 fun q => q, zo.at i3 fun q => q, zo.at i4 fun q => q⟩, ⟨zup_s, trivial⟩, zo.kn hk1⟩
end
