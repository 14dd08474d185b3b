/-! calls of private methods, of a nest mate's constructor, of an interface's method by a class's entry; Math.max -/
section
set_option maxRecDepth 100000
variable {G : zG} {M N : zM} {d d' r r' pc pc' : Nat} {L st0 rest As : List Value} {h : zH} {Q Q' : zR → zH → Prop}
theorem zsel_priv {s : State} {A : Array Value} {C : String} {y : MethodName} {c : ClassId} (hc : s.vm.findClass C = some c) (h1 : (Cond.privateMethod y).before A s = true) (h2 : (Cond.sameMethod y.cls y.cls y.name y.desc).before A s = true) : (Cond.selects C y y).before A s = true := by
  obtain ⟨c1, ck, r, hc1, hck, hni, hf, hn⟩ := Cond.sameMethod_found h2
  have hn' : s.methodNamed? y = some r := hn
  cases hm : s.vm.method? r with
  | none => simp [Cond.before, Cond.holds, Cond.value, hn', hm] at h1
  | some meth =>
    have hp : meth.isPrivate = true := by simpa [Cond.before, Cond.holds, Cond.value, hn', hm] using h1
    have hs := selectMethod_private (p := {}) (vm := s.vm) (c := c) hm hp
    have hcl := findClass_of_methodNamed hn'
    cases hc1.symm.trans hcl
    simp [Cond.before, Cond.holds, Cond.value, hc, hf, hn', hs, hck, hni]
/-- invokevirtual of a private method -/
def zCP (own : String) (idx : Nat) (N : zM) (n : Nat) : Prop := zMw N ∧ zNp (zm_y N) n ∧ Cond.methodLink own idx (zm_y N) ∈ lw_tbl ∧ Cond.instanceMethod (zm_y N) ∈ lw_tbl ∧ Cond.privateMethod (zm_y N) ∈ lw_tbl ∧ Cond.sameMethod (zm_y N).cls (zm_y N).cls (zm_y N).name (zm_y N).desc ∈ lw_tbl
theorem zW.callP {idx n b kk ci : Nat} {C : String} {fs : List Value} {T : u_T} {NF : Nat} (hd : decode (zm_c M) pc = .ok (.invokevirtual idx, 3)) (hn : pc + 3 = pc') (hcw : zCP (zm_y M).cls idx N n) (hst : st0 = As.reverse ++ .ref b :: rest) (hh : h b = some (kk, fs)) (hk : kk % 1000 = ci ∧ ci < 50) (hci : zcl[ci]? = some (C, T, NF))
    (hK : zK G N d' r' (.ref b :: As) h Q') (hc1 : ∀ v ∈ As, v.category = 1) (hlen : As.length = n) (hln : n + 1 ≤ zm_n N) (hdd : d' + 1 ≤ d) (hW : (rest.map fun v => v.category).sum ≤ 8)
    (kq : ∀ v h', Q' (.inl v) h' → zW G M d r pc' L (v.toList ++ rest) h' Q) (kx : ∀ E h', Q' (.inr E) h' → zX G M d r pc L E h' Q) : zW G M d (r + r') pc L st0 h Q := by
  subst hn; subst hst; subst hlen
  obtain ⟨hm, hnp, hl1, hl2, hl3, hl4⟩ := hcw
  intro p e R s m args below meth c A H locs cells slots ls hH hl hc hs hL
  have hT := A.tb
  obtain ⟨hr1, hr2⟩ := A.rm (r' := r') hdd hm.2.2.2.2
  have hrv := zrecv hT hH hh hk hci
  obtain ⟨cellR, -, -, hcR⟩ := id hrv
  exact zgo A (vx_runV A.fix (zK.met hm (List.forall_mem_cons.mpr ⟨rfl, hc1⟩) (by simp only [List.length_cons]; omega) hK) (C := C) (index := idx)
    ⟨⟨rfl, rfl, hr1, hr2, zws hT hm.1.2 rfl, List.mem_singleton.mpr rfl, hT.w hm.1.2 rfl, hT.w hm.2.1 rfl, hm.2.2.2.1, hnp.len, hT.w hl1 rfl⟩, hT.w hl2 rfl, zsel_priv hcR (hT.w hl3 rfl) (hT.w hl4 rfl)⟩
    (zPreV hT hH hrv) rfl rfl hL.1 rfl (lv_room hW) hd ⟨by omega, by omega⟩) hl hc hs hL kq kx
/-- a nest mate's constructor -/
def zCIN (own : String) (idx : Nat) (N : zM) (n : Nat) (host : String) : Prop := zMw N ∧ zNp (zm_y N) n ∧ Cond.methodLinkNest own idx (zm_y N) host ∈ lw_tbl ∧ Cond.instanceMethod (zm_y N) ∈ lw_tbl ∧ (zm_y N).name = "<init>" ∧ zm_r N = none
theorem zW.callIN {idx n b : Nat} {host : String} (hd : decode (zm_c M) pc = .ok (.invokespecial idx, 3)) (hn : pc + 3 = pc') (hcw : zCIN (zm_y M).cls idx N n host) (hst : st0 = As.reverse ++ .ref b :: rest)
    (hK : zK G N d' r' (.ref b :: As) h Q') (hc1 : ∀ v ∈ As, v.category = 1) (hlen : As.length = n) (hln : n + 1 ≤ zm_n N) (hdd : d' + 1 ≤ d) (hW : (rest.map fun v => v.category).sum ≤ 8)
    (kq : ∀ v h', Q' (.inl v) h' → zW G M d r pc' L (v.toList ++ rest) h' Q) (kx : ∀ E h', Q' (.inr E) h' → zX G M d r pc L E h' Q) : zW G M d (r + r') pc L st0 h Q := by
  subst hn; subst hst; subst hlen
  obtain ⟨hm, hnp, hl1, hl2, hl3, hl4⟩ := hcw
  intro p e R s m args below meth c A H locs cells slots ls hH hl hc hs hL
  have hT := A.tb
  obtain ⟨hr1, hr2⟩ := A.rm (r' := r') hdd hm.2.2.2.2
  have hmc := hm.1.2
  rw [hl4] at hmc
  have hM := zK.met hm (List.forall_mem_cons.mpr ⟨rfl, hc1⟩) (by simp only [List.length_cons]; omega) hK
  rw [hl4] at hM
  exact zgo A (vx_runIN A.fix hM (index := idx)
    ⟨⟨⟨rfl, rfl, hr1, hr2, zws hT hmc rfl, List.mem_singleton.mpr rfl⟩, hT.w hmc rfl, hT.w hm.2.1 rfl, hm.2.2.2.1, hnp.len, hT.w hl1 rfl⟩, hl3, hT.w hl2 rfl⟩
    (zPreS hT hH) rfl rfl hL.1 rfl (lv_room hW) hd ⟨by omega, by omega⟩) hl hc hs hL kq kx
/-- invokevirtual of x by words that are not in the list -/
def zCM (G : zG) (own : String) (idx : Nat) (C owner : String) (x : MethodName) (N : zM) (n : Nat) : Prop := zMw N ∧ zNp x n ∧ (∀ (s : State) (A : Array Value), zTb G s → (Cond.methodLink own idx x).before A s = true ∧ (Cond.sameMethod x.cls owner x.name x.desc).before A s = true ∧ (Cond.selects C x (zm_y N)).before A s = true) ∧ Cond.instanceMethod (zm_y N) ∈ lw_tbl ∧ (owner ≠ "java/lang/invoke/MethodHandle" ∧ owner ≠ "java/lang/invoke/VarHandle") ∧ Cond.declares ⟨owner, x.name, x.desc⟩ ∈ lw_tbl
theorem zW.callM {idx n b kk ci : Nat} {C owner : String} {x : MethodName} {fs : List Value} {T : u_T} {NF : Nat} (hd : decode (zm_c M) pc = .ok (.invokevirtual idx, 3)) (hn : pc + 3 = pc') (hcw : zCM G (zm_y M).cls idx C owner x N n) (hst : st0 = As.reverse ++ .ref b :: rest) (hh : h b = some (kk, fs)) (hk : kk % 1000 = ci ∧ ci < 50) (hci : zcl[ci]? = some (C, T, NF))
    (hK : zK G N d' r' (.ref b :: As) h Q') (hc1 : ∀ v ∈ As, v.category = 1) (hlen : As.length = n) (hln : n + 1 ≤ zm_n N) (hdd : d' + 1 ≤ d) (hW : (rest.map fun v => v.category).sum ≤ 8)
    (kq : ∀ v h', Q' (.inl v) h' → zW G M d r pc' L (v.toList ++ rest) h' Q) (kx : ∀ E h', Q' (.inr E) h' → zX G M d r pc L E h' Q) : zW G M d (r + r') pc L st0 h Q := by
  subst hn; subst hst; subst hlen
  obtain ⟨hm, hnp, hl1, hl4, hl5, hl6⟩ := hcw
  intro p e R s m args below meth c A H locs cells slots ls hH hl hc hs hL
  have hT := A.tb
  obtain ⟨hr1, hr2⟩ := A.rm (r' := r') hdd hm.2.2.2.2
  obtain ⟨w1, w2, w3⟩ := hl1 s args hT
  exact zgo A (vx_runU A.fix (zK.met hm (List.forall_mem_cons.mpr ⟨rfl, hc1⟩) (by simp only [List.length_cons]; omega) hK) (C := C) (owner := owner) (x := x) (index := idx)
    ⟨⟨rfl, rfl, hr1, hr2, zws hT hm.1.2 rfl, List.mem_singleton.mpr rfl⟩, hT.w hm.1.2 rfl, hT.w hm.2.1 rfl, hl5, hnp.len, w1, w2, va_Decl.abs (hT.w (A := #[]) hl6 rfl), w3, hT.w hl4 rfl⟩
    (zPreV hT hH (zrecv hT hH hh hk hci)) rfl rfl hL.1 rfl (lv_room hW) hd ⟨by omega, by omega⟩) hl hc hs hL kq kx
theorem zW.mmax {idx a b : Nat} {st : List Value} (hd : decode (zm_c M) pc = .ok (.invokestatic idx, 3)) (hn : pc + 3 = pc') (hl : Cond.methodLink (zm_y M).cls idx Lib.Math.max.name ∈ lw_tbl) (hdd : 1 ≤ d) (hW : (st.map fun v => v.category).sum ≤ 8) (ha : a < 2 ^ 31) (hb : b < 2 ^ 31) (k : zW G M d r pc' L (.int (nI (max a b)) :: st) h Q) : zW G M d r pc L (.int (nI b) :: .int (nI a) :: st) h Q := by
  subst hn
  intro p e R s m args below meth c A H locs cells slots ls hH hl' hc hs hL
  have h1 := A.2.2.2.2.2.2.2.2.2.1
  have e : (if nI a < nI b then nI b else nI a) = nI (max a b) := by
    by_cases q : a < b
    · rw [if_pos ((nI_ltI ha hb).mpr q), Nat.max_eq_right (Nat.le_of_lt q)]
    · rw [if_neg (fun z => q ((nI_ltI ha hb).mp z)), Nat.max_eq_left (Nat.not_lt.mp q)]
  refine va_mmax A.1 A.2.1 (A.2.2.2.1.trans hL.1.symm) A.own (A.tb.w hl rfl) (A.tb.w (lw_all_tbl q436) rfl) (A.tb.w (lw_all_tbl q114) rfl) (A.tb.w (lw_all_tbl q437) rfl) (by omega) (by show (st.map fun v => v.category).sum + 13 ≤ _; omega) (by omega) (by omega) hd ?_
  rw [e]
  exact k p _ R s m args below meth c A H locs cells slots ls hH hl' hc hs hL
theorem l_J5_100 : zCP "java/lang/AbstractStringBuilder" 100 mJ5_ensureCapacityInternal 1 := ⟨mw_J5_ensureCapacityInternal, by unfold zNp; decide +kernel, (lw_all_tbl q424), (lw_all_tbl q426), q425, (lw_all_tbl q3076)⟩
theorem l_J5_104 : zCP "java/lang/AbstractStringBuilder" 104 mJ5_newCapacity 1 := ⟨mw_J5_newCapacity, by unfold zNp; decide +kernel, (lw_all_tbl q428), (lw_all_tbl q430), q429, (lw_all_tbl q3077)⟩
theorem l_J5_208 : zCP "java/lang/AbstractStringBuilder" 208 mJ5_putStringAt 2 := ⟨mw_J5_putStringAt, by unfold zNp; decide +kernel, (lw_all_tbl q499), (lw_all_tbl q501), q500, (lw_all_tbl q3078)⟩
theorem l_J5_397 : zCP "java/lang/AbstractStringBuilder" 397 mJ5_inflateIfNeededFor 1 := ⟨mw_J5_inflateIfNeededFor, by unfold zNp; decide +kernel, (lw_all_tbl q503), (lw_all_tbl q505), q504, (lw_all_tbl q3079)⟩
theorem l_J28_43 : zCIN "java/util/ImmutableCollections" 43 mJ38_init 2 "java/util/ImmutableCollections" := ⟨mw_J38_init, by unfold zNp; decide +kernel, q2152, (lw_all_tbl q2153), rfl, rfl⟩
theorem l_J36_107 : zCM G "java/util/ImmutableCollections$AbstractImmutableList" 107 "java/util/ImmutableCollections$ListN" "java/util/List" ⟨"java/util/ImmutableCollections$AbstractImmutableList", "indexOf", "(Ljava/lang/Object;)I"⟩ mJ38_indexOf 1 := by
  refine ⟨mw_J38_indexOf, by unfold zNp; decide +kernel, fun s A hT => ?_, (lw_all_tbl q2372), ⟨by decide, by decide⟩, q2366⟩
  have hD := hT.2.2.2.2.2.2.2.1.2.2.1
  have w1 : (Cond.methodLink "java/util/ImmutableCollections$AbstractImmutableList" 107 ⟨"java/util/ImmutableCollections$AbstractImmutableList", "indexOf", "(Ljava/lang/Object;)I"⟩).before A s = true := zword_moved rfl (State.WarmedH.refl s) (hD _ (List.mem_cons_self ..) rfl)
  have w2 : (Cond.sameMethod "java/util/ImmutableCollections$AbstractImmutableList" "java/util/List" "indexOf" "(Ljava/lang/Object;)I").before A s = true := zword_moved rfl (State.WarmedH.refl s) (hD _ (List.mem_cons_of_mem _ (List.mem_cons_self ..)) rfl)
  refine ⟨w1, w2, ?_⟩
  obtain ⟨c1, r1, m1, g1, g2, g3, g4, mk, g5, g6⟩ := Cond.selects_spec (hT.w (A := A) (lw_all_tbl q2371) rfl)
  obtain ⟨c2, ck, r2, f1, f2, f3, f4, f5⟩ := Cond.sameMethod_found w2
  have f6 := State.methodFound?_of_named f5 ⟨by decide, by decide⟩
  cases g2.symm.trans f6
  show (Cond.selects "java/util/ImmutableCollections$ListN" ⟨"java/util/ImmutableCollections$AbstractImmutableList", "indexOf", "(Ljava/lang/Object;)I"⟩ ⟨"java/util/ImmutableCollections$ListN", "indexOf", "(Ljava/lang/Object;)I"⟩).before A s = true
  have g3' : s.methodNamed? ⟨"java/util/ImmutableCollections$ListN", "indexOf", "(Ljava/lang/Object;)I"⟩ = some m1 := g3
  simp [Cond.before, Cond.holds, Cond.value, g1, f4, g3', g4, g5, g6]
end
