/-! calls of private methods, of a nest mate's constructor, of an interface's method by a class's entry; Math.max -/
section
set_option maxRecDepth 100000
variable {G : zG} {M N : zM} {d d' r r' pc pc' : Nat} {L st0 rest As : List Value} {h : zH} {Q Q' : zR → zH → Prop}
theorem zsel_priv {s : State} {A : Array Value} {C : String} {y : MethodName} {c : ClassId} (hc : s.vm.findClass C = some c) (h1 : (Cond.privateMethod y).before A s = true) (h2 : (Cond.sameMethod y.cls y.cls y.name y.desc).before A s = true) : (Cond.selects C y y).before A s = true := sorry
/-- invokevirtual of a private method -/
def zCP (own : String) (idx : Nat) (N : zM) (n : Nat) : Prop := zMw N ∧ zNp (zm_y N) n ∧ Cond.methodLink own idx (zm_y N) ∈ lw_tbl ∧ Cond.instanceMethod (zm_y N) ∈ lw_tbl ∧ Cond.privateMethod (zm_y N) ∈ lw_tbl ∧ Cond.sameMethod (zm_y N).cls (zm_y N).cls (zm_y N).name (zm_y N).desc ∈ lw_tbl
theorem zW.callP {idx n b kk ci : Nat} {C : String} {fs : List Value} {T : u_T} {NF : Nat} (hd : decode (zm_c M) pc = .ok (.invokevirtual idx, 3)) (hn : pc + 3 = pc') (hcw : zCP (zm_y M).cls idx N n) (hst : st0 = As.reverse ++ .ref b :: rest) (hh : h b = some (kk, fs)) (hk : kk % 1000 = ci ∧ ci < 50) (hci : zcl[ci]? = some (C, T, NF))
    (hK : zK G N d' r' (.ref b :: As) h Q') (hc1 : ∀ v ∈ As, v.category = 1) (hlen : As.length = n) (hln : n + 1 ≤ zm_n N) (hdd : d' + 1 ≤ d) (hW : (rest.map fun v => v.category).sum ≤ 8)
    (kq : ∀ v h', Q' (.inl v) h' → zW G M d r pc' L (v.toList ++ rest) h' Q) (kx : ∀ E h', Q' (.inr E) h' → zX G M d r pc L E h' Q) : zW G M d (r + r') pc L st0 h Q := sorry
/-- a nest mate's constructor -/
def zCIN (own : String) (idx : Nat) (N : zM) (n : Nat) (host : String) : Prop := zMw N ∧ zNp (zm_y N) n ∧ Cond.methodLinkNest own idx (zm_y N) host ∈ lw_tbl ∧ Cond.instanceMethod (zm_y N) ∈ lw_tbl ∧ (zm_y N).name = "<init>" ∧ zm_r N = none
theorem zW.callIN {idx n b : Nat} {host : String} (hd : decode (zm_c M) pc = .ok (.invokespecial idx, 3)) (hn : pc + 3 = pc') (hcw : zCIN (zm_y M).cls idx N n host) (hst : st0 = As.reverse ++ .ref b :: rest)
    (hK : zK G N d' r' (.ref b :: As) h Q') (hc1 : ∀ v ∈ As, v.category = 1) (hlen : As.length = n) (hln : n + 1 ≤ zm_n N) (hdd : d' + 1 ≤ d) (hW : (rest.map fun v => v.category).sum ≤ 8)
    (kq : ∀ v h', Q' (.inl v) h' → zW G M d r pc' L (v.toList ++ rest) h' Q) (kx : ∀ E h', Q' (.inr E) h' → zX G M d r pc L E h' Q) : zW G M d (r + r') pc L st0 h Q := sorry
/-- invokevirtual of x by words that are not in the list -/
def zCM (G : zG) (own : String) (idx : Nat) (C owner : String) (x : MethodName) (N : zM) (n : Nat) : Prop := zMw N ∧ zNp x n ∧ (∀ (s : State) (A : Array Value), zTb G s → (Cond.methodLink own idx x).before A s = true ∧ (Cond.sameMethod x.cls owner x.name x.desc).before A s = true ∧ (Cond.selects C x (zm_y N)).before A s = true) ∧ Cond.instanceMethod (zm_y N) ∈ lw_tbl ∧ (owner ≠ "java/lang/invoke/MethodHandle" ∧ owner ≠ "java/lang/invoke/VarHandle") ∧ Cond.declares ⟨owner, x.name, x.desc⟩ ∈ lw_tbl
theorem zW.callM {idx n b kk ci : Nat} {C owner : String} {x : MethodName} {fs : List Value} {T : u_T} {NF : Nat} (hd : decode (zm_c M) pc = .ok (.invokevirtual idx, 3)) (hn : pc + 3 = pc') (hcw : zCM G (zm_y M).cls idx C owner x N n) (hst : st0 = As.reverse ++ .ref b :: rest) (hh : h b = some (kk, fs)) (hk : kk % 1000 = ci ∧ ci < 50) (hci : zcl[ci]? = some (C, T, NF))
    (hK : zK G N d' r' (.ref b :: As) h Q') (hc1 : ∀ v ∈ As, v.category = 1) (hlen : As.length = n) (hln : n + 1 ≤ zm_n N) (hdd : d' + 1 ≤ d) (hW : (rest.map fun v => v.category).sum ≤ 8)
    (kq : ∀ v h', Q' (.inl v) h' → zW G M d r pc' L (v.toList ++ rest) h' Q) (kx : ∀ E h', Q' (.inr E) h' → zX G M d r pc L E h' Q) : zW G M d (r + r') pc L st0 h Q := sorry
theorem zW.mmax {idx a b : Nat} {st : List Value} (hd : decode (zm_c M) pc = .ok (.invokestatic idx, 3)) (hn : pc + 3 = pc') (hl : Cond.methodLink (zm_y M).cls idx Lib.Math.max.name ∈ lw_tbl) (hdd : 1 ≤ d) (hW : (st.map fun v => v.category).sum ≤ 8) (ha : a < 2 ^ 31) (hb : b < 2 ^ 31) (k : zW G M d r pc' L (.int (nI (max a b)) :: st) h Q) : zW G M d r pc L (.int (nI b) :: .int (nI a) :: st) h Q := sorry
theorem l_J5_100 : zCP "java/lang/AbstractStringBuilder" 100 mJ5_ensureCapacityInternal 1 := sorry
theorem l_J5_104 : zCP "java/lang/AbstractStringBuilder" 104 mJ5_newCapacity 1 := sorry
theorem l_J5_208 : zCP "java/lang/AbstractStringBuilder" 208 mJ5_putStringAt 2 := sorry
theorem l_J5_397 : zCP "java/lang/AbstractStringBuilder" 397 mJ5_inflateIfNeededFor 1 := sorry
theorem l_J28_43 : zCIN "java/util/ImmutableCollections" 43 mJ38_init 2 "java/util/ImmutableCollections" := sorry
theorem l_J36_107 : zCM G "java/util/ImmutableCollections$AbstractImmutableList" 107 "java/util/ImmutableCollections$ListN" "java/util/List" ⟨"java/util/ImmutableCollections$AbstractImmutableList", "indexOf", "(Ljava/lang/Object;)I"⟩ mJ38_indexOf 1 := sorry
end

