/-! System.arraycopy -/
section
set_option maxRecDepth 100000
variable {G : zG} {M : zM} {d r pc pc' : Nat} {L st : List Value} {h : zH} {Q : zR → zH → Prop}
/-- gs with n values of fs from i on laid from j on -/
def zcp (fs gs : List Value) (i j n : Nat) : List Value := gs.take j ++ (fs.drop i).take n ++ gs.drop (j + n)
theorem zcp_len {fs gs : List Value} {i j n : Nat} (hi : i + n ≤ fs.length) (hj : j + n ≤ gs.length) : (zcp fs gs i j n).length = gs.length := sorry
theorem zcp_get {fs gs : List Value} {i j n k : Nat} (hi : i + n ≤ fs.length) (hj : j + n ≤ gs.length) : (zcp fs gs i j n)[k]? = if j ≤ k ∧ k < j + n then fs[i + (k - j)]? else gs[k]? := sorry
theorem zcp_cell {cs cd : Cell} {i j n : Nat} (hi : i + n ≤ cs.slots.size) (hj : j + n ≤ cd.slots.size) : (cd.storeRun j (cs.stretch i n)).slots.toList = zcp cs.slots.toList cd.slots.toList i j n := sorry
theorem zW.acopy {idx a b kk kk' i j n : Nat} {fs gs : List Value} (hd : decode (zm_c M) pc = .ok (.invokestatic idx, 3)) (hn : pc + 3 = pc') (hl1 : Cond.methodLink (zm_y M).cls idx Stand.acN ∈ lw_tbl) (ha : h a = some (kk, fs)) (hb : h b = some (kk', gs)) (hk : (100 ≤ kk' ∧ kk' ≤ 104) ∧ kk % 1000 = kk') (hi : i + n ≤ fs.length) (hj : j + n ≤ gs.length) (h31 : fs.length < 2 ^ 30 ∧ gs.length < 2 ^ 30)
    (hv : kk' = 104 → ∀ t v, t < n → fs[i + t]? = some v → v = .null ∨ ∃ x c, v = .ref x ∧ h x = some c ∧ zObj c) (hv2 : kk' ≠ 104 → ∀ t v, t < n → fs[i + t]? = some v → fits (zty kk') v = true) (hdd : 1 ≤ d) (hW : (st.map fun v => v.category).sum ≤ 8)
    (kq : ∀ h', h' = zup h b (kk', zcp fs gs i j n) → h' b = some (kk', zcp fs gs i j n) → zW G M d r pc' L st h' Q) : zW G M d r pc L (.int (nI n) :: .int (nI j) :: .ref b :: .int (nI i) :: .ref a :: st) h Q := sorry
end

