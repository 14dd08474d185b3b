/-! THE LAW: its cases (printed by mk9zh.py) -/
section
set_option maxRecDepth 100000
variable {G : zG} {h : zH} {Q : zR → zH → Prop} {x o b i R r : Nat} {a : tA} {w : sW} {S : tS} {xs : List Value} {lv : Int64}
theorem y_time {q : Nat × Int32 × sW} (hb : zg_k G b = some (1100, xs)) (hi : i < 200) (M0 : lwM G x o a w w (fun _ => True) S h) (hcl : ∀ U, cReg x 0 [] w h U → zK G mX1_time 40 R [.ref x] h (cOut x U h [] q)) (hml : ∀ h0, zK G mX3_time 9 0 [.ref a.1] (tH h0 a S) (tO h0 a q.1 (.int q.2.1) q.2.2)) (kont : ∀ (h' : zH) (S' : tS) (v5 v6 : Value), lwM G x o a q.2.2 q.2.2 (fun _ => True) S' h' → zW G mL_law 42 r 3347 [.ref b, .ref x, .ref a.1, .ref o, .int (nI i), v5, v6] [] h' Q) {v5 v6 : Value} : zW G mL_law 42 (r + R) 785 [.ref b, .ref x, .ref a.1, .ref o, .int (nI i), v5, v6] [] h Q := by
  obtain ⟨U, v, ⟨hG, hl⟩, hd, hT, ⟨ho, -⟩, hk⟩ := id M0
  obtain ⟨fs, hx⟩ := hG.cell
  refine zW.aload_n (pc' := 786) dL_law_785 rfl rfl (zgS (zg0)) rfl ?_
  refine zW.callV (r' := R) (pc' := 789) dL_law_786 rfl l_X0_209 rfl hx ⟨rfl, (Nat.le_of_ble_eq_true rfl)⟩ rfl ((hcl U hG)) zc0 rfl (Nat.le_of_ble_eq_true rfl) (Nat.le_of_ble_eq_true rfl) (Nat.le_of_ble_eq_true rfl) ?_ ?_
  rotate_left
  · intro E h9 q9
    obtain ⟨-, n, -, e1⟩ := q9.r
    cases e1
  intro v9 h9 q9
  obtain ⟨⟨g1, g2⟩, e0, e1⟩ := q9.l
  subst e1
  have M1 : lwM G x o a q.2.2 w (fun _ => True) S h9 := lwM.step hd hT ho hk g1 (g2.mono fun b hb => Or.inl (Or.inl hb)) ⟨g2.at ho hd.1, trivial⟩
  refine zW.aload_n (pc' := 790) dL_law_789 rfl rfl (zgS (zgS (zg0))) rfl ?_
  refine zW.congr ?_ rfl rfl M1.eq
  refine zT.call (pc' := 793) dL_law_790 rfl l_X0_212 rfl rfl (hml _) zc0 rfl (Nat.le_of_ble_eq_true rfl) (Nat.le_of_ble_eq_true rfl) (Nat.le_of_ble_eq_true rfl) (fun _ T2 ⟨e1, e2, e3⟩ => ?_)
  subst e1
  have M2 := M1.mdl e3
  refine zW.icmp_eq (pc' := 796) 3347 dL_law_793 rfl (by decide) (fun b1 => ?_) (fun b1 => ?_)
  rotate_left
  · exact absurd rfl b1
  exact kont _ _ _ _ (M2.wk fun _ _ => trivial)
theorem y_phase {q : Nat × Int32 × sW} (hb : zg_k G b = some (1100, xs)) (hi : i < 200) (M0 : lwM G x o a w w (fun _ => True) S h) (hcl : ∀ U, cReg x 0 [] w h U → zK G mX1_phase 40 R [.ref x] h (cOut x U h [] q)) (hml : ∀ h0, zK G mX3_phase 9 0 [.ref a.1] (tH h0 a S) (tO h0 a q.1 (.int q.2.1) q.2.2)) (kont : ∀ (h' : zH) (S' : tS) (v5 v6 : Value), lwM G x o a q.2.2 q.2.2 (fun _ => True) S' h' → zW G mL_law 42 r 3347 [.ref b, .ref x, .ref a.1, .ref o, .int (nI i), v5, v6] [] h' Q) {v5 v6 : Value} : zW G mL_law 42 (r + R) 798 [.ref b, .ref x, .ref a.1, .ref o, .int (nI i), v5, v6] [] h Q := by
  obtain ⟨U, v, ⟨hG, hl⟩, hd, hT, ⟨ho, -⟩, hk⟩ := id M0
  obtain ⟨fs, hx⟩ := hG.cell
  refine zW.aload_n (pc' := 799) dL_law_798 rfl rfl (zgS (zg0)) rfl ?_
  refine zW.callV (r' := R) (pc' := 802) dL_law_799 rfl l_X0_213 rfl hx ⟨rfl, (Nat.le_of_ble_eq_true rfl)⟩ rfl ((hcl U hG)) zc0 rfl (Nat.le_of_ble_eq_true rfl) (Nat.le_of_ble_eq_true rfl) (Nat.le_of_ble_eq_true rfl) ?_ ?_
  rotate_left
  · intro E h9 q9
    obtain ⟨-, n, -, e1⟩ := q9.r
    cases e1
  intro v9 h9 q9
  obtain ⟨⟨g1, g2⟩, e0, e1⟩ := q9.l
  subst e1
  have M1 : lwM G x o a q.2.2 w (fun _ => True) S h9 := lwM.step hd hT ho hk g1 (g2.mono fun b hb => Or.inl (Or.inl hb)) ⟨g2.at ho hd.1, trivial⟩
  refine zW.aload_n (pc' := 803) dL_law_802 rfl rfl (zgS (zgS (zg0))) rfl ?_
  refine zW.congr ?_ rfl rfl M1.eq
  refine zT.call (pc' := 806) dL_law_803 rfl l_X0_216 rfl rfl (hml _) zc0 rfl (Nat.le_of_ble_eq_true rfl) (Nat.le_of_ble_eq_true rfl) (Nat.le_of_ble_eq_true rfl) (fun _ T2 ⟨e1, e2, e3⟩ => ?_)
  subst e1
  have M2 := M1.mdl e3
  refine zW.icmp_eq (pc' := 809) 3347 dL_law_806 rfl (by decide) (fun b1 => ?_) (fun b1 => ?_)
  rotate_left
  · exact absurd rfl b1
  exact kont _ _ _ _ (M2.wk fun _ _ => trivial)
theorem y_rate {y1 : Int32} {q : Nat × Int32 × sW} (hb : zg_k G b = some (1100, xs)) (hy1 : xs[i + 1]? = some (.int y1)) (hi : i < 200) (M0 : lwM G x o a w w (fun _ => True) S h) (hcl : ∀ U, cReg x 0 [] w h U → zK G mX1_rate 40 R [.ref x, .int y1] h (cOut x U h [eArg] q)) (hml : ∀ h0, zK G mX3_rate 9 0 [.ref a.1, .int y1] (tH h0 a S) (tO h0 a q.1 (.int q.2.1) q.2.2)) (kont : ∀ (h' : zH) (S' : tS) (v5 v6 : Value), lwM G x o a q.2.2 q.2.2 (fun _ => True) S' h' → zW G mL_law 42 r 3347 [.ref b, .ref x, .ref a.1, .ref o, .int (nI i), v5, v6] [] h' Q) {v5 v6 : Value} : zW G mL_law 42 (r + R) 811 [.ref b, .ref x, .ref a.1, .ref o, .int (nI i), v5, v6] [] h Q := by
  obtain ⟨U, v, ⟨hG, hl⟩, hd, hT, ⟨ho, -⟩, hk⟩ := id M0
  obtain ⟨fs, hx⟩ := hG.cell
  have hbh := M0.scr hb
  refine zW.aload_n (pc' := 812) dL_law_811 rfl rfl (zgS (zg0)) rfl ?_
  refine zW.aload_n (pc' := 813) dL_law_812 rfl rfl zg0 rfl ?_
  refine zW.iload (pc' := 815) dL_law_813 rfl (zgS (zgS (zgS (zgS (zg0))))) ?_
  refine zW.iconst (pc' := 816) (nI 1) dL_law_815 rfl (by decide) ?_
  refine zW.iaddN (pc' := 817) dL_law_816 rfl ?_
  refine zW.scr (pc' := 818) dL_law_817 rfl hbh hy1 (by omega) ?_
  refine zW.aload_n (pc' := 819) dL_law_818 rfl rfl (zgS (zgS (zgS (zg0)))) rfl ?_
  refine zW.callSH (r' := R) (pc' := 822) dL_law_819 rfl l_X0_217 rfl (x_rate hx ho hd.1 (hcl U hG)) (zcc rfl (zcc rfl (zcc rfl zc0))) rfl (Nat.le_of_ble_eq_true rfl) (Nat.le_of_ble_eq_true rfl) (Nat.le_of_ble_eq_true rfl) ?_ ?_
  rotate_left
  · intro E h9 q9
    cases q9.1
  intro v9 h9 q9
  obtain ⟨e1, q3, g1, g2, v1, ho1, hv1⟩ := q9
  cases e1
  have M1 : lwM G x o a q.2.2 w (fun v => q.1 = 0 → v = q.2.1.toInt64) S h9 := lwM.step hd hT ho hk g1 g2 ⟨ho1, hv1⟩
  have hbh := M1.scr hb
  refine zW.istore (pc' := 824) dL_law_822 rfl (Nat.le_of_ble_eq_true rfl) (zsS (zsS (zsS (zsS (zsS (zs0)))))) ?_
  refine zW.aload_n (pc' := 825) dL_law_824 rfl rfl (zgS (zgS (zg0))) rfl ?_
  refine zW.aload_n (pc' := 826) dL_law_825 rfl rfl zg0 rfl ?_
  refine zW.iload (pc' := 828) dL_law_826 rfl (zgS (zgS (zgS (zgS (zg0))))) ?_
  refine zW.iconst (pc' := 829) (nI 1) dL_law_828 rfl (by decide) ?_
  refine zW.iaddN (pc' := 830) dL_law_829 rfl ?_
  refine zW.scr (pc' := 831) dL_law_830 rfl hbh hy1 (by omega) ?_
  refine zW.congr ?_ rfl rfl M1.eq
  refine zT.call (pc' := 834) dL_law_831 rfl l_X0_219 rfl rfl (hml _) (zcc rfl zc0) rfl (Nat.le_of_ble_eq_true rfl) (Nat.le_of_ble_eq_true rfl) (Nat.le_of_ble_eq_true rfl) (fun _ T2 ⟨e1, e2, e3⟩ => ?_)
  subst e1
  have M2 := M1.mdl e3
  obtain ⟨v2, ho2, hv2⟩ := M2.out
  refine zW.istore (pc' := 836) dL_law_834 rfl (Nat.le_of_ble_eq_true rfl) (zsS (zsS (zsS (zsS (zsS (zsS (zs0))))))) ?_
  refine zW.aload_n (pc' := 837) dL_law_836 rfl rfl (zgS (zgS (zg0))) rfl ?_
  refine zT.call (pc' := 840) dL_law_837 rfl l_X0_182 rfl rfl w_thrown zc0 rfl (Nat.le_of_ble_eq_true rfl) (Nat.le_of_ble_eq_true rfl) (Nat.le_of_ble_eq_true rfl) (fun _ T3 ⟨e1, e4⟩ => ?_)
  subst e1
  subst e4
  rw [e2]
  refine zW.iload (pc' := 842) dL_law_840 rfl (zgS (zgS (zgS (zgS (zgS (zg0)))))) ?_
  refine zW.icmp_eq (pc' := 845) 847 dL_law_842 rfl (by decide) (fun b1 => ?_) (fun b1 => ?_)
  rotate_left
  · exact absurd rfl b1
  by_cases z : q.1 = 0
  · rw [z]
    refine zW.iload (pc' := 849) dL_law_847 rfl (zgS (zgS (zgS (zgS (zgS (zg0)))))) ?_
    refine zW.if_neN (pc' := 852) 864 dL_law_849 rfl (by decide) (by omega) (fun b9 => absurd b9 (by omega)) (fun b9 => ?_)
    refine zW.aload_n (pc' := 853) dL_law_852 rfl rfl (zgS (zgS (zgS (zg0)))) rfl ?_
    refine zW.iconst (pc' := 854) (nI 0) dL_law_853 rfl (by decide) ?_
    refine zW.lald (pc' := 855) dL_law_854 rfl ho2 rfl (by decide) rfl ?_
    rw [hv2 z]
    refine zW.iload (pc' := 857) dL_law_855 rfl (zgS (zgS (zgS (zgS (zgS (zgS (zg0))))))) ?_
    refine zW.i2l (pc' := 858) dL_law_857 rfl ?_
    refine zW.lcmp (pc' := 859) dL_law_858 rfl ?_
    rw [zlc]
    refine zW.if_eq (pc' := 862) 864 dL_law_859 rfl (by decide) (fun b1 => ?_) (fun b1 => ?_)
    rotate_left
    · exact absurd rfl b1
    refine zW.goto 3347 dL_law_864 (by decide) ?_
    exact kont _ _ _ _ (M2.wk fun _ _ => trivial)
  · refine zW.iload (pc' := 849) dL_law_847 rfl (zgS (zgS (zgS (zgS (zgS (zg0)))))) ?_
    refine zW.if_neN (pc' := 852) 864 dL_law_849 rfl (by decide) (by omega) (fun b9 => ?_) (fun b9 => absurd b9 (by omega))
    refine zW.goto 3347 dL_law_864 (by decide) ?_
    exact kont _ _ _ _ (M2.wk fun _ _ => trivial)
theorem y_activeCount {q : Nat × Int32 × sW} (hb : zg_k G b = some (1100, xs)) (hi : i < 200) (M0 : lwM G x o a w w (fun _ => True) S h) (hcl : ∀ U, cReg x 0 [] w h U → zK G mX1_activeCount 40 R [.ref x] h (cOut x U h [] q)) (hml : ∀ h0, zK G mX3_activeCount 9 0 [.ref a.1] (tH h0 a S) (tO h0 a q.1 (.int q.2.1) q.2.2)) (kont : ∀ (h' : zH) (S' : tS) (v5 v6 : Value), lwM G x o a q.2.2 q.2.2 (fun _ => True) S' h' → zW G mL_law 42 r 3347 [.ref b, .ref x, .ref a.1, .ref o, .int (nI i), v5, v6] [] h' Q) {v5 v6 : Value} : zW G mL_law 42 (r + R) 867 [.ref b, .ref x, .ref a.1, .ref o, .int (nI i), v5, v6] [] h Q := by
  obtain ⟨U, v, ⟨hG, hl⟩, hd, hT, ⟨ho, -⟩, hk⟩ := id M0
  obtain ⟨fs, hx⟩ := hG.cell
  refine zW.aload_n (pc' := 868) dL_law_867 rfl rfl (zgS (zg0)) rfl ?_
  refine zW.callV (r' := R) (pc' := 871) dL_law_868 rfl l_X0_220 rfl hx ⟨rfl, (Nat.le_of_ble_eq_true rfl)⟩ rfl ((hcl U hG)) zc0 rfl (Nat.le_of_ble_eq_true rfl) (Nat.le_of_ble_eq_true rfl) (Nat.le_of_ble_eq_true rfl) ?_ ?_
  rotate_left
  · intro E h9 q9
    obtain ⟨-, n, -, e1⟩ := q9.r
    cases e1
  intro v9 h9 q9
  obtain ⟨⟨g1, g2⟩, e0, e1⟩ := q9.l
  subst e1
  have M1 : lwM G x o a q.2.2 w (fun _ => True) S h9 := lwM.step hd hT ho hk g1 (g2.mono fun b hb => Or.inl (Or.inl hb)) ⟨g2.at ho hd.1, trivial⟩
  refine zW.aload_n (pc' := 872) dL_law_871 rfl rfl (zgS (zgS (zg0))) rfl ?_
  refine zW.congr ?_ rfl rfl M1.eq
  refine zT.call (pc' := 875) dL_law_872 rfl l_X0_223 rfl rfl (hml _) zc0 rfl (Nat.le_of_ble_eq_true rfl) (Nat.le_of_ble_eq_true rfl) (Nat.le_of_ble_eq_true rfl) (fun _ T2 ⟨e1, e2, e3⟩ => ?_)
  subst e1
  have M2 := M1.mdl e3
  refine zW.icmp_eq (pc' := 878) 3347 dL_law_875 rfl (by decide) (fun b1 => ?_) (fun b1 => ?_)
  rotate_left
  · exact absurd rfl b1
  exact kont _ _ _ _ (M2.wk fun _ _ => trivial)
theorem y_isActive {y1 : Int32} {q : Nat × Int32 × sW} (hb : zg_k G b = some (1100, xs)) (hy1 : xs[i + 1]? = some (.int y1)) (hi : i < 200) (M0 : lwM G x o a w w (fun _ => True) S h) (hcl : ∀ U, cReg x 0 [] w h U → zK G mX1_isActive 40 R [.ref x, .int y1] h (cOut x U h [] q)) (hml : ∀ h0, zK G mX3_isActive 9 0 [.ref a.1, .int y1] (tH h0 a S) (tO h0 a q.1 (.int q.2.1) q.2.2)) (kont : ∀ (h' : zH) (S' : tS) (v5 v6 : Value), lwM G x o a q.2.2 q.2.2 (fun _ => True) S' h' → zW G mL_law 42 r 3347 [.ref b, .ref x, .ref a.1, .ref o, .int (nI i), v5, v6] [] h' Q) {v5 v6 : Value} : zW G mL_law 42 (r + R) 880 [.ref b, .ref x, .ref a.1, .ref o, .int (nI i), v5, v6] [] h Q := by
  obtain ⟨U, v, ⟨hG, hl⟩, hd, hT, ⟨ho, -⟩, hk⟩ := id M0
  obtain ⟨fs, hx⟩ := hG.cell
  have hbh := M0.scr hb
  refine zW.aload_n (pc' := 881) dL_law_880 rfl rfl (zgS (zg0)) rfl ?_
  refine zW.aload_n (pc' := 882) dL_law_881 rfl rfl zg0 rfl ?_
  refine zW.iload (pc' := 884) dL_law_882 rfl (zgS (zgS (zgS (zgS (zg0))))) ?_
  refine zW.iconst (pc' := 885) (nI 1) dL_law_884 rfl (by decide) ?_
  refine zW.iaddN (pc' := 886) dL_law_885 rfl ?_
  refine zW.scr (pc' := 887) dL_law_886 rfl hbh hy1 (by omega) ?_
  refine zW.callV (r' := R) (pc' := 890) dL_law_887 rfl l_X0_224 rfl hx ⟨rfl, (Nat.le_of_ble_eq_true rfl)⟩ rfl ((hcl U hG)) (zcc rfl zc0) rfl (Nat.le_of_ble_eq_true rfl) (Nat.le_of_ble_eq_true rfl) (Nat.le_of_ble_eq_true rfl) ?_ ?_
  rotate_left
  · intro E h9 q9
    obtain ⟨-, n, -, e1⟩ := q9.r
    cases e1
  intro v9 h9 q9
  obtain ⟨⟨g1, g2⟩, e0, e1⟩ := q9.l
  subst e1
  have M1 : lwM G x o a q.2.2 w (fun _ => True) S h9 := lwM.step hd hT ho hk g1 (g2.mono fun b hb => Or.inl (Or.inl hb)) ⟨g2.at ho hd.1, trivial⟩
  have hbh := M1.scr hb
  refine zW.aload_n (pc' := 891) dL_law_890 rfl rfl (zgS (zgS (zg0))) rfl ?_
  refine zW.aload_n (pc' := 892) dL_law_891 rfl rfl zg0 rfl ?_
  refine zW.iload (pc' := 894) dL_law_892 rfl (zgS (zgS (zgS (zgS (zg0))))) ?_
  refine zW.iconst (pc' := 895) (nI 1) dL_law_894 rfl (by decide) ?_
  refine zW.iaddN (pc' := 896) dL_law_895 rfl ?_
  refine zW.scr (pc' := 897) dL_law_896 rfl hbh hy1 (by omega) ?_
  refine zW.congr ?_ rfl rfl M1.eq
  refine zT.call (pc' := 900) dL_law_897 rfl l_X0_227 rfl rfl (hml _) (zcc rfl zc0) rfl (Nat.le_of_ble_eq_true rfl) (Nat.le_of_ble_eq_true rfl) (Nat.le_of_ble_eq_true rfl) (fun _ T2 ⟨e1, e2, e3⟩ => ?_)
  subst e1
  have M2 := M1.mdl e3
  refine zW.icmp_eq (pc' := 903) 3347 dL_law_900 rfl (by decide) (fun b1 => ?_) (fun b1 => ?_)
  rotate_left
  · exact absurd rfl b1
  exact kont _ _ _ _ (M2.wk fun _ _ => trivial)
theorem y_idAt {y1 : Int32} {q : Nat × Int32 × sW} (hb : zg_k G b = some (1100, xs)) (hy1 : xs[i + 1]? = some (.int y1)) (hi : i < 200) (M0 : lwM G x o a w w (fun _ => True) S h) (hcl : ∀ U, cReg x 0 [] w h U → zK G mX1_idAt 40 R [.ref x, .int y1] h (cOut x U h [eIdx] q)) (hml : ∀ h0, zK G mX3_idAt 9 0 [.ref a.1, .int y1] (tH h0 a S) (tO h0 a q.1 (.int q.2.1) q.2.2)) (kont : ∀ (h' : zH) (S' : tS) (v5 v6 : Value), lwM G x o a q.2.2 q.2.2 (fun _ => True) S' h' → zW G mL_law 42 r 3347 [.ref b, .ref x, .ref a.1, .ref o, .int (nI i), v5, v6] [] h' Q) {v5 v6 : Value} : zW G mL_law 42 (r + R) 905 [.ref b, .ref x, .ref a.1, .ref o, .int (nI i), v5, v6] [] h Q := by
  obtain ⟨U, v, ⟨hG, hl⟩, hd, hT, ⟨ho, -⟩, hk⟩ := id M0
  obtain ⟨fs, hx⟩ := hG.cell
  have hbh := M0.scr hb
  refine zW.aload_n (pc' := 906) dL_law_905 rfl rfl (zgS (zg0)) rfl ?_
  refine zW.aload_n (pc' := 907) dL_law_906 rfl rfl zg0 rfl ?_
  refine zW.iload (pc' := 909) dL_law_907 rfl (zgS (zgS (zgS (zgS (zg0))))) ?_
  refine zW.iconst (pc' := 910) (nI 1) dL_law_909 rfl (by decide) ?_
  refine zW.iaddN (pc' := 911) dL_law_910 rfl ?_
  refine zW.scr (pc' := 912) dL_law_911 rfl hbh hy1 (by omega) ?_
  refine zW.aload_n (pc' := 913) dL_law_912 rfl rfl (zgS (zgS (zgS (zg0)))) rfl ?_
  refine zW.callSH (r' := R) (pc' := 916) dL_law_913 rfl l_X0_228 rfl (x_idAt hx ho hd.1 (hcl U hG)) (zcc rfl (zcc rfl (zcc rfl zc0))) rfl (Nat.le_of_ble_eq_true rfl) (Nat.le_of_ble_eq_true rfl) (Nat.le_of_ble_eq_true rfl) ?_ ?_
  rotate_left
  · intro E h9 q9
    cases q9.1
  intro v9 h9 q9
  obtain ⟨e1, q3, g1, g2, v1, ho1, hv1⟩ := q9
  cases e1
  have M1 : lwM G x o a q.2.2 w (fun v => q.1 = 0 → v = q.2.1.toInt64) S h9 := lwM.step hd hT ho hk g1 g2 ⟨ho1, hv1⟩
  have hbh := M1.scr hb
  refine zW.istore (pc' := 918) dL_law_916 rfl (Nat.le_of_ble_eq_true rfl) (zsS (zsS (zsS (zsS (zsS (zs0)))))) ?_
  refine zW.aload_n (pc' := 919) dL_law_918 rfl rfl (zgS (zgS (zg0))) rfl ?_
  refine zW.aload_n (pc' := 920) dL_law_919 rfl rfl zg0 rfl ?_
  refine zW.iload (pc' := 922) dL_law_920 rfl (zgS (zgS (zgS (zgS (zg0))))) ?_
  refine zW.iconst (pc' := 923) (nI 1) dL_law_922 rfl (by decide) ?_
  refine zW.iaddN (pc' := 924) dL_law_923 rfl ?_
  refine zW.scr (pc' := 925) dL_law_924 rfl hbh hy1 (by omega) ?_
  refine zW.congr ?_ rfl rfl M1.eq
  refine zT.call (pc' := 928) dL_law_925 rfl l_X0_230 rfl rfl (hml _) (zcc rfl zc0) rfl (Nat.le_of_ble_eq_true rfl) (Nat.le_of_ble_eq_true rfl) (Nat.le_of_ble_eq_true rfl) (fun _ T2 ⟨e1, e2, e3⟩ => ?_)
  subst e1
  have M2 := M1.mdl e3
  obtain ⟨v2, ho2, hv2⟩ := M2.out
  refine zW.istore (pc' := 930) dL_law_928 rfl (Nat.le_of_ble_eq_true rfl) (zsS (zsS (zsS (zsS (zsS (zsS (zs0))))))) ?_
  refine zW.aload_n (pc' := 931) dL_law_930 rfl rfl (zgS (zgS (zg0))) rfl ?_
  refine zT.call (pc' := 934) dL_law_931 rfl l_X0_182 rfl rfl w_thrown zc0 rfl (Nat.le_of_ble_eq_true rfl) (Nat.le_of_ble_eq_true rfl) (Nat.le_of_ble_eq_true rfl) (fun _ T3 ⟨e1, e4⟩ => ?_)
  subst e1
  subst e4
  rw [e2]
  refine zW.iload (pc' := 936) dL_law_934 rfl (zgS (zgS (zgS (zgS (zgS (zg0)))))) ?_
  refine zW.icmp_eq (pc' := 939) 941 dL_law_936 rfl (by decide) (fun b1 => ?_) (fun b1 => ?_)
  rotate_left
  · exact absurd rfl b1
  by_cases z : q.1 = 0
  · rw [z]
    refine zW.iload (pc' := 943) dL_law_941 rfl (zgS (zgS (zgS (zgS (zgS (zg0)))))) ?_
    refine zW.if_neN (pc' := 946) 958 dL_law_943 rfl (by decide) (by omega) (fun b9 => absurd b9 (by omega)) (fun b9 => ?_)
    refine zW.aload_n (pc' := 947) dL_law_946 rfl rfl (zgS (zgS (zgS (zg0)))) rfl ?_
    refine zW.iconst (pc' := 948) (nI 0) dL_law_947 rfl (by decide) ?_
    refine zW.lald (pc' := 949) dL_law_948 rfl ho2 rfl (by decide) rfl ?_
    rw [hv2 z]
    refine zW.iload (pc' := 951) dL_law_949 rfl (zgS (zgS (zgS (zgS (zgS (zgS (zg0))))))) ?_
    refine zW.i2l (pc' := 952) dL_law_951 rfl ?_
    refine zW.lcmp (pc' := 953) dL_law_952 rfl ?_
    rw [zlc]
    refine zW.if_eq (pc' := 956) 958 dL_law_953 rfl (by decide) (fun b1 => ?_) (fun b1 => ?_)
    rotate_left
    · exact absurd rfl b1
    refine zW.goto 3347 dL_law_958 (by decide) ?_
    exact kont _ _ _ _ (M2.wk fun _ _ => trivial)
  · refine zW.iload (pc' := 943) dL_law_941 rfl (zgS (zgS (zgS (zgS (zgS (zg0)))))) ?_
    refine zW.if_neN (pc' := 946) 958 dL_law_943 rfl (by decide) (by omega) (fun b9 => ?_) (fun b9 => absurd b9 (by omega))
    refine zW.goto 3347 dL_law_958 (by decide) ?_
    exact kont _ _ _ _ (M2.wk fun _ _ => trivial)
theorem y_debtor {y1 : Int32} {q : Nat × Int32 × sW} (hb : zg_k G b = some (1100, xs)) (hy1 : xs[i + 1]? = some (.int y1)) (hi : i < 200) (M0 : lwM G x o a w w (fun _ => True) S h) (hcl : ∀ U, cReg x 0 [] w h U → zK G mX1_debtor 40 R [.ref x, .int y1] h (cOut x U h [eElt] q)) (hml : ∀ h0, zK G mX3_debtor 9 0 [.ref a.1, .int y1] (tH h0 a S) (tO h0 a q.1 (.int q.2.1) q.2.2)) (kont : ∀ (h' : zH) (S' : tS) (v5 v6 : Value), lwM G x o a q.2.2 q.2.2 (fun _ => True) S' h' → zW G mL_law 42 r 3347 [.ref b, .ref x, .ref a.1, .ref o, .int (nI i), v5, v6] [] h' Q) {v5 v6 : Value} : zW G mL_law 42 (r + R) 961 [.ref b, .ref x, .ref a.1, .ref o, .int (nI i), v5, v6] [] h Q := by
  obtain ⟨U, v, ⟨hG, hl⟩, hd, hT, ⟨ho, -⟩, hk⟩ := id M0
  obtain ⟨fs, hx⟩ := hG.cell
  have hbh := M0.scr hb
  refine zW.aload_n (pc' := 962) dL_law_961 rfl rfl (zgS (zg0)) rfl ?_
  refine zW.aload_n (pc' := 963) dL_law_962 rfl rfl zg0 rfl ?_
  refine zW.iload (pc' := 965) dL_law_963 rfl (zgS (zgS (zgS (zgS (zg0))))) ?_
  refine zW.iconst (pc' := 966) (nI 1) dL_law_965 rfl (by decide) ?_
  refine zW.iaddN (pc' := 967) dL_law_966 rfl ?_
  refine zW.scr (pc' := 968) dL_law_967 rfl hbh hy1 (by omega) ?_
  refine zW.aload_n (pc' := 969) dL_law_968 rfl rfl (zgS (zgS (zgS (zg0)))) rfl ?_
  refine zW.callSH (r' := R) (pc' := 972) dL_law_969 rfl l_X0_231 rfl (x_debtor hx ho hd.1 (hcl U hG)) (zcc rfl (zcc rfl (zcc rfl zc0))) rfl (Nat.le_of_ble_eq_true rfl) (Nat.le_of_ble_eq_true rfl) (Nat.le_of_ble_eq_true rfl) ?_ ?_
  rotate_left
  · intro E h9 q9
    cases q9.1
  intro v9 h9 q9
  obtain ⟨e1, q3, g1, g2, v1, ho1, hv1⟩ := q9
  cases e1
  have M1 : lwM G x o a q.2.2 w (fun v => q.1 = 0 → v = q.2.1.toInt64) S h9 := lwM.step hd hT ho hk g1 g2 ⟨ho1, hv1⟩
  have hbh := M1.scr hb
  refine zW.istore (pc' := 974) dL_law_972 rfl (Nat.le_of_ble_eq_true rfl) (zsS (zsS (zsS (zsS (zsS (zs0)))))) ?_
  refine zW.aload_n (pc' := 975) dL_law_974 rfl rfl (zgS (zgS (zg0))) rfl ?_
  refine zW.aload_n (pc' := 976) dL_law_975 rfl rfl zg0 rfl ?_
  refine zW.iload (pc' := 978) dL_law_976 rfl (zgS (zgS (zgS (zgS (zg0))))) ?_
  refine zW.iconst (pc' := 979) (nI 1) dL_law_978 rfl (by decide) ?_
  refine zW.iaddN (pc' := 980) dL_law_979 rfl ?_
  refine zW.scr (pc' := 981) dL_law_980 rfl hbh hy1 (by omega) ?_
  refine zW.congr ?_ rfl rfl M1.eq
  refine zT.call (pc' := 984) dL_law_981 rfl l_X0_233 rfl rfl (hml _) (zcc rfl zc0) rfl (Nat.le_of_ble_eq_true rfl) (Nat.le_of_ble_eq_true rfl) (Nat.le_of_ble_eq_true rfl) (fun _ T2 ⟨e1, e2, e3⟩ => ?_)
  subst e1
  have M2 := M1.mdl e3
  obtain ⟨v2, ho2, hv2⟩ := M2.out
  refine zW.istore (pc' := 986) dL_law_984 rfl (Nat.le_of_ble_eq_true rfl) (zsS (zsS (zsS (zsS (zsS (zsS (zs0))))))) ?_
  refine zW.aload_n (pc' := 987) dL_law_986 rfl rfl (zgS (zgS (zg0))) rfl ?_
  refine zT.call (pc' := 990) dL_law_987 rfl l_X0_182 rfl rfl w_thrown zc0 rfl (Nat.le_of_ble_eq_true rfl) (Nat.le_of_ble_eq_true rfl) (Nat.le_of_ble_eq_true rfl) (fun _ T3 ⟨e1, e4⟩ => ?_)
  subst e1
  subst e4
  rw [e2]
  refine zW.iload (pc' := 992) dL_law_990 rfl (zgS (zgS (zgS (zgS (zgS (zg0)))))) ?_
  refine zW.icmp_eq (pc' := 995) 997 dL_law_992 rfl (by decide) (fun b1 => ?_) (fun b1 => ?_)
  rotate_left
  · exact absurd rfl b1
  by_cases z : q.1 = 0
  · rw [z]
    refine zW.iload (pc' := 999) dL_law_997 rfl (zgS (zgS (zgS (zgS (zgS (zg0)))))) ?_
    refine zW.if_neN (pc' := 1002) 1014 dL_law_999 rfl (by decide) (by omega) (fun b9 => absurd b9 (by omega)) (fun b9 => ?_)
    refine zW.aload_n (pc' := 1003) dL_law_1002 rfl rfl (zgS (zgS (zgS (zg0)))) rfl ?_
    refine zW.iconst (pc' := 1004) (nI 0) dL_law_1003 rfl (by decide) ?_
    refine zW.lald (pc' := 1005) dL_law_1004 rfl ho2 rfl (by decide) rfl ?_
    rw [hv2 z]
    refine zW.iload (pc' := 1007) dL_law_1005 rfl (zgS (zgS (zgS (zgS (zgS (zgS (zg0))))))) ?_
    refine zW.i2l (pc' := 1008) dL_law_1007 rfl ?_
    refine zW.lcmp (pc' := 1009) dL_law_1008 rfl ?_
    rw [zlc]
    refine zW.if_eq (pc' := 1012) 1014 dL_law_1009 rfl (by decide) (fun b1 => ?_) (fun b1 => ?_)
    rotate_left
    · exact absurd rfl b1
    refine zW.goto 3347 dL_law_1014 (by decide) ?_
    exact kont _ _ _ _ (M2.wk fun _ _ => trivial)
  · refine zW.iload (pc' := 999) dL_law_997 rfl (zgS (zgS (zgS (zgS (zgS (zg0)))))) ?_
    refine zW.if_neN (pc' := 1002) 1014 dL_law_999 rfl (by decide) (by omega) (fun b9 => ?_) (fun b9 => absurd b9 (by omega))
    refine zW.goto 3347 dL_law_1014 (by decide) ?_
    exact kont _ _ _ _ (M2.wk fun _ _ => trivial)
theorem y_creditor {y1 : Int32} {q : Nat × Int32 × sW} (hb : zg_k G b = some (1100, xs)) (hy1 : xs[i + 1]? = some (.int y1)) (hi : i < 200) (M0 : lwM G x o a w w (fun _ => True) S h) (hcl : ∀ U, cReg x 0 [] w h U → zK G mX1_creditor 40 R [.ref x, .int y1] h (cOut x U h [eElt] q)) (hml : ∀ h0, zK G mX3_creditor 9 0 [.ref a.1, .int y1] (tH h0 a S) (tO h0 a q.1 (.int q.2.1) q.2.2)) (kont : ∀ (h' : zH) (S' : tS) (v5 v6 : Value), lwM G x o a q.2.2 q.2.2 (fun _ => True) S' h' → zW G mL_law 42 r 3347 [.ref b, .ref x, .ref a.1, .ref o, .int (nI i), v5, v6] [] h' Q) {v5 v6 : Value} : zW G mL_law 42 (r + R) 1017 [.ref b, .ref x, .ref a.1, .ref o, .int (nI i), v5, v6] [] h Q := by
  obtain ⟨U, v, ⟨hG, hl⟩, hd, hT, ⟨ho, -⟩, hk⟩ := id M0
  obtain ⟨fs, hx⟩ := hG.cell
  have hbh := M0.scr hb
  refine zW.aload_n (pc' := 1018) dL_law_1017 rfl rfl (zgS (zg0)) rfl ?_
  refine zW.aload_n (pc' := 1019) dL_law_1018 rfl rfl zg0 rfl ?_
  refine zW.iload (pc' := 1021) dL_law_1019 rfl (zgS (zgS (zgS (zgS (zg0))))) ?_
  refine zW.iconst (pc' := 1022) (nI 1) dL_law_1021 rfl (by decide) ?_
  refine zW.iaddN (pc' := 1023) dL_law_1022 rfl ?_
  refine zW.scr (pc' := 1024) dL_law_1023 rfl hbh hy1 (by omega) ?_
  refine zW.aload_n (pc' := 1025) dL_law_1024 rfl rfl (zgS (zgS (zgS (zg0)))) rfl ?_
  refine zW.callSH (r' := R) (pc' := 1028) dL_law_1025 rfl l_X0_234 rfl (x_creditor hx ho hd.1 (hcl U hG)) (zcc rfl (zcc rfl (zcc rfl zc0))) rfl (Nat.le_of_ble_eq_true rfl) (Nat.le_of_ble_eq_true rfl) (Nat.le_of_ble_eq_true rfl) ?_ ?_
  rotate_left
  · intro E h9 q9
    cases q9.1
  intro v9 h9 q9
  obtain ⟨e1, q3, g1, g2, v1, ho1, hv1⟩ := q9
  cases e1
  have M1 : lwM G x o a q.2.2 w (fun v => q.1 = 0 → v = q.2.1.toInt64) S h9 := lwM.step hd hT ho hk g1 g2 ⟨ho1, hv1⟩
  have hbh := M1.scr hb
  refine zW.istore (pc' := 1030) dL_law_1028 rfl (Nat.le_of_ble_eq_true rfl) (zsS (zsS (zsS (zsS (zsS (zs0)))))) ?_
  refine zW.aload_n (pc' := 1031) dL_law_1030 rfl rfl (zgS (zgS (zg0))) rfl ?_
  refine zW.aload_n (pc' := 1032) dL_law_1031 rfl rfl zg0 rfl ?_
  refine zW.iload (pc' := 1034) dL_law_1032 rfl (zgS (zgS (zgS (zgS (zg0))))) ?_
  refine zW.iconst (pc' := 1035) (nI 1) dL_law_1034 rfl (by decide) ?_
  refine zW.iaddN (pc' := 1036) dL_law_1035 rfl ?_
  refine zW.scr (pc' := 1037) dL_law_1036 rfl hbh hy1 (by omega) ?_
  refine zW.congr ?_ rfl rfl M1.eq
  refine zT.call (pc' := 1040) dL_law_1037 rfl l_X0_236 rfl rfl (hml _) (zcc rfl zc0) rfl (Nat.le_of_ble_eq_true rfl) (Nat.le_of_ble_eq_true rfl) (Nat.le_of_ble_eq_true rfl) (fun _ T2 ⟨e1, e2, e3⟩ => ?_)
  subst e1
  have M2 := M1.mdl e3
  obtain ⟨v2, ho2, hv2⟩ := M2.out
  refine zW.istore (pc' := 1042) dL_law_1040 rfl (Nat.le_of_ble_eq_true rfl) (zsS (zsS (zsS (zsS (zsS (zsS (zs0))))))) ?_
  refine zW.aload_n (pc' := 1043) dL_law_1042 rfl rfl (zgS (zgS (zg0))) rfl ?_
  refine zT.call (pc' := 1046) dL_law_1043 rfl l_X0_182 rfl rfl w_thrown zc0 rfl (Nat.le_of_ble_eq_true rfl) (Nat.le_of_ble_eq_true rfl) (Nat.le_of_ble_eq_true rfl) (fun _ T3 ⟨e1, e4⟩ => ?_)
  subst e1
  subst e4
  rw [e2]
  refine zW.iload (pc' := 1048) dL_law_1046 rfl (zgS (zgS (zgS (zgS (zgS (zg0)))))) ?_
  refine zW.icmp_eq (pc' := 1051) 1053 dL_law_1048 rfl (by decide) (fun b1 => ?_) (fun b1 => ?_)
  rotate_left
  · exact absurd rfl b1
  by_cases z : q.1 = 0
  · rw [z]
    refine zW.iload (pc' := 1055) dL_law_1053 rfl (zgS (zgS (zgS (zgS (zgS (zg0)))))) ?_
    refine zW.if_neN (pc' := 1058) 1070 dL_law_1055 rfl (by decide) (by omega) (fun b9 => absurd b9 (by omega)) (fun b9 => ?_)
    refine zW.aload_n (pc' := 1059) dL_law_1058 rfl rfl (zgS (zgS (zgS (zg0)))) rfl ?_
    refine zW.iconst (pc' := 1060) (nI 0) dL_law_1059 rfl (by decide) ?_
    refine zW.lald (pc' := 1061) dL_law_1060 rfl ho2 rfl (by decide) rfl ?_
    rw [hv2 z]
    refine zW.iload (pc' := 1063) dL_law_1061 rfl (zgS (zgS (zgS (zgS (zgS (zgS (zg0))))))) ?_
    refine zW.i2l (pc' := 1064) dL_law_1063 rfl ?_
    refine zW.lcmp (pc' := 1065) dL_law_1064 rfl ?_
    rw [zlc]
    refine zW.if_eq (pc' := 1068) 1070 dL_law_1065 rfl (by decide) (fun b1 => ?_) (fun b1 => ?_)
    rotate_left
    · exact absurd rfl b1
    refine zW.goto 3347 dL_law_1070 (by decide) ?_
    exact kont _ _ _ _ (M2.wk fun _ _ => trivial)
  · refine zW.iload (pc' := 1055) dL_law_1053 rfl (zgS (zgS (zgS (zgS (zgS (zg0)))))) ?_
    refine zW.if_neN (pc' := 1058) 1070 dL_law_1055 rfl (by decide) (by omega) (fun b9 => ?_) (fun b9 => absurd b9 (by omega))
    refine zW.goto 3347 dL_law_1070 (by decide) ?_
    exact kont _ _ _ _ (M2.wk fun _ _ => trivial)
end
