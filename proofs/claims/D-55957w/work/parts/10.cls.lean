/-! the classes whose objects the runs hold, by number (printed by gen/cls.py) -/
set_option maxRecDepth 100000
def zcl : List vw_C := [(RX1, TX1, 8), (RX2, TX2, 12), (RX4, TX4, 8), (RX3, TX3, 15), (RX5, TX5, 5), (RX6, TX6, 2), (RJ3, TJ3, 4), (RJ29, TJ29, 3), (RJ25, TJ25, 5), (RJ4, TJ4, 3), (RJ30, TJ30, 4), (RJ39, TJ39, 3), (RJ23, TJ23, 4), (RJ6, TJ6, 4), (RJ7, TJ7, 4), (RJ21, TJ21, 1), (RJ38, TJ38, 2), (RJ40, TJ40, 4)]
def zclOk (r : vw_C) : Prop := (∀ w ∈ u_ws r.1 r.2.1 r.2.2, w ∈ lw_all) ∧ (∃ ty : Nat → FieldType, ∀ k, k < r.2.2 → parseFieldDescriptor (r.2.1 k).2.2.1 = some (ty k)) ∧ (∀ a, a < r.2.2 → ∀ b, b < r.2.2 → a ≠ b → (r.2.1 a).2.1 ≠ (r.2.1 b).2.1)
theorem zcl_all : ∀ r ∈ zcl, zclOk r := by
  unfold zcl
  refine List.forall_mem_cons.mpr ⟨⟨in_X1, ⟨tyX1, tyX1_ok⟩, nmX1⟩, List.forall_mem_cons.mpr ⟨⟨in_X2, ⟨tyX2, tyX2_ok⟩, nmX2⟩, List.forall_mem_cons.mpr ⟨⟨in_X4, ⟨tyX4, tyX4_ok⟩, nmX4⟩, List.forall_mem_cons.mpr ⟨⟨in_X3, ⟨tyX3, tyX3_ok⟩, nmX3⟩, List.forall_mem_cons.mpr ⟨⟨in_X5, ⟨tyX5, tyX5_ok⟩, nmX5⟩, List.forall_mem_cons.mpr ⟨⟨in_X6, ⟨tyX6, tyX6_ok⟩, nmX6⟩, List.forall_mem_cons.mpr ⟨⟨in_J3, ⟨tyJ3, tyJ3_ok⟩, nmJ3⟩, List.forall_mem_cons.mpr ⟨⟨in_J29, ⟨tyJ29, tyJ29_ok⟩, nmJ29⟩, List.forall_mem_cons.mpr ⟨⟨in_J25, ⟨tyJ25, tyJ25_ok⟩, nmJ25⟩, List.forall_mem_cons.mpr ⟨⟨in_J4, ⟨tyJ4, tyJ4_ok⟩, nmJ4⟩, List.forall_mem_cons.mpr ⟨⟨in_J30, ⟨tyJ30, tyJ30_ok⟩, nmJ30⟩, List.forall_mem_cons.mpr ⟨⟨in_J39, ⟨tyJ39, tyJ39_ok⟩, nmJ39⟩, List.forall_mem_cons.mpr ⟨⟨in_J23, ⟨tyJ23, tyJ23_ok⟩, nmJ23⟩, List.forall_mem_cons.mpr ⟨⟨in_J6, ⟨tyJ6, tyJ6_ok⟩, nmJ6⟩, List.forall_mem_cons.mpr ⟨⟨in_J7, ⟨tyJ7, tyJ7_ok⟩, nmJ7⟩, List.forall_mem_cons.mpr ⟨⟨in_J21, ⟨tyJ21, tyJ21_ok⟩, nmJ21⟩, List.forall_mem_cons.mpr ⟨⟨in_J38, ⟨tyJ38, tyJ38_ok⟩, nmJ38⟩, List.forall_mem_cons.mpr ⟨⟨in_J40, ⟨tyJ40, tyJ40_ok⟩, nmJ40⟩, fun _ h => absurd h List.not_mem_nil⟩⟩⟩⟩⟩⟩⟩⟩⟩⟩⟩⟩⟩⟩⟩⟩⟩⟩
theorem zcl_ok {k : Nat} {r : vw_C} (h : zcl[k]? = some r) : zclOk r := zcl_all r (List.mem_of_getElem? h)
/-- a field's type, and whether it is final -/
def zfty (ci k : Nat) : Option (FieldType × Bool) := (zcl[ci]?).bind fun r => (parseFieldDescriptor (r.2.1 k).2.2.1).map fun t => (t, (r.2.1 k).2.2.2)
/-- a new object's fields -/
def zdv (ci : Nat) : List Value := match zcl[ci]? with
  | some r => (List.range r.2.2).map fun k => match parseFieldDescriptor (r.2.1 k).2.2.1 with
    | some t => defaultValue t
    | none => .null
  | none => []
theorem ft_0_0 : zfty 0 0 = some (.object "ClaimRegistry$State", false) := by decide +kernel
theorem ft_0_1 : zfty 0 1 = some (.object "ClaimRegistry$State", false) := by decide +kernel
theorem ft_0_2 : zfty 0 2 = some (.object "java/util/ArrayDeque", true) := by decide +kernel
theorem ft_0_3 : zfty 0 3 = some (.object "java/lang/StringBuilder", true) := by decide +kernel
theorem ft_0_4 : zfty 0 4 = some (.object "java/lang/StringBuilder", true) := by decide +kernel
theorem ft_0_5 : zfty 0 5 = some (.boolean, false) := by decide +kernel
theorem ft_0_6 : zfty 0 6 = some (.int, false) := by decide +kernel
theorem ft_0_7 : zfty 0 7 = some (.int, false) := by decide +kernel
theorem zd_0 : zdv 0 = [.null, .null, .null, .null, .null, .int 0, .int 0, .int 0] := by decide +kernel
theorem ft_1_0 : zfty 1 0 = some (.object "java/util/LinkedList", true) := by decide +kernel
theorem ft_1_1 : zfty 1 1 = some (.object "java/util/ArrayDeque", true) := by decide +kernel
theorem ft_1_2 : zfty 1 2 = some (.object "java/util/ArrayDeque", true) := by decide +kernel
theorem ft_1_3 : zfty 1 3 = some (.array .int, true) := by decide +kernel
theorem ft_1_4 : zfty 1 4 = some (.int, false) := by decide +kernel
theorem ft_1_5 : zfty 1 5 = some (.int, false) := by decide +kernel
theorem ft_1_6 : zfty 1 6 = some (.int, false) := by decide +kernel
theorem ft_1_7 : zfty 1 7 = some (.int, false) := by decide +kernel
theorem ft_1_8 : zfty 1 8 = some (.int, false) := by decide +kernel
theorem ft_1_9 : zfty 1 9 = some (.long, false) := by decide +kernel
theorem ft_1_10 : zfty 1 10 = some (.long, false) := by decide +kernel
theorem ft_1_11 : zfty 1 11 = some (.long, false) := by decide +kernel
theorem zd_1 : zdv 1 = [.null, .null, .null, .null, .int 0, .int 0, .int 0, .int 0, .int 0, .long 0, .long 0, .long 0] := by decide +kernel
theorem ft_2_0 : zfty 2 0 = some (.int, true) := by decide +kernel
theorem ft_2_1 : zfty 2 1 = some (.int, true) := by decide +kernel
theorem ft_2_2 : zfty 2 2 = some (.int, true) := by decide +kernel
theorem ft_2_3 : zfty 2 3 = some (.int, false) := by decide +kernel
theorem ft_2_4 : zfty 2 4 = some (.int, false) := by decide +kernel
theorem ft_2_5 : zfty 2 5 = some (.int, false) := by decide +kernel
theorem ft_2_6 : zfty 2 6 = some (.int, false) := by decide +kernel
theorem ft_2_7 : zfty 2 7 = some (.int, false) := by decide +kernel
theorem zd_2 : zdv 2 = [.int 0, .int 0, .int 0, .int 0, .int 0, .int 0, .int 0, .int 0] := by decide +kernel
theorem ft_3_0 : zfty 3 0 = some (.int, false) := by decide +kernel
theorem ft_3_1 : zfty 3 1 = some (.array .int, true) := by decide +kernel
theorem ft_3_2 : zfty 3 2 = some (.int, false) := by decide +kernel
theorem ft_3_3 : zfty 3 3 = some (.boolean, false) := by decide +kernel
theorem ft_3_4 : zfty 3 4 = some (.int, false) := by decide +kernel
theorem ft_3_5 : zfty 3 5 = some (.array .char, true) := by decide +kernel
theorem ft_3_6 : zfty 3 6 = some (.int, false) := by decide +kernel
theorem ft_3_7 : zfty 3 7 = some (.array .char, true) := by decide +kernel
theorem ft_3_8 : zfty 3 8 = some (.int, false) := by decide +kernel
theorem ft_3_9 : zfty 3 9 = some (.int, false) := by decide +kernel
theorem ft_3_10 : zfty 3 10 = some (.int, false) := by decide +kernel
theorem ft_3_11 : zfty 3 11 = some (.int, false) := by decide +kernel
theorem ft_3_12 : zfty 3 12 = some (.int, false) := by decide +kernel
theorem ft_3_13 : zfty 3 13 = some (.array .int, true) := by decide +kernel
theorem ft_3_14 : zfty 3 14 = some (.int, false) := by decide +kernel
theorem zd_3 : zdv 3 = [.int 0, .null, .int 0, .int 0, .int 0, .null, .int 0, .null, .int 0, .int 0, .int 0, .int 0, .int 0, .null, .int 0] := by decide +kernel
theorem ft_4_0 : zfty 4 0 = some (.object "java/util/List", true) := by decide +kernel
theorem ft_4_1 : zfty 4 1 = some (.object "java/lang/String", true) := by decide +kernel
theorem ft_4_2 : zfty 4 2 = some (.object "java/util/ArrayList", true) := by decide +kernel
theorem ft_4_3 : zfty 4 3 = some (.int, false) := by decide +kernel
theorem ft_4_4 : zfty 4 4 = some (.boolean, false) := by decide +kernel
theorem zd_4 : zdv 4 = [.null, .null, .null, .int 0, .int 0] := by decide +kernel
theorem ft_5_0 : zfty 5 0 = some (.object "java/lang/String", true) := by decide +kernel
theorem ft_5_1 : zfty 5 1 = some (.array .int, true) := by decide +kernel
theorem zd_5 : zdv 5 = [.null, .null] := by decide +kernel
theorem ft_6_0 : zfty 6 0 = some (.int, false) := by decide +kernel
theorem ft_6_1 : zfty 6 1 = some (.int, false) := by decide +kernel
theorem ft_6_2 : zfty 6 2 = some (.object "java/util/LinkedList$Node", false) := by decide +kernel
theorem ft_6_3 : zfty 6 3 = some (.object "java/util/LinkedList$Node", false) := by decide +kernel
theorem zd_6 : zdv 6 = [.int 0, .int 0, .null, .null] := by decide +kernel
theorem ft_7_0 : zfty 7 0 = some (.object "java/lang/Object", false) := by decide +kernel
theorem ft_7_1 : zfty 7 1 = some (.object "java/util/LinkedList$Node", false) := by decide +kernel
theorem ft_7_2 : zfty 7 2 = some (.object "java/util/LinkedList$Node", false) := by decide +kernel
theorem zd_7 : zdv 7 = [.null, .null, .null] := by decide +kernel
theorem ft_8_0 : zfty 8 0 = some (.object "java/util/LinkedList$Node", false) := by decide +kernel
theorem ft_8_1 : zfty 8 1 = some (.object "java/util/LinkedList$Node", false) := by decide +kernel
theorem ft_8_2 : zfty 8 2 = some (.int, false) := by decide +kernel
theorem ft_8_3 : zfty 8 3 = some (.int, false) := by decide +kernel
theorem ft_8_4 : zfty 8 4 = some (.object "java/util/LinkedList", true) := by decide +kernel
theorem zd_8 : zdv 8 = [.null, .null, .int 0, .int 0, .null] := by decide +kernel
theorem ft_9_0 : zfty 9 0 = some (.array (.object "java/lang/Object"), false) := by decide +kernel
theorem ft_9_1 : zfty 9 1 = some (.int, false) := by decide +kernel
theorem ft_9_2 : zfty 9 2 = some (.int, false) := by decide +kernel
theorem zd_9 : zdv 9 = [.null, .int 0, .int 0] := by decide +kernel
theorem ft_10_0 : zfty 10 0 = some (.int, false) := by decide +kernel
theorem ft_10_1 : zfty 10 1 = some (.int, false) := by decide +kernel
theorem ft_10_2 : zfty 10 2 = some (.int, false) := by decide +kernel
theorem ft_10_3 : zfty 10 3 = some (.object "java/util/ArrayDeque", true) := by decide +kernel
theorem zd_10 : zdv 10 = [.int 0, .int 0, .int 0, .null] := by decide +kernel
theorem ft_11_0 : zfty 11 0 = some (.int, false) := by decide +kernel
theorem ft_11_1 : zfty 11 1 = some (.array (.object "java/lang/Object"), false) := by decide +kernel
theorem ft_11_2 : zfty 11 2 = some (.int, false) := by decide +kernel
theorem zd_11 : zdv 11 = [.int 0, .null, .int 0] := by decide +kernel
theorem ft_12_0 : zfty 12 0 = some (.int, false) := by decide +kernel
theorem ft_12_1 : zfty 12 1 = some (.int, false) := by decide +kernel
theorem ft_12_2 : zfty 12 2 = some (.int, false) := by decide +kernel
theorem ft_12_3 : zfty 12 3 = some (.object "java/util/ArrayList", true) := by decide +kernel
theorem zd_12 : zdv 12 = [.int 0, .int 0, .int 0, .null] := by decide +kernel
theorem ft_13_0 : zfty 13 0 = some (.array .byte, false) := by decide +kernel
theorem ft_13_1 : zfty 13 1 = some (.byte, false) := by decide +kernel
theorem ft_13_2 : zfty 13 2 = some (.boolean, false) := by decide +kernel
theorem ft_13_3 : zfty 13 3 = some (.int, false) := by decide +kernel
theorem zd_13 : zdv 13 = [.null, .int 0, .int 0, .int 0] := by decide +kernel
theorem ft_14_0 : zfty 14 0 = some (.array .byte, true) := by decide +kernel
theorem ft_14_1 : zfty 14 1 = some (.byte, true) := by decide +kernel
theorem ft_14_2 : zfty 14 2 = some (.int, false) := by decide +kernel
theorem ft_14_3 : zfty 14 3 = some (.boolean, false) := by decide +kernel
theorem zd_14 : zdv 14 = [.null, .int 0, .int 0, .int 0] := by decide +kernel
theorem ft_15_0 : zfty 15 0 = some (.int, true) := by decide +kernel
theorem zd_15 : zdv 15 = [.int 0] := by decide +kernel
theorem ft_16_0 : zfty 16 0 = some (.array (.object "java/lang/Object"), true) := by decide +kernel
theorem ft_16_1 : zfty 16 1 = some (.boolean, true) := by decide +kernel
theorem zd_16 : zdv 16 = [.null, .int 0] := by decide +kernel
theorem ft_17_0 : zfty 17 0 = some (.object "java/util/List", true) := by decide +kernel
theorem ft_17_1 : zfty 17 1 = some (.int, true) := by decide +kernel
theorem ft_17_2 : zfty 17 2 = some (.boolean, true) := by decide +kernel
theorem ft_17_3 : zfty 17 3 = some (.int, false) := by decide +kernel
theorem zd_17 : zdv 17 = [.null, .int 0, .int 0, .int 0] := by decide +kernel
