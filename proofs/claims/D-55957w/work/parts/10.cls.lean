/-! the classes whose objects the runs hold, by number (printed by gen/cls.py) -/
set_option maxRecDepth 100000
def zcl : List vw_C := [(RX1, TX1, 8), (RX2, TX2, 12), (RX4, TX4, 8), (RX3, TX3, 15), (RX5, TX5, 5), (RX6, TX6, 2), (RJ3, TJ3, 4), (RJ29, TJ29, 3), (RJ25, TJ25, 5), (RJ4, TJ4, 3), (RJ30, TJ30, 4), (RJ39, TJ39, 3), (RJ23, TJ23, 4), (RJ6, TJ6, 4), (RJ7, TJ7, 4), (RJ21, TJ21, 1), (RJ38, TJ38, 2), (RJ40, TJ40, 4)]
def zclOk (r : vw_C) : Prop := (∀ w ∈ u_ws r.1 r.2.1 r.2.2, w ∈ lw_all) ∧ (∃ ty : Nat → FieldType, ∀ k, k < r.2.2 → parseFieldDescriptor (r.2.1 k).2.2.1 = some (ty k)) ∧ (∀ a, a < r.2.2 → ∀ b, b < r.2.2 → a ≠ b → (r.2.1 a).2.1 ≠ (r.2.1 b).2.1)
theorem zcl_all : ∀ r ∈ zcl, zclOk r := sorry
theorem zcl_ok {k : Nat} {r : vw_C} (h : zcl[k]? = some r) : zclOk r := sorry
/-- a field's type, and whether it is final -/
def zfty (ci k : Nat) : Option (FieldType × Bool) := (zcl[ci]?).bind fun r => (parseFieldDescriptor (r.2.1 k).2.2.1).map fun t => (t, (r.2.1 k).2.2.2)
/-- a new object's fields -/
def zdv (ci : Nat) : List Value := match zcl[ci]? with
  | some r => (List.range r.2.2).map fun k => match parseFieldDescriptor (r.2.1 k).2.2.1 with
    | some t => defaultValue t
    | none => .null
  | none => []
theorem ft_0_0 : zfty 0 0 = some (.object "ClaimRegistry$State", false) := sorry
theorem ft_0_1 : zfty 0 1 = some (.object "ClaimRegistry$State", false) := sorry
theorem ft_0_2 : zfty 0 2 = some (.object "java/util/ArrayDeque", true) := sorry
theorem ft_0_3 : zfty 0 3 = some (.object "java/lang/StringBuilder", true) := sorry
theorem ft_0_4 : zfty 0 4 = some (.object "java/lang/StringBuilder", true) := sorry
theorem ft_0_5 : zfty 0 5 = some (.boolean, false) := sorry
theorem ft_0_6 : zfty 0 6 = some (.int, false) := sorry
theorem ft_0_7 : zfty 0 7 = some (.int, false) := sorry
theorem zd_0 : zdv 0 = [.null, .null, .null, .null, .null, .int 0, .int 0, .int 0] := sorry
theorem ft_1_0 : zfty 1 0 = some (.object "java/util/LinkedList", true) := sorry
theorem ft_1_1 : zfty 1 1 = some (.object "java/util/ArrayDeque", true) := sorry
theorem ft_1_2 : zfty 1 2 = some (.object "java/util/ArrayDeque", true) := sorry
theorem ft_1_3 : zfty 1 3 = some (.array .int, true) := sorry
theorem ft_1_4 : zfty 1 4 = some (.int, false) := sorry
theorem ft_1_5 : zfty 1 5 = some (.int, false) := sorry
theorem ft_1_6 : zfty 1 6 = some (.int, false) := sorry
theorem ft_1_7 : zfty 1 7 = some (.int, false) := sorry
theorem ft_1_8 : zfty 1 8 = some (.int, false) := sorry
theorem ft_1_9 : zfty 1 9 = some (.long, false) := sorry
theorem ft_1_10 : zfty 1 10 = some (.long, false) := sorry
theorem ft_1_11 : zfty 1 11 = some (.long, false) := sorry
theorem zd_1 : zdv 1 = [.null, .null, .null, .null, .int 0, .int 0, .int 0, .int 0, .int 0, .long 0, .long 0, .long 0] := sorry
theorem ft_2_0 : zfty 2 0 = some (.int, true) := sorry
theorem ft_2_1 : zfty 2 1 = some (.int, true) := sorry
theorem ft_2_2 : zfty 2 2 = some (.int, true) := sorry
theorem ft_2_3 : zfty 2 3 = some (.int, false) := sorry
theorem ft_2_4 : zfty 2 4 = some (.int, false) := sorry
theorem ft_2_5 : zfty 2 5 = some (.int, false) := sorry
theorem ft_2_6 : zfty 2 6 = some (.int, false) := sorry
theorem ft_2_7 : zfty 2 7 = some (.int, false) := sorry
theorem zd_2 : zdv 2 = [.int 0, .int 0, .int 0, .int 0, .int 0, .int 0, .int 0, .int 0] := sorry
theorem ft_3_0 : zfty 3 0 = some (.int, false) := sorry
theorem ft_3_1 : zfty 3 1 = some (.array .int, true) := sorry
theorem ft_3_2 : zfty 3 2 = some (.int, false) := sorry
theorem ft_3_3 : zfty 3 3 = some (.boolean, false) := sorry
theorem ft_3_4 : zfty 3 4 = some (.int, false) := sorry
theorem ft_3_5 : zfty 3 5 = some (.array .char, true) := sorry
theorem ft_3_6 : zfty 3 6 = some (.int, false) := sorry
theorem ft_3_7 : zfty 3 7 = some (.array .char, true) := sorry
theorem ft_3_8 : zfty 3 8 = some (.int, false) := sorry
theorem ft_3_9 : zfty 3 9 = some (.int, false) := sorry
theorem ft_3_10 : zfty 3 10 = some (.int, false) := sorry
theorem ft_3_11 : zfty 3 11 = some (.int, false) := sorry
theorem ft_3_12 : zfty 3 12 = some (.int, false) := sorry
theorem ft_3_13 : zfty 3 13 = some (.array .int, true) := sorry
theorem ft_3_14 : zfty 3 14 = some (.int, false) := sorry
theorem zd_3 : zdv 3 = [.int 0, .null, .int 0, .int 0, .int 0, .null, .int 0, .null, .int 0, .int 0, .int 0, .int 0, .int 0, .null, .int 0] := sorry
theorem ft_4_0 : zfty 4 0 = some (.object "java/util/List", true) := sorry
theorem ft_4_1 : zfty 4 1 = some (.object "java/lang/String", true) := sorry
theorem ft_4_2 : zfty 4 2 = some (.object "java/util/ArrayList", true) := sorry
theorem ft_4_3 : zfty 4 3 = some (.int, false) := sorry
theorem ft_4_4 : zfty 4 4 = some (.boolean, false) := sorry
theorem zd_4 : zdv 4 = [.null, .null, .null, .int 0, .int 0] := sorry
theorem ft_5_0 : zfty 5 0 = some (.object "java/lang/String", true) := sorry
theorem ft_5_1 : zfty 5 1 = some (.array .int, true) := sorry
theorem zd_5 : zdv 5 = [.null, .null] := sorry
theorem ft_6_0 : zfty 6 0 = some (.int, false) := sorry
theorem ft_6_1 : zfty 6 1 = some (.int, false) := sorry
theorem ft_6_2 : zfty 6 2 = some (.object "java/util/LinkedList$Node", false) := sorry
theorem ft_6_3 : zfty 6 3 = some (.object "java/util/LinkedList$Node", false) := sorry
theorem zd_6 : zdv 6 = [.int 0, .int 0, .null, .null] := sorry
theorem ft_7_0 : zfty 7 0 = some (.object "java/lang/Object", false) := sorry
theorem ft_7_1 : zfty 7 1 = some (.object "java/util/LinkedList$Node", false) := sorry
theorem ft_7_2 : zfty 7 2 = some (.object "java/util/LinkedList$Node", false) := sorry
theorem zd_7 : zdv 7 = [.null, .null, .null] := sorry
theorem ft_8_0 : zfty 8 0 = some (.object "java/util/LinkedList$Node", false) := sorry
theorem ft_8_1 : zfty 8 1 = some (.object "java/util/LinkedList$Node", false) := sorry
theorem ft_8_2 : zfty 8 2 = some (.int, false) := sorry
theorem ft_8_3 : zfty 8 3 = some (.int, false) := sorry
theorem ft_8_4 : zfty 8 4 = some (.object "java/util/LinkedList", true) := sorry
theorem zd_8 : zdv 8 = [.null, .null, .int 0, .int 0, .null] := sorry
theorem ft_9_0 : zfty 9 0 = some (.array (.object "java/lang/Object"), false) := sorry
theorem ft_9_1 : zfty 9 1 = some (.int, false) := sorry
theorem ft_9_2 : zfty 9 2 = some (.int, false) := sorry
theorem zd_9 : zdv 9 = [.null, .int 0, .int 0] := sorry
theorem ft_10_0 : zfty 10 0 = some (.int, false) := sorry
theorem ft_10_1 : zfty 10 1 = some (.int, false) := sorry
theorem ft_10_2 : zfty 10 2 = some (.int, false) := sorry
theorem ft_10_3 : zfty 10 3 = some (.object "java/util/ArrayDeque", true) := sorry
theorem zd_10 : zdv 10 = [.int 0, .int 0, .int 0, .null] := sorry
theorem ft_11_0 : zfty 11 0 = some (.int, false) := sorry
theorem ft_11_1 : zfty 11 1 = some (.array (.object "java/lang/Object"), false) := sorry
theorem ft_11_2 : zfty 11 2 = some (.int, false) := sorry
theorem zd_11 : zdv 11 = [.int 0, .null, .int 0] := sorry
theorem ft_12_0 : zfty 12 0 = some (.int, false) := sorry
theorem ft_12_1 : zfty 12 1 = some (.int, false) := sorry
theorem ft_12_2 : zfty 12 2 = some (.int, false) := sorry
theorem ft_12_3 : zfty 12 3 = some (.object "java/util/ArrayList", true) := sorry
theorem zd_12 : zdv 12 = [.int 0, .int 0, .int 0, .null] := sorry
theorem ft_13_0 : zfty 13 0 = some (.array .byte, false) := sorry
theorem ft_13_1 : zfty 13 1 = some (.byte, false) := sorry
theorem ft_13_2 : zfty 13 2 = some (.boolean, false) := sorry
theorem ft_13_3 : zfty 13 3 = some (.int, false) := sorry
theorem zd_13 : zdv 13 = [.null, .int 0, .int 0, .int 0] := sorry
theorem ft_14_0 : zfty 14 0 = some (.array .byte, true) := sorry
theorem ft_14_1 : zfty 14 1 = some (.byte, true) := sorry
theorem ft_14_2 : zfty 14 2 = some (.int, false) := sorry
theorem ft_14_3 : zfty 14 3 = some (.boolean, false) := sorry
theorem zd_14 : zdv 14 = [.null, .int 0, .int 0, .int 0] := sorry
theorem ft_15_0 : zfty 15 0 = some (.int, true) := sorry
theorem zd_15 : zdv 15 = [.int 0] := sorry
theorem ft_16_0 : zfty 16 0 = some (.array (.object "java/lang/Object"), true) := sorry
theorem ft_16_1 : zfty 16 1 = some (.boolean, true) := sorry
theorem zd_16 : zdv 16 = [.null, .int 0] := sorry
theorem ft_17_0 : zfty 17 0 = some (.object "java/util/List", true) := sorry
theorem ft_17_1 : zfty 17 1 = some (.int, true) := sorry
theorem ft_17_2 : zfty 17 2 = some (.boolean, true) := sorry
theorem ft_17_3 : zfty 17 3 = some (.int, false) := sorry
theorem zd_17 : zdv 17 = [.null, .int 0, .int 0, .int 0] := sorry
