/-! ClaimRegistryModel -/
set_option maxRecDepth 100000
def RX3 : String := "ClaimRegistryModel"
def TX3 : u_T := fun k => match k with
  | 0 => ("ClaimRegistryModel", "thrown", "I", false)
  | 1 => ("ClaimRegistryModel", "all", "[I", true)
  | 2 => ("ClaimRegistryModel", "changes", "I", false)
  | 3 => ("ClaimRegistryModel", "isSaved", "Z", false)
  | 4 => ("ClaimRegistryModel", "result", "I", false)
  | 5 => ("ClaimRegistryModel", "line", "[C", true)
  | 6 => ("ClaimRegistryModel", "lineSize", "I", false)
  | 7 => ("ClaimRegistryModel", "input", "[C", true)
  | 8 => ("ClaimRegistryModel", "typed", "I", false)
  | 9 => ("ClaimRegistryModel", "here", "I", false)
  | 10 => ("ClaimRegistryModel", "error", "I", false)
  | 11 => ("ClaimRegistryModel", "errorAt", "I", false)
  | 12 => ("ClaimRegistryModel", "failedAt", "I", false)
  | 13 => ("ClaimRegistryModel", "commands", "[I", true)
  | _ => ("ClaimRegistryModel", "commandMany", "I", false)
def tyX3 : Nat → FieldType := fun k => match k with
  | 0 => .int
  | 1 => .array .int
  | 2 => .int
  | 3 => .boolean
  | 4 => .int
  | 5 => .array .char
  | 6 => .int
  | 7 => .array .char
  | 8 => .int
  | 9 => .int
  | 10 => .int
  | 11 => .int
  | 12 => .int
  | 13 => .array .int
  | _ => .int
abbrev wsX30 : List Cond := u_ws RX3 TX3 15
set_option maxRecDepth 100000 in
theorem nmX3 : ∀ a, a < 15 → ∀ b, b < 15 → a ≠ b → (TX3 a).2.1 ≠ (TX3 b).2.1 := by decide +kernel
set_option maxRecDepth 100000 in
theorem tyX3_ok : ∀ k, k < 15 → parseFieldDescriptor (TX3 k).2.2.1 = some (tyX3 k) := by decide +kernel
abbrev cX3_init : ByteArray := prog_9_method_1_code
def yX3_init : MethodName := ⟨RX3, "<init>", "()V"⟩
def dkwX3_init_2 : List UInt8 := [3, 60, 27, 7, 162, 0, 19, 42, 180, 0, 9, 16, 10, 27, 96, 8, 79, 132, 1, 1, 167, 255, 238, 177]
abbrev dktX3_init_2 : List UInt8 := dkwX3_init_2 ++ []
def dkwX3_init_1 : List UInt8 := [188, 5, 181, 0, 17, 42, 2, 181, 0, 20, 42, 2, 181, 0, 24, 42, 17, 1, 49, 188, 10, 181, 0, 27]
abbrev dktX3_init_1 : List UInt8 := dkwX3_init_1 ++ dktX3_init_2
def dkwX3_init_0 : List UInt8 := [42, 183, 0, 1, 42, 17, 6, 24, 188, 10, 181, 0, 9, 42, 16, 40, 188, 5, 181, 0, 13, 42, 16, 60]
abbrev dktX3_init_0 : List UInt8 := dkwX3_init_0 ++ dktX3_init_1
theorem dksX3_init_0 : cX3_init.data.toList.drop 0 = dktX3_init_0 := by decide +kernel
theorem dksX3_init_1 : cX3_init.data.toList.drop 24 = dktX3_init_1 := dk_seg dksX3_init_0 24 rfl rfl
theorem dksX3_init_2 : cX3_init.data.toList.drop 48 = dktX3_init_2 := dk_seg dksX3_init_1 24 rfl rfl
theorem dX3_init_0 : decode cX3_init 0 = .ok (.aload_n 0, 1) := dk_42 (dk_at dksX3_init_0 0 rfl rfl)
theorem dX3_init_1 : decode cX3_init 1 = .ok (.invokespecial 1, 3) := dk_183 0 1 (dk_at dksX3_init_0 1 rfl rfl)
theorem dX3_init_4 : decode cX3_init 4 = .ok (.aload_n 0, 1) := dk_42 (dk_at dksX3_init_0 4 rfl rfl)
theorem dX3_init_5 : decode cX3_init 5 = .ok (.sipush 1560, 3) := dk_17 6 24 (dk_at dksX3_init_0 5 rfl rfl)
theorem dX3_init_8 : decode cX3_init 8 = .ok (.newarray .int, 2) := dk_188_10 (dk_at dksX3_init_0 8 rfl rfl)
theorem dX3_init_10 : decode cX3_init 10 = .ok (.putfield 9, 3) := dk_181 0 9 (dk_at dksX3_init_0 10 rfl rfl)
theorem dX3_init_13 : decode cX3_init 13 = .ok (.aload_n 0, 1) := dk_42 (dk_at dksX3_init_0 13 rfl rfl)
theorem dX3_init_14 : decode cX3_init 14 = .ok (.bipush 40, 2) := dk_16 40 (dk_at dksX3_init_0 14 rfl rfl)
theorem dX3_init_16 : decode cX3_init 16 = .ok (.newarray .char, 2) := dk_188_5 (dk_at dksX3_init_0 16 rfl rfl)
theorem dX3_init_18 : decode cX3_init 18 = .ok (.putfield 13, 3) := dk_181 0 13 (dk_at dksX3_init_0 18 rfl rfl)
theorem dX3_init_21 : decode cX3_init 21 = .ok (.aload_n 0, 1) := dk_42 (dk_at dksX3_init_0 21 rfl rfl)
theorem dX3_init_22 : decode cX3_init 22 = .ok (.bipush 60, 2) := dk_16 60 (dk_at dksX3_init_0 22 rfl rfl)
theorem dX3_init_24 : decode cX3_init 24 = .ok (.newarray .char, 2) := dk_188_5 (dk_at dksX3_init_1 0 rfl rfl)
theorem dX3_init_26 : decode cX3_init 26 = .ok (.putfield 17, 3) := dk_181 0 17 (dk_at dksX3_init_1 2 rfl rfl)
theorem dX3_init_29 : decode cX3_init 29 = .ok (.aload_n 0, 1) := dk_42 (dk_at dksX3_init_1 5 rfl rfl)
theorem dX3_init_30 : decode cX3_init 30 = .ok (.iconst (-1), 1) := dk_2 (dk_at dksX3_init_1 6 rfl rfl)
theorem dX3_init_31 : decode cX3_init 31 = .ok (.putfield 20, 3) := dk_181 0 20 (dk_at dksX3_init_1 7 rfl rfl)
theorem dX3_init_34 : decode cX3_init 34 = .ok (.aload_n 0, 1) := dk_42 (dk_at dksX3_init_1 10 rfl rfl)
theorem dX3_init_35 : decode cX3_init 35 = .ok (.iconst (-1), 1) := dk_2 (dk_at dksX3_init_1 11 rfl rfl)
theorem dX3_init_36 : decode cX3_init 36 = .ok (.putfield 24, 3) := dk_181 0 24 (dk_at dksX3_init_1 12 rfl rfl)
theorem dX3_init_39 : decode cX3_init 39 = .ok (.aload_n 0, 1) := dk_42 (dk_at dksX3_init_1 15 rfl rfl)
theorem dX3_init_40 : decode cX3_init 40 = .ok (.sipush 305, 3) := dk_17 1 49 (dk_at dksX3_init_1 16 rfl rfl)
theorem dX3_init_43 : decode cX3_init 43 = .ok (.newarray .int, 2) := dk_188_10 (dk_at dksX3_init_1 19 rfl rfl)
theorem dX3_init_45 : decode cX3_init 45 = .ok (.putfield 27, 3) := dk_181 0 27 (dk_at dksX3_init_1 21 rfl rfl)
theorem dX3_init_48 : decode cX3_init 48 = .ok (.iconst 0, 1) := dk_3 (dk_at dksX3_init_2 0 rfl rfl)
theorem dX3_init_49 : decode cX3_init 49 = .ok (.istore_n 1, 1) := dk_60 (dk_at dksX3_init_2 1 rfl rfl)
theorem dX3_init_50 : decode cX3_init 50 = .ok (.iload_n 1, 1) := dk_27 (dk_at dksX3_init_2 2 rfl rfl)
theorem dX3_init_51 : decode cX3_init 51 = .ok (.iconst 4, 1) := dk_7 (dk_at dksX3_init_2 3 rfl rfl)
theorem dX3_init_52 : decode cX3_init 52 = .ok (.if_icmp .ge 19, 3) := dk_162 0 19 (dk_at dksX3_init_2 4 rfl rfl)
theorem dX3_init_55 : decode cX3_init 55 = .ok (.aload_n 0, 1) := dk_42 (dk_at dksX3_init_2 7 rfl rfl)
theorem dX3_init_56 : decode cX3_init 56 = .ok (.getfield 9, 3) := dk_180 0 9 (dk_at dksX3_init_2 8 rfl rfl)
theorem dX3_init_59 : decode cX3_init 59 = .ok (.bipush 10, 2) := dk_16 10 (dk_at dksX3_init_2 11 rfl rfl)
theorem dX3_init_61 : decode cX3_init 61 = .ok (.iload_n 1, 1) := dk_27 (dk_at dksX3_init_2 13 rfl rfl)
theorem dX3_init_62 : decode cX3_init 62 = .ok (.iadd, 1) := dk_96 (dk_at dksX3_init_2 14 rfl rfl)
theorem dX3_init_63 : decode cX3_init 63 = .ok (.iconst 5, 1) := dk_8 (dk_at dksX3_init_2 15 rfl rfl)
theorem dX3_init_64 : decode cX3_init 64 = .ok (.iastore, 1) := dk_79 (dk_at dksX3_init_2 16 rfl rfl)
theorem dX3_init_65 : decode cX3_init 65 = .ok (.iinc 1 1, 3) := dk_132 1 1 (dk_at dksX3_init_2 17 rfl rfl)
theorem dX3_init_68 : decode cX3_init 68 = .ok (.goto (-18), 3) := dk_167 255 238 (dk_at dksX3_init_2 20 rfl rfl)
theorem dX3_init_71 : decode cX3_init 71 = .ok (.return_, 1) := dk_177 (dk_at dksX3_init_2 23 rfl rfl)
abbrev cX3_thrown : ByteArray := prog_9_method_2_code
def yX3_thrown : MethodName := ⟨RX3, "thrown", "()I"⟩
theorem dX3_thrown_0 : decode cX3_thrown 0 = .ok (.aload_n 0, 1) := by decide +kernel
theorem dX3_thrown_1 : decode cX3_thrown 1 = .ok (.getfield 30, 3) := by decide +kernel
theorem dX3_thrown_4 : decode cX3_thrown 4 = .ok (.ireturn, 1) := by decide +kernel
abbrev cX3_add : ByteArray := prog_9_method_17_code
def yX3_add : MethodName := ⟨RX3, "add", "(IIII)I"⟩
def dkwX3_add_0 : List UInt8 := [42, 182, 0, 63, 42, 42, 27, 28, 29, 21, 4, 182, 0, 66, 3, 4, 5, 182, 0, 70, 172]
abbrev dktX3_add_0 : List UInt8 := dkwX3_add_0 ++ []
theorem dksX3_add_0 : cX3_add.data.toList.drop 0 = dktX3_add_0 := by decide +kernel
theorem dX3_add_0 : decode cX3_add 0 = .ok (.aload_n 0, 1) := dk_42 (dk_at dksX3_add_0 0 rfl rfl)
theorem dX3_add_1 : decode cX3_add 1 = .ok (.invokevirtual 63, 3) := dk_182 0 63 (dk_at dksX3_add_0 1 rfl rfl)
theorem dX3_add_4 : decode cX3_add 4 = .ok (.aload_n 0, 1) := dk_42 (dk_at dksX3_add_0 4 rfl rfl)
theorem dX3_add_5 : decode cX3_add 5 = .ok (.aload_n 0, 1) := dk_42 (dk_at dksX3_add_0 5 rfl rfl)
theorem dX3_add_6 : decode cX3_add 6 = .ok (.iload_n 1, 1) := dk_27 (dk_at dksX3_add_0 6 rfl rfl)
theorem dX3_add_7 : decode cX3_add 7 = .ok (.iload_n 2, 1) := dk_28 (dk_at dksX3_add_0 7 rfl rfl)
theorem dX3_add_8 : decode cX3_add 8 = .ok (.iload_n 3, 1) := dk_29 (dk_at dksX3_add_0 8 rfl rfl)
theorem dX3_add_9 : decode cX3_add 9 = .ok (.iload 4, 2) := dk_21 4 (dk_at dksX3_add_0 9 rfl rfl)
theorem dX3_add_11 : decode cX3_add 11 = .ok (.invokevirtual 66, 3) := dk_182 0 66 (dk_at dksX3_add_0 11 rfl rfl)
theorem dX3_add_14 : decode cX3_add 14 = .ok (.iconst 0, 1) := dk_3 (dk_at dksX3_add_0 14 rfl rfl)
theorem dX3_add_15 : decode cX3_add 15 = .ok (.iconst 1, 1) := dk_4 (dk_at dksX3_add_0 15 rfl rfl)
theorem dX3_add_16 : decode cX3_add 16 = .ok (.iconst 2, 1) := dk_5 (dk_at dksX3_add_0 16 rfl rfl)
theorem dX3_add_17 : decode cX3_add 17 = .ok (.invokevirtual 70, 3) := dk_182 0 70 (dk_at dksX3_add_0 17 rfl rfl)
theorem dX3_add_20 : decode cX3_add 20 = .ok (.ireturn, 1) := dk_172 (dk_at dksX3_add_0 20 rfl rfl)
abbrev cX3_begins : ByteArray := prog_9_method_5_code
def yX3_begins : MethodName := ⟨RX3, "begins", "()V"⟩
def dkwX3_begins_0 : List UInt8 := [42, 3, 16, 10, 182, 0, 33, 177]
abbrev dktX3_begins_0 : List UInt8 := dkwX3_begins_0 ++ []
theorem dksX3_begins_0 : cX3_begins.data.toList.drop 0 = dktX3_begins_0 := by decide +kernel
theorem dX3_begins_0 : decode cX3_begins 0 = .ok (.aload_n 0, 1) := dk_42 (dk_at dksX3_begins_0 0 rfl rfl)
theorem dX3_begins_1 : decode cX3_begins 1 = .ok (.iconst 0, 1) := dk_3 (dk_at dksX3_begins_0 1 rfl rfl)
theorem dX3_begins_2 : decode cX3_begins 2 = .ok (.bipush 10, 2) := dk_16 10 (dk_at dksX3_begins_0 2 rfl rfl)
theorem dX3_begins_4 : decode cX3_begins 4 = .ok (.invokevirtual 33, 3) := dk_182 0 33 (dk_at dksX3_begins_0 4 rfl rfl)
theorem dX3_begins_7 : decode cX3_begins 7 = .ok (.return_, 1) := dk_177 (dk_at dksX3_begins_0 7 rfl rfl)
abbrev cX3_copies : ByteArray := prog_9_method_4_code
def yX3_copies : MethodName := ⟨RX3, "copies", "(II)V"⟩
def dkwX3_copies_1 : List UInt8 := [17, 0, 130, 27, 104, 29, 96, 46, 79, 132, 3, 1, 167, 255, 222, 177]
abbrev dktX3_copies_1 : List UInt8 := dkwX3_copies_1 ++ []
def dkwX3_copies_0 : List UInt8 := [3, 62, 29, 17, 0, 130, 162, 0, 33, 42, 180, 0, 9, 17, 0, 130, 28, 104, 29, 96, 42, 180, 0, 9]
abbrev dktX3_copies_0 : List UInt8 := dkwX3_copies_0 ++ dktX3_copies_1
theorem dksX3_copies_0 : cX3_copies.data.toList.drop 0 = dktX3_copies_0 := by decide +kernel
theorem dksX3_copies_1 : cX3_copies.data.toList.drop 24 = dktX3_copies_1 := dk_seg dksX3_copies_0 24 rfl rfl
theorem dX3_copies_0 : decode cX3_copies 0 = .ok (.iconst 0, 1) := dk_3 (dk_at dksX3_copies_0 0 rfl rfl)
theorem dX3_copies_1 : decode cX3_copies 1 = .ok (.istore_n 3, 1) := dk_62 (dk_at dksX3_copies_0 1 rfl rfl)
theorem dX3_copies_2 : decode cX3_copies 2 = .ok (.iload_n 3, 1) := dk_29 (dk_at dksX3_copies_0 2 rfl rfl)
theorem dX3_copies_3 : decode cX3_copies 3 = .ok (.sipush 130, 3) := dk_17 0 130 (dk_at dksX3_copies_0 3 rfl rfl)
theorem dX3_copies_6 : decode cX3_copies 6 = .ok (.if_icmp .ge 33, 3) := dk_162 0 33 (dk_at dksX3_copies_0 6 rfl rfl)
theorem dX3_copies_9 : decode cX3_copies 9 = .ok (.aload_n 0, 1) := dk_42 (dk_at dksX3_copies_0 9 rfl rfl)
theorem dX3_copies_10 : decode cX3_copies 10 = .ok (.getfield 9, 3) := dk_180 0 9 (dk_at dksX3_copies_0 10 rfl rfl)
theorem dX3_copies_13 : decode cX3_copies 13 = .ok (.sipush 130, 3) := dk_17 0 130 (dk_at dksX3_copies_0 13 rfl rfl)
theorem dX3_copies_16 : decode cX3_copies 16 = .ok (.iload_n 2, 1) := dk_28 (dk_at dksX3_copies_0 16 rfl rfl)
theorem dX3_copies_17 : decode cX3_copies 17 = .ok (.imul, 1) := dk_104 (dk_at dksX3_copies_0 17 rfl rfl)
theorem dX3_copies_18 : decode cX3_copies 18 = .ok (.iload_n 3, 1) := dk_29 (dk_at dksX3_copies_0 18 rfl rfl)
theorem dX3_copies_19 : decode cX3_copies 19 = .ok (.iadd, 1) := dk_96 (dk_at dksX3_copies_0 19 rfl rfl)
theorem dX3_copies_20 : decode cX3_copies 20 = .ok (.aload_n 0, 1) := dk_42 (dk_at dksX3_copies_0 20 rfl rfl)
theorem dX3_copies_21 : decode cX3_copies 21 = .ok (.getfield 9, 3) := dk_180 0 9 (dk_at dksX3_copies_0 21 rfl rfl)
theorem dX3_copies_24 : decode cX3_copies 24 = .ok (.sipush 130, 3) := dk_17 0 130 (dk_at dksX3_copies_1 0 rfl rfl)
theorem dX3_copies_27 : decode cX3_copies 27 = .ok (.iload_n 1, 1) := dk_27 (dk_at dksX3_copies_1 3 rfl rfl)
theorem dX3_copies_28 : decode cX3_copies 28 = .ok (.imul, 1) := dk_104 (dk_at dksX3_copies_1 4 rfl rfl)
theorem dX3_copies_29 : decode cX3_copies 29 = .ok (.iload_n 3, 1) := dk_29 (dk_at dksX3_copies_1 5 rfl rfl)
theorem dX3_copies_30 : decode cX3_copies 30 = .ok (.iadd, 1) := dk_96 (dk_at dksX3_copies_1 6 rfl rfl)
theorem dX3_copies_31 : decode cX3_copies 31 = .ok (.iaload, 1) := dk_46 (dk_at dksX3_copies_1 7 rfl rfl)
theorem dX3_copies_32 : decode cX3_copies 32 = .ok (.iastore, 1) := dk_79 (dk_at dksX3_copies_1 8 rfl rfl)
theorem dX3_copies_33 : decode cX3_copies 33 = .ok (.iinc 3 1, 3) := dk_132 3 1 (dk_at dksX3_copies_1 9 rfl rfl)
theorem dX3_copies_36 : decode cX3_copies 36 = .ok (.goto (-34), 3) := dk_167 255 222 (dk_at dksX3_copies_1 12 rfl rfl)
theorem dX3_copies_39 : decode cX3_copies 39 = .ok (.return_, 1) := dk_177 (dk_at dksX3_copies_1 15 rfl rfl)
abbrev cX3_adds : ByteArray := prog_9_method_16_code
def yX3_adds : MethodName := ⟨RX3, "adds", "(IIII)I"⟩
def dkwX3_adds_8 : List UInt8 := [79, 3, 172]
abbrev dktX3_adds_8 : List UInt8 := dkwX3_adds_8 ++ []
def dkwX3_adds_7 : List UInt8 := [180, 0, 9, 3, 46, 21, 4, 96, 182, 0, 51, 42, 180, 0, 9, 16, 118, 21, 5, 96, 42, 180, 0, 40]
abbrev dktX3_adds_7 : List UInt8 := dkwX3_adds_7 ++ dktX3_adds_8
def dkwX3_adds_6 : List UInt8 := [182, 0, 51, 42, 21, 5, 5, 28, 182, 0, 51, 42, 21, 5, 6, 29, 182, 0, 51, 42, 21, 5, 7, 42]
abbrev dktX3_adds_6 : List UInt8 := dkwX3_adds_6 ++ dktX3_adds_7
def dkwX3_adds_5 : List UInt8 := [132, 6, 1, 167, 255, 237, 42, 21, 5, 3, 42, 180, 0, 40, 182, 0, 51, 42, 21, 5, 4, 27]
abbrev dktX3_adds_5 : List UInt8 := dkwX3_adds_5 ++ dktX3_adds_6
def dkwX3_adds_4 : List UInt8 := [92, 46, 29, 96, 79, 3, 54, 6, 21, 6, 16, 8, 162, 0, 18, 42, 21, 5, 21, 6, 3, 182, 0, 51]
abbrev dktX3_adds_4 : List UInt8 := dkwX3_adds_4 ++ dktX3_adds_5
def dkwX3_adds_3 : List UInt8 := [180, 0, 9, 4, 92, 46, 4, 96, 79, 42, 180, 0, 9, 5, 92, 46, 4, 96, 79, 42, 180, 0, 9, 7]
abbrev dktX3_adds_3 : List UInt8 := dkwX3_adds_3 ++ dktX3_adds_4
def dkwX3_adds_2 : List UInt8 := [46, 54, 5, 21, 5, 16, 12, 160, 0, 5, 6, 172, 42, 42, 180, 0, 9, 4, 46, 181, 0, 40, 42]
abbrev dktX3_adds_2 : List UInt8 := dkwX3_adds_2 ++ dktX3_adds_3
def dkwX3_adds_1 : List UInt8 := [184, 0, 55, 153, 0, 14, 21, 4, 4, 16, 50, 184, 0, 55, 154, 0, 5, 5, 172, 42, 180, 0, 9, 5]
abbrev dktX3_adds_1 : List UInt8 := dkwX3_adds_1 ++ dktX3_adds_2
def dkwX3_adds_0 : List UInt8 := [27, 184, 0, 59, 153, 0, 37, 28, 184, 0, 59, 153, 0, 30, 27, 28, 159, 0, 25, 29, 4, 17, 3, 231]
abbrev dktX3_adds_0 : List UInt8 := dkwX3_adds_0 ++ dktX3_adds_1
theorem dksX3_adds_0 : cX3_adds.data.toList.drop 0 = dktX3_adds_0 := by decide +kernel
theorem dksX3_adds_1 : cX3_adds.data.toList.drop 24 = dktX3_adds_1 := dk_seg dksX3_adds_0 24 rfl rfl
theorem dksX3_adds_2 : cX3_adds.data.toList.drop 48 = dktX3_adds_2 := dk_seg dksX3_adds_1 24 rfl rfl
theorem dksX3_adds_3 : cX3_adds.data.toList.drop 71 = dktX3_adds_3 := dk_seg dksX3_adds_2 23 rfl rfl
theorem dksX3_adds_4 : cX3_adds.data.toList.drop 95 = dktX3_adds_4 := dk_seg dksX3_adds_3 24 rfl rfl
theorem dksX3_adds_5 : cX3_adds.data.toList.drop 119 = dktX3_adds_5 := dk_seg dksX3_adds_4 24 rfl rfl
theorem dksX3_adds_6 : cX3_adds.data.toList.drop 141 = dktX3_adds_6 := dk_seg dksX3_adds_5 22 rfl rfl
theorem dksX3_adds_7 : cX3_adds.data.toList.drop 165 = dktX3_adds_7 := dk_seg dksX3_adds_6 24 rfl rfl
theorem dksX3_adds_8 : cX3_adds.data.toList.drop 189 = dktX3_adds_8 := dk_seg dksX3_adds_7 24 rfl rfl
theorem dX3_adds_0 : decode cX3_adds 0 = .ok (.iload_n 1, 1) := dk_27 (dk_at dksX3_adds_0 0 rfl rfl)
theorem dX3_adds_1 : decode cX3_adds 1 = .ok (.invokestatic 59, 3) := dk_184 0 59 (dk_at dksX3_adds_0 1 rfl rfl)
theorem dX3_adds_4 : decode cX3_adds 4 = .ok (.ifCond .eq 37, 3) := dk_153 0 37 (dk_at dksX3_adds_0 4 rfl rfl)
theorem dX3_adds_7 : decode cX3_adds 7 = .ok (.iload_n 2, 1) := dk_28 (dk_at dksX3_adds_0 7 rfl rfl)
theorem dX3_adds_8 : decode cX3_adds 8 = .ok (.invokestatic 59, 3) := dk_184 0 59 (dk_at dksX3_adds_0 8 rfl rfl)
theorem dX3_adds_11 : decode cX3_adds 11 = .ok (.ifCond .eq 30, 3) := dk_153 0 30 (dk_at dksX3_adds_0 11 rfl rfl)
theorem dX3_adds_14 : decode cX3_adds 14 = .ok (.iload_n 1, 1) := dk_27 (dk_at dksX3_adds_0 14 rfl rfl)
theorem dX3_adds_15 : decode cX3_adds 15 = .ok (.iload_n 2, 1) := dk_28 (dk_at dksX3_adds_0 15 rfl rfl)
theorem dX3_adds_16 : decode cX3_adds 16 = .ok (.if_icmp .eq 25, 3) := dk_159 0 25 (dk_at dksX3_adds_0 16 rfl rfl)
theorem dX3_adds_19 : decode cX3_adds 19 = .ok (.iload_n 3, 1) := dk_29 (dk_at dksX3_adds_0 19 rfl rfl)
theorem dX3_adds_20 : decode cX3_adds 20 = .ok (.iconst 1, 1) := dk_4 (dk_at dksX3_adds_0 20 rfl rfl)
theorem dX3_adds_21 : decode cX3_adds 21 = .ok (.sipush 999, 3) := dk_17 3 231 (dk_at dksX3_adds_0 21 rfl rfl)
theorem dX3_adds_24 : decode cX3_adds 24 = .ok (.invokestatic 55, 3) := dk_184 0 55 (dk_at dksX3_adds_1 0 rfl rfl)
theorem dX3_adds_27 : decode cX3_adds 27 = .ok (.ifCond .eq 14, 3) := dk_153 0 14 (dk_at dksX3_adds_1 3 rfl rfl)
theorem dX3_adds_30 : decode cX3_adds 30 = .ok (.iload 4, 2) := dk_21 4 (dk_at dksX3_adds_1 6 rfl rfl)
theorem dX3_adds_32 : decode cX3_adds 32 = .ok (.iconst 1, 1) := dk_4 (dk_at dksX3_adds_1 8 rfl rfl)
theorem dX3_adds_33 : decode cX3_adds 33 = .ok (.bipush 50, 2) := dk_16 50 (dk_at dksX3_adds_1 9 rfl rfl)
theorem dX3_adds_35 : decode cX3_adds 35 = .ok (.invokestatic 55, 3) := dk_184 0 55 (dk_at dksX3_adds_1 11 rfl rfl)
theorem dX3_adds_38 : decode cX3_adds 38 = .ok (.ifCond .ne 5, 3) := dk_154 0 5 (dk_at dksX3_adds_1 14 rfl rfl)
theorem dX3_adds_41 : decode cX3_adds 41 = .ok (.iconst 2, 1) := dk_5 (dk_at dksX3_adds_1 17 rfl rfl)
theorem dX3_adds_42 : decode cX3_adds 42 = .ok (.ireturn, 1) := dk_172 (dk_at dksX3_adds_1 18 rfl rfl)
theorem dX3_adds_43 : decode cX3_adds 43 = .ok (.aload_n 0, 1) := dk_42 (dk_at dksX3_adds_1 19 rfl rfl)
theorem dX3_adds_44 : decode cX3_adds 44 = .ok (.getfield 9, 3) := dk_180 0 9 (dk_at dksX3_adds_1 20 rfl rfl)
theorem dX3_adds_47 : decode cX3_adds 47 = .ok (.iconst 2, 1) := dk_5 (dk_at dksX3_adds_1 23 rfl rfl)
theorem dX3_adds_48 : decode cX3_adds 48 = .ok (.iaload, 1) := dk_46 (dk_at dksX3_adds_2 0 rfl rfl)
theorem dX3_adds_49 : decode cX3_adds 49 = .ok (.istore 5, 2) := dk_54 5 (dk_at dksX3_adds_2 1 rfl rfl)
theorem dX3_adds_51 : decode cX3_adds 51 = .ok (.iload 5, 2) := dk_21 5 (dk_at dksX3_adds_2 3 rfl rfl)
theorem dX3_adds_53 : decode cX3_adds 53 = .ok (.bipush 12, 2) := dk_16 12 (dk_at dksX3_adds_2 5 rfl rfl)
theorem dX3_adds_55 : decode cX3_adds 55 = .ok (.if_icmp .ne 5, 3) := dk_160 0 5 (dk_at dksX3_adds_2 7 rfl rfl)
theorem dX3_adds_58 : decode cX3_adds 58 = .ok (.iconst 3, 1) := dk_6 (dk_at dksX3_adds_2 10 rfl rfl)
theorem dX3_adds_59 : decode cX3_adds 59 = .ok (.ireturn, 1) := dk_172 (dk_at dksX3_adds_2 11 rfl rfl)
theorem dX3_adds_60 : decode cX3_adds 60 = .ok (.aload_n 0, 1) := dk_42 (dk_at dksX3_adds_2 12 rfl rfl)
theorem dX3_adds_61 : decode cX3_adds 61 = .ok (.aload_n 0, 1) := dk_42 (dk_at dksX3_adds_2 13 rfl rfl)
theorem dX3_adds_62 : decode cX3_adds 62 = .ok (.getfield 9, 3) := dk_180 0 9 (dk_at dksX3_adds_2 14 rfl rfl)
theorem dX3_adds_65 : decode cX3_adds 65 = .ok (.iconst 1, 1) := dk_4 (dk_at dksX3_adds_2 17 rfl rfl)
theorem dX3_adds_66 : decode cX3_adds 66 = .ok (.iaload, 1) := dk_46 (dk_at dksX3_adds_2 18 rfl rfl)
theorem dX3_adds_67 : decode cX3_adds 67 = .ok (.putfield 40, 3) := dk_181 0 40 (dk_at dksX3_adds_2 19 rfl rfl)
theorem dX3_adds_70 : decode cX3_adds 70 = .ok (.aload_n 0, 1) := dk_42 (dk_at dksX3_adds_2 22 rfl rfl)
theorem dX3_adds_71 : decode cX3_adds 71 = .ok (.getfield 9, 3) := dk_180 0 9 (dk_at dksX3_adds_3 0 rfl rfl)
theorem dX3_adds_74 : decode cX3_adds 74 = .ok (.iconst 1, 1) := dk_4 (dk_at dksX3_adds_3 3 rfl rfl)
theorem dX3_adds_75 : decode cX3_adds 75 = .ok (.dup2, 1) := dk_92 (dk_at dksX3_adds_3 4 rfl rfl)
theorem dX3_adds_76 : decode cX3_adds 76 = .ok (.iaload, 1) := dk_46 (dk_at dksX3_adds_3 5 rfl rfl)
theorem dX3_adds_77 : decode cX3_adds 77 = .ok (.iconst 1, 1) := dk_4 (dk_at dksX3_adds_3 6 rfl rfl)
theorem dX3_adds_78 : decode cX3_adds 78 = .ok (.iadd, 1) := dk_96 (dk_at dksX3_adds_3 7 rfl rfl)
theorem dX3_adds_79 : decode cX3_adds 79 = .ok (.iastore, 1) := dk_79 (dk_at dksX3_adds_3 8 rfl rfl)
theorem dX3_adds_80 : decode cX3_adds 80 = .ok (.aload_n 0, 1) := dk_42 (dk_at dksX3_adds_3 9 rfl rfl)
theorem dX3_adds_81 : decode cX3_adds 81 = .ok (.getfield 9, 3) := dk_180 0 9 (dk_at dksX3_adds_3 10 rfl rfl)
theorem dX3_adds_84 : decode cX3_adds 84 = .ok (.iconst 2, 1) := dk_5 (dk_at dksX3_adds_3 13 rfl rfl)
theorem dX3_adds_85 : decode cX3_adds 85 = .ok (.dup2, 1) := dk_92 (dk_at dksX3_adds_3 14 rfl rfl)
theorem dX3_adds_86 : decode cX3_adds 86 = .ok (.iaload, 1) := dk_46 (dk_at dksX3_adds_3 15 rfl rfl)
theorem dX3_adds_87 : decode cX3_adds 87 = .ok (.iconst 1, 1) := dk_4 (dk_at dksX3_adds_3 16 rfl rfl)
theorem dX3_adds_88 : decode cX3_adds 88 = .ok (.iadd, 1) := dk_96 (dk_at dksX3_adds_3 17 rfl rfl)
theorem dX3_adds_89 : decode cX3_adds 89 = .ok (.iastore, 1) := dk_79 (dk_at dksX3_adds_3 18 rfl rfl)
theorem dX3_adds_90 : decode cX3_adds 90 = .ok (.aload_n 0, 1) := dk_42 (dk_at dksX3_adds_3 19 rfl rfl)
theorem dX3_adds_91 : decode cX3_adds 91 = .ok (.getfield 9, 3) := dk_180 0 9 (dk_at dksX3_adds_3 20 rfl rfl)
theorem dX3_adds_94 : decode cX3_adds 94 = .ok (.iconst 4, 1) := dk_7 (dk_at dksX3_adds_3 23 rfl rfl)
theorem dX3_adds_95 : decode cX3_adds 95 = .ok (.dup2, 1) := dk_92 (dk_at dksX3_adds_4 0 rfl rfl)
theorem dX3_adds_96 : decode cX3_adds 96 = .ok (.iaload, 1) := dk_46 (dk_at dksX3_adds_4 1 rfl rfl)
theorem dX3_adds_97 : decode cX3_adds 97 = .ok (.iload_n 3, 1) := dk_29 (dk_at dksX3_adds_4 2 rfl rfl)
theorem dX3_adds_98 : decode cX3_adds 98 = .ok (.iadd, 1) := dk_96 (dk_at dksX3_adds_4 3 rfl rfl)
theorem dX3_adds_99 : decode cX3_adds 99 = .ok (.iastore, 1) := dk_79 (dk_at dksX3_adds_4 4 rfl rfl)
theorem dX3_adds_100 : decode cX3_adds 100 = .ok (.iconst 0, 1) := dk_3 (dk_at dksX3_adds_4 5 rfl rfl)
theorem dX3_adds_101 : decode cX3_adds 101 = .ok (.istore 6, 2) := dk_54 6 (dk_at dksX3_adds_4 6 rfl rfl)
theorem dX3_adds_103 : decode cX3_adds 103 = .ok (.iload 6, 2) := dk_21 6 (dk_at dksX3_adds_4 8 rfl rfl)
theorem dX3_adds_105 : decode cX3_adds 105 = .ok (.bipush 8, 2) := dk_16 8 (dk_at dksX3_adds_4 10 rfl rfl)
theorem dX3_adds_107 : decode cX3_adds 107 = .ok (.if_icmp .ge 18, 3) := dk_162 0 18 (dk_at dksX3_adds_4 12 rfl rfl)
theorem dX3_adds_110 : decode cX3_adds 110 = .ok (.aload_n 0, 1) := dk_42 (dk_at dksX3_adds_4 15 rfl rfl)
theorem dX3_adds_111 : decode cX3_adds 111 = .ok (.iload 5, 2) := dk_21 5 (dk_at dksX3_adds_4 16 rfl rfl)
theorem dX3_adds_113 : decode cX3_adds 113 = .ok (.iload 6, 2) := dk_21 6 (dk_at dksX3_adds_4 18 rfl rfl)
theorem dX3_adds_115 : decode cX3_adds 115 = .ok (.iconst 0, 1) := dk_3 (dk_at dksX3_adds_4 20 rfl rfl)
theorem dX3_adds_116 : decode cX3_adds 116 = .ok (.invokevirtual 51, 3) := dk_182 0 51 (dk_at dksX3_adds_4 21 rfl rfl)
theorem dX3_adds_119 : decode cX3_adds 119 = .ok (.iinc 6 1, 3) := dk_132 6 1 (dk_at dksX3_adds_5 0 rfl rfl)
theorem dX3_adds_122 : decode cX3_adds 122 = .ok (.goto (-19), 3) := dk_167 255 237 (dk_at dksX3_adds_5 3 rfl rfl)
theorem dX3_adds_125 : decode cX3_adds 125 = .ok (.aload_n 0, 1) := dk_42 (dk_at dksX3_adds_5 6 rfl rfl)
theorem dX3_adds_126 : decode cX3_adds 126 = .ok (.iload 5, 2) := dk_21 5 (dk_at dksX3_adds_5 7 rfl rfl)
theorem dX3_adds_128 : decode cX3_adds 128 = .ok (.iconst 0, 1) := dk_3 (dk_at dksX3_adds_5 9 rfl rfl)
theorem dX3_adds_129 : decode cX3_adds 129 = .ok (.aload_n 0, 1) := dk_42 (dk_at dksX3_adds_5 10 rfl rfl)
theorem dX3_adds_130 : decode cX3_adds 130 = .ok (.getfield 40, 3) := dk_180 0 40 (dk_at dksX3_adds_5 11 rfl rfl)
theorem dX3_adds_133 : decode cX3_adds 133 = .ok (.invokevirtual 51, 3) := dk_182 0 51 (dk_at dksX3_adds_5 14 rfl rfl)
theorem dX3_adds_136 : decode cX3_adds 136 = .ok (.aload_n 0, 1) := dk_42 (dk_at dksX3_adds_5 17 rfl rfl)
theorem dX3_adds_137 : decode cX3_adds 137 = .ok (.iload 5, 2) := dk_21 5 (dk_at dksX3_adds_5 18 rfl rfl)
theorem dX3_adds_139 : decode cX3_adds 139 = .ok (.iconst 1, 1) := dk_4 (dk_at dksX3_adds_5 20 rfl rfl)
theorem dX3_adds_140 : decode cX3_adds 140 = .ok (.iload_n 1, 1) := dk_27 (dk_at dksX3_adds_5 21 rfl rfl)
theorem dX3_adds_141 : decode cX3_adds 141 = .ok (.invokevirtual 51, 3) := dk_182 0 51 (dk_at dksX3_adds_6 0 rfl rfl)
theorem dX3_adds_144 : decode cX3_adds 144 = .ok (.aload_n 0, 1) := dk_42 (dk_at dksX3_adds_6 3 rfl rfl)
theorem dX3_adds_145 : decode cX3_adds 145 = .ok (.iload 5, 2) := dk_21 5 (dk_at dksX3_adds_6 4 rfl rfl)
theorem dX3_adds_147 : decode cX3_adds 147 = .ok (.iconst 2, 1) := dk_5 (dk_at dksX3_adds_6 6 rfl rfl)
theorem dX3_adds_148 : decode cX3_adds 148 = .ok (.iload_n 2, 1) := dk_28 (dk_at dksX3_adds_6 7 rfl rfl)
theorem dX3_adds_149 : decode cX3_adds 149 = .ok (.invokevirtual 51, 3) := dk_182 0 51 (dk_at dksX3_adds_6 8 rfl rfl)
theorem dX3_adds_152 : decode cX3_adds 152 = .ok (.aload_n 0, 1) := dk_42 (dk_at dksX3_adds_6 11 rfl rfl)
theorem dX3_adds_153 : decode cX3_adds 153 = .ok (.iload 5, 2) := dk_21 5 (dk_at dksX3_adds_6 12 rfl rfl)
theorem dX3_adds_155 : decode cX3_adds 155 = .ok (.iconst 3, 1) := dk_6 (dk_at dksX3_adds_6 14 rfl rfl)
theorem dX3_adds_156 : decode cX3_adds 156 = .ok (.iload_n 3, 1) := dk_29 (dk_at dksX3_adds_6 15 rfl rfl)
theorem dX3_adds_157 : decode cX3_adds 157 = .ok (.invokevirtual 51, 3) := dk_182 0 51 (dk_at dksX3_adds_6 16 rfl rfl)
theorem dX3_adds_160 : decode cX3_adds 160 = .ok (.aload_n 0, 1) := dk_42 (dk_at dksX3_adds_6 19 rfl rfl)
theorem dX3_adds_161 : decode cX3_adds 161 = .ok (.iload 5, 2) := dk_21 5 (dk_at dksX3_adds_6 20 rfl rfl)
theorem dX3_adds_163 : decode cX3_adds 163 = .ok (.iconst 4, 1) := dk_7 (dk_at dksX3_adds_6 22 rfl rfl)
theorem dX3_adds_164 : decode cX3_adds 164 = .ok (.aload_n 0, 1) := dk_42 (dk_at dksX3_adds_6 23 rfl rfl)
theorem dX3_adds_165 : decode cX3_adds 165 = .ok (.getfield 9, 3) := dk_180 0 9 (dk_at dksX3_adds_7 0 rfl rfl)
theorem dX3_adds_168 : decode cX3_adds 168 = .ok (.iconst 0, 1) := dk_3 (dk_at dksX3_adds_7 3 rfl rfl)
theorem dX3_adds_169 : decode cX3_adds 169 = .ok (.iaload, 1) := dk_46 (dk_at dksX3_adds_7 4 rfl rfl)
theorem dX3_adds_170 : decode cX3_adds 170 = .ok (.iload 4, 2) := dk_21 4 (dk_at dksX3_adds_7 5 rfl rfl)
theorem dX3_adds_172 : decode cX3_adds 172 = .ok (.iadd, 1) := dk_96 (dk_at dksX3_adds_7 7 rfl rfl)
theorem dX3_adds_173 : decode cX3_adds 173 = .ok (.invokevirtual 51, 3) := dk_182 0 51 (dk_at dksX3_adds_7 8 rfl rfl)
theorem dX3_adds_176 : decode cX3_adds 176 = .ok (.aload_n 0, 1) := dk_42 (dk_at dksX3_adds_7 11 rfl rfl)
theorem dX3_adds_177 : decode cX3_adds 177 = .ok (.getfield 9, 3) := dk_180 0 9 (dk_at dksX3_adds_7 12 rfl rfl)
theorem dX3_adds_180 : decode cX3_adds 180 = .ok (.bipush 118, 2) := dk_16 118 (dk_at dksX3_adds_7 15 rfl rfl)
theorem dX3_adds_182 : decode cX3_adds 182 = .ok (.iload 5, 2) := dk_21 5 (dk_at dksX3_adds_7 17 rfl rfl)
theorem dX3_adds_184 : decode cX3_adds 184 = .ok (.iadd, 1) := dk_96 (dk_at dksX3_adds_7 19 rfl rfl)
theorem dX3_adds_185 : decode cX3_adds 185 = .ok (.aload_n 0, 1) := dk_42 (dk_at dksX3_adds_7 20 rfl rfl)
theorem dX3_adds_186 : decode cX3_adds 186 = .ok (.getfield 40, 3) := dk_180 0 40 (dk_at dksX3_adds_7 21 rfl rfl)
theorem dX3_adds_189 : decode cX3_adds 189 = .ok (.iastore, 1) := dk_79 (dk_at dksX3_adds_8 0 rfl rfl)
theorem dX3_adds_190 : decode cX3_adds 190 = .ok (.iconst 0, 1) := dk_3 (dk_at dksX3_adds_8 1 rfl rfl)
theorem dX3_adds_191 : decode cX3_adds 191 = .ok (.ireturn, 1) := dk_172 (dk_at dksX3_adds_8 2 rfl rfl)
abbrev cX3_isPerson : ByteArray := prog_9_method_15_code
def yX3_isPerson : MethodName := ⟨RX3, "isPerson", "(I)Z"⟩
def dkwX3_isPerson_0 : List UInt8 := [26, 3, 16, 7, 184, 0, 55, 172]
abbrev dktX3_isPerson_0 : List UInt8 := dkwX3_isPerson_0 ++ []
theorem dksX3_isPerson_0 : cX3_isPerson.data.toList.drop 0 = dktX3_isPerson_0 := by decide +kernel
theorem dX3_isPerson_0 : decode cX3_isPerson 0 = .ok (.iload_n 0, 1) := dk_26 (dk_at dksX3_isPerson_0 0 rfl rfl)
theorem dX3_isPerson_1 : decode cX3_isPerson 1 = .ok (.iconst 0, 1) := dk_3 (dk_at dksX3_isPerson_0 1 rfl rfl)
theorem dX3_isPerson_2 : decode cX3_isPerson 2 = .ok (.bipush 7, 2) := dk_16 7 (dk_at dksX3_isPerson_0 2 rfl rfl)
theorem dX3_isPerson_4 : decode cX3_isPerson 4 = .ok (.invokestatic 55, 3) := dk_184 0 55 (dk_at dksX3_isPerson_0 4 rfl rfl)
theorem dX3_isPerson_7 : decode cX3_isPerson 7 = .ok (.ireturn, 1) := dk_172 (dk_at dksX3_isPerson_0 7 rfl rfl)
abbrev cX3_in : ByteArray := prog_9_method_3_code
def yX3_in : MethodName := ⟨RX3, "in", "(III)Z"⟩
def dkwX3_in_0 : List UInt8 := [26, 27, 161, 0, 12, 26, 28, 163, 0, 7, 4, 167, 0, 4, 3, 172]
abbrev dktX3_in_0 : List UInt8 := dkwX3_in_0 ++ []
theorem dksX3_in_0 : cX3_in.data.toList.drop 0 = dktX3_in_0 := by decide +kernel
theorem dX3_in_0 : decode cX3_in 0 = .ok (.iload_n 0, 1) := dk_26 (dk_at dksX3_in_0 0 rfl rfl)
theorem dX3_in_1 : decode cX3_in 1 = .ok (.iload_n 1, 1) := dk_27 (dk_at dksX3_in_0 1 rfl rfl)
theorem dX3_in_2 : decode cX3_in 2 = .ok (.if_icmp .lt 12, 3) := dk_161 0 12 (dk_at dksX3_in_0 2 rfl rfl)
theorem dX3_in_5 : decode cX3_in 5 = .ok (.iload_n 0, 1) := dk_26 (dk_at dksX3_in_0 5 rfl rfl)
theorem dX3_in_6 : decode cX3_in 6 = .ok (.iload_n 2, 1) := dk_28 (dk_at dksX3_in_0 6 rfl rfl)
theorem dX3_in_7 : decode cX3_in 7 = .ok (.if_icmp .gt 7, 3) := dk_163 0 7 (dk_at dksX3_in_0 7 rfl rfl)
theorem dX3_in_10 : decode cX3_in 10 = .ok (.iconst 1, 1) := dk_4 (dk_at dksX3_in_0 10 rfl rfl)
theorem dX3_in_11 : decode cX3_in 11 = .ok (.goto 4, 3) := dk_167 0 4 (dk_at dksX3_in_0 11 rfl rfl)
theorem dX3_in_14 : decode cX3_in 14 = .ok (.iconst 0, 1) := dk_3 (dk_at dksX3_in_0 14 rfl rfl)
theorem dX3_in_15 : decode cX3_in 15 = .ok (.ireturn, 1) := dk_172 (dk_at dksX3_in_0 15 rfl rfl)
abbrev cX3_set : ByteArray := prog_9_method_9_code
def yX3_set : MethodName := ⟨RX3, "set", "(III)V"⟩
def dkwX3_set_0 : List UInt8 := [42, 180, 0, 9, 16, 22, 16, 8, 27, 104, 96, 28, 96, 29, 79, 177]
abbrev dktX3_set_0 : List UInt8 := dkwX3_set_0 ++ []
theorem dksX3_set_0 : cX3_set.data.toList.drop 0 = dktX3_set_0 := by decide +kernel
theorem dX3_set_0 : decode cX3_set 0 = .ok (.aload_n 0, 1) := dk_42 (dk_at dksX3_set_0 0 rfl rfl)
theorem dX3_set_1 : decode cX3_set 1 = .ok (.getfield 9, 3) := dk_180 0 9 (dk_at dksX3_set_0 1 rfl rfl)
theorem dX3_set_4 : decode cX3_set 4 = .ok (.bipush 22, 2) := dk_16 22 (dk_at dksX3_set_0 4 rfl rfl)
theorem dX3_set_6 : decode cX3_set 6 = .ok (.bipush 8, 2) := dk_16 8 (dk_at dksX3_set_0 6 rfl rfl)
theorem dX3_set_8 : decode cX3_set 8 = .ok (.iload_n 1, 1) := dk_27 (dk_at dksX3_set_0 8 rfl rfl)
theorem dX3_set_9 : decode cX3_set 9 = .ok (.imul, 1) := dk_104 (dk_at dksX3_set_0 9 rfl rfl)
theorem dX3_set_10 : decode cX3_set 10 = .ok (.iadd, 1) := dk_96 (dk_at dksX3_set_0 10 rfl rfl)
theorem dX3_set_11 : decode cX3_set 11 = .ok (.iload_n 2, 1) := dk_28 (dk_at dksX3_set_0 11 rfl rfl)
theorem dX3_set_12 : decode cX3_set 12 = .ok (.iadd, 1) := dk_96 (dk_at dksX3_set_0 12 rfl rfl)
theorem dX3_set_13 : decode cX3_set 13 = .ok (.iload_n 3, 1) := dk_29 (dk_at dksX3_set_0 13 rfl rfl)
theorem dX3_set_14 : decode cX3_set 14 = .ok (.iastore, 1) := dk_79 (dk_at dksX3_set_0 14 rfl rfl)
theorem dX3_set_15 : decode cX3_set 15 = .ok (.return_, 1) := dk_177 (dk_at dksX3_set_0 15 rfl rfl)
abbrev cX3_ends : ByteArray := prog_9_method_6_code
def yX3_ends : MethodName := ⟨RX3, "ends", "(IIII)I"⟩
def dkwX3_ends_4 : List UInt8 := [180, 0, 37, 4, 96, 181, 0, 37, 42, 16, 10, 42, 180, 0, 37, 182, 0, 33, 42, 180, 0, 40, 172]
abbrev dktX3_ends_4 : List UInt8 := dkwX3_ends_4 ++ []
def dkwX3_ends_3 : List UInt8 := [96, 21, 5, 182, 0, 33, 132, 5, 1, 167, 255, 236, 42, 89, 180, 0, 37, 4, 100, 181, 0, 37, 42, 89]
abbrev dktX3_ends_3 : List UInt8 := dkwX3_ends_3 ++ dktX3_ends_4
def dkwX3_ends_2 : List UInt8 := [172, 42, 180, 0, 37, 16, 8, 160, 0, 39, 4, 54, 5, 21, 5, 16, 8, 162, 0, 19, 42, 21, 5, 4]
abbrev dktX3_ends_2 : List UInt8 := dkwX3_ends_2 ++ dktX3_ends_3
def dkwX3_ends_1 : List UInt8 := [21, 4, 167, 0, 4, 3, 181, 0, 30, 42, 180, 0, 30, 153, 0, 12, 42, 16, 10, 3, 182, 0, 33, 3]
abbrev dktX3_ends_1 : List UInt8 := dkwX3_ends_1 ++ dktX3_ends_2
def dkwX3_ends_0 : List UInt8 := [42, 27, 4, 160, 0, 7, 28, 167, 0, 23, 27, 5, 160, 0, 7, 29, 167, 0, 14, 27, 6, 160, 0, 8]
abbrev dktX3_ends_0 : List UInt8 := dkwX3_ends_0 ++ dktX3_ends_1
theorem dksX3_ends_0 : cX3_ends.data.toList.drop 0 = dktX3_ends_0 := by decide +kernel
theorem dksX3_ends_1 : cX3_ends.data.toList.drop 24 = dktX3_ends_1 := dk_seg dksX3_ends_0 24 rfl rfl
theorem dksX3_ends_2 : cX3_ends.data.toList.drop 48 = dktX3_ends_2 := dk_seg dksX3_ends_1 24 rfl rfl
theorem dksX3_ends_3 : cX3_ends.data.toList.drop 72 = dktX3_ends_3 := dk_seg dksX3_ends_2 24 rfl rfl
theorem dksX3_ends_4 : cX3_ends.data.toList.drop 96 = dktX3_ends_4 := dk_seg dksX3_ends_3 24 rfl rfl
theorem dX3_ends_0 : decode cX3_ends 0 = .ok (.aload_n 0, 1) := dk_42 (dk_at dksX3_ends_0 0 rfl rfl)
theorem dX3_ends_1 : decode cX3_ends 1 = .ok (.iload_n 1, 1) := dk_27 (dk_at dksX3_ends_0 1 rfl rfl)
theorem dX3_ends_2 : decode cX3_ends 2 = .ok (.iconst 1, 1) := dk_4 (dk_at dksX3_ends_0 2 rfl rfl)
theorem dX3_ends_3 : decode cX3_ends 3 = .ok (.if_icmp .ne 7, 3) := dk_160 0 7 (dk_at dksX3_ends_0 3 rfl rfl)
theorem dX3_ends_6 : decode cX3_ends 6 = .ok (.iload_n 2, 1) := dk_28 (dk_at dksX3_ends_0 6 rfl rfl)
theorem dX3_ends_7 : decode cX3_ends 7 = .ok (.goto 23, 3) := dk_167 0 23 (dk_at dksX3_ends_0 7 rfl rfl)
theorem dX3_ends_10 : decode cX3_ends 10 = .ok (.iload_n 1, 1) := dk_27 (dk_at dksX3_ends_0 10 rfl rfl)
theorem dX3_ends_11 : decode cX3_ends 11 = .ok (.iconst 2, 1) := dk_5 (dk_at dksX3_ends_0 11 rfl rfl)
theorem dX3_ends_12 : decode cX3_ends 12 = .ok (.if_icmp .ne 7, 3) := dk_160 0 7 (dk_at dksX3_ends_0 12 rfl rfl)
theorem dX3_ends_15 : decode cX3_ends 15 = .ok (.iload_n 3, 1) := dk_29 (dk_at dksX3_ends_0 15 rfl rfl)
theorem dX3_ends_16 : decode cX3_ends 16 = .ok (.goto 14, 3) := dk_167 0 14 (dk_at dksX3_ends_0 16 rfl rfl)
theorem dX3_ends_19 : decode cX3_ends 19 = .ok (.iload_n 1, 1) := dk_27 (dk_at dksX3_ends_0 19 rfl rfl)
theorem dX3_ends_20 : decode cX3_ends 20 = .ok (.iconst 3, 1) := dk_6 (dk_at dksX3_ends_0 20 rfl rfl)
theorem dX3_ends_21 : decode cX3_ends 21 = .ok (.if_icmp .ne 8, 3) := dk_160 0 8 (dk_at dksX3_ends_0 21 rfl rfl)
theorem dX3_ends_24 : decode cX3_ends 24 = .ok (.iload 4, 2) := dk_21 4 (dk_at dksX3_ends_1 0 rfl rfl)
theorem dX3_ends_26 : decode cX3_ends 26 = .ok (.goto 4, 3) := dk_167 0 4 (dk_at dksX3_ends_1 2 rfl rfl)
theorem dX3_ends_29 : decode cX3_ends 29 = .ok (.iconst 0, 1) := dk_3 (dk_at dksX3_ends_1 5 rfl rfl)
theorem dX3_ends_30 : decode cX3_ends 30 = .ok (.putfield 30, 3) := dk_181 0 30 (dk_at dksX3_ends_1 6 rfl rfl)
theorem dX3_ends_33 : decode cX3_ends 33 = .ok (.aload_n 0, 1) := dk_42 (dk_at dksX3_ends_1 9 rfl rfl)
theorem dX3_ends_34 : decode cX3_ends 34 = .ok (.getfield 30, 3) := dk_180 0 30 (dk_at dksX3_ends_1 10 rfl rfl)
theorem dX3_ends_37 : decode cX3_ends 37 = .ok (.ifCond .eq 12, 3) := dk_153 0 12 (dk_at dksX3_ends_1 13 rfl rfl)
theorem dX3_ends_40 : decode cX3_ends 40 = .ok (.aload_n 0, 1) := dk_42 (dk_at dksX3_ends_1 16 rfl rfl)
theorem dX3_ends_41 : decode cX3_ends 41 = .ok (.bipush 10, 2) := dk_16 10 (dk_at dksX3_ends_1 17 rfl rfl)
theorem dX3_ends_43 : decode cX3_ends 43 = .ok (.iconst 0, 1) := dk_3 (dk_at dksX3_ends_1 19 rfl rfl)
theorem dX3_ends_44 : decode cX3_ends 44 = .ok (.invokevirtual 33, 3) := dk_182 0 33 (dk_at dksX3_ends_1 20 rfl rfl)
theorem dX3_ends_47 : decode cX3_ends 47 = .ok (.iconst 0, 1) := dk_3 (dk_at dksX3_ends_1 23 rfl rfl)
theorem dX3_ends_48 : decode cX3_ends 48 = .ok (.ireturn, 1) := dk_172 (dk_at dksX3_ends_2 0 rfl rfl)
theorem dX3_ends_49 : decode cX3_ends 49 = .ok (.aload_n 0, 1) := dk_42 (dk_at dksX3_ends_2 1 rfl rfl)
theorem dX3_ends_50 : decode cX3_ends 50 = .ok (.getfield 37, 3) := dk_180 0 37 (dk_at dksX3_ends_2 2 rfl rfl)
theorem dX3_ends_53 : decode cX3_ends 53 = .ok (.bipush 8, 2) := dk_16 8 (dk_at dksX3_ends_2 5 rfl rfl)
theorem dX3_ends_55 : decode cX3_ends 55 = .ok (.if_icmp .ne 39, 3) := dk_160 0 39 (dk_at dksX3_ends_2 7 rfl rfl)
theorem dX3_ends_58 : decode cX3_ends 58 = .ok (.iconst 1, 1) := dk_4 (dk_at dksX3_ends_2 10 rfl rfl)
theorem dX3_ends_59 : decode cX3_ends 59 = .ok (.istore 5, 2) := dk_54 5 (dk_at dksX3_ends_2 11 rfl rfl)
theorem dX3_ends_61 : decode cX3_ends 61 = .ok (.iload 5, 2) := dk_21 5 (dk_at dksX3_ends_2 13 rfl rfl)
theorem dX3_ends_63 : decode cX3_ends 63 = .ok (.bipush 8, 2) := dk_16 8 (dk_at dksX3_ends_2 15 rfl rfl)
theorem dX3_ends_65 : decode cX3_ends 65 = .ok (.if_icmp .ge 19, 3) := dk_162 0 19 (dk_at dksX3_ends_2 17 rfl rfl)
theorem dX3_ends_68 : decode cX3_ends 68 = .ok (.aload_n 0, 1) := dk_42 (dk_at dksX3_ends_2 20 rfl rfl)
theorem dX3_ends_69 : decode cX3_ends 69 = .ok (.iload 5, 2) := dk_21 5 (dk_at dksX3_ends_2 21 rfl rfl)
theorem dX3_ends_71 : decode cX3_ends 71 = .ok (.iconst 1, 1) := dk_4 (dk_at dksX3_ends_2 23 rfl rfl)
theorem dX3_ends_72 : decode cX3_ends 72 = .ok (.iadd, 1) := dk_96 (dk_at dksX3_ends_3 0 rfl rfl)
theorem dX3_ends_73 : decode cX3_ends 73 = .ok (.iload 5, 2) := dk_21 5 (dk_at dksX3_ends_3 1 rfl rfl)
theorem dX3_ends_75 : decode cX3_ends 75 = .ok (.invokevirtual 33, 3) := dk_182 0 33 (dk_at dksX3_ends_3 3 rfl rfl)
theorem dX3_ends_78 : decode cX3_ends 78 = .ok (.iinc 5 1, 3) := dk_132 5 1 (dk_at dksX3_ends_3 6 rfl rfl)
theorem dX3_ends_81 : decode cX3_ends 81 = .ok (.goto (-20), 3) := dk_167 255 236 (dk_at dksX3_ends_3 9 rfl rfl)
theorem dX3_ends_84 : decode cX3_ends 84 = .ok (.aload_n 0, 1) := dk_42 (dk_at dksX3_ends_3 12 rfl rfl)
theorem dX3_ends_85 : decode cX3_ends 85 = .ok (.dup, 1) := dk_89 (dk_at dksX3_ends_3 13 rfl rfl)
theorem dX3_ends_86 : decode cX3_ends 86 = .ok (.getfield 37, 3) := dk_180 0 37 (dk_at dksX3_ends_3 14 rfl rfl)
theorem dX3_ends_89 : decode cX3_ends 89 = .ok (.iconst 1, 1) := dk_4 (dk_at dksX3_ends_3 17 rfl rfl)
theorem dX3_ends_90 : decode cX3_ends 90 = .ok (.isub, 1) := dk_100 (dk_at dksX3_ends_3 18 rfl rfl)
theorem dX3_ends_91 : decode cX3_ends 91 = .ok (.putfield 37, 3) := dk_181 0 37 (dk_at dksX3_ends_3 19 rfl rfl)
theorem dX3_ends_94 : decode cX3_ends 94 = .ok (.aload_n 0, 1) := dk_42 (dk_at dksX3_ends_3 22 rfl rfl)
theorem dX3_ends_95 : decode cX3_ends 95 = .ok (.dup, 1) := dk_89 (dk_at dksX3_ends_3 23 rfl rfl)
theorem dX3_ends_96 : decode cX3_ends 96 = .ok (.getfield 37, 3) := dk_180 0 37 (dk_at dksX3_ends_4 0 rfl rfl)
theorem dX3_ends_99 : decode cX3_ends 99 = .ok (.iconst 1, 1) := dk_4 (dk_at dksX3_ends_4 3 rfl rfl)
theorem dX3_ends_100 : decode cX3_ends 100 = .ok (.iadd, 1) := dk_96 (dk_at dksX3_ends_4 4 rfl rfl)
theorem dX3_ends_101 : decode cX3_ends 101 = .ok (.putfield 37, 3) := dk_181 0 37 (dk_at dksX3_ends_4 5 rfl rfl)
theorem dX3_ends_104 : decode cX3_ends 104 = .ok (.aload_n 0, 1) := dk_42 (dk_at dksX3_ends_4 8 rfl rfl)
theorem dX3_ends_105 : decode cX3_ends 105 = .ok (.bipush 10, 2) := dk_16 10 (dk_at dksX3_ends_4 9 rfl rfl)
theorem dX3_ends_107 : decode cX3_ends 107 = .ok (.aload_n 0, 1) := dk_42 (dk_at dksX3_ends_4 11 rfl rfl)
theorem dX3_ends_108 : decode cX3_ends 108 = .ok (.getfield 37, 3) := dk_180 0 37 (dk_at dksX3_ends_4 12 rfl rfl)
theorem dX3_ends_111 : decode cX3_ends 111 = .ok (.invokevirtual 33, 3) := dk_182 0 33 (dk_at dksX3_ends_4 15 rfl rfl)
theorem dX3_ends_114 : decode cX3_ends 114 = .ok (.aload_n 0, 1) := dk_42 (dk_at dksX3_ends_4 18 rfl rfl)
theorem dX3_ends_115 : decode cX3_ends 115 = .ok (.getfield 40, 3) := dk_180 0 40 (dk_at dksX3_ends_4 19 rfl rfl)
theorem dX3_ends_118 : decode cX3_ends 118 = .ok (.ireturn, 1) := dk_172 (dk_at dksX3_ends_4 22 rfl rfl)
abbrev cX3_sign : ByteArray := prog_9_method_21_code
def yX3_sign : MethodName := ⟨RX3, "sign", "(II)I"⟩
def dkwX3_sign_0 : List UInt8 := [42, 182, 0, 63, 42, 42, 27, 28, 182, 0, 83, 4, 5, 6, 182, 0, 70, 172]
abbrev dktX3_sign_0 : List UInt8 := dkwX3_sign_0 ++ []
theorem dksX3_sign_0 : cX3_sign.data.toList.drop 0 = dktX3_sign_0 := by decide +kernel
theorem dX3_sign_0 : decode cX3_sign 0 = .ok (.aload_n 0, 1) := dk_42 (dk_at dksX3_sign_0 0 rfl rfl)
theorem dX3_sign_1 : decode cX3_sign 1 = .ok (.invokevirtual 63, 3) := dk_182 0 63 (dk_at dksX3_sign_0 1 rfl rfl)
theorem dX3_sign_4 : decode cX3_sign 4 = .ok (.aload_n 0, 1) := dk_42 (dk_at dksX3_sign_0 4 rfl rfl)
theorem dX3_sign_5 : decode cX3_sign 5 = .ok (.aload_n 0, 1) := dk_42 (dk_at dksX3_sign_0 5 rfl rfl)
theorem dX3_sign_6 : decode cX3_sign 6 = .ok (.iload_n 1, 1) := dk_27 (dk_at dksX3_sign_0 6 rfl rfl)
theorem dX3_sign_7 : decode cX3_sign 7 = .ok (.iload_n 2, 1) := dk_28 (dk_at dksX3_sign_0 7 rfl rfl)
theorem dX3_sign_8 : decode cX3_sign 8 = .ok (.invokevirtual 83, 3) := dk_182 0 83 (dk_at dksX3_sign_0 8 rfl rfl)
theorem dX3_sign_11 : decode cX3_sign 11 = .ok (.iconst 1, 1) := dk_4 (dk_at dksX3_sign_0 11 rfl rfl)
theorem dX3_sign_12 : decode cX3_sign 12 = .ok (.iconst 2, 1) := dk_5 (dk_at dksX3_sign_0 12 rfl rfl)
theorem dX3_sign_13 : decode cX3_sign 13 = .ok (.iconst 3, 1) := dk_6 (dk_at dksX3_sign_0 13 rfl rfl)
theorem dX3_sign_14 : decode cX3_sign 14 = .ok (.invokevirtual 70, 3) := dk_182 0 70 (dk_at dksX3_sign_0 14 rfl rfl)
theorem dX3_sign_17 : decode cX3_sign 17 = .ok (.ireturn, 1) := dk_172 (dk_at dksX3_sign_0 17 rfl rfl)
abbrev cX3_signs : ByteArray := prog_9_method_20_code
def yX3_signs : MethodName := ⟨RX3, "signs", "(II)I"⟩
def dkwX3_signs_2 : List UInt8 := [182, 0, 43, 8, 96, 28, 96, 181, 0, 40, 42, 29, 7, 42, 180, 0, 40, 182, 0, 51, 3, 172]
abbrev dktX3_signs_2 : List UInt8 := dkwX3_signs_2 ++ []
def dkwX3_signs_1 : List UInt8 := [29, 28, 182, 0, 79, 154, 0, 5, 6, 172, 42, 29, 16, 6, 28, 4, 96, 182, 0, 51, 42, 42, 29, 7]
abbrev dktX3_signs_1 : List UInt8 := dkwX3_signs_1 ++ dktX3_signs_2
def dkwX3_signs_0 : List UInt8 := [42, 27, 182, 0, 76, 62, 29, 156, 0, 5, 4, 172, 28, 3, 6, 184, 0, 55, 154, 0, 5, 5, 172, 42]
abbrev dktX3_signs_0 : List UInt8 := dkwX3_signs_0 ++ dktX3_signs_1
theorem dksX3_signs_0 : cX3_signs.data.toList.drop 0 = dktX3_signs_0 := by decide +kernel
theorem dksX3_signs_1 : cX3_signs.data.toList.drop 24 = dktX3_signs_1 := dk_seg dksX3_signs_0 24 rfl rfl
theorem dksX3_signs_2 : cX3_signs.data.toList.drop 48 = dktX3_signs_2 := dk_seg dksX3_signs_1 24 rfl rfl
theorem dX3_signs_0 : decode cX3_signs 0 = .ok (.aload_n 0, 1) := dk_42 (dk_at dksX3_signs_0 0 rfl rfl)
theorem dX3_signs_1 : decode cX3_signs 1 = .ok (.iload_n 1, 1) := dk_27 (dk_at dksX3_signs_0 1 rfl rfl)
theorem dX3_signs_2 : decode cX3_signs 2 = .ok (.invokevirtual 76, 3) := dk_182 0 76 (dk_at dksX3_signs_0 2 rfl rfl)
theorem dX3_signs_5 : decode cX3_signs 5 = .ok (.istore_n 3, 1) := dk_62 (dk_at dksX3_signs_0 5 rfl rfl)
theorem dX3_signs_6 : decode cX3_signs 6 = .ok (.iload_n 3, 1) := dk_29 (dk_at dksX3_signs_0 6 rfl rfl)
theorem dX3_signs_7 : decode cX3_signs 7 = .ok (.ifCond .ge 5, 3) := dk_156 0 5 (dk_at dksX3_signs_0 7 rfl rfl)
theorem dX3_signs_10 : decode cX3_signs 10 = .ok (.iconst 1, 1) := dk_4 (dk_at dksX3_signs_0 10 rfl rfl)
theorem dX3_signs_11 : decode cX3_signs 11 = .ok (.ireturn, 1) := dk_172 (dk_at dksX3_signs_0 11 rfl rfl)
theorem dX3_signs_12 : decode cX3_signs 12 = .ok (.iload_n 2, 1) := dk_28 (dk_at dksX3_signs_0 12 rfl rfl)
theorem dX3_signs_13 : decode cX3_signs 13 = .ok (.iconst 0, 1) := dk_3 (dk_at dksX3_signs_0 13 rfl rfl)
theorem dX3_signs_14 : decode cX3_signs 14 = .ok (.iconst 3, 1) := dk_6 (dk_at dksX3_signs_0 14 rfl rfl)
theorem dX3_signs_15 : decode cX3_signs 15 = .ok (.invokestatic 55, 3) := dk_184 0 55 (dk_at dksX3_signs_0 15 rfl rfl)
theorem dX3_signs_18 : decode cX3_signs 18 = .ok (.ifCond .ne 5, 3) := dk_154 0 5 (dk_at dksX3_signs_0 18 rfl rfl)
theorem dX3_signs_21 : decode cX3_signs 21 = .ok (.iconst 2, 1) := dk_5 (dk_at dksX3_signs_0 21 rfl rfl)
theorem dX3_signs_22 : decode cX3_signs 22 = .ok (.ireturn, 1) := dk_172 (dk_at dksX3_signs_0 22 rfl rfl)
theorem dX3_signs_23 : decode cX3_signs 23 = .ok (.aload_n 0, 1) := dk_42 (dk_at dksX3_signs_0 23 rfl rfl)
theorem dX3_signs_24 : decode cX3_signs 24 = .ok (.iload_n 3, 1) := dk_29 (dk_at dksX3_signs_1 0 rfl rfl)
theorem dX3_signs_25 : decode cX3_signs 25 = .ok (.iload_n 2, 1) := dk_28 (dk_at dksX3_signs_1 1 rfl rfl)
theorem dX3_signs_26 : decode cX3_signs 26 = .ok (.invokevirtual 79, 3) := dk_182 0 79 (dk_at dksX3_signs_1 2 rfl rfl)
theorem dX3_signs_29 : decode cX3_signs 29 = .ok (.ifCond .ne 5, 3) := dk_154 0 5 (dk_at dksX3_signs_1 5 rfl rfl)
theorem dX3_signs_32 : decode cX3_signs 32 = .ok (.iconst 3, 1) := dk_6 (dk_at dksX3_signs_1 8 rfl rfl)
theorem dX3_signs_33 : decode cX3_signs 33 = .ok (.ireturn, 1) := dk_172 (dk_at dksX3_signs_1 9 rfl rfl)
theorem dX3_signs_34 : decode cX3_signs 34 = .ok (.aload_n 0, 1) := dk_42 (dk_at dksX3_signs_1 10 rfl rfl)
theorem dX3_signs_35 : decode cX3_signs 35 = .ok (.iload_n 3, 1) := dk_29 (dk_at dksX3_signs_1 11 rfl rfl)
theorem dX3_signs_36 : decode cX3_signs 36 = .ok (.bipush 6, 2) := dk_16 6 (dk_at dksX3_signs_1 12 rfl rfl)
theorem dX3_signs_38 : decode cX3_signs 38 = .ok (.iload_n 2, 1) := dk_28 (dk_at dksX3_signs_1 14 rfl rfl)
theorem dX3_signs_39 : decode cX3_signs 39 = .ok (.iconst 1, 1) := dk_4 (dk_at dksX3_signs_1 15 rfl rfl)
theorem dX3_signs_40 : decode cX3_signs 40 = .ok (.iadd, 1) := dk_96 (dk_at dksX3_signs_1 16 rfl rfl)
theorem dX3_signs_41 : decode cX3_signs 41 = .ok (.invokevirtual 51, 3) := dk_182 0 51 (dk_at dksX3_signs_1 17 rfl rfl)
theorem dX3_signs_44 : decode cX3_signs 44 = .ok (.aload_n 0, 1) := dk_42 (dk_at dksX3_signs_1 20 rfl rfl)
theorem dX3_signs_45 : decode cX3_signs 45 = .ok (.aload_n 0, 1) := dk_42 (dk_at dksX3_signs_1 21 rfl rfl)
theorem dX3_signs_46 : decode cX3_signs 46 = .ok (.iload_n 3, 1) := dk_29 (dk_at dksX3_signs_1 22 rfl rfl)
theorem dX3_signs_47 : decode cX3_signs 47 = .ok (.iconst 4, 1) := dk_7 (dk_at dksX3_signs_1 23 rfl rfl)
theorem dX3_signs_48 : decode cX3_signs 48 = .ok (.invokevirtual 43, 3) := dk_182 0 43 (dk_at dksX3_signs_2 0 rfl rfl)
theorem dX3_signs_51 : decode cX3_signs 51 = .ok (.iconst 5, 1) := dk_8 (dk_at dksX3_signs_2 3 rfl rfl)
theorem dX3_signs_52 : decode cX3_signs 52 = .ok (.iadd, 1) := dk_96 (dk_at dksX3_signs_2 4 rfl rfl)
theorem dX3_signs_53 : decode cX3_signs 53 = .ok (.iload_n 2, 1) := dk_28 (dk_at dksX3_signs_2 5 rfl rfl)
theorem dX3_signs_54 : decode cX3_signs 54 = .ok (.iadd, 1) := dk_96 (dk_at dksX3_signs_2 6 rfl rfl)
theorem dX3_signs_55 : decode cX3_signs 55 = .ok (.putfield 40, 3) := dk_181 0 40 (dk_at dksX3_signs_2 7 rfl rfl)
theorem dX3_signs_58 : decode cX3_signs 58 = .ok (.aload_n 0, 1) := dk_42 (dk_at dksX3_signs_2 10 rfl rfl)
theorem dX3_signs_59 : decode cX3_signs 59 = .ok (.iload_n 3, 1) := dk_29 (dk_at dksX3_signs_2 11 rfl rfl)
theorem dX3_signs_60 : decode cX3_signs 60 = .ok (.iconst 4, 1) := dk_7 (dk_at dksX3_signs_2 12 rfl rfl)
theorem dX3_signs_61 : decode cX3_signs 61 = .ok (.aload_n 0, 1) := dk_42 (dk_at dksX3_signs_2 13 rfl rfl)
theorem dX3_signs_62 : decode cX3_signs 62 = .ok (.getfield 40, 3) := dk_180 0 40 (dk_at dksX3_signs_2 14 rfl rfl)
theorem dX3_signs_65 : decode cX3_signs 65 = .ok (.invokevirtual 51, 3) := dk_182 0 51 (dk_at dksX3_signs_2 17 rfl rfl)
theorem dX3_signs_68 : decode cX3_signs 68 = .ok (.iconst 0, 1) := dk_3 (dk_at dksX3_signs_2 20 rfl rfl)
theorem dX3_signs_69 : decode cX3_signs 69 = .ok (.ireturn, 1) := dk_172 (dk_at dksX3_signs_2 21 rfl rfl)
abbrev cX3_find : ByteArray := prog_9_method_10_code
def yX3_find : MethodName := ⟨RX3, "find", "(I)I"⟩
def dkwX3_find_1 : List UInt8 := [132, 2, 1, 167, 255, 231, 2, 172]
abbrev dktX3_find_1 : List UInt8 := dkwX3_find_1 ++ []
def dkwX3_find_0 : List UInt8 := [3, 61, 28, 42, 180, 0, 9, 5, 46, 162, 0, 21, 42, 28, 3, 182, 0, 43, 27, 160, 0, 5, 28, 172]
abbrev dktX3_find_0 : List UInt8 := dkwX3_find_0 ++ dktX3_find_1
theorem dksX3_find_0 : cX3_find.data.toList.drop 0 = dktX3_find_0 := by decide +kernel
theorem dksX3_find_1 : cX3_find.data.toList.drop 24 = dktX3_find_1 := dk_seg dksX3_find_0 24 rfl rfl
theorem dX3_find_0 : decode cX3_find 0 = .ok (.iconst 0, 1) := dk_3 (dk_at dksX3_find_0 0 rfl rfl)
theorem dX3_find_1 : decode cX3_find 1 = .ok (.istore_n 2, 1) := dk_61 (dk_at dksX3_find_0 1 rfl rfl)
theorem dX3_find_2 : decode cX3_find 2 = .ok (.iload_n 2, 1) := dk_28 (dk_at dksX3_find_0 2 rfl rfl)
theorem dX3_find_3 : decode cX3_find 3 = .ok (.aload_n 0, 1) := dk_42 (dk_at dksX3_find_0 3 rfl rfl)
theorem dX3_find_4 : decode cX3_find 4 = .ok (.getfield 9, 3) := dk_180 0 9 (dk_at dksX3_find_0 4 rfl rfl)
theorem dX3_find_7 : decode cX3_find 7 = .ok (.iconst 2, 1) := dk_5 (dk_at dksX3_find_0 7 rfl rfl)
theorem dX3_find_8 : decode cX3_find 8 = .ok (.iaload, 1) := dk_46 (dk_at dksX3_find_0 8 rfl rfl)
theorem dX3_find_9 : decode cX3_find 9 = .ok (.if_icmp .ge 21, 3) := dk_162 0 21 (dk_at dksX3_find_0 9 rfl rfl)
theorem dX3_find_12 : decode cX3_find 12 = .ok (.aload_n 0, 1) := dk_42 (dk_at dksX3_find_0 12 rfl rfl)
theorem dX3_find_13 : decode cX3_find 13 = .ok (.iload_n 2, 1) := dk_28 (dk_at dksX3_find_0 13 rfl rfl)
theorem dX3_find_14 : decode cX3_find 14 = .ok (.iconst 0, 1) := dk_3 (dk_at dksX3_find_0 14 rfl rfl)
theorem dX3_find_15 : decode cX3_find 15 = .ok (.invokevirtual 43, 3) := dk_182 0 43 (dk_at dksX3_find_0 15 rfl rfl)
theorem dX3_find_18 : decode cX3_find 18 = .ok (.iload_n 1, 1) := dk_27 (dk_at dksX3_find_0 18 rfl rfl)
theorem dX3_find_19 : decode cX3_find 19 = .ok (.if_icmp .ne 5, 3) := dk_160 0 5 (dk_at dksX3_find_0 19 rfl rfl)
theorem dX3_find_22 : decode cX3_find 22 = .ok (.iload_n 2, 1) := dk_28 (dk_at dksX3_find_0 22 rfl rfl)
theorem dX3_find_23 : decode cX3_find 23 = .ok (.ireturn, 1) := dk_172 (dk_at dksX3_find_0 23 rfl rfl)
theorem dX3_find_24 : decode cX3_find 24 = .ok (.iinc 2 1, 3) := dk_132 2 1 (dk_at dksX3_find_1 0 rfl rfl)
theorem dX3_find_27 : decode cX3_find 27 = .ok (.goto (-25), 3) := dk_167 255 231 (dk_at dksX3_find_1 3 rfl rfl)
theorem dX3_find_30 : decode cX3_find 30 = .ok (.iconst (-1), 1) := dk_2 (dk_at dksX3_find_1 6 rfl rfl)
theorem dX3_find_31 : decode cX3_find 31 = .ok (.ireturn, 1) := dk_172 (dk_at dksX3_find_1 7 rfl rfl)
abbrev cX3_c : ByteArray := prog_9_method_8_code
def yX3_c : MethodName := ⟨RX3, "c", "(II)I"⟩
def dkwX3_c_0 : List UInt8 := [42, 180, 0, 9, 16, 22, 16, 8, 27, 104, 96, 28, 96, 46, 172]
abbrev dktX3_c_0 : List UInt8 := dkwX3_c_0 ++ []
theorem dksX3_c_0 : cX3_c.data.toList.drop 0 = dktX3_c_0 := by decide +kernel
theorem dX3_c_0 : decode cX3_c 0 = .ok (.aload_n 0, 1) := dk_42 (dk_at dksX3_c_0 0 rfl rfl)
theorem dX3_c_1 : decode cX3_c 1 = .ok (.getfield 9, 3) := dk_180 0 9 (dk_at dksX3_c_0 1 rfl rfl)
theorem dX3_c_4 : decode cX3_c 4 = .ok (.bipush 22, 2) := dk_16 22 (dk_at dksX3_c_0 4 rfl rfl)
theorem dX3_c_6 : decode cX3_c 6 = .ok (.bipush 8, 2) := dk_16 8 (dk_at dksX3_c_0 6 rfl rfl)
theorem dX3_c_8 : decode cX3_c 8 = .ok (.iload_n 1, 1) := dk_27 (dk_at dksX3_c_0 8 rfl rfl)
theorem dX3_c_9 : decode cX3_c 9 = .ok (.imul, 1) := dk_104 (dk_at dksX3_c_0 9 rfl rfl)
theorem dX3_c_10 : decode cX3_c 10 = .ok (.iadd, 1) := dk_96 (dk_at dksX3_c_0 10 rfl rfl)
theorem dX3_c_11 : decode cX3_c 11 = .ok (.iload_n 2, 1) := dk_28 (dk_at dksX3_c_0 11 rfl rfl)
theorem dX3_c_12 : decode cX3_c 12 = .ok (.iadd, 1) := dk_96 (dk_at dksX3_c_0 12 rfl rfl)
theorem dX3_c_13 : decode cX3_c 13 = .ok (.iaload, 1) := dk_46 (dk_at dksX3_c_0 13 rfl rfl)
theorem dX3_c_14 : decode cX3_c 14 = .ok (.ireturn, 1) := dk_172 (dk_at dksX3_c_0 14 rfl rfl)
abbrev cX3_maySign : ByteArray := prog_9_method_18_code
def yX3_maySign : MethodName := ⟨RX3, "maySign", "(II)Z"⟩
def dkwX3_maySign_1 : List UInt8 := [167, 0, 4, 3, 172]
abbrev dktX3_maySign_1 : List UInt8 := dkwX3_maySign_1 ++ []
def dkwX3_maySign_0 : List UInt8 := [42, 27, 16, 6, 182, 0, 43, 154, 0, 18, 42, 16, 6, 28, 182, 0, 73, 6, 162, 0, 7, 4]
abbrev dktX3_maySign_0 : List UInt8 := dkwX3_maySign_0 ++ dktX3_maySign_1
theorem dksX3_maySign_0 : cX3_maySign.data.toList.drop 0 = dktX3_maySign_0 := by decide +kernel
theorem dksX3_maySign_1 : cX3_maySign.data.toList.drop 22 = dktX3_maySign_1 := dk_seg dksX3_maySign_0 22 rfl rfl
theorem dX3_maySign_0 : decode cX3_maySign 0 = .ok (.aload_n 0, 1) := dk_42 (dk_at dksX3_maySign_0 0 rfl rfl)
theorem dX3_maySign_1 : decode cX3_maySign 1 = .ok (.iload_n 1, 1) := dk_27 (dk_at dksX3_maySign_0 1 rfl rfl)
theorem dX3_maySign_2 : decode cX3_maySign 2 = .ok (.bipush 6, 2) := dk_16 6 (dk_at dksX3_maySign_0 2 rfl rfl)
theorem dX3_maySign_4 : decode cX3_maySign 4 = .ok (.invokevirtual 43, 3) := dk_182 0 43 (dk_at dksX3_maySign_0 4 rfl rfl)
theorem dX3_maySign_7 : decode cX3_maySign 7 = .ok (.ifCond .ne 18, 3) := dk_154 0 18 (dk_at dksX3_maySign_0 7 rfl rfl)
theorem dX3_maySign_10 : decode cX3_maySign 10 = .ok (.aload_n 0, 1) := dk_42 (dk_at dksX3_maySign_0 10 rfl rfl)
theorem dX3_maySign_11 : decode cX3_maySign 11 = .ok (.bipush 6, 2) := dk_16 6 (dk_at dksX3_maySign_0 11 rfl rfl)
theorem dX3_maySign_13 : decode cX3_maySign 13 = .ok (.iload_n 2, 1) := dk_28 (dk_at dksX3_maySign_0 13 rfl rfl)
theorem dX3_maySign_14 : decode cX3_maySign 14 = .ok (.invokevirtual 73, 3) := dk_182 0 73 (dk_at dksX3_maySign_0 14 rfl rfl)
theorem dX3_maySign_17 : decode cX3_maySign 17 = .ok (.iconst 3, 1) := dk_6 (dk_at dksX3_maySign_0 17 rfl rfl)
theorem dX3_maySign_18 : decode cX3_maySign 18 = .ok (.if_icmp .ge 7, 3) := dk_162 0 7 (dk_at dksX3_maySign_0 18 rfl rfl)
theorem dX3_maySign_21 : decode cX3_maySign 21 = .ok (.iconst 1, 1) := dk_4 (dk_at dksX3_maySign_0 21 rfl rfl)
theorem dX3_maySign_22 : decode cX3_maySign 22 = .ok (.goto 4, 3) := dk_167 0 4 (dk_at dksX3_maySign_1 0 rfl rfl)
theorem dX3_maySign_25 : decode cX3_maySign 25 = .ok (.iconst 0, 1) := dk_3 (dk_at dksX3_maySign_1 3 rfl rfl)
theorem dX3_maySign_26 : decode cX3_maySign 26 = .ok (.ireturn, 1) := dk_172 (dk_at dksX3_maySign_1 4 rfl rfl)
abbrev cX3_signedBy : ByteArray := prog_9_method_12_code
def yX3_signedBy : MethodName := ⟨RX3, "signedBy", "(II)I"⟩
def dkwX3_signedBy_1 : List UInt8 := [28, 4, 96, 160, 0, 7, 4, 167, 0, 4, 3, 96, 62, 132, 4, 1, 167, 255, 221, 29, 172]
abbrev dktX3_signedBy_1 : List UInt8 := dkwX3_signedBy_1 ++ []
def dkwX3_signedBy_0 : List UInt8 := [3, 62, 3, 54, 4, 21, 4, 42, 180, 0, 9, 5, 46, 162, 0, 30, 29, 42, 21, 4, 27, 182, 0, 43]
abbrev dktX3_signedBy_0 : List UInt8 := dkwX3_signedBy_0 ++ dktX3_signedBy_1
theorem dksX3_signedBy_0 : cX3_signedBy.data.toList.drop 0 = dktX3_signedBy_0 := by decide +kernel
theorem dksX3_signedBy_1 : cX3_signedBy.data.toList.drop 24 = dktX3_signedBy_1 := dk_seg dksX3_signedBy_0 24 rfl rfl
theorem dX3_signedBy_0 : decode cX3_signedBy 0 = .ok (.iconst 0, 1) := dk_3 (dk_at dksX3_signedBy_0 0 rfl rfl)
theorem dX3_signedBy_1 : decode cX3_signedBy 1 = .ok (.istore_n 3, 1) := dk_62 (dk_at dksX3_signedBy_0 1 rfl rfl)
theorem dX3_signedBy_2 : decode cX3_signedBy 2 = .ok (.iconst 0, 1) := dk_3 (dk_at dksX3_signedBy_0 2 rfl rfl)
theorem dX3_signedBy_3 : decode cX3_signedBy 3 = .ok (.istore 4, 2) := dk_54 4 (dk_at dksX3_signedBy_0 3 rfl rfl)
theorem dX3_signedBy_5 : decode cX3_signedBy 5 = .ok (.iload 4, 2) := dk_21 4 (dk_at dksX3_signedBy_0 5 rfl rfl)
theorem dX3_signedBy_7 : decode cX3_signedBy 7 = .ok (.aload_n 0, 1) := dk_42 (dk_at dksX3_signedBy_0 7 rfl rfl)
theorem dX3_signedBy_8 : decode cX3_signedBy 8 = .ok (.getfield 9, 3) := dk_180 0 9 (dk_at dksX3_signedBy_0 8 rfl rfl)
theorem dX3_signedBy_11 : decode cX3_signedBy 11 = .ok (.iconst 2, 1) := dk_5 (dk_at dksX3_signedBy_0 11 rfl rfl)
theorem dX3_signedBy_12 : decode cX3_signedBy 12 = .ok (.iaload, 1) := dk_46 (dk_at dksX3_signedBy_0 12 rfl rfl)
theorem dX3_signedBy_13 : decode cX3_signedBy 13 = .ok (.if_icmp .ge 30, 3) := dk_162 0 30 (dk_at dksX3_signedBy_0 13 rfl rfl)
theorem dX3_signedBy_16 : decode cX3_signedBy 16 = .ok (.iload_n 3, 1) := dk_29 (dk_at dksX3_signedBy_0 16 rfl rfl)
theorem dX3_signedBy_17 : decode cX3_signedBy 17 = .ok (.aload_n 0, 1) := dk_42 (dk_at dksX3_signedBy_0 17 rfl rfl)
theorem dX3_signedBy_18 : decode cX3_signedBy 18 = .ok (.iload 4, 2) := dk_21 4 (dk_at dksX3_signedBy_0 18 rfl rfl)
theorem dX3_signedBy_20 : decode cX3_signedBy 20 = .ok (.iload_n 1, 1) := dk_27 (dk_at dksX3_signedBy_0 20 rfl rfl)
theorem dX3_signedBy_21 : decode cX3_signedBy 21 = .ok (.invokevirtual 43, 3) := dk_182 0 43 (dk_at dksX3_signedBy_0 21 rfl rfl)
theorem dX3_signedBy_24 : decode cX3_signedBy 24 = .ok (.iload_n 2, 1) := dk_28 (dk_at dksX3_signedBy_1 0 rfl rfl)
theorem dX3_signedBy_25 : decode cX3_signedBy 25 = .ok (.iconst 1, 1) := dk_4 (dk_at dksX3_signedBy_1 1 rfl rfl)
theorem dX3_signedBy_26 : decode cX3_signedBy 26 = .ok (.iadd, 1) := dk_96 (dk_at dksX3_signedBy_1 2 rfl rfl)
theorem dX3_signedBy_27 : decode cX3_signedBy 27 = .ok (.if_icmp .ne 7, 3) := dk_160 0 7 (dk_at dksX3_signedBy_1 3 rfl rfl)
theorem dX3_signedBy_30 : decode cX3_signedBy 30 = .ok (.iconst 1, 1) := dk_4 (dk_at dksX3_signedBy_1 6 rfl rfl)
theorem dX3_signedBy_31 : decode cX3_signedBy 31 = .ok (.goto 4, 3) := dk_167 0 4 (dk_at dksX3_signedBy_1 7 rfl rfl)
theorem dX3_signedBy_34 : decode cX3_signedBy 34 = .ok (.iconst 0, 1) := dk_3 (dk_at dksX3_signedBy_1 10 rfl rfl)
theorem dX3_signedBy_35 : decode cX3_signedBy 35 = .ok (.iadd, 1) := dk_96 (dk_at dksX3_signedBy_1 11 rfl rfl)
theorem dX3_signedBy_36 : decode cX3_signedBy 36 = .ok (.istore_n 3, 1) := dk_62 (dk_at dksX3_signedBy_1 12 rfl rfl)
theorem dX3_signedBy_37 : decode cX3_signedBy 37 = .ok (.iinc 4 1, 3) := dk_132 4 1 (dk_at dksX3_signedBy_1 13 rfl rfl)
theorem dX3_signedBy_40 : decode cX3_signedBy 40 = .ok (.goto (-35), 3) := dk_167 255 221 (dk_at dksX3_signedBy_1 16 rfl rfl)
theorem dX3_signedBy_43 : decode cX3_signedBy 43 = .ok (.iload_n 3, 1) := dk_29 (dk_at dksX3_signedBy_1 19 rfl rfl)
theorem dX3_signedBy_44 : decode cX3_signedBy 44 = .ok (.ireturn, 1) := dk_172 (dk_at dksX3_signedBy_1 20 rfl rfl)
abbrev cX3_countersign : ByteArray := prog_9_method_23_code
def yX3_countersign : MethodName := ⟨RX3, "countersign", "(II)I"⟩
def dkwX3_countersign_0 : List UInt8 := [42, 182, 0, 63, 42, 42, 27, 28, 182, 0, 89, 4, 5, 6, 182, 0, 70, 172]
abbrev dktX3_countersign_0 : List UInt8 := dkwX3_countersign_0 ++ []
theorem dksX3_countersign_0 : cX3_countersign.data.toList.drop 0 = dktX3_countersign_0 := by decide +kernel
theorem dX3_countersign_0 : decode cX3_countersign 0 = .ok (.aload_n 0, 1) := dk_42 (dk_at dksX3_countersign_0 0 rfl rfl)
theorem dX3_countersign_1 : decode cX3_countersign 1 = .ok (.invokevirtual 63, 3) := dk_182 0 63 (dk_at dksX3_countersign_0 1 rfl rfl)
theorem dX3_countersign_4 : decode cX3_countersign 4 = .ok (.aload_n 0, 1) := dk_42 (dk_at dksX3_countersign_0 4 rfl rfl)
theorem dX3_countersign_5 : decode cX3_countersign 5 = .ok (.aload_n 0, 1) := dk_42 (dk_at dksX3_countersign_0 5 rfl rfl)
theorem dX3_countersign_6 : decode cX3_countersign 6 = .ok (.iload_n 1, 1) := dk_27 (dk_at dksX3_countersign_0 6 rfl rfl)
theorem dX3_countersign_7 : decode cX3_countersign 7 = .ok (.iload_n 2, 1) := dk_28 (dk_at dksX3_countersign_0 7 rfl rfl)
theorem dX3_countersign_8 : decode cX3_countersign 8 = .ok (.invokevirtual 89, 3) := dk_182 0 89 (dk_at dksX3_countersign_0 8 rfl rfl)
theorem dX3_countersign_11 : decode cX3_countersign 11 = .ok (.iconst 1, 1) := dk_4 (dk_at dksX3_countersign_0 11 rfl rfl)
theorem dX3_countersign_12 : decode cX3_countersign 12 = .ok (.iconst 2, 1) := dk_5 (dk_at dksX3_countersign_0 12 rfl rfl)
theorem dX3_countersign_13 : decode cX3_countersign 13 = .ok (.iconst 3, 1) := dk_6 (dk_at dksX3_countersign_0 13 rfl rfl)
theorem dX3_countersign_14 : decode cX3_countersign 14 = .ok (.invokevirtual 70, 3) := dk_182 0 70 (dk_at dksX3_countersign_0 14 rfl rfl)
theorem dX3_countersign_17 : decode cX3_countersign 17 = .ok (.ireturn, 1) := dk_172 (dk_at dksX3_countersign_0 17 rfl rfl)
abbrev cX3_countersigns : ByteArray := prog_9_method_22_code
def yX3_countersigns : MethodName := ⟨RX3, "countersigns", "(II)I"⟩
def dkwX3_countersigns_3 : List UInt8 := [172]
abbrev dktX3_countersigns_3 : List UInt8 := dkwX3_countersigns_3 ++ []
def dkwX3_countersigns_2 : List UInt8 := [182, 0, 43, 16, 10, 96, 5, 28, 104, 96, 181, 0, 40, 42, 29, 7, 42, 180, 0, 40, 182, 0, 51, 3]
abbrev dktX3_countersigns_2 : List UInt8 := dkwX3_countersigns_2 ++ dktX3_countersigns_3
def dkwX3_countersigns_1 : List UInt8 := [29, 28, 182, 0, 86, 154, 0, 5, 6, 172, 42, 29, 16, 7, 28, 4, 96, 182, 0, 51, 42, 42, 29, 7]
abbrev dktX3_countersigns_1 : List UInt8 := dkwX3_countersigns_1 ++ dktX3_countersigns_2
def dkwX3_countersigns_0 : List UInt8 := [42, 27, 182, 0, 76, 62, 29, 156, 0, 5, 4, 172, 28, 3, 6, 184, 0, 55, 154, 0, 5, 5, 172, 42]
abbrev dktX3_countersigns_0 : List UInt8 := dkwX3_countersigns_0 ++ dktX3_countersigns_1
theorem dksX3_countersigns_0 : cX3_countersigns.data.toList.drop 0 = dktX3_countersigns_0 := by decide +kernel
theorem dksX3_countersigns_1 : cX3_countersigns.data.toList.drop 24 = dktX3_countersigns_1 := dk_seg dksX3_countersigns_0 24 rfl rfl
theorem dksX3_countersigns_2 : cX3_countersigns.data.toList.drop 48 = dktX3_countersigns_2 := dk_seg dksX3_countersigns_1 24 rfl rfl
theorem dksX3_countersigns_3 : cX3_countersigns.data.toList.drop 72 = dktX3_countersigns_3 := dk_seg dksX3_countersigns_2 24 rfl rfl
theorem dX3_countersigns_0 : decode cX3_countersigns 0 = .ok (.aload_n 0, 1) := dk_42 (dk_at dksX3_countersigns_0 0 rfl rfl)
theorem dX3_countersigns_1 : decode cX3_countersigns 1 = .ok (.iload_n 1, 1) := dk_27 (dk_at dksX3_countersigns_0 1 rfl rfl)
theorem dX3_countersigns_2 : decode cX3_countersigns 2 = .ok (.invokevirtual 76, 3) := dk_182 0 76 (dk_at dksX3_countersigns_0 2 rfl rfl)
theorem dX3_countersigns_5 : decode cX3_countersigns 5 = .ok (.istore_n 3, 1) := dk_62 (dk_at dksX3_countersigns_0 5 rfl rfl)
theorem dX3_countersigns_6 : decode cX3_countersigns 6 = .ok (.iload_n 3, 1) := dk_29 (dk_at dksX3_countersigns_0 6 rfl rfl)
theorem dX3_countersigns_7 : decode cX3_countersigns 7 = .ok (.ifCond .ge 5, 3) := dk_156 0 5 (dk_at dksX3_countersigns_0 7 rfl rfl)
theorem dX3_countersigns_10 : decode cX3_countersigns 10 = .ok (.iconst 1, 1) := dk_4 (dk_at dksX3_countersigns_0 10 rfl rfl)
theorem dX3_countersigns_11 : decode cX3_countersigns 11 = .ok (.ireturn, 1) := dk_172 (dk_at dksX3_countersigns_0 11 rfl rfl)
theorem dX3_countersigns_12 : decode cX3_countersigns 12 = .ok (.iload_n 2, 1) := dk_28 (dk_at dksX3_countersigns_0 12 rfl rfl)
theorem dX3_countersigns_13 : decode cX3_countersigns 13 = .ok (.iconst 0, 1) := dk_3 (dk_at dksX3_countersigns_0 13 rfl rfl)
theorem dX3_countersigns_14 : decode cX3_countersigns 14 = .ok (.iconst 3, 1) := dk_6 (dk_at dksX3_countersigns_0 14 rfl rfl)
theorem dX3_countersigns_15 : decode cX3_countersigns 15 = .ok (.invokestatic 55, 3) := dk_184 0 55 (dk_at dksX3_countersigns_0 15 rfl rfl)
theorem dX3_countersigns_18 : decode cX3_countersigns 18 = .ok (.ifCond .ne 5, 3) := dk_154 0 5 (dk_at dksX3_countersigns_0 18 rfl rfl)
theorem dX3_countersigns_21 : decode cX3_countersigns 21 = .ok (.iconst 2, 1) := dk_5 (dk_at dksX3_countersigns_0 21 rfl rfl)
theorem dX3_countersigns_22 : decode cX3_countersigns 22 = .ok (.ireturn, 1) := dk_172 (dk_at dksX3_countersigns_0 22 rfl rfl)
theorem dX3_countersigns_23 : decode cX3_countersigns 23 = .ok (.aload_n 0, 1) := dk_42 (dk_at dksX3_countersigns_0 23 rfl rfl)
theorem dX3_countersigns_24 : decode cX3_countersigns 24 = .ok (.iload_n 3, 1) := dk_29 (dk_at dksX3_countersigns_1 0 rfl rfl)
theorem dX3_countersigns_25 : decode cX3_countersigns 25 = .ok (.iload_n 2, 1) := dk_28 (dk_at dksX3_countersigns_1 1 rfl rfl)
theorem dX3_countersigns_26 : decode cX3_countersigns 26 = .ok (.invokevirtual 86, 3) := dk_182 0 86 (dk_at dksX3_countersigns_1 2 rfl rfl)
theorem dX3_countersigns_29 : decode cX3_countersigns 29 = .ok (.ifCond .ne 5, 3) := dk_154 0 5 (dk_at dksX3_countersigns_1 5 rfl rfl)
theorem dX3_countersigns_32 : decode cX3_countersigns 32 = .ok (.iconst 3, 1) := dk_6 (dk_at dksX3_countersigns_1 8 rfl rfl)
theorem dX3_countersigns_33 : decode cX3_countersigns 33 = .ok (.ireturn, 1) := dk_172 (dk_at dksX3_countersigns_1 9 rfl rfl)
theorem dX3_countersigns_34 : decode cX3_countersigns 34 = .ok (.aload_n 0, 1) := dk_42 (dk_at dksX3_countersigns_1 10 rfl rfl)
theorem dX3_countersigns_35 : decode cX3_countersigns 35 = .ok (.iload_n 3, 1) := dk_29 (dk_at dksX3_countersigns_1 11 rfl rfl)
theorem dX3_countersigns_36 : decode cX3_countersigns 36 = .ok (.bipush 7, 2) := dk_16 7 (dk_at dksX3_countersigns_1 12 rfl rfl)
theorem dX3_countersigns_38 : decode cX3_countersigns 38 = .ok (.iload_n 2, 1) := dk_28 (dk_at dksX3_countersigns_1 14 rfl rfl)
theorem dX3_countersigns_39 : decode cX3_countersigns 39 = .ok (.iconst 1, 1) := dk_4 (dk_at dksX3_countersigns_1 15 rfl rfl)
theorem dX3_countersigns_40 : decode cX3_countersigns 40 = .ok (.iadd, 1) := dk_96 (dk_at dksX3_countersigns_1 16 rfl rfl)
theorem dX3_countersigns_41 : decode cX3_countersigns 41 = .ok (.invokevirtual 51, 3) := dk_182 0 51 (dk_at dksX3_countersigns_1 17 rfl rfl)
theorem dX3_countersigns_44 : decode cX3_countersigns 44 = .ok (.aload_n 0, 1) := dk_42 (dk_at dksX3_countersigns_1 20 rfl rfl)
theorem dX3_countersigns_45 : decode cX3_countersigns 45 = .ok (.aload_n 0, 1) := dk_42 (dk_at dksX3_countersigns_1 21 rfl rfl)
theorem dX3_countersigns_46 : decode cX3_countersigns 46 = .ok (.iload_n 3, 1) := dk_29 (dk_at dksX3_countersigns_1 22 rfl rfl)
theorem dX3_countersigns_47 : decode cX3_countersigns 47 = .ok (.iconst 4, 1) := dk_7 (dk_at dksX3_countersigns_1 23 rfl rfl)
theorem dX3_countersigns_48 : decode cX3_countersigns 48 = .ok (.invokevirtual 43, 3) := dk_182 0 43 (dk_at dksX3_countersigns_2 0 rfl rfl)
theorem dX3_countersigns_51 : decode cX3_countersigns 51 = .ok (.bipush 10, 2) := dk_16 10 (dk_at dksX3_countersigns_2 3 rfl rfl)
theorem dX3_countersigns_53 : decode cX3_countersigns 53 = .ok (.iadd, 1) := dk_96 (dk_at dksX3_countersigns_2 5 rfl rfl)
theorem dX3_countersigns_54 : decode cX3_countersigns 54 = .ok (.iconst 2, 1) := dk_5 (dk_at dksX3_countersigns_2 6 rfl rfl)
theorem dX3_countersigns_55 : decode cX3_countersigns 55 = .ok (.iload_n 2, 1) := dk_28 (dk_at dksX3_countersigns_2 7 rfl rfl)
theorem dX3_countersigns_56 : decode cX3_countersigns 56 = .ok (.imul, 1) := dk_104 (dk_at dksX3_countersigns_2 8 rfl rfl)
theorem dX3_countersigns_57 : decode cX3_countersigns 57 = .ok (.iadd, 1) := dk_96 (dk_at dksX3_countersigns_2 9 rfl rfl)
theorem dX3_countersigns_58 : decode cX3_countersigns 58 = .ok (.putfield 40, 3) := dk_181 0 40 (dk_at dksX3_countersigns_2 10 rfl rfl)
theorem dX3_countersigns_61 : decode cX3_countersigns 61 = .ok (.aload_n 0, 1) := dk_42 (dk_at dksX3_countersigns_2 13 rfl rfl)
theorem dX3_countersigns_62 : decode cX3_countersigns 62 = .ok (.iload_n 3, 1) := dk_29 (dk_at dksX3_countersigns_2 14 rfl rfl)
theorem dX3_countersigns_63 : decode cX3_countersigns 63 = .ok (.iconst 4, 1) := dk_7 (dk_at dksX3_countersigns_2 15 rfl rfl)
theorem dX3_countersigns_64 : decode cX3_countersigns 64 = .ok (.aload_n 0, 1) := dk_42 (dk_at dksX3_countersigns_2 16 rfl rfl)
theorem dX3_countersigns_65 : decode cX3_countersigns 65 = .ok (.getfield 40, 3) := dk_180 0 40 (dk_at dksX3_countersigns_2 17 rfl rfl)
theorem dX3_countersigns_68 : decode cX3_countersigns 68 = .ok (.invokevirtual 51, 3) := dk_182 0 51 (dk_at dksX3_countersigns_2 20 rfl rfl)
theorem dX3_countersigns_71 : decode cX3_countersigns 71 = .ok (.iconst 0, 1) := dk_3 (dk_at dksX3_countersigns_2 23 rfl rfl)
theorem dX3_countersigns_72 : decode cX3_countersigns 72 = .ok (.ireturn, 1) := dk_172 (dk_at dksX3_countersigns_3 0 rfl rfl)
abbrev cX3_mayCountersign : ByteArray := prog_9_method_19_code
def yX3_mayCountersign : MethodName := ⟨RX3, "mayCountersign", "(II)Z"⟩
def dkwX3_mayCountersign_1 : List UInt8 := [182, 0, 73, 5, 162, 0, 7, 4, 167, 0, 4, 3, 172]
abbrev dktX3_mayCountersign_1 : List UInt8 := dkwX3_mayCountersign_1 ++ []
def dkwX3_mayCountersign_0 : List UInt8 := [42, 27, 16, 6, 182, 0, 43, 158, 0, 28, 42, 27, 16, 7, 182, 0, 43, 154, 0, 18, 42, 16, 7, 28]
abbrev dktX3_mayCountersign_0 : List UInt8 := dkwX3_mayCountersign_0 ++ dktX3_mayCountersign_1
theorem dksX3_mayCountersign_0 : cX3_mayCountersign.data.toList.drop 0 = dktX3_mayCountersign_0 := by decide +kernel
theorem dksX3_mayCountersign_1 : cX3_mayCountersign.data.toList.drop 24 = dktX3_mayCountersign_1 := dk_seg dksX3_mayCountersign_0 24 rfl rfl
theorem dX3_mayCountersign_0 : decode cX3_mayCountersign 0 = .ok (.aload_n 0, 1) := dk_42 (dk_at dksX3_mayCountersign_0 0 rfl rfl)
theorem dX3_mayCountersign_1 : decode cX3_mayCountersign 1 = .ok (.iload_n 1, 1) := dk_27 (dk_at dksX3_mayCountersign_0 1 rfl rfl)
theorem dX3_mayCountersign_2 : decode cX3_mayCountersign 2 = .ok (.bipush 6, 2) := dk_16 6 (dk_at dksX3_mayCountersign_0 2 rfl rfl)
theorem dX3_mayCountersign_4 : decode cX3_mayCountersign 4 = .ok (.invokevirtual 43, 3) := dk_182 0 43 (dk_at dksX3_mayCountersign_0 4 rfl rfl)
theorem dX3_mayCountersign_7 : decode cX3_mayCountersign 7 = .ok (.ifCond .le 28, 3) := dk_158 0 28 (dk_at dksX3_mayCountersign_0 7 rfl rfl)
theorem dX3_mayCountersign_10 : decode cX3_mayCountersign 10 = .ok (.aload_n 0, 1) := dk_42 (dk_at dksX3_mayCountersign_0 10 rfl rfl)
theorem dX3_mayCountersign_11 : decode cX3_mayCountersign 11 = .ok (.iload_n 1, 1) := dk_27 (dk_at dksX3_mayCountersign_0 11 rfl rfl)
theorem dX3_mayCountersign_12 : decode cX3_mayCountersign 12 = .ok (.bipush 7, 2) := dk_16 7 (dk_at dksX3_mayCountersign_0 12 rfl rfl)
theorem dX3_mayCountersign_14 : decode cX3_mayCountersign 14 = .ok (.invokevirtual 43, 3) := dk_182 0 43 (dk_at dksX3_mayCountersign_0 14 rfl rfl)
theorem dX3_mayCountersign_17 : decode cX3_mayCountersign 17 = .ok (.ifCond .ne 18, 3) := dk_154 0 18 (dk_at dksX3_mayCountersign_0 17 rfl rfl)
theorem dX3_mayCountersign_20 : decode cX3_mayCountersign 20 = .ok (.aload_n 0, 1) := dk_42 (dk_at dksX3_mayCountersign_0 20 rfl rfl)
theorem dX3_mayCountersign_21 : decode cX3_mayCountersign 21 = .ok (.bipush 7, 2) := dk_16 7 (dk_at dksX3_mayCountersign_0 21 rfl rfl)
theorem dX3_mayCountersign_23 : decode cX3_mayCountersign 23 = .ok (.iload_n 2, 1) := dk_28 (dk_at dksX3_mayCountersign_0 23 rfl rfl)
theorem dX3_mayCountersign_24 : decode cX3_mayCountersign 24 = .ok (.invokevirtual 73, 3) := dk_182 0 73 (dk_at dksX3_mayCountersign_1 0 rfl rfl)
theorem dX3_mayCountersign_27 : decode cX3_mayCountersign 27 = .ok (.iconst 2, 1) := dk_5 (dk_at dksX3_mayCountersign_1 3 rfl rfl)
theorem dX3_mayCountersign_28 : decode cX3_mayCountersign 28 = .ok (.if_icmp .ge 7, 3) := dk_162 0 7 (dk_at dksX3_mayCountersign_1 4 rfl rfl)
theorem dX3_mayCountersign_31 : decode cX3_mayCountersign 31 = .ok (.iconst 1, 1) := dk_4 (dk_at dksX3_mayCountersign_1 7 rfl rfl)
theorem dX3_mayCountersign_32 : decode cX3_mayCountersign 32 = .ok (.goto 4, 3) := dk_167 0 4 (dk_at dksX3_mayCountersign_1 8 rfl rfl)
theorem dX3_mayCountersign_35 : decode cX3_mayCountersign 35 = .ok (.iconst 0, 1) := dk_3 (dk_at dksX3_mayCountersign_1 11 rfl rfl)
theorem dX3_mayCountersign_36 : decode cX3_mayCountersign 36 = .ok (.ireturn, 1) := dk_172 (dk_at dksX3_mayCountersign_1 12 rfl rfl)
abbrev cX3_settle : ByteArray := prog_9_method_25_code
def yX3_settle : MethodName := ⟨RX3, "settle", "(I)I"⟩
def dkwX3_settle_0 : List UInt8 := [42, 182, 0, 63, 42, 42, 27, 182, 0, 96, 4, 3, 5, 182, 0, 70, 172]
abbrev dktX3_settle_0 : List UInt8 := dkwX3_settle_0 ++ []
theorem dksX3_settle_0 : cX3_settle.data.toList.drop 0 = dktX3_settle_0 := by decide +kernel
theorem dX3_settle_0 : decode cX3_settle 0 = .ok (.aload_n 0, 1) := dk_42 (dk_at dksX3_settle_0 0 rfl rfl)
theorem dX3_settle_1 : decode cX3_settle 1 = .ok (.invokevirtual 63, 3) := dk_182 0 63 (dk_at dksX3_settle_0 1 rfl rfl)
theorem dX3_settle_4 : decode cX3_settle 4 = .ok (.aload_n 0, 1) := dk_42 (dk_at dksX3_settle_0 4 rfl rfl)
theorem dX3_settle_5 : decode cX3_settle 5 = .ok (.aload_n 0, 1) := dk_42 (dk_at dksX3_settle_0 5 rfl rfl)
theorem dX3_settle_6 : decode cX3_settle 6 = .ok (.iload_n 1, 1) := dk_27 (dk_at dksX3_settle_0 6 rfl rfl)
theorem dX3_settle_7 : decode cX3_settle 7 = .ok (.invokevirtual 96, 3) := dk_182 0 96 (dk_at dksX3_settle_0 7 rfl rfl)
theorem dX3_settle_10 : decode cX3_settle 10 = .ok (.iconst 1, 1) := dk_4 (dk_at dksX3_settle_0 10 rfl rfl)
theorem dX3_settle_11 : decode cX3_settle 11 = .ok (.iconst 0, 1) := dk_3 (dk_at dksX3_settle_0 11 rfl rfl)
theorem dX3_settle_12 : decode cX3_settle 12 = .ok (.iconst 2, 1) := dk_5 (dk_at dksX3_settle_0 12 rfl rfl)
theorem dX3_settle_13 : decode cX3_settle 13 = .ok (.invokevirtual 70, 3) := dk_182 0 70 (dk_at dksX3_settle_0 13 rfl rfl)
theorem dX3_settle_16 : decode cX3_settle 16 = .ok (.ireturn, 1) := dk_172 (dk_at dksX3_settle_0 16 rfl rfl)
abbrev cX3_settles : ByteArray := prog_9_method_24_code
def yX3_settles : MethodName := ⟨RX3, "settles", "(I)I"⟩
def dkwX3_settles_2 : List UInt8 := [96, 79, 3, 172]
abbrev dktX3_settles_2 : List UInt8 := dkwX3_settles_2 ++ []
def dkwX3_settles_1 : List UInt8 := [42, 42, 28, 6, 182, 0, 43, 181, 0, 40, 42, 28, 182, 0, 92, 42, 180, 0, 9, 16, 6, 92, 46, 4]
abbrev dktX3_settles_1 : List UInt8 := dkwX3_settles_1 ++ dktX3_settles_2
def dkwX3_settles_0 : List UInt8 := [42, 27, 182, 0, 76, 61, 28, 156, 0, 5, 4, 172, 42, 28, 16, 6, 182, 0, 43, 154, 0, 5, 6, 172]
abbrev dktX3_settles_0 : List UInt8 := dkwX3_settles_0 ++ dktX3_settles_1
theorem dksX3_settles_0 : cX3_settles.data.toList.drop 0 = dktX3_settles_0 := by decide +kernel
theorem dksX3_settles_1 : cX3_settles.data.toList.drop 24 = dktX3_settles_1 := dk_seg dksX3_settles_0 24 rfl rfl
theorem dksX3_settles_2 : cX3_settles.data.toList.drop 48 = dktX3_settles_2 := dk_seg dksX3_settles_1 24 rfl rfl
theorem dX3_settles_0 : decode cX3_settles 0 = .ok (.aload_n 0, 1) := dk_42 (dk_at dksX3_settles_0 0 rfl rfl)
theorem dX3_settles_1 : decode cX3_settles 1 = .ok (.iload_n 1, 1) := dk_27 (dk_at dksX3_settles_0 1 rfl rfl)
theorem dX3_settles_2 : decode cX3_settles 2 = .ok (.invokevirtual 76, 3) := dk_182 0 76 (dk_at dksX3_settles_0 2 rfl rfl)
theorem dX3_settles_5 : decode cX3_settles 5 = .ok (.istore_n 2, 1) := dk_61 (dk_at dksX3_settles_0 5 rfl rfl)
theorem dX3_settles_6 : decode cX3_settles 6 = .ok (.iload_n 2, 1) := dk_28 (dk_at dksX3_settles_0 6 rfl rfl)
theorem dX3_settles_7 : decode cX3_settles 7 = .ok (.ifCond .ge 5, 3) := dk_156 0 5 (dk_at dksX3_settles_0 7 rfl rfl)
theorem dX3_settles_10 : decode cX3_settles 10 = .ok (.iconst 1, 1) := dk_4 (dk_at dksX3_settles_0 10 rfl rfl)
theorem dX3_settles_11 : decode cX3_settles 11 = .ok (.ireturn, 1) := dk_172 (dk_at dksX3_settles_0 11 rfl rfl)
theorem dX3_settles_12 : decode cX3_settles 12 = .ok (.aload_n 0, 1) := dk_42 (dk_at dksX3_settles_0 12 rfl rfl)
theorem dX3_settles_13 : decode cX3_settles 13 = .ok (.iload_n 2, 1) := dk_28 (dk_at dksX3_settles_0 13 rfl rfl)
theorem dX3_settles_14 : decode cX3_settles 14 = .ok (.bipush 6, 2) := dk_16 6 (dk_at dksX3_settles_0 14 rfl rfl)
theorem dX3_settles_16 : decode cX3_settles 16 = .ok (.invokevirtual 43, 3) := dk_182 0 43 (dk_at dksX3_settles_0 16 rfl rfl)
theorem dX3_settles_19 : decode cX3_settles 19 = .ok (.ifCond .ne 5, 3) := dk_154 0 5 (dk_at dksX3_settles_0 19 rfl rfl)
theorem dX3_settles_22 : decode cX3_settles 22 = .ok (.iconst 3, 1) := dk_6 (dk_at dksX3_settles_0 22 rfl rfl)
theorem dX3_settles_23 : decode cX3_settles 23 = .ok (.ireturn, 1) := dk_172 (dk_at dksX3_settles_0 23 rfl rfl)
theorem dX3_settles_24 : decode cX3_settles 24 = .ok (.aload_n 0, 1) := dk_42 (dk_at dksX3_settles_1 0 rfl rfl)
theorem dX3_settles_25 : decode cX3_settles 25 = .ok (.aload_n 0, 1) := dk_42 (dk_at dksX3_settles_1 1 rfl rfl)
theorem dX3_settles_26 : decode cX3_settles 26 = .ok (.iload_n 2, 1) := dk_28 (dk_at dksX3_settles_1 2 rfl rfl)
theorem dX3_settles_27 : decode cX3_settles 27 = .ok (.iconst 3, 1) := dk_6 (dk_at dksX3_settles_1 3 rfl rfl)
theorem dX3_settles_28 : decode cX3_settles 28 = .ok (.invokevirtual 43, 3) := dk_182 0 43 (dk_at dksX3_settles_1 4 rfl rfl)
theorem dX3_settles_31 : decode cX3_settles 31 = .ok (.putfield 40, 3) := dk_181 0 40 (dk_at dksX3_settles_1 7 rfl rfl)
theorem dX3_settles_34 : decode cX3_settles 34 = .ok (.aload_n 0, 1) := dk_42 (dk_at dksX3_settles_1 10 rfl rfl)
theorem dX3_settles_35 : decode cX3_settles 35 = .ok (.iload_n 2, 1) := dk_28 (dk_at dksX3_settles_1 11 rfl rfl)
theorem dX3_settles_36 : decode cX3_settles 36 = .ok (.invokevirtual 92, 3) := dk_182 0 92 (dk_at dksX3_settles_1 12 rfl rfl)
theorem dX3_settles_39 : decode cX3_settles 39 = .ok (.aload_n 0, 1) := dk_42 (dk_at dksX3_settles_1 15 rfl rfl)
theorem dX3_settles_40 : decode cX3_settles 40 = .ok (.getfield 9, 3) := dk_180 0 9 (dk_at dksX3_settles_1 16 rfl rfl)
theorem dX3_settles_43 : decode cX3_settles 43 = .ok (.bipush 6, 2) := dk_16 6 (dk_at dksX3_settles_1 19 rfl rfl)
theorem dX3_settles_45 : decode cX3_settles 45 = .ok (.dup2, 1) := dk_92 (dk_at dksX3_settles_1 21 rfl rfl)
theorem dX3_settles_46 : decode cX3_settles 46 = .ok (.iaload, 1) := dk_46 (dk_at dksX3_settles_1 22 rfl rfl)
theorem dX3_settles_47 : decode cX3_settles 47 = .ok (.iconst 1, 1) := dk_4 (dk_at dksX3_settles_1 23 rfl rfl)
theorem dX3_settles_48 : decode cX3_settles 48 = .ok (.iadd, 1) := dk_96 (dk_at dksX3_settles_2 0 rfl rfl)
theorem dX3_settles_49 : decode cX3_settles 49 = .ok (.iastore, 1) := dk_79 (dk_at dksX3_settles_2 1 rfl rfl)
theorem dX3_settles_50 : decode cX3_settles 50 = .ok (.iconst 0, 1) := dk_3 (dk_at dksX3_settles_2 2 rfl rfl)
theorem dX3_settles_51 : decode cX3_settles 51 = .ok (.ireturn, 1) := dk_172 (dk_at dksX3_settles_2 3 rfl rfl)
abbrev cX3_closes : ByteArray := prog_9_method_14_code
def yX3_closes : MethodName := ⟨RX3, "closes", "(I)V"⟩
def dkwX3_closes_6 : List UInt8 := [182, 0, 51, 132, 4, 1, 167, 255, 238, 42, 180, 0, 9, 5, 29, 79, 177]
abbrev dktX3_closes_6 : List UInt8 := dkwX3_closes_6 ++ []
def dkwX3_closes_5 : List UInt8 := [96, 46, 79, 132, 4, 1, 167, 255, 221, 3, 54, 4, 21, 4, 16, 8, 162, 0, 17, 42, 29, 21, 4, 3]
abbrev dktX3_closes_5 : List UInt8 := dkwX3_closes_5 ++ dktX3_closes_6
def dkwX3_closes_4 : List UInt8 := [104, 162, 0, 32, 42, 180, 0, 9, 16, 22, 21, 4, 96, 42, 180, 0, 9, 16, 22, 21, 4, 96, 16, 8]
abbrev dktX3_closes_4 : List UInt8 := dkwX3_closes_4 ++ dktX3_closes_5
def dkwX3_closes_3 : List UInt8 := [167, 255, 225, 42, 180, 0, 9, 16, 118, 29, 96, 3, 79, 16, 8, 27, 104, 54, 4, 21, 4, 16, 8, 29]
abbrev dktX3_closes_3 : List UInt8 := dkwX3_closes_3 ++ dktX3_closes_4
def dkwX3_closes_2 : List UInt8 := [180, 0, 9, 16, 118, 21, 4, 96, 42, 180, 0, 9, 16, 118, 21, 4, 96, 4, 96, 46, 79, 132, 4, 1]
abbrev dktX3_closes_2 : List UInt8 := dkwX3_closes_2 ++ dktX3_closes_3
def dkwX3_closes_1 : List UInt8 := [42, 27, 6, 182, 0, 43, 96, 79, 42, 28, 182, 0, 47, 54, 4, 21, 4, 29, 162, 0, 31, 42]
abbrev dktX3_closes_1 : List UInt8 := dkwX3_closes_1 ++ dktX3_closes_2
def dkwX3_closes_0 : List UInt8 := [42, 27, 3, 182, 0, 43, 61, 42, 180, 0, 9, 5, 46, 4, 100, 62, 42, 180, 0, 9, 16, 8, 92, 46]
abbrev dktX3_closes_0 : List UInt8 := dkwX3_closes_0 ++ dktX3_closes_1
theorem dksX3_closes_0 : cX3_closes.data.toList.drop 0 = dktX3_closes_0 := by decide +kernel
theorem dksX3_closes_1 : cX3_closes.data.toList.drop 24 = dktX3_closes_1 := dk_seg dksX3_closes_0 24 rfl rfl
theorem dksX3_closes_2 : cX3_closes.data.toList.drop 46 = dktX3_closes_2 := dk_seg dksX3_closes_1 22 rfl rfl
theorem dksX3_closes_3 : cX3_closes.data.toList.drop 70 = dktX3_closes_3 := dk_seg dksX3_closes_2 24 rfl rfl
theorem dksX3_closes_4 : cX3_closes.data.toList.drop 94 = dktX3_closes_4 := dk_seg dksX3_closes_3 24 rfl rfl
theorem dksX3_closes_5 : cX3_closes.data.toList.drop 118 = dktX3_closes_5 := dk_seg dksX3_closes_4 24 rfl rfl
theorem dksX3_closes_6 : cX3_closes.data.toList.drop 142 = dktX3_closes_6 := dk_seg dksX3_closes_5 24 rfl rfl
theorem dX3_closes_0 : decode cX3_closes 0 = .ok (.aload_n 0, 1) := dk_42 (dk_at dksX3_closes_0 0 rfl rfl)
theorem dX3_closes_1 : decode cX3_closes 1 = .ok (.iload_n 1, 1) := dk_27 (dk_at dksX3_closes_0 1 rfl rfl)
theorem dX3_closes_2 : decode cX3_closes 2 = .ok (.iconst 0, 1) := dk_3 (dk_at dksX3_closes_0 2 rfl rfl)
theorem dX3_closes_3 : decode cX3_closes 3 = .ok (.invokevirtual 43, 3) := dk_182 0 43 (dk_at dksX3_closes_0 3 rfl rfl)
theorem dX3_closes_6 : decode cX3_closes 6 = .ok (.istore_n 2, 1) := dk_61 (dk_at dksX3_closes_0 6 rfl rfl)
theorem dX3_closes_7 : decode cX3_closes 7 = .ok (.aload_n 0, 1) := dk_42 (dk_at dksX3_closes_0 7 rfl rfl)
theorem dX3_closes_8 : decode cX3_closes 8 = .ok (.getfield 9, 3) := dk_180 0 9 (dk_at dksX3_closes_0 8 rfl rfl)
theorem dX3_closes_11 : decode cX3_closes 11 = .ok (.iconst 2, 1) := dk_5 (dk_at dksX3_closes_0 11 rfl rfl)
theorem dX3_closes_12 : decode cX3_closes 12 = .ok (.iaload, 1) := dk_46 (dk_at dksX3_closes_0 12 rfl rfl)
theorem dX3_closes_13 : decode cX3_closes 13 = .ok (.iconst 1, 1) := dk_4 (dk_at dksX3_closes_0 13 rfl rfl)
theorem dX3_closes_14 : decode cX3_closes 14 = .ok (.isub, 1) := dk_100 (dk_at dksX3_closes_0 14 rfl rfl)
theorem dX3_closes_15 : decode cX3_closes 15 = .ok (.istore_n 3, 1) := dk_62 (dk_at dksX3_closes_0 15 rfl rfl)
theorem dX3_closes_16 : decode cX3_closes 16 = .ok (.aload_n 0, 1) := dk_42 (dk_at dksX3_closes_0 16 rfl rfl)
theorem dX3_closes_17 : decode cX3_closes 17 = .ok (.getfield 9, 3) := dk_180 0 9 (dk_at dksX3_closes_0 17 rfl rfl)
theorem dX3_closes_20 : decode cX3_closes 20 = .ok (.bipush 8, 2) := dk_16 8 (dk_at dksX3_closes_0 20 rfl rfl)
theorem dX3_closes_22 : decode cX3_closes 22 = .ok (.dup2, 1) := dk_92 (dk_at dksX3_closes_0 22 rfl rfl)
theorem dX3_closes_23 : decode cX3_closes 23 = .ok (.iaload, 1) := dk_46 (dk_at dksX3_closes_0 23 rfl rfl)
theorem dX3_closes_24 : decode cX3_closes 24 = .ok (.aload_n 0, 1) := dk_42 (dk_at dksX3_closes_1 0 rfl rfl)
theorem dX3_closes_25 : decode cX3_closes 25 = .ok (.iload_n 1, 1) := dk_27 (dk_at dksX3_closes_1 1 rfl rfl)
theorem dX3_closes_26 : decode cX3_closes 26 = .ok (.iconst 3, 1) := dk_6 (dk_at dksX3_closes_1 2 rfl rfl)
theorem dX3_closes_27 : decode cX3_closes 27 = .ok (.invokevirtual 43, 3) := dk_182 0 43 (dk_at dksX3_closes_1 3 rfl rfl)
theorem dX3_closes_30 : decode cX3_closes 30 = .ok (.iadd, 1) := dk_96 (dk_at dksX3_closes_1 6 rfl rfl)
theorem dX3_closes_31 : decode cX3_closes 31 = .ok (.iastore, 1) := dk_79 (dk_at dksX3_closes_1 7 rfl rfl)
theorem dX3_closes_32 : decode cX3_closes 32 = .ok (.aload_n 0, 1) := dk_42 (dk_at dksX3_closes_1 8 rfl rfl)
theorem dX3_closes_33 : decode cX3_closes 33 = .ok (.iload_n 2, 1) := dk_28 (dk_at dksX3_closes_1 9 rfl rfl)
theorem dX3_closes_34 : decode cX3_closes 34 = .ok (.invokevirtual 47, 3) := dk_182 0 47 (dk_at dksX3_closes_1 10 rfl rfl)
theorem dX3_closes_37 : decode cX3_closes 37 = .ok (.istore 4, 2) := dk_54 4 (dk_at dksX3_closes_1 13 rfl rfl)
theorem dX3_closes_39 : decode cX3_closes 39 = .ok (.iload 4, 2) := dk_21 4 (dk_at dksX3_closes_1 15 rfl rfl)
theorem dX3_closes_41 : decode cX3_closes 41 = .ok (.iload_n 3, 1) := dk_29 (dk_at dksX3_closes_1 17 rfl rfl)
theorem dX3_closes_42 : decode cX3_closes 42 = .ok (.if_icmp .ge 31, 3) := dk_162 0 31 (dk_at dksX3_closes_1 18 rfl rfl)
theorem dX3_closes_45 : decode cX3_closes 45 = .ok (.aload_n 0, 1) := dk_42 (dk_at dksX3_closes_1 21 rfl rfl)
theorem dX3_closes_46 : decode cX3_closes 46 = .ok (.getfield 9, 3) := dk_180 0 9 (dk_at dksX3_closes_2 0 rfl rfl)
theorem dX3_closes_49 : decode cX3_closes 49 = .ok (.bipush 118, 2) := dk_16 118 (dk_at dksX3_closes_2 3 rfl rfl)
theorem dX3_closes_51 : decode cX3_closes 51 = .ok (.iload 4, 2) := dk_21 4 (dk_at dksX3_closes_2 5 rfl rfl)
theorem dX3_closes_53 : decode cX3_closes 53 = .ok (.iadd, 1) := dk_96 (dk_at dksX3_closes_2 7 rfl rfl)
theorem dX3_closes_54 : decode cX3_closes 54 = .ok (.aload_n 0, 1) := dk_42 (dk_at dksX3_closes_2 8 rfl rfl)
theorem dX3_closes_55 : decode cX3_closes 55 = .ok (.getfield 9, 3) := dk_180 0 9 (dk_at dksX3_closes_2 9 rfl rfl)
theorem dX3_closes_58 : decode cX3_closes 58 = .ok (.bipush 118, 2) := dk_16 118 (dk_at dksX3_closes_2 12 rfl rfl)
theorem dX3_closes_60 : decode cX3_closes 60 = .ok (.iload 4, 2) := dk_21 4 (dk_at dksX3_closes_2 14 rfl rfl)
theorem dX3_closes_62 : decode cX3_closes 62 = .ok (.iadd, 1) := dk_96 (dk_at dksX3_closes_2 16 rfl rfl)
theorem dX3_closes_63 : decode cX3_closes 63 = .ok (.iconst 1, 1) := dk_4 (dk_at dksX3_closes_2 17 rfl rfl)
theorem dX3_closes_64 : decode cX3_closes 64 = .ok (.iadd, 1) := dk_96 (dk_at dksX3_closes_2 18 rfl rfl)
theorem dX3_closes_65 : decode cX3_closes 65 = .ok (.iaload, 1) := dk_46 (dk_at dksX3_closes_2 19 rfl rfl)
theorem dX3_closes_66 : decode cX3_closes 66 = .ok (.iastore, 1) := dk_79 (dk_at dksX3_closes_2 20 rfl rfl)
theorem dX3_closes_67 : decode cX3_closes 67 = .ok (.iinc 4 1, 3) := dk_132 4 1 (dk_at dksX3_closes_2 21 rfl rfl)
theorem dX3_closes_70 : decode cX3_closes 70 = .ok (.goto (-31), 3) := dk_167 255 225 (dk_at dksX3_closes_3 0 rfl rfl)
theorem dX3_closes_73 : decode cX3_closes 73 = .ok (.aload_n 0, 1) := dk_42 (dk_at dksX3_closes_3 3 rfl rfl)
theorem dX3_closes_74 : decode cX3_closes 74 = .ok (.getfield 9, 3) := dk_180 0 9 (dk_at dksX3_closes_3 4 rfl rfl)
theorem dX3_closes_77 : decode cX3_closes 77 = .ok (.bipush 118, 2) := dk_16 118 (dk_at dksX3_closes_3 7 rfl rfl)
theorem dX3_closes_79 : decode cX3_closes 79 = .ok (.iload_n 3, 1) := dk_29 (dk_at dksX3_closes_3 9 rfl rfl)
theorem dX3_closes_80 : decode cX3_closes 80 = .ok (.iadd, 1) := dk_96 (dk_at dksX3_closes_3 10 rfl rfl)
theorem dX3_closes_81 : decode cX3_closes 81 = .ok (.iconst 0, 1) := dk_3 (dk_at dksX3_closes_3 11 rfl rfl)
theorem dX3_closes_82 : decode cX3_closes 82 = .ok (.iastore, 1) := dk_79 (dk_at dksX3_closes_3 12 rfl rfl)
theorem dX3_closes_83 : decode cX3_closes 83 = .ok (.bipush 8, 2) := dk_16 8 (dk_at dksX3_closes_3 13 rfl rfl)
theorem dX3_closes_85 : decode cX3_closes 85 = .ok (.iload_n 1, 1) := dk_27 (dk_at dksX3_closes_3 15 rfl rfl)
theorem dX3_closes_86 : decode cX3_closes 86 = .ok (.imul, 1) := dk_104 (dk_at dksX3_closes_3 16 rfl rfl)
theorem dX3_closes_87 : decode cX3_closes 87 = .ok (.istore 4, 2) := dk_54 4 (dk_at dksX3_closes_3 17 rfl rfl)
theorem dX3_closes_89 : decode cX3_closes 89 = .ok (.iload 4, 2) := dk_21 4 (dk_at dksX3_closes_3 19 rfl rfl)
theorem dX3_closes_91 : decode cX3_closes 91 = .ok (.bipush 8, 2) := dk_16 8 (dk_at dksX3_closes_3 21 rfl rfl)
theorem dX3_closes_93 : decode cX3_closes 93 = .ok (.iload_n 3, 1) := dk_29 (dk_at dksX3_closes_3 23 rfl rfl)
theorem dX3_closes_94 : decode cX3_closes 94 = .ok (.imul, 1) := dk_104 (dk_at dksX3_closes_4 0 rfl rfl)
theorem dX3_closes_95 : decode cX3_closes 95 = .ok (.if_icmp .ge 32, 3) := dk_162 0 32 (dk_at dksX3_closes_4 1 rfl rfl)
theorem dX3_closes_98 : decode cX3_closes 98 = .ok (.aload_n 0, 1) := dk_42 (dk_at dksX3_closes_4 4 rfl rfl)
theorem dX3_closes_99 : decode cX3_closes 99 = .ok (.getfield 9, 3) := dk_180 0 9 (dk_at dksX3_closes_4 5 rfl rfl)
theorem dX3_closes_102 : decode cX3_closes 102 = .ok (.bipush 22, 2) := dk_16 22 (dk_at dksX3_closes_4 8 rfl rfl)
theorem dX3_closes_104 : decode cX3_closes 104 = .ok (.iload 4, 2) := dk_21 4 (dk_at dksX3_closes_4 10 rfl rfl)
theorem dX3_closes_106 : decode cX3_closes 106 = .ok (.iadd, 1) := dk_96 (dk_at dksX3_closes_4 12 rfl rfl)
theorem dX3_closes_107 : decode cX3_closes 107 = .ok (.aload_n 0, 1) := dk_42 (dk_at dksX3_closes_4 13 rfl rfl)
theorem dX3_closes_108 : decode cX3_closes 108 = .ok (.getfield 9, 3) := dk_180 0 9 (dk_at dksX3_closes_4 14 rfl rfl)
theorem dX3_closes_111 : decode cX3_closes 111 = .ok (.bipush 22, 2) := dk_16 22 (dk_at dksX3_closes_4 17 rfl rfl)
theorem dX3_closes_113 : decode cX3_closes 113 = .ok (.iload 4, 2) := dk_21 4 (dk_at dksX3_closes_4 19 rfl rfl)
theorem dX3_closes_115 : decode cX3_closes 115 = .ok (.iadd, 1) := dk_96 (dk_at dksX3_closes_4 21 rfl rfl)
theorem dX3_closes_116 : decode cX3_closes 116 = .ok (.bipush 8, 2) := dk_16 8 (dk_at dksX3_closes_4 22 rfl rfl)
theorem dX3_closes_118 : decode cX3_closes 118 = .ok (.iadd, 1) := dk_96 (dk_at dksX3_closes_5 0 rfl rfl)
theorem dX3_closes_119 : decode cX3_closes 119 = .ok (.iaload, 1) := dk_46 (dk_at dksX3_closes_5 1 rfl rfl)
theorem dX3_closes_120 : decode cX3_closes 120 = .ok (.iastore, 1) := dk_79 (dk_at dksX3_closes_5 2 rfl rfl)
theorem dX3_closes_121 : decode cX3_closes 121 = .ok (.iinc 4 1, 3) := dk_132 4 1 (dk_at dksX3_closes_5 3 rfl rfl)
theorem dX3_closes_124 : decode cX3_closes 124 = .ok (.goto (-35), 3) := dk_167 255 221 (dk_at dksX3_closes_5 6 rfl rfl)
theorem dX3_closes_127 : decode cX3_closes 127 = .ok (.iconst 0, 1) := dk_3 (dk_at dksX3_closes_5 9 rfl rfl)
theorem dX3_closes_128 : decode cX3_closes 128 = .ok (.istore 4, 2) := dk_54 4 (dk_at dksX3_closes_5 10 rfl rfl)
theorem dX3_closes_130 : decode cX3_closes 130 = .ok (.iload 4, 2) := dk_21 4 (dk_at dksX3_closes_5 12 rfl rfl)
theorem dX3_closes_132 : decode cX3_closes 132 = .ok (.bipush 8, 2) := dk_16 8 (dk_at dksX3_closes_5 14 rfl rfl)
theorem dX3_closes_134 : decode cX3_closes 134 = .ok (.if_icmp .ge 17, 3) := dk_162 0 17 (dk_at dksX3_closes_5 16 rfl rfl)
theorem dX3_closes_137 : decode cX3_closes 137 = .ok (.aload_n 0, 1) := dk_42 (dk_at dksX3_closes_5 19 rfl rfl)
theorem dX3_closes_138 : decode cX3_closes 138 = .ok (.iload_n 3, 1) := dk_29 (dk_at dksX3_closes_5 20 rfl rfl)
theorem dX3_closes_139 : decode cX3_closes 139 = .ok (.iload 4, 2) := dk_21 4 (dk_at dksX3_closes_5 21 rfl rfl)
theorem dX3_closes_141 : decode cX3_closes 141 = .ok (.iconst 0, 1) := dk_3 (dk_at dksX3_closes_5 23 rfl rfl)
theorem dX3_closes_142 : decode cX3_closes 142 = .ok (.invokevirtual 51, 3) := dk_182 0 51 (dk_at dksX3_closes_6 0 rfl rfl)
theorem dX3_closes_145 : decode cX3_closes 145 = .ok (.iinc 4 1, 3) := dk_132 4 1 (dk_at dksX3_closes_6 3 rfl rfl)
theorem dX3_closes_148 : decode cX3_closes 148 = .ok (.goto (-18), 3) := dk_167 255 238 (dk_at dksX3_closes_6 6 rfl rfl)
theorem dX3_closes_151 : decode cX3_closes 151 = .ok (.aload_n 0, 1) := dk_42 (dk_at dksX3_closes_6 9 rfl rfl)
theorem dX3_closes_152 : decode cX3_closes 152 = .ok (.getfield 9, 3) := dk_180 0 9 (dk_at dksX3_closes_6 10 rfl rfl)
theorem dX3_closes_155 : decode cX3_closes 155 = .ok (.iconst 2, 1) := dk_5 (dk_at dksX3_closes_6 13 rfl rfl)
theorem dX3_closes_156 : decode cX3_closes 156 = .ok (.iload_n 3, 1) := dk_29 (dk_at dksX3_closes_6 14 rfl rfl)
theorem dX3_closes_157 : decode cX3_closes 157 = .ok (.iastore, 1) := dk_79 (dk_at dksX3_closes_6 15 rfl rfl)
theorem dX3_closes_158 : decode cX3_closes 158 = .ok (.return_, 1) := dk_177 (dk_at dksX3_closes_6 16 rfl rfl)
abbrev cX3_placeInQueue : ByteArray := prog_9_method_13_code
def yX3_placeInQueue : MethodName := ⟨RX3, "placeInQueue", "(I)I"⟩
def dkwX3_placeInQueue_1 : List UInt8 := [160, 0, 5, 28, 172, 132, 2, 1, 167, 255, 228, 2, 172]
abbrev dktX3_placeInQueue_1 : List UInt8 := dkwX3_placeInQueue_1 ++ []
def dkwX3_placeInQueue_0 : List UInt8 := [3, 61, 28, 42, 180, 0, 9, 5, 46, 162, 0, 24, 42, 180, 0, 9, 16, 118, 28, 96, 46, 27]
abbrev dktX3_placeInQueue_0 : List UInt8 := dkwX3_placeInQueue_0 ++ dktX3_placeInQueue_1
theorem dksX3_placeInQueue_0 : cX3_placeInQueue.data.toList.drop 0 = dktX3_placeInQueue_0 := by decide +kernel
theorem dksX3_placeInQueue_1 : cX3_placeInQueue.data.toList.drop 22 = dktX3_placeInQueue_1 := dk_seg dksX3_placeInQueue_0 22 rfl rfl
theorem dX3_placeInQueue_0 : decode cX3_placeInQueue 0 = .ok (.iconst 0, 1) := dk_3 (dk_at dksX3_placeInQueue_0 0 rfl rfl)
theorem dX3_placeInQueue_1 : decode cX3_placeInQueue 1 = .ok (.istore_n 2, 1) := dk_61 (dk_at dksX3_placeInQueue_0 1 rfl rfl)
theorem dX3_placeInQueue_2 : decode cX3_placeInQueue 2 = .ok (.iload_n 2, 1) := dk_28 (dk_at dksX3_placeInQueue_0 2 rfl rfl)
theorem dX3_placeInQueue_3 : decode cX3_placeInQueue 3 = .ok (.aload_n 0, 1) := dk_42 (dk_at dksX3_placeInQueue_0 3 rfl rfl)
theorem dX3_placeInQueue_4 : decode cX3_placeInQueue 4 = .ok (.getfield 9, 3) := dk_180 0 9 (dk_at dksX3_placeInQueue_0 4 rfl rfl)
theorem dX3_placeInQueue_7 : decode cX3_placeInQueue 7 = .ok (.iconst 2, 1) := dk_5 (dk_at dksX3_placeInQueue_0 7 rfl rfl)
theorem dX3_placeInQueue_8 : decode cX3_placeInQueue 8 = .ok (.iaload, 1) := dk_46 (dk_at dksX3_placeInQueue_0 8 rfl rfl)
theorem dX3_placeInQueue_9 : decode cX3_placeInQueue 9 = .ok (.if_icmp .ge 24, 3) := dk_162 0 24 (dk_at dksX3_placeInQueue_0 9 rfl rfl)
theorem dX3_placeInQueue_12 : decode cX3_placeInQueue 12 = .ok (.aload_n 0, 1) := dk_42 (dk_at dksX3_placeInQueue_0 12 rfl rfl)
theorem dX3_placeInQueue_13 : decode cX3_placeInQueue 13 = .ok (.getfield 9, 3) := dk_180 0 9 (dk_at dksX3_placeInQueue_0 13 rfl rfl)
theorem dX3_placeInQueue_16 : decode cX3_placeInQueue 16 = .ok (.bipush 118, 2) := dk_16 118 (dk_at dksX3_placeInQueue_0 16 rfl rfl)
theorem dX3_placeInQueue_18 : decode cX3_placeInQueue 18 = .ok (.iload_n 2, 1) := dk_28 (dk_at dksX3_placeInQueue_0 18 rfl rfl)
theorem dX3_placeInQueue_19 : decode cX3_placeInQueue 19 = .ok (.iadd, 1) := dk_96 (dk_at dksX3_placeInQueue_0 19 rfl rfl)
theorem dX3_placeInQueue_20 : decode cX3_placeInQueue 20 = .ok (.iaload, 1) := dk_46 (dk_at dksX3_placeInQueue_0 20 rfl rfl)
theorem dX3_placeInQueue_21 : decode cX3_placeInQueue 21 = .ok (.iload_n 1, 1) := dk_27 (dk_at dksX3_placeInQueue_0 21 rfl rfl)
theorem dX3_placeInQueue_22 : decode cX3_placeInQueue 22 = .ok (.if_icmp .ne 5, 3) := dk_160 0 5 (dk_at dksX3_placeInQueue_1 0 rfl rfl)
theorem dX3_placeInQueue_25 : decode cX3_placeInQueue 25 = .ok (.iload_n 2, 1) := dk_28 (dk_at dksX3_placeInQueue_1 3 rfl rfl)
theorem dX3_placeInQueue_26 : decode cX3_placeInQueue 26 = .ok (.ireturn, 1) := dk_172 (dk_at dksX3_placeInQueue_1 4 rfl rfl)
theorem dX3_placeInQueue_27 : decode cX3_placeInQueue 27 = .ok (.iinc 2 1, 3) := dk_132 2 1 (dk_at dksX3_placeInQueue_1 5 rfl rfl)
theorem dX3_placeInQueue_30 : decode cX3_placeInQueue 30 = .ok (.goto (-28), 3) := dk_167 255 228 (dk_at dksX3_placeInQueue_1 8 rfl rfl)
theorem dX3_placeInQueue_33 : decode cX3_placeInQueue 33 = .ok (.iconst (-1), 1) := dk_2 (dk_at dksX3_placeInQueue_1 11 rfl rfl)
theorem dX3_placeInQueue_34 : decode cX3_placeInQueue 34 = .ok (.ireturn, 1) := dk_172 (dk_at dksX3_placeInQueue_1 12 rfl rfl)
abbrev cX3_tick : ByteArray := prog_9_method_30_code
def yX3_tick : MethodName := ⟨RX3, "tick", "()I"⟩
def dkwX3_tick_0 : List UInt8 := [42, 182, 0, 63, 42, 42, 4, 182, 0, 112, 3, 3, 3, 182, 0, 70, 172]
abbrev dktX3_tick_0 : List UInt8 := dkwX3_tick_0 ++ []
theorem dksX3_tick_0 : cX3_tick.data.toList.drop 0 = dktX3_tick_0 := by decide +kernel
theorem dX3_tick_0 : decode cX3_tick 0 = .ok (.aload_n 0, 1) := dk_42 (dk_at dksX3_tick_0 0 rfl rfl)
theorem dX3_tick_1 : decode cX3_tick 1 = .ok (.invokevirtual 63, 3) := dk_182 0 63 (dk_at dksX3_tick_0 1 rfl rfl)
theorem dX3_tick_4 : decode cX3_tick 4 = .ok (.aload_n 0, 1) := dk_42 (dk_at dksX3_tick_0 4 rfl rfl)
theorem dX3_tick_5 : decode cX3_tick 5 = .ok (.aload_n 0, 1) := dk_42 (dk_at dksX3_tick_0 5 rfl rfl)
theorem dX3_tick_6 : decode cX3_tick 6 = .ok (.iconst 1, 1) := dk_4 (dk_at dksX3_tick_0 6 rfl rfl)
theorem dX3_tick_7 : decode cX3_tick 7 = .ok (.invokevirtual 112, 3) := dk_182 0 112 (dk_at dksX3_tick_0 7 rfl rfl)
theorem dX3_tick_10 : decode cX3_tick 10 = .ok (.iconst 0, 1) := dk_3 (dk_at dksX3_tick_0 10 rfl rfl)
theorem dX3_tick_11 : decode cX3_tick 11 = .ok (.iconst 0, 1) := dk_3 (dk_at dksX3_tick_0 11 rfl rfl)
theorem dX3_tick_12 : decode cX3_tick 12 = .ok (.iconst 0, 1) := dk_3 (dk_at dksX3_tick_0 12 rfl rfl)
theorem dX3_tick_13 : decode cX3_tick 13 = .ok (.invokevirtual 70, 3) := dk_182 0 70 (dk_at dksX3_tick_0 13 rfl rfl)
theorem dX3_tick_16 : decode cX3_tick 16 = .ok (.ireturn, 1) := dk_172 (dk_at dksX3_tick_0 16 rfl rfl)
abbrev cX3_passes : ByteArray := prog_9_method_29_code
def yX3_passes : MethodName := ⟨RX3, "passes", "(I)I"⟩
def dkwX3_passes_1 : List UInt8 := [42, 89, 180, 0, 40, 42, 182, 0, 108, 96, 181, 0, 40, 132, 2, 1, 167, 255, 235, 3, 172]
abbrev dktX3_passes_1 : List UInt8 := dkwX3_passes_1 ++ []
def dkwX3_passes_0 : List UInt8 := [27, 4, 16, 50, 184, 0, 55, 154, 0, 5, 5, 172, 42, 3, 181, 0, 40, 3, 61, 28, 27, 162, 0, 22]
abbrev dktX3_passes_0 : List UInt8 := dkwX3_passes_0 ++ dktX3_passes_1
theorem dksX3_passes_0 : cX3_passes.data.toList.drop 0 = dktX3_passes_0 := by decide +kernel
theorem dksX3_passes_1 : cX3_passes.data.toList.drop 24 = dktX3_passes_1 := dk_seg dksX3_passes_0 24 rfl rfl
theorem dX3_passes_0 : decode cX3_passes 0 = .ok (.iload_n 1, 1) := dk_27 (dk_at dksX3_passes_0 0 rfl rfl)
theorem dX3_passes_1 : decode cX3_passes 1 = .ok (.iconst 1, 1) := dk_4 (dk_at dksX3_passes_0 1 rfl rfl)
theorem dX3_passes_2 : decode cX3_passes 2 = .ok (.bipush 50, 2) := dk_16 50 (dk_at dksX3_passes_0 2 rfl rfl)
theorem dX3_passes_4 : decode cX3_passes 4 = .ok (.invokestatic 55, 3) := dk_184 0 55 (dk_at dksX3_passes_0 4 rfl rfl)
theorem dX3_passes_7 : decode cX3_passes 7 = .ok (.ifCond .ne 5, 3) := dk_154 0 5 (dk_at dksX3_passes_0 7 rfl rfl)
theorem dX3_passes_10 : decode cX3_passes 10 = .ok (.iconst 2, 1) := dk_5 (dk_at dksX3_passes_0 10 rfl rfl)
theorem dX3_passes_11 : decode cX3_passes 11 = .ok (.ireturn, 1) := dk_172 (dk_at dksX3_passes_0 11 rfl rfl)
theorem dX3_passes_12 : decode cX3_passes 12 = .ok (.aload_n 0, 1) := dk_42 (dk_at dksX3_passes_0 12 rfl rfl)
theorem dX3_passes_13 : decode cX3_passes 13 = .ok (.iconst 0, 1) := dk_3 (dk_at dksX3_passes_0 13 rfl rfl)
theorem dX3_passes_14 : decode cX3_passes 14 = .ok (.putfield 40, 3) := dk_181 0 40 (dk_at dksX3_passes_0 14 rfl rfl)
theorem dX3_passes_17 : decode cX3_passes 17 = .ok (.iconst 0, 1) := dk_3 (dk_at dksX3_passes_0 17 rfl rfl)
theorem dX3_passes_18 : decode cX3_passes 18 = .ok (.istore_n 2, 1) := dk_61 (dk_at dksX3_passes_0 18 rfl rfl)
theorem dX3_passes_19 : decode cX3_passes 19 = .ok (.iload_n 2, 1) := dk_28 (dk_at dksX3_passes_0 19 rfl rfl)
theorem dX3_passes_20 : decode cX3_passes 20 = .ok (.iload_n 1, 1) := dk_27 (dk_at dksX3_passes_0 20 rfl rfl)
theorem dX3_passes_21 : decode cX3_passes 21 = .ok (.if_icmp .ge 22, 3) := dk_162 0 22 (dk_at dksX3_passes_0 21 rfl rfl)
theorem dX3_passes_24 : decode cX3_passes 24 = .ok (.aload_n 0, 1) := dk_42 (dk_at dksX3_passes_1 0 rfl rfl)
theorem dX3_passes_25 : decode cX3_passes 25 = .ok (.dup, 1) := dk_89 (dk_at dksX3_passes_1 1 rfl rfl)
theorem dX3_passes_26 : decode cX3_passes 26 = .ok (.getfield 40, 3) := dk_180 0 40 (dk_at dksX3_passes_1 2 rfl rfl)
theorem dX3_passes_29 : decode cX3_passes 29 = .ok (.aload_n 0, 1) := dk_42 (dk_at dksX3_passes_1 5 rfl rfl)
theorem dX3_passes_30 : decode cX3_passes 30 = .ok (.invokevirtual 108, 3) := dk_182 0 108 (dk_at dksX3_passes_1 6 rfl rfl)
theorem dX3_passes_33 : decode cX3_passes 33 = .ok (.iadd, 1) := dk_96 (dk_at dksX3_passes_1 9 rfl rfl)
theorem dX3_passes_34 : decode cX3_passes 34 = .ok (.putfield 40, 3) := dk_181 0 40 (dk_at dksX3_passes_1 10 rfl rfl)
theorem dX3_passes_37 : decode cX3_passes 37 = .ok (.iinc 2 1, 3) := dk_132 2 1 (dk_at dksX3_passes_1 13 rfl rfl)
theorem dX3_passes_40 : decode cX3_passes 40 = .ok (.goto (-21), 3) := dk_167 255 235 (dk_at dksX3_passes_1 16 rfl rfl)
theorem dX3_passes_43 : decode cX3_passes 43 = .ok (.iconst 0, 1) := dk_3 (dk_at dksX3_passes_1 19 rfl rfl)
theorem dX3_passes_44 : decode cX3_passes 44 = .ok (.ireturn, 1) := dk_172 (dk_at dksX3_passes_1 20 rfl rfl)
abbrev cX3_ticksOnce : ByteArray := prog_9_method_28_code
def yX3_ticksOnce : MethodName := ⟨RX3, "ticksOnce", "()I"⟩
def dkwX3_ticksOnce_6 : List UInt8 := [42, 29, 182, 0, 92, 132, 2, 1, 167, 255, 207, 42, 180, 0, 9, 8, 92, 46, 28, 96, 79, 28, 172]
abbrev dktX3_ticksOnce_6 : List UInt8 := dkwX3_ticksOnce_6 ++ []
def dkwX3_ticksOnce_5 : List UInt8 := [180, 0, 9, 3, 46, 164, 0, 9, 132, 3, 1, 167, 255, 228, 42, 42, 29, 3, 182, 0, 43, 182, 0, 105]
abbrev dktX3_ticksOnce_5 : List UInt8 := dkwX3_ticksOnce_5 ++ dktX3_ticksOnce_6
def dkwX3_ticksOnce_4 : List UInt8 := [167, 255, 195, 3, 61, 3, 62, 29, 42, 180, 0, 9, 5, 46, 162, 0, 45, 42, 29, 7, 182, 0, 43, 42]
abbrev dktX3_ticksOnce_4 : List UInt8 := dkwX3_ticksOnce_4 ++ dktX3_ticksOnce_5
def dkwX3_ticksOnce_3 : List UInt8 := [6, 92, 46, 29, 42, 28, 6, 182, 0, 43, 100, 96, 79, 42, 28, 6, 29, 182, 0, 51, 132, 2, 1]
abbrev dktX3_ticksOnce_3 : List UInt8 := dkwX3_ticksOnce_3 ++ dktX3_ticksOnce_4
def dkwX3_ticksOnce_2 : List UInt8 := [182, 0, 43, 158, 0, 6, 167, 0, 38, 42, 28, 6, 182, 0, 43, 27, 184, 0, 102, 62, 42, 180, 0, 9]
abbrev dktX3_ticksOnce_2 : List UInt8 := dkwX3_ticksOnce_2 ++ dktX3_ticksOnce_3
def dkwX3_ticksOnce_1 : List UInt8 := [182, 0, 99, 96, 46, 60, 3, 61, 28, 42, 180, 0, 9, 5, 46, 162, 0, 57, 42, 28, 16, 6]
abbrev dktX3_ticksOnce_1 : List UInt8 := dkwX3_ticksOnce_1 ++ dktX3_ticksOnce_2
def dkwX3_ticksOnce_0 : List UInt8 := [42, 180, 0, 9, 3, 92, 46, 4, 96, 79, 42, 180, 0, 9, 16, 10, 42, 42, 180, 0, 9, 3, 46]
abbrev dktX3_ticksOnce_0 : List UInt8 := dkwX3_ticksOnce_0 ++ dktX3_ticksOnce_1
theorem dksX3_ticksOnce_0 : cX3_ticksOnce.data.toList.drop 0 = dktX3_ticksOnce_0 := by decide +kernel
theorem dksX3_ticksOnce_1 : cX3_ticksOnce.data.toList.drop 23 = dktX3_ticksOnce_1 := dk_seg dksX3_ticksOnce_0 23 rfl rfl
theorem dksX3_ticksOnce_2 : cX3_ticksOnce.data.toList.drop 45 = dktX3_ticksOnce_2 := dk_seg dksX3_ticksOnce_1 22 rfl rfl
theorem dksX3_ticksOnce_3 : cX3_ticksOnce.data.toList.drop 69 = dktX3_ticksOnce_3 := dk_seg dksX3_ticksOnce_2 24 rfl rfl
theorem dksX3_ticksOnce_4 : cX3_ticksOnce.data.toList.drop 92 = dktX3_ticksOnce_4 := dk_seg dksX3_ticksOnce_3 23 rfl rfl
theorem dksX3_ticksOnce_5 : cX3_ticksOnce.data.toList.drop 116 = dktX3_ticksOnce_5 := dk_seg dksX3_ticksOnce_4 24 rfl rfl
theorem dksX3_ticksOnce_6 : cX3_ticksOnce.data.toList.drop 140 = dktX3_ticksOnce_6 := dk_seg dksX3_ticksOnce_5 24 rfl rfl
theorem dX3_ticksOnce_0 : decode cX3_ticksOnce 0 = .ok (.aload_n 0, 1) := dk_42 (dk_at dksX3_ticksOnce_0 0 rfl rfl)
theorem dX3_ticksOnce_1 : decode cX3_ticksOnce 1 = .ok (.getfield 9, 3) := dk_180 0 9 (dk_at dksX3_ticksOnce_0 1 rfl rfl)
theorem dX3_ticksOnce_4 : decode cX3_ticksOnce 4 = .ok (.iconst 0, 1) := dk_3 (dk_at dksX3_ticksOnce_0 4 rfl rfl)
theorem dX3_ticksOnce_5 : decode cX3_ticksOnce 5 = .ok (.dup2, 1) := dk_92 (dk_at dksX3_ticksOnce_0 5 rfl rfl)
theorem dX3_ticksOnce_6 : decode cX3_ticksOnce 6 = .ok (.iaload, 1) := dk_46 (dk_at dksX3_ticksOnce_0 6 rfl rfl)
theorem dX3_ticksOnce_7 : decode cX3_ticksOnce 7 = .ok (.iconst 1, 1) := dk_4 (dk_at dksX3_ticksOnce_0 7 rfl rfl)
theorem dX3_ticksOnce_8 : decode cX3_ticksOnce 8 = .ok (.iadd, 1) := dk_96 (dk_at dksX3_ticksOnce_0 8 rfl rfl)
theorem dX3_ticksOnce_9 : decode cX3_ticksOnce 9 = .ok (.iastore, 1) := dk_79 (dk_at dksX3_ticksOnce_0 9 rfl rfl)
theorem dX3_ticksOnce_10 : decode cX3_ticksOnce 10 = .ok (.aload_n 0, 1) := dk_42 (dk_at dksX3_ticksOnce_0 10 rfl rfl)
theorem dX3_ticksOnce_11 : decode cX3_ticksOnce 11 = .ok (.getfield 9, 3) := dk_180 0 9 (dk_at dksX3_ticksOnce_0 11 rfl rfl)
theorem dX3_ticksOnce_14 : decode cX3_ticksOnce 14 = .ok (.bipush 10, 2) := dk_16 10 (dk_at dksX3_ticksOnce_0 14 rfl rfl)
theorem dX3_ticksOnce_16 : decode cX3_ticksOnce 16 = .ok (.aload_n 0, 1) := dk_42 (dk_at dksX3_ticksOnce_0 16 rfl rfl)
theorem dX3_ticksOnce_17 : decode cX3_ticksOnce 17 = .ok (.aload_n 0, 1) := dk_42 (dk_at dksX3_ticksOnce_0 17 rfl rfl)
theorem dX3_ticksOnce_18 : decode cX3_ticksOnce 18 = .ok (.getfield 9, 3) := dk_180 0 9 (dk_at dksX3_ticksOnce_0 18 rfl rfl)
theorem dX3_ticksOnce_21 : decode cX3_ticksOnce 21 = .ok (.iconst 0, 1) := dk_3 (dk_at dksX3_ticksOnce_0 21 rfl rfl)
theorem dX3_ticksOnce_22 : decode cX3_ticksOnce 22 = .ok (.iaload, 1) := dk_46 (dk_at dksX3_ticksOnce_0 22 rfl rfl)
theorem dX3_ticksOnce_23 : decode cX3_ticksOnce 23 = .ok (.invokevirtual 99, 3) := dk_182 0 99 (dk_at dksX3_ticksOnce_1 0 rfl rfl)
theorem dX3_ticksOnce_26 : decode cX3_ticksOnce 26 = .ok (.iadd, 1) := dk_96 (dk_at dksX3_ticksOnce_1 3 rfl rfl)
theorem dX3_ticksOnce_27 : decode cX3_ticksOnce 27 = .ok (.iaload, 1) := dk_46 (dk_at dksX3_ticksOnce_1 4 rfl rfl)
theorem dX3_ticksOnce_28 : decode cX3_ticksOnce 28 = .ok (.istore_n 1, 1) := dk_60 (dk_at dksX3_ticksOnce_1 5 rfl rfl)
theorem dX3_ticksOnce_29 : decode cX3_ticksOnce 29 = .ok (.iconst 0, 1) := dk_3 (dk_at dksX3_ticksOnce_1 6 rfl rfl)
theorem dX3_ticksOnce_30 : decode cX3_ticksOnce 30 = .ok (.istore_n 2, 1) := dk_61 (dk_at dksX3_ticksOnce_1 7 rfl rfl)
theorem dX3_ticksOnce_31 : decode cX3_ticksOnce 31 = .ok (.iload_n 2, 1) := dk_28 (dk_at dksX3_ticksOnce_1 8 rfl rfl)
theorem dX3_ticksOnce_32 : decode cX3_ticksOnce 32 = .ok (.aload_n 0, 1) := dk_42 (dk_at dksX3_ticksOnce_1 9 rfl rfl)
theorem dX3_ticksOnce_33 : decode cX3_ticksOnce 33 = .ok (.getfield 9, 3) := dk_180 0 9 (dk_at dksX3_ticksOnce_1 10 rfl rfl)
theorem dX3_ticksOnce_36 : decode cX3_ticksOnce 36 = .ok (.iconst 2, 1) := dk_5 (dk_at dksX3_ticksOnce_1 13 rfl rfl)
theorem dX3_ticksOnce_37 : decode cX3_ticksOnce 37 = .ok (.iaload, 1) := dk_46 (dk_at dksX3_ticksOnce_1 14 rfl rfl)
theorem dX3_ticksOnce_38 : decode cX3_ticksOnce 38 = .ok (.if_icmp .ge 57, 3) := dk_162 0 57 (dk_at dksX3_ticksOnce_1 15 rfl rfl)
theorem dX3_ticksOnce_41 : decode cX3_ticksOnce 41 = .ok (.aload_n 0, 1) := dk_42 (dk_at dksX3_ticksOnce_1 18 rfl rfl)
theorem dX3_ticksOnce_42 : decode cX3_ticksOnce 42 = .ok (.iload_n 2, 1) := dk_28 (dk_at dksX3_ticksOnce_1 19 rfl rfl)
theorem dX3_ticksOnce_43 : decode cX3_ticksOnce 43 = .ok (.bipush 6, 2) := dk_16 6 (dk_at dksX3_ticksOnce_1 20 rfl rfl)
theorem dX3_ticksOnce_45 : decode cX3_ticksOnce 45 = .ok (.invokevirtual 43, 3) := dk_182 0 43 (dk_at dksX3_ticksOnce_2 0 rfl rfl)
theorem dX3_ticksOnce_48 : decode cX3_ticksOnce 48 = .ok (.ifCond .le 6, 3) := dk_158 0 6 (dk_at dksX3_ticksOnce_2 3 rfl rfl)
theorem dX3_ticksOnce_51 : decode cX3_ticksOnce 51 = .ok (.goto 38, 3) := dk_167 0 38 (dk_at dksX3_ticksOnce_2 6 rfl rfl)
theorem dX3_ticksOnce_54 : decode cX3_ticksOnce 54 = .ok (.aload_n 0, 1) := dk_42 (dk_at dksX3_ticksOnce_2 9 rfl rfl)
theorem dX3_ticksOnce_55 : decode cX3_ticksOnce 55 = .ok (.iload_n 2, 1) := dk_28 (dk_at dksX3_ticksOnce_2 10 rfl rfl)
theorem dX3_ticksOnce_56 : decode cX3_ticksOnce 56 = .ok (.iconst 3, 1) := dk_6 (dk_at dksX3_ticksOnce_2 11 rfl rfl)
theorem dX3_ticksOnce_57 : decode cX3_ticksOnce 57 = .ok (.invokevirtual 43, 3) := dk_182 0 43 (dk_at dksX3_ticksOnce_2 12 rfl rfl)
theorem dX3_ticksOnce_60 : decode cX3_ticksOnce 60 = .ok (.iload_n 1, 1) := dk_27 (dk_at dksX3_ticksOnce_2 15 rfl rfl)
theorem dX3_ticksOnce_61 : decode cX3_ticksOnce 61 = .ok (.invokestatic 102, 3) := dk_184 0 102 (dk_at dksX3_ticksOnce_2 16 rfl rfl)
theorem dX3_ticksOnce_64 : decode cX3_ticksOnce 64 = .ok (.istore_n 3, 1) := dk_62 (dk_at dksX3_ticksOnce_2 19 rfl rfl)
theorem dX3_ticksOnce_65 : decode cX3_ticksOnce 65 = .ok (.aload_n 0, 1) := dk_42 (dk_at dksX3_ticksOnce_2 20 rfl rfl)
theorem dX3_ticksOnce_66 : decode cX3_ticksOnce 66 = .ok (.getfield 9, 3) := dk_180 0 9 (dk_at dksX3_ticksOnce_2 21 rfl rfl)
theorem dX3_ticksOnce_69 : decode cX3_ticksOnce 69 = .ok (.iconst 3, 1) := dk_6 (dk_at dksX3_ticksOnce_3 0 rfl rfl)
theorem dX3_ticksOnce_70 : decode cX3_ticksOnce 70 = .ok (.dup2, 1) := dk_92 (dk_at dksX3_ticksOnce_3 1 rfl rfl)
theorem dX3_ticksOnce_71 : decode cX3_ticksOnce 71 = .ok (.iaload, 1) := dk_46 (dk_at dksX3_ticksOnce_3 2 rfl rfl)
theorem dX3_ticksOnce_72 : decode cX3_ticksOnce 72 = .ok (.iload_n 3, 1) := dk_29 (dk_at dksX3_ticksOnce_3 3 rfl rfl)
theorem dX3_ticksOnce_73 : decode cX3_ticksOnce 73 = .ok (.aload_n 0, 1) := dk_42 (dk_at dksX3_ticksOnce_3 4 rfl rfl)
theorem dX3_ticksOnce_74 : decode cX3_ticksOnce 74 = .ok (.iload_n 2, 1) := dk_28 (dk_at dksX3_ticksOnce_3 5 rfl rfl)
theorem dX3_ticksOnce_75 : decode cX3_ticksOnce 75 = .ok (.iconst 3, 1) := dk_6 (dk_at dksX3_ticksOnce_3 6 rfl rfl)
theorem dX3_ticksOnce_76 : decode cX3_ticksOnce 76 = .ok (.invokevirtual 43, 3) := dk_182 0 43 (dk_at dksX3_ticksOnce_3 7 rfl rfl)
theorem dX3_ticksOnce_79 : decode cX3_ticksOnce 79 = .ok (.isub, 1) := dk_100 (dk_at dksX3_ticksOnce_3 10 rfl rfl)
theorem dX3_ticksOnce_80 : decode cX3_ticksOnce 80 = .ok (.iadd, 1) := dk_96 (dk_at dksX3_ticksOnce_3 11 rfl rfl)
theorem dX3_ticksOnce_81 : decode cX3_ticksOnce 81 = .ok (.iastore, 1) := dk_79 (dk_at dksX3_ticksOnce_3 12 rfl rfl)
theorem dX3_ticksOnce_82 : decode cX3_ticksOnce 82 = .ok (.aload_n 0, 1) := dk_42 (dk_at dksX3_ticksOnce_3 13 rfl rfl)
theorem dX3_ticksOnce_83 : decode cX3_ticksOnce 83 = .ok (.iload_n 2, 1) := dk_28 (dk_at dksX3_ticksOnce_3 14 rfl rfl)
theorem dX3_ticksOnce_84 : decode cX3_ticksOnce 84 = .ok (.iconst 3, 1) := dk_6 (dk_at dksX3_ticksOnce_3 15 rfl rfl)
theorem dX3_ticksOnce_85 : decode cX3_ticksOnce 85 = .ok (.iload_n 3, 1) := dk_29 (dk_at dksX3_ticksOnce_3 16 rfl rfl)
theorem dX3_ticksOnce_86 : decode cX3_ticksOnce 86 = .ok (.invokevirtual 51, 3) := dk_182 0 51 (dk_at dksX3_ticksOnce_3 17 rfl rfl)
theorem dX3_ticksOnce_89 : decode cX3_ticksOnce 89 = .ok (.iinc 2 1, 3) := dk_132 2 1 (dk_at dksX3_ticksOnce_3 20 rfl rfl)
theorem dX3_ticksOnce_92 : decode cX3_ticksOnce 92 = .ok (.goto (-61), 3) := dk_167 255 195 (dk_at dksX3_ticksOnce_4 0 rfl rfl)
theorem dX3_ticksOnce_95 : decode cX3_ticksOnce 95 = .ok (.iconst 0, 1) := dk_3 (dk_at dksX3_ticksOnce_4 3 rfl rfl)
theorem dX3_ticksOnce_96 : decode cX3_ticksOnce 96 = .ok (.istore_n 2, 1) := dk_61 (dk_at dksX3_ticksOnce_4 4 rfl rfl)
theorem dX3_ticksOnce_97 : decode cX3_ticksOnce 97 = .ok (.iconst 0, 1) := dk_3 (dk_at dksX3_ticksOnce_4 5 rfl rfl)
theorem dX3_ticksOnce_98 : decode cX3_ticksOnce 98 = .ok (.istore_n 3, 1) := dk_62 (dk_at dksX3_ticksOnce_4 6 rfl rfl)
theorem dX3_ticksOnce_99 : decode cX3_ticksOnce 99 = .ok (.iload_n 3, 1) := dk_29 (dk_at dksX3_ticksOnce_4 7 rfl rfl)
theorem dX3_ticksOnce_100 : decode cX3_ticksOnce 100 = .ok (.aload_n 0, 1) := dk_42 (dk_at dksX3_ticksOnce_4 8 rfl rfl)
theorem dX3_ticksOnce_101 : decode cX3_ticksOnce 101 = .ok (.getfield 9, 3) := dk_180 0 9 (dk_at dksX3_ticksOnce_4 9 rfl rfl)
theorem dX3_ticksOnce_104 : decode cX3_ticksOnce 104 = .ok (.iconst 2, 1) := dk_5 (dk_at dksX3_ticksOnce_4 12 rfl rfl)
theorem dX3_ticksOnce_105 : decode cX3_ticksOnce 105 = .ok (.iaload, 1) := dk_46 (dk_at dksX3_ticksOnce_4 13 rfl rfl)
theorem dX3_ticksOnce_106 : decode cX3_ticksOnce 106 = .ok (.if_icmp .ge 45, 3) := dk_162 0 45 (dk_at dksX3_ticksOnce_4 14 rfl rfl)
theorem dX3_ticksOnce_109 : decode cX3_ticksOnce 109 = .ok (.aload_n 0, 1) := dk_42 (dk_at dksX3_ticksOnce_4 17 rfl rfl)
theorem dX3_ticksOnce_110 : decode cX3_ticksOnce 110 = .ok (.iload_n 3, 1) := dk_29 (dk_at dksX3_ticksOnce_4 18 rfl rfl)
theorem dX3_ticksOnce_111 : decode cX3_ticksOnce 111 = .ok (.iconst 4, 1) := dk_7 (dk_at dksX3_ticksOnce_4 19 rfl rfl)
theorem dX3_ticksOnce_112 : decode cX3_ticksOnce 112 = .ok (.invokevirtual 43, 3) := dk_182 0 43 (dk_at dksX3_ticksOnce_4 20 rfl rfl)
theorem dX3_ticksOnce_115 : decode cX3_ticksOnce 115 = .ok (.aload_n 0, 1) := dk_42 (dk_at dksX3_ticksOnce_4 23 rfl rfl)
theorem dX3_ticksOnce_116 : decode cX3_ticksOnce 116 = .ok (.getfield 9, 3) := dk_180 0 9 (dk_at dksX3_ticksOnce_5 0 rfl rfl)
theorem dX3_ticksOnce_119 : decode cX3_ticksOnce 119 = .ok (.iconst 0, 1) := dk_3 (dk_at dksX3_ticksOnce_5 3 rfl rfl)
theorem dX3_ticksOnce_120 : decode cX3_ticksOnce 120 = .ok (.iaload, 1) := dk_46 (dk_at dksX3_ticksOnce_5 4 rfl rfl)
theorem dX3_ticksOnce_121 : decode cX3_ticksOnce 121 = .ok (.if_icmp .le 9, 3) := dk_164 0 9 (dk_at dksX3_ticksOnce_5 5 rfl rfl)
theorem dX3_ticksOnce_124 : decode cX3_ticksOnce 124 = .ok (.iinc 3 1, 3) := dk_132 3 1 (dk_at dksX3_ticksOnce_5 8 rfl rfl)
theorem dX3_ticksOnce_127 : decode cX3_ticksOnce 127 = .ok (.goto (-28), 3) := dk_167 255 228 (dk_at dksX3_ticksOnce_5 11 rfl rfl)
theorem dX3_ticksOnce_130 : decode cX3_ticksOnce 130 = .ok (.aload_n 0, 1) := dk_42 (dk_at dksX3_ticksOnce_5 14 rfl rfl)
theorem dX3_ticksOnce_131 : decode cX3_ticksOnce 131 = .ok (.aload_n 0, 1) := dk_42 (dk_at dksX3_ticksOnce_5 15 rfl rfl)
theorem dX3_ticksOnce_132 : decode cX3_ticksOnce 132 = .ok (.iload_n 3, 1) := dk_29 (dk_at dksX3_ticksOnce_5 16 rfl rfl)
theorem dX3_ticksOnce_133 : decode cX3_ticksOnce 133 = .ok (.iconst 0, 1) := dk_3 (dk_at dksX3_ticksOnce_5 17 rfl rfl)
theorem dX3_ticksOnce_134 : decode cX3_ticksOnce 134 = .ok (.invokevirtual 43, 3) := dk_182 0 43 (dk_at dksX3_ticksOnce_5 18 rfl rfl)
theorem dX3_ticksOnce_137 : decode cX3_ticksOnce 137 = .ok (.invokevirtual 105, 3) := dk_182 0 105 (dk_at dksX3_ticksOnce_5 21 rfl rfl)
theorem dX3_ticksOnce_140 : decode cX3_ticksOnce 140 = .ok (.aload_n 0, 1) := dk_42 (dk_at dksX3_ticksOnce_6 0 rfl rfl)
theorem dX3_ticksOnce_141 : decode cX3_ticksOnce 141 = .ok (.iload_n 3, 1) := dk_29 (dk_at dksX3_ticksOnce_6 1 rfl rfl)
theorem dX3_ticksOnce_142 : decode cX3_ticksOnce 142 = .ok (.invokevirtual 92, 3) := dk_182 0 92 (dk_at dksX3_ticksOnce_6 2 rfl rfl)
theorem dX3_ticksOnce_145 : decode cX3_ticksOnce 145 = .ok (.iinc 2 1, 3) := dk_132 2 1 (dk_at dksX3_ticksOnce_6 5 rfl rfl)
theorem dX3_ticksOnce_148 : decode cX3_ticksOnce 148 = .ok (.goto (-49), 3) := dk_167 255 207 (dk_at dksX3_ticksOnce_6 8 rfl rfl)
theorem dX3_ticksOnce_151 : decode cX3_ticksOnce 151 = .ok (.aload_n 0, 1) := dk_42 (dk_at dksX3_ticksOnce_6 11 rfl rfl)
theorem dX3_ticksOnce_152 : decode cX3_ticksOnce 152 = .ok (.getfield 9, 3) := dk_180 0 9 (dk_at dksX3_ticksOnce_6 12 rfl rfl)
theorem dX3_ticksOnce_155 : decode cX3_ticksOnce 155 = .ok (.iconst 5, 1) := dk_8 (dk_at dksX3_ticksOnce_6 15 rfl rfl)
theorem dX3_ticksOnce_156 : decode cX3_ticksOnce 156 = .ok (.dup2, 1) := dk_92 (dk_at dksX3_ticksOnce_6 16 rfl rfl)
theorem dX3_ticksOnce_157 : decode cX3_ticksOnce 157 = .ok (.iaload, 1) := dk_46 (dk_at dksX3_ticksOnce_6 17 rfl rfl)
theorem dX3_ticksOnce_158 : decode cX3_ticksOnce 158 = .ok (.iload_n 2, 1) := dk_28 (dk_at dksX3_ticksOnce_6 18 rfl rfl)
theorem dX3_ticksOnce_159 : decode cX3_ticksOnce 159 = .ok (.iadd, 1) := dk_96 (dk_at dksX3_ticksOnce_6 19 rfl rfl)
theorem dX3_ticksOnce_160 : decode cX3_ticksOnce 160 = .ok (.iastore, 1) := dk_79 (dk_at dksX3_ticksOnce_6 20 rfl rfl)
theorem dX3_ticksOnce_161 : decode cX3_ticksOnce 161 = .ok (.iload_n 2, 1) := dk_28 (dk_at dksX3_ticksOnce_6 21 rfl rfl)
theorem dX3_ticksOnce_162 : decode cX3_ticksOnce 162 = .ok (.ireturn, 1) := dk_172 (dk_at dksX3_ticksOnce_6 22 rfl rfl)
abbrev cX3_phaseAt : ByteArray := prog_9_method_11_code
def yX3_phaseAt : MethodName := ⟨RX3, "phaseAt", "(I)I"⟩
def dkwX3_phaseAt_0 : List UInt8 := [27, 7, 108, 7, 112, 172]
abbrev dktX3_phaseAt_0 : List UInt8 := dkwX3_phaseAt_0 ++ []
theorem dksX3_phaseAt_0 : cX3_phaseAt.data.toList.drop 0 = dktX3_phaseAt_0 := by decide +kernel
theorem dX3_phaseAt_0 : decode cX3_phaseAt 0 = .ok (.iload_n 1, 1) := dk_27 (dk_at dksX3_phaseAt_0 0 rfl rfl)
theorem dX3_phaseAt_1 : decode cX3_phaseAt 1 = .ok (.iconst 4, 1) := dk_7 (dk_at dksX3_phaseAt_0 1 rfl rfl)
theorem dX3_phaseAt_2 : decode cX3_phaseAt 2 = .ok (.idiv, 1) := dk_108 (dk_at dksX3_phaseAt_0 2 rfl rfl)
theorem dX3_phaseAt_3 : decode cX3_phaseAt 3 = .ok (.iconst 4, 1) := dk_7 (dk_at dksX3_phaseAt_0 3 rfl rfl)
theorem dX3_phaseAt_4 : decode cX3_phaseAt 4 = .ok (.irem, 1) := dk_112 (dk_at dksX3_phaseAt_0 4 rfl rfl)
theorem dX3_phaseAt_5 : decode cX3_phaseAt 5 = .ok (.ireturn, 1) := dk_172 (dk_at dksX3_phaseAt_0 5 rfl rfl)
abbrev cX3_grown : ByteArray := prog_9_method_26_code
def yX3_grown : MethodName := ⟨RX3, "grown", "(II)I"⟩
def dkwX3_grown_0 : List UInt8 := [26, 26, 27, 104, 16, 100, 108, 96, 61, 28, 17, 39, 15, 164, 0, 9, 17, 39, 15, 167, 0, 4, 28, 172]
abbrev dktX3_grown_0 : List UInt8 := dkwX3_grown_0 ++ []
theorem dksX3_grown_0 : cX3_grown.data.toList.drop 0 = dktX3_grown_0 := by decide +kernel
theorem dX3_grown_0 : decode cX3_grown 0 = .ok (.iload_n 0, 1) := dk_26 (dk_at dksX3_grown_0 0 rfl rfl)
theorem dX3_grown_1 : decode cX3_grown 1 = .ok (.iload_n 0, 1) := dk_26 (dk_at dksX3_grown_0 1 rfl rfl)
theorem dX3_grown_2 : decode cX3_grown 2 = .ok (.iload_n 1, 1) := dk_27 (dk_at dksX3_grown_0 2 rfl rfl)
theorem dX3_grown_3 : decode cX3_grown 3 = .ok (.imul, 1) := dk_104 (dk_at dksX3_grown_0 3 rfl rfl)
theorem dX3_grown_4 : decode cX3_grown 4 = .ok (.bipush 100, 2) := dk_16 100 (dk_at dksX3_grown_0 4 rfl rfl)
theorem dX3_grown_6 : decode cX3_grown 6 = .ok (.idiv, 1) := dk_108 (dk_at dksX3_grown_0 6 rfl rfl)
theorem dX3_grown_7 : decode cX3_grown 7 = .ok (.iadd, 1) := dk_96 (dk_at dksX3_grown_0 7 rfl rfl)
theorem dX3_grown_8 : decode cX3_grown 8 = .ok (.istore_n 2, 1) := dk_61 (dk_at dksX3_grown_0 8 rfl rfl)
theorem dX3_grown_9 : decode cX3_grown 9 = .ok (.iload_n 2, 1) := dk_28 (dk_at dksX3_grown_0 9 rfl rfl)
theorem dX3_grown_10 : decode cX3_grown 10 = .ok (.sipush 9999, 3) := dk_17 39 15 (dk_at dksX3_grown_0 10 rfl rfl)
theorem dX3_grown_13 : decode cX3_grown 13 = .ok (.if_icmp .le 9, 3) := dk_164 0 9 (dk_at dksX3_grown_0 13 rfl rfl)
theorem dX3_grown_16 : decode cX3_grown 16 = .ok (.sipush 9999, 3) := dk_17 39 15 (dk_at dksX3_grown_0 16 rfl rfl)
theorem dX3_grown_19 : decode cX3_grown 19 = .ok (.goto 4, 3) := dk_167 0 4 (dk_at dksX3_grown_0 19 rfl rfl)
theorem dX3_grown_22 : decode cX3_grown 22 = .ok (.iload_n 2, 1) := dk_28 (dk_at dksX3_grown_0 22 rfl rfl)
theorem dX3_grown_23 : decode cX3_grown 23 = .ok (.ireturn, 1) := dk_172 (dk_at dksX3_grown_0 23 rfl rfl)
abbrev cX3_remembers : ByteArray := prog_9_method_27_code
def yX3_remembers : MethodName := ⟨RX3, "remembers", "(I)V"⟩
def dkwX3_remembers_3 : List UInt8 := [16, 8, 79, 177]
abbrev dktX3_remembers_3 : List UInt8 := dkwX3_remembers_3 ++ []
def dkwX3_remembers_2 : List UInt8 := [180, 0, 9, 16, 9, 46, 16, 8, 162, 0, 15, 42, 180, 0, 9, 16, 9, 46, 4, 96, 167, 0, 5]
abbrev dktX3_remembers_2 : List UInt8 := dkwX3_remembers_2 ++ dktX3_remembers_3
def dkwX3_remembers_1 : List UInt8 := [100, 46, 79, 132, 2, 255, 167, 255, 229, 42, 180, 0, 9, 16, 14, 27, 79, 42, 180, 0, 9, 16, 9, 42]
abbrev dktX3_remembers_1 : List UInt8 := dkwX3_remembers_1 ++ dktX3_remembers_2
def dkwX3_remembers_0 : List UInt8 := [16, 7, 61, 28, 158, 0, 29, 42, 180, 0, 9, 16, 14, 28, 96, 42, 180, 0, 9, 16, 14, 28, 96, 4]
abbrev dktX3_remembers_0 : List UInt8 := dkwX3_remembers_0 ++ dktX3_remembers_1
theorem dksX3_remembers_0 : cX3_remembers.data.toList.drop 0 = dktX3_remembers_0 := by decide +kernel
theorem dksX3_remembers_1 : cX3_remembers.data.toList.drop 24 = dktX3_remembers_1 := dk_seg dksX3_remembers_0 24 rfl rfl
theorem dksX3_remembers_2 : cX3_remembers.data.toList.drop 48 = dktX3_remembers_2 := dk_seg dksX3_remembers_1 24 rfl rfl
theorem dksX3_remembers_3 : cX3_remembers.data.toList.drop 71 = dktX3_remembers_3 := dk_seg dksX3_remembers_2 23 rfl rfl
theorem dX3_remembers_0 : decode cX3_remembers 0 = .ok (.bipush 7, 2) := dk_16 7 (dk_at dksX3_remembers_0 0 rfl rfl)
theorem dX3_remembers_2 : decode cX3_remembers 2 = .ok (.istore_n 2, 1) := dk_61 (dk_at dksX3_remembers_0 2 rfl rfl)
theorem dX3_remembers_3 : decode cX3_remembers 3 = .ok (.iload_n 2, 1) := dk_28 (dk_at dksX3_remembers_0 3 rfl rfl)
theorem dX3_remembers_4 : decode cX3_remembers 4 = .ok (.ifCond .le 29, 3) := dk_158 0 29 (dk_at dksX3_remembers_0 4 rfl rfl)
theorem dX3_remembers_7 : decode cX3_remembers 7 = .ok (.aload_n 0, 1) := dk_42 (dk_at dksX3_remembers_0 7 rfl rfl)
theorem dX3_remembers_8 : decode cX3_remembers 8 = .ok (.getfield 9, 3) := dk_180 0 9 (dk_at dksX3_remembers_0 8 rfl rfl)
theorem dX3_remembers_11 : decode cX3_remembers 11 = .ok (.bipush 14, 2) := dk_16 14 (dk_at dksX3_remembers_0 11 rfl rfl)
theorem dX3_remembers_13 : decode cX3_remembers 13 = .ok (.iload_n 2, 1) := dk_28 (dk_at dksX3_remembers_0 13 rfl rfl)
theorem dX3_remembers_14 : decode cX3_remembers 14 = .ok (.iadd, 1) := dk_96 (dk_at dksX3_remembers_0 14 rfl rfl)
theorem dX3_remembers_15 : decode cX3_remembers 15 = .ok (.aload_n 0, 1) := dk_42 (dk_at dksX3_remembers_0 15 rfl rfl)
theorem dX3_remembers_16 : decode cX3_remembers 16 = .ok (.getfield 9, 3) := dk_180 0 9 (dk_at dksX3_remembers_0 16 rfl rfl)
theorem dX3_remembers_19 : decode cX3_remembers 19 = .ok (.bipush 14, 2) := dk_16 14 (dk_at dksX3_remembers_0 19 rfl rfl)
theorem dX3_remembers_21 : decode cX3_remembers 21 = .ok (.iload_n 2, 1) := dk_28 (dk_at dksX3_remembers_0 21 rfl rfl)
theorem dX3_remembers_22 : decode cX3_remembers 22 = .ok (.iadd, 1) := dk_96 (dk_at dksX3_remembers_0 22 rfl rfl)
theorem dX3_remembers_23 : decode cX3_remembers 23 = .ok (.iconst 1, 1) := dk_4 (dk_at dksX3_remembers_0 23 rfl rfl)
theorem dX3_remembers_24 : decode cX3_remembers 24 = .ok (.isub, 1) := dk_100 (dk_at dksX3_remembers_1 0 rfl rfl)
theorem dX3_remembers_25 : decode cX3_remembers 25 = .ok (.iaload, 1) := dk_46 (dk_at dksX3_remembers_1 1 rfl rfl)
theorem dX3_remembers_26 : decode cX3_remembers 26 = .ok (.iastore, 1) := dk_79 (dk_at dksX3_remembers_1 2 rfl rfl)
theorem dX3_remembers_27 : decode cX3_remembers 27 = .ok (.iinc 2 (-1), 3) := dk_132 2 255 (dk_at dksX3_remembers_1 3 rfl rfl)
theorem dX3_remembers_30 : decode cX3_remembers 30 = .ok (.goto (-27), 3) := dk_167 255 229 (dk_at dksX3_remembers_1 6 rfl rfl)
theorem dX3_remembers_33 : decode cX3_remembers 33 = .ok (.aload_n 0, 1) := dk_42 (dk_at dksX3_remembers_1 9 rfl rfl)
theorem dX3_remembers_34 : decode cX3_remembers 34 = .ok (.getfield 9, 3) := dk_180 0 9 (dk_at dksX3_remembers_1 10 rfl rfl)
theorem dX3_remembers_37 : decode cX3_remembers 37 = .ok (.bipush 14, 2) := dk_16 14 (dk_at dksX3_remembers_1 13 rfl rfl)
theorem dX3_remembers_39 : decode cX3_remembers 39 = .ok (.iload_n 1, 1) := dk_27 (dk_at dksX3_remembers_1 15 rfl rfl)
theorem dX3_remembers_40 : decode cX3_remembers 40 = .ok (.iastore, 1) := dk_79 (dk_at dksX3_remembers_1 16 rfl rfl)
theorem dX3_remembers_41 : decode cX3_remembers 41 = .ok (.aload_n 0, 1) := dk_42 (dk_at dksX3_remembers_1 17 rfl rfl)
theorem dX3_remembers_42 : decode cX3_remembers 42 = .ok (.getfield 9, 3) := dk_180 0 9 (dk_at dksX3_remembers_1 18 rfl rfl)
theorem dX3_remembers_45 : decode cX3_remembers 45 = .ok (.bipush 9, 2) := dk_16 9 (dk_at dksX3_remembers_1 21 rfl rfl)
theorem dX3_remembers_47 : decode cX3_remembers 47 = .ok (.aload_n 0, 1) := dk_42 (dk_at dksX3_remembers_1 23 rfl rfl)
theorem dX3_remembers_48 : decode cX3_remembers 48 = .ok (.getfield 9, 3) := dk_180 0 9 (dk_at dksX3_remembers_2 0 rfl rfl)
theorem dX3_remembers_51 : decode cX3_remembers 51 = .ok (.bipush 9, 2) := dk_16 9 (dk_at dksX3_remembers_2 3 rfl rfl)
theorem dX3_remembers_53 : decode cX3_remembers 53 = .ok (.iaload, 1) := dk_46 (dk_at dksX3_remembers_2 5 rfl rfl)
theorem dX3_remembers_54 : decode cX3_remembers 54 = .ok (.bipush 8, 2) := dk_16 8 (dk_at dksX3_remembers_2 6 rfl rfl)
theorem dX3_remembers_56 : decode cX3_remembers 56 = .ok (.if_icmp .ge 15, 3) := dk_162 0 15 (dk_at dksX3_remembers_2 8 rfl rfl)
theorem dX3_remembers_59 : decode cX3_remembers 59 = .ok (.aload_n 0, 1) := dk_42 (dk_at dksX3_remembers_2 11 rfl rfl)
theorem dX3_remembers_60 : decode cX3_remembers 60 = .ok (.getfield 9, 3) := dk_180 0 9 (dk_at dksX3_remembers_2 12 rfl rfl)
theorem dX3_remembers_63 : decode cX3_remembers 63 = .ok (.bipush 9, 2) := dk_16 9 (dk_at dksX3_remembers_2 15 rfl rfl)
theorem dX3_remembers_65 : decode cX3_remembers 65 = .ok (.iaload, 1) := dk_46 (dk_at dksX3_remembers_2 17 rfl rfl)
theorem dX3_remembers_66 : decode cX3_remembers 66 = .ok (.iconst 1, 1) := dk_4 (dk_at dksX3_remembers_2 18 rfl rfl)
theorem dX3_remembers_67 : decode cX3_remembers 67 = .ok (.iadd, 1) := dk_96 (dk_at dksX3_remembers_2 19 rfl rfl)
theorem dX3_remembers_68 : decode cX3_remembers 68 = .ok (.goto 5, 3) := dk_167 0 5 (dk_at dksX3_remembers_2 20 rfl rfl)
theorem dX3_remembers_71 : decode cX3_remembers 71 = .ok (.bipush 8, 2) := dk_16 8 (dk_at dksX3_remembers_3 0 rfl rfl)
theorem dX3_remembers_73 : decode cX3_remembers 73 = .ok (.iastore, 1) := dk_79 (dk_at dksX3_remembers_3 2 rfl rfl)
theorem dX3_remembers_74 : decode cX3_remembers 74 = .ok (.return_, 1) := dk_177 (dk_at dksX3_remembers_3 3 rfl rfl)
abbrev cX3_advance : ByteArray := prog_9_method_31_code
def yX3_advance : MethodName := ⟨RX3, "advance", "(I)I"⟩
def dkwX3_advance_0 : List UInt8 := [42, 182, 0, 63, 42, 42, 27, 182, 0, 112, 3, 4, 3, 182, 0, 70, 172]
abbrev dktX3_advance_0 : List UInt8 := dkwX3_advance_0 ++ []
theorem dksX3_advance_0 : cX3_advance.data.toList.drop 0 = dktX3_advance_0 := by decide +kernel
theorem dX3_advance_0 : decode cX3_advance 0 = .ok (.aload_n 0, 1) := dk_42 (dk_at dksX3_advance_0 0 rfl rfl)
theorem dX3_advance_1 : decode cX3_advance 1 = .ok (.invokevirtual 63, 3) := dk_182 0 63 (dk_at dksX3_advance_0 1 rfl rfl)
theorem dX3_advance_4 : decode cX3_advance 4 = .ok (.aload_n 0, 1) := dk_42 (dk_at dksX3_advance_0 4 rfl rfl)
theorem dX3_advance_5 : decode cX3_advance 5 = .ok (.aload_n 0, 1) := dk_42 (dk_at dksX3_advance_0 5 rfl rfl)
theorem dX3_advance_6 : decode cX3_advance 6 = .ok (.iload_n 1, 1) := dk_27 (dk_at dksX3_advance_0 6 rfl rfl)
theorem dX3_advance_7 : decode cX3_advance 7 = .ok (.invokevirtual 112, 3) := dk_182 0 112 (dk_at dksX3_advance_0 7 rfl rfl)
theorem dX3_advance_10 : decode cX3_advance 10 = .ok (.iconst 0, 1) := dk_3 (dk_at dksX3_advance_0 10 rfl rfl)
theorem dX3_advance_11 : decode cX3_advance 11 = .ok (.iconst 1, 1) := dk_4 (dk_at dksX3_advance_0 11 rfl rfl)
theorem dX3_advance_12 : decode cX3_advance 12 = .ok (.iconst 0, 1) := dk_3 (dk_at dksX3_advance_0 12 rfl rfl)
theorem dX3_advance_13 : decode cX3_advance 13 = .ok (.invokevirtual 70, 3) := dk_182 0 70 (dk_at dksX3_advance_0 13 rfl rfl)
theorem dX3_advance_16 : decode cX3_advance 16 = .ok (.ireturn, 1) := dk_172 (dk_at dksX3_advance_0 16 rfl rfl)
abbrev cX3_audit : ByteArray := prog_9_method_34_code
def yX3_audit : MethodName := ⟨RX3, "audit", "(I)I"⟩
def dkwX3_audit_0 : List UInt8 := [42, 182, 0, 63, 42, 42, 27, 182, 0, 118, 3, 4, 3, 182, 0, 70, 172]
abbrev dktX3_audit_0 : List UInt8 := dkwX3_audit_0 ++ []
theorem dksX3_audit_0 : cX3_audit.data.toList.drop 0 = dktX3_audit_0 := by decide +kernel
theorem dX3_audit_0 : decode cX3_audit 0 = .ok (.aload_n 0, 1) := dk_42 (dk_at dksX3_audit_0 0 rfl rfl)
theorem dX3_audit_1 : decode cX3_audit 1 = .ok (.invokevirtual 63, 3) := dk_182 0 63 (dk_at dksX3_audit_0 1 rfl rfl)
theorem dX3_audit_4 : decode cX3_audit 4 = .ok (.aload_n 0, 1) := dk_42 (dk_at dksX3_audit_0 4 rfl rfl)
theorem dX3_audit_5 : decode cX3_audit 5 = .ok (.aload_n 0, 1) := dk_42 (dk_at dksX3_audit_0 5 rfl rfl)
theorem dX3_audit_6 : decode cX3_audit 6 = .ok (.iload_n 1, 1) := dk_27 (dk_at dksX3_audit_0 6 rfl rfl)
theorem dX3_audit_7 : decode cX3_audit 7 = .ok (.invokevirtual 118, 3) := dk_182 0 118 (dk_at dksX3_audit_0 7 rfl rfl)
theorem dX3_audit_10 : decode cX3_audit 10 = .ok (.iconst 0, 1) := dk_3 (dk_at dksX3_audit_0 10 rfl rfl)
theorem dX3_audit_11 : decode cX3_audit 11 = .ok (.iconst 1, 1) := dk_4 (dk_at dksX3_audit_0 11 rfl rfl)
theorem dX3_audit_12 : decode cX3_audit 12 = .ok (.iconst 0, 1) := dk_3 (dk_at dksX3_audit_0 12 rfl rfl)
theorem dX3_audit_13 : decode cX3_audit 13 = .ok (.invokevirtual 70, 3) := dk_182 0 70 (dk_at dksX3_audit_0 13 rfl rfl)
theorem dX3_audit_16 : decode cX3_audit 16 = .ok (.ireturn, 1) := dk_172 (dk_at dksX3_audit_0 16 rfl rfl)
abbrev cX3_audits : ByteArray := prog_9_method_33_code
def yX3_audits : MethodName := ⟨RX3, "audits", "(I)I"⟩
def dkwX3_audits_3 : List UInt8 := [46, 42, 180, 0, 40, 96, 79, 3, 172]
abbrev dktX3_audits_3 : List UInt8 := dkwX3_audits_3 ++ []
def dkwX3_audits_2 : List UInt8 := [180, 0, 40, 42, 182, 0, 115, 96, 181, 0, 40, 132, 3, 1, 167, 255, 235, 42, 180, 0, 9, 16, 7, 92]
abbrev dktX3_audits_2 : List UInt8 := dkwX3_audits_2 ++ dktX3_audits_3
def dkwX3_audits_1 : List UInt8 := [167, 0, 9, 42, 180, 0, 9, 5, 46, 61, 42, 3, 181, 0, 40, 3, 62, 29, 28, 162, 0, 22, 42, 89]
abbrev dktX3_audits_1 : List UInt8 := dkwX3_audits_1 ++ dktX3_audits_2
def dkwX3_audits_0 : List UInt8 := [27, 4, 16, 12, 184, 0, 55, 154, 0, 5, 5, 172, 27, 42, 180, 0, 9, 5, 46, 162, 0, 7, 27]
abbrev dktX3_audits_0 : List UInt8 := dkwX3_audits_0 ++ dktX3_audits_1
theorem dksX3_audits_0 : cX3_audits.data.toList.drop 0 = dktX3_audits_0 := by decide +kernel
theorem dksX3_audits_1 : cX3_audits.data.toList.drop 23 = dktX3_audits_1 := dk_seg dksX3_audits_0 23 rfl rfl
theorem dksX3_audits_2 : cX3_audits.data.toList.drop 47 = dktX3_audits_2 := dk_seg dksX3_audits_1 24 rfl rfl
theorem dksX3_audits_3 : cX3_audits.data.toList.drop 71 = dktX3_audits_3 := dk_seg dksX3_audits_2 24 rfl rfl
theorem dX3_audits_0 : decode cX3_audits 0 = .ok (.iload_n 1, 1) := dk_27 (dk_at dksX3_audits_0 0 rfl rfl)
theorem dX3_audits_1 : decode cX3_audits 1 = .ok (.iconst 1, 1) := dk_4 (dk_at dksX3_audits_0 1 rfl rfl)
theorem dX3_audits_2 : decode cX3_audits 2 = .ok (.bipush 12, 2) := dk_16 12 (dk_at dksX3_audits_0 2 rfl rfl)
theorem dX3_audits_4 : decode cX3_audits 4 = .ok (.invokestatic 55, 3) := dk_184 0 55 (dk_at dksX3_audits_0 4 rfl rfl)
theorem dX3_audits_7 : decode cX3_audits 7 = .ok (.ifCond .ne 5, 3) := dk_154 0 5 (dk_at dksX3_audits_0 7 rfl rfl)
theorem dX3_audits_10 : decode cX3_audits 10 = .ok (.iconst 2, 1) := dk_5 (dk_at dksX3_audits_0 10 rfl rfl)
theorem dX3_audits_11 : decode cX3_audits 11 = .ok (.ireturn, 1) := dk_172 (dk_at dksX3_audits_0 11 rfl rfl)
theorem dX3_audits_12 : decode cX3_audits 12 = .ok (.iload_n 1, 1) := dk_27 (dk_at dksX3_audits_0 12 rfl rfl)
theorem dX3_audits_13 : decode cX3_audits 13 = .ok (.aload_n 0, 1) := dk_42 (dk_at dksX3_audits_0 13 rfl rfl)
theorem dX3_audits_14 : decode cX3_audits 14 = .ok (.getfield 9, 3) := dk_180 0 9 (dk_at dksX3_audits_0 14 rfl rfl)
theorem dX3_audits_17 : decode cX3_audits 17 = .ok (.iconst 2, 1) := dk_5 (dk_at dksX3_audits_0 17 rfl rfl)
theorem dX3_audits_18 : decode cX3_audits 18 = .ok (.iaload, 1) := dk_46 (dk_at dksX3_audits_0 18 rfl rfl)
theorem dX3_audits_19 : decode cX3_audits 19 = .ok (.if_icmp .ge 7, 3) := dk_162 0 7 (dk_at dksX3_audits_0 19 rfl rfl)
theorem dX3_audits_22 : decode cX3_audits 22 = .ok (.iload_n 1, 1) := dk_27 (dk_at dksX3_audits_0 22 rfl rfl)
theorem dX3_audits_23 : decode cX3_audits 23 = .ok (.goto 9, 3) := dk_167 0 9 (dk_at dksX3_audits_1 0 rfl rfl)
theorem dX3_audits_26 : decode cX3_audits 26 = .ok (.aload_n 0, 1) := dk_42 (dk_at dksX3_audits_1 3 rfl rfl)
theorem dX3_audits_27 : decode cX3_audits 27 = .ok (.getfield 9, 3) := dk_180 0 9 (dk_at dksX3_audits_1 4 rfl rfl)
theorem dX3_audits_30 : decode cX3_audits 30 = .ok (.iconst 2, 1) := dk_5 (dk_at dksX3_audits_1 7 rfl rfl)
theorem dX3_audits_31 : decode cX3_audits 31 = .ok (.iaload, 1) := dk_46 (dk_at dksX3_audits_1 8 rfl rfl)
theorem dX3_audits_32 : decode cX3_audits 32 = .ok (.istore_n 2, 1) := dk_61 (dk_at dksX3_audits_1 9 rfl rfl)
theorem dX3_audits_33 : decode cX3_audits 33 = .ok (.aload_n 0, 1) := dk_42 (dk_at dksX3_audits_1 10 rfl rfl)
theorem dX3_audits_34 : decode cX3_audits 34 = .ok (.iconst 0, 1) := dk_3 (dk_at dksX3_audits_1 11 rfl rfl)
theorem dX3_audits_35 : decode cX3_audits 35 = .ok (.putfield 40, 3) := dk_181 0 40 (dk_at dksX3_audits_1 12 rfl rfl)
theorem dX3_audits_38 : decode cX3_audits 38 = .ok (.iconst 0, 1) := dk_3 (dk_at dksX3_audits_1 15 rfl rfl)
theorem dX3_audits_39 : decode cX3_audits 39 = .ok (.istore_n 3, 1) := dk_62 (dk_at dksX3_audits_1 16 rfl rfl)
theorem dX3_audits_40 : decode cX3_audits 40 = .ok (.iload_n 3, 1) := dk_29 (dk_at dksX3_audits_1 17 rfl rfl)
theorem dX3_audits_41 : decode cX3_audits 41 = .ok (.iload_n 2, 1) := dk_28 (dk_at dksX3_audits_1 18 rfl rfl)
theorem dX3_audits_42 : decode cX3_audits 42 = .ok (.if_icmp .ge 22, 3) := dk_162 0 22 (dk_at dksX3_audits_1 19 rfl rfl)
theorem dX3_audits_45 : decode cX3_audits 45 = .ok (.aload_n 0, 1) := dk_42 (dk_at dksX3_audits_1 22 rfl rfl)
theorem dX3_audits_46 : decode cX3_audits 46 = .ok (.dup, 1) := dk_89 (dk_at dksX3_audits_1 23 rfl rfl)
theorem dX3_audits_47 : decode cX3_audits 47 = .ok (.getfield 40, 3) := dk_180 0 40 (dk_at dksX3_audits_2 0 rfl rfl)
theorem dX3_audits_50 : decode cX3_audits 50 = .ok (.aload_n 0, 1) := dk_42 (dk_at dksX3_audits_2 3 rfl rfl)
theorem dX3_audits_51 : decode cX3_audits 51 = .ok (.invokevirtual 115, 3) := dk_182 0 115 (dk_at dksX3_audits_2 4 rfl rfl)
theorem dX3_audits_54 : decode cX3_audits 54 = .ok (.iadd, 1) := dk_96 (dk_at dksX3_audits_2 7 rfl rfl)
theorem dX3_audits_55 : decode cX3_audits 55 = .ok (.putfield 40, 3) := dk_181 0 40 (dk_at dksX3_audits_2 8 rfl rfl)
theorem dX3_audits_58 : decode cX3_audits 58 = .ok (.iinc 3 1, 3) := dk_132 3 1 (dk_at dksX3_audits_2 11 rfl rfl)
theorem dX3_audits_61 : decode cX3_audits 61 = .ok (.goto (-21), 3) := dk_167 255 235 (dk_at dksX3_audits_2 14 rfl rfl)
theorem dX3_audits_64 : decode cX3_audits 64 = .ok (.aload_n 0, 1) := dk_42 (dk_at dksX3_audits_2 17 rfl rfl)
theorem dX3_audits_65 : decode cX3_audits 65 = .ok (.getfield 9, 3) := dk_180 0 9 (dk_at dksX3_audits_2 18 rfl rfl)
theorem dX3_audits_68 : decode cX3_audits 68 = .ok (.bipush 7, 2) := dk_16 7 (dk_at dksX3_audits_2 21 rfl rfl)
theorem dX3_audits_70 : decode cX3_audits 70 = .ok (.dup2, 1) := dk_92 (dk_at dksX3_audits_2 23 rfl rfl)
theorem dX3_audits_71 : decode cX3_audits 71 = .ok (.iaload, 1) := dk_46 (dk_at dksX3_audits_3 0 rfl rfl)
theorem dX3_audits_72 : decode cX3_audits 72 = .ok (.aload_n 0, 1) := dk_42 (dk_at dksX3_audits_3 1 rfl rfl)
theorem dX3_audits_73 : decode cX3_audits 73 = .ok (.getfield 40, 3) := dk_180 0 40 (dk_at dksX3_audits_3 2 rfl rfl)
theorem dX3_audits_76 : decode cX3_audits 76 = .ok (.iadd, 1) := dk_96 (dk_at dksX3_audits_3 5 rfl rfl)
theorem dX3_audits_77 : decode cX3_audits 77 = .ok (.iastore, 1) := dk_79 (dk_at dksX3_audits_3 6 rfl rfl)
theorem dX3_audits_78 : decode cX3_audits 78 = .ok (.iconst 0, 1) := dk_3 (dk_at dksX3_audits_3 7 rfl rfl)
theorem dX3_audits_79 : decode cX3_audits 79 = .ok (.ireturn, 1) := dk_172 (dk_at dksX3_audits_3 8 rfl rfl)
abbrev cX3_visits : ByteArray := prog_9_method_32_code
def yX3_visits : MethodName := ⟨RX3, "visits", "()I"⟩
def dkwX3_visits_5 : List UInt8 := [167, 255, 218, 42, 180, 0, 9, 16, 118, 42, 180, 0, 9, 5, 46, 96, 4, 100, 27, 79, 3, 172]
abbrev dktX3_visits_5 : List UInt8 := dkwX3_visits_5 ++ []
def dkwX3_visits_4 : List UInt8 := [180, 0, 9, 16, 118, 21, 4, 96, 42, 180, 0, 9, 16, 118, 21, 4, 96, 4, 96, 46, 79, 132, 4, 1]
abbrev dktX3_visits_4 : List UInt8 := dkwX3_visits_4 ++ dktX3_visits_5
def dkwX3_visits_3 : List UInt8 := [182, 0, 92, 4, 172, 3, 54, 4, 21, 4, 42, 180, 0, 9, 5, 46, 4, 100, 162, 0, 31, 42]
abbrev dktX3_visits_3 : List UInt8 := dkwX3_visits_3 ++ dktX3_visits_4
def dkwX3_visits_2 : List UInt8 := [28, 8, 182, 0, 43, 4, 96, 62, 42, 28, 8, 29, 182, 0, 51, 29, 6, 160, 0, 10, 42, 28]
abbrev dktX3_visits_2 : List UInt8 := dkwX3_visits_2 ++ dktX3_visits_3
def dkwX3_visits_1 : List UInt8 := [3, 167, 0, 30, 42, 28, 16, 6, 182, 0, 43, 158, 0, 12, 42, 28, 8, 182, 0, 43, 167, 0, 11, 42]
abbrev dktX3_visits_1 : List UInt8 := dkwX3_visits_1 ++ dktX3_visits_2
def dkwX3_visits_0 : List UInt8 := [42, 180, 0, 9, 16, 118, 46, 60, 42, 27, 182, 0, 76, 61, 42, 28, 16, 7, 182, 0, 43, 158, 0, 7]
abbrev dktX3_visits_0 : List UInt8 := dkwX3_visits_0 ++ dktX3_visits_1
theorem dksX3_visits_0 : cX3_visits.data.toList.drop 0 = dktX3_visits_0 := by decide +kernel
theorem dksX3_visits_1 : cX3_visits.data.toList.drop 24 = dktX3_visits_1 := dk_seg dksX3_visits_0 24 rfl rfl
theorem dksX3_visits_2 : cX3_visits.data.toList.drop 48 = dktX3_visits_2 := dk_seg dksX3_visits_1 24 rfl rfl
theorem dksX3_visits_3 : cX3_visits.data.toList.drop 70 = dktX3_visits_3 := dk_seg dksX3_visits_2 22 rfl rfl
theorem dksX3_visits_4 : cX3_visits.data.toList.drop 92 = dktX3_visits_4 := dk_seg dksX3_visits_3 22 rfl rfl
theorem dksX3_visits_5 : cX3_visits.data.toList.drop 116 = dktX3_visits_5 := dk_seg dksX3_visits_4 24 rfl rfl
theorem dX3_visits_0 : decode cX3_visits 0 = .ok (.aload_n 0, 1) := dk_42 (dk_at dksX3_visits_0 0 rfl rfl)
theorem dX3_visits_1 : decode cX3_visits 1 = .ok (.getfield 9, 3) := dk_180 0 9 (dk_at dksX3_visits_0 1 rfl rfl)
theorem dX3_visits_4 : decode cX3_visits 4 = .ok (.bipush 118, 2) := dk_16 118 (dk_at dksX3_visits_0 4 rfl rfl)
theorem dX3_visits_6 : decode cX3_visits 6 = .ok (.iaload, 1) := dk_46 (dk_at dksX3_visits_0 6 rfl rfl)
theorem dX3_visits_7 : decode cX3_visits 7 = .ok (.istore_n 1, 1) := dk_60 (dk_at dksX3_visits_0 7 rfl rfl)
theorem dX3_visits_8 : decode cX3_visits 8 = .ok (.aload_n 0, 1) := dk_42 (dk_at dksX3_visits_0 8 rfl rfl)
theorem dX3_visits_9 : decode cX3_visits 9 = .ok (.iload_n 1, 1) := dk_27 (dk_at dksX3_visits_0 9 rfl rfl)
theorem dX3_visits_10 : decode cX3_visits 10 = .ok (.invokevirtual 76, 3) := dk_182 0 76 (dk_at dksX3_visits_0 10 rfl rfl)
theorem dX3_visits_13 : decode cX3_visits 13 = .ok (.istore_n 2, 1) := dk_61 (dk_at dksX3_visits_0 13 rfl rfl)
theorem dX3_visits_14 : decode cX3_visits 14 = .ok (.aload_n 0, 1) := dk_42 (dk_at dksX3_visits_0 14 rfl rfl)
theorem dX3_visits_15 : decode cX3_visits 15 = .ok (.iload_n 2, 1) := dk_28 (dk_at dksX3_visits_0 15 rfl rfl)
theorem dX3_visits_16 : decode cX3_visits 16 = .ok (.bipush 7, 2) := dk_16 7 (dk_at dksX3_visits_0 16 rfl rfl)
theorem dX3_visits_18 : decode cX3_visits 18 = .ok (.invokevirtual 43, 3) := dk_182 0 43 (dk_at dksX3_visits_0 18 rfl rfl)
theorem dX3_visits_21 : decode cX3_visits 21 = .ok (.ifCond .le 7, 3) := dk_158 0 7 (dk_at dksX3_visits_0 21 rfl rfl)
theorem dX3_visits_24 : decode cX3_visits 24 = .ok (.iconst 0, 1) := dk_3 (dk_at dksX3_visits_1 0 rfl rfl)
theorem dX3_visits_25 : decode cX3_visits 25 = .ok (.goto 30, 3) := dk_167 0 30 (dk_at dksX3_visits_1 1 rfl rfl)
theorem dX3_visits_28 : decode cX3_visits 28 = .ok (.aload_n 0, 1) := dk_42 (dk_at dksX3_visits_1 4 rfl rfl)
theorem dX3_visits_29 : decode cX3_visits 29 = .ok (.iload_n 2, 1) := dk_28 (dk_at dksX3_visits_1 5 rfl rfl)
theorem dX3_visits_30 : decode cX3_visits 30 = .ok (.bipush 6, 2) := dk_16 6 (dk_at dksX3_visits_1 6 rfl rfl)
theorem dX3_visits_32 : decode cX3_visits 32 = .ok (.invokevirtual 43, 3) := dk_182 0 43 (dk_at dksX3_visits_1 8 rfl rfl)
theorem dX3_visits_35 : decode cX3_visits 35 = .ok (.ifCond .le 12, 3) := dk_158 0 12 (dk_at dksX3_visits_1 11 rfl rfl)
theorem dX3_visits_38 : decode cX3_visits 38 = .ok (.aload_n 0, 1) := dk_42 (dk_at dksX3_visits_1 14 rfl rfl)
theorem dX3_visits_39 : decode cX3_visits 39 = .ok (.iload_n 2, 1) := dk_28 (dk_at dksX3_visits_1 15 rfl rfl)
theorem dX3_visits_40 : decode cX3_visits 40 = .ok (.iconst 5, 1) := dk_8 (dk_at dksX3_visits_1 16 rfl rfl)
theorem dX3_visits_41 : decode cX3_visits 41 = .ok (.invokevirtual 43, 3) := dk_182 0 43 (dk_at dksX3_visits_1 17 rfl rfl)
theorem dX3_visits_44 : decode cX3_visits 44 = .ok (.goto 11, 3) := dk_167 0 11 (dk_at dksX3_visits_1 20 rfl rfl)
theorem dX3_visits_47 : decode cX3_visits 47 = .ok (.aload_n 0, 1) := dk_42 (dk_at dksX3_visits_1 23 rfl rfl)
theorem dX3_visits_48 : decode cX3_visits 48 = .ok (.iload_n 2, 1) := dk_28 (dk_at dksX3_visits_2 0 rfl rfl)
theorem dX3_visits_49 : decode cX3_visits 49 = .ok (.iconst 5, 1) := dk_8 (dk_at dksX3_visits_2 1 rfl rfl)
theorem dX3_visits_50 : decode cX3_visits 50 = .ok (.invokevirtual 43, 3) := dk_182 0 43 (dk_at dksX3_visits_2 2 rfl rfl)
theorem dX3_visits_53 : decode cX3_visits 53 = .ok (.iconst 1, 1) := dk_4 (dk_at dksX3_visits_2 5 rfl rfl)
theorem dX3_visits_54 : decode cX3_visits 54 = .ok (.iadd, 1) := dk_96 (dk_at dksX3_visits_2 6 rfl rfl)
theorem dX3_visits_55 : decode cX3_visits 55 = .ok (.istore_n 3, 1) := dk_62 (dk_at dksX3_visits_2 7 rfl rfl)
theorem dX3_visits_56 : decode cX3_visits 56 = .ok (.aload_n 0, 1) := dk_42 (dk_at dksX3_visits_2 8 rfl rfl)
theorem dX3_visits_57 : decode cX3_visits 57 = .ok (.iload_n 2, 1) := dk_28 (dk_at dksX3_visits_2 9 rfl rfl)
theorem dX3_visits_58 : decode cX3_visits 58 = .ok (.iconst 5, 1) := dk_8 (dk_at dksX3_visits_2 10 rfl rfl)
theorem dX3_visits_59 : decode cX3_visits 59 = .ok (.iload_n 3, 1) := dk_29 (dk_at dksX3_visits_2 11 rfl rfl)
theorem dX3_visits_60 : decode cX3_visits 60 = .ok (.invokevirtual 51, 3) := dk_182 0 51 (dk_at dksX3_visits_2 12 rfl rfl)
theorem dX3_visits_63 : decode cX3_visits 63 = .ok (.iload_n 3, 1) := dk_29 (dk_at dksX3_visits_2 15 rfl rfl)
theorem dX3_visits_64 : decode cX3_visits 64 = .ok (.iconst 3, 1) := dk_6 (dk_at dksX3_visits_2 16 rfl rfl)
theorem dX3_visits_65 : decode cX3_visits 65 = .ok (.if_icmp .ne 10, 3) := dk_160 0 10 (dk_at dksX3_visits_2 17 rfl rfl)
theorem dX3_visits_68 : decode cX3_visits 68 = .ok (.aload_n 0, 1) := dk_42 (dk_at dksX3_visits_2 20 rfl rfl)
theorem dX3_visits_69 : decode cX3_visits 69 = .ok (.iload_n 2, 1) := dk_28 (dk_at dksX3_visits_2 21 rfl rfl)
theorem dX3_visits_70 : decode cX3_visits 70 = .ok (.invokevirtual 92, 3) := dk_182 0 92 (dk_at dksX3_visits_3 0 rfl rfl)
theorem dX3_visits_73 : decode cX3_visits 73 = .ok (.iconst 1, 1) := dk_4 (dk_at dksX3_visits_3 3 rfl rfl)
theorem dX3_visits_74 : decode cX3_visits 74 = .ok (.ireturn, 1) := dk_172 (dk_at dksX3_visits_3 4 rfl rfl)
theorem dX3_visits_75 : decode cX3_visits 75 = .ok (.iconst 0, 1) := dk_3 (dk_at dksX3_visits_3 5 rfl rfl)
theorem dX3_visits_76 : decode cX3_visits 76 = .ok (.istore 4, 2) := dk_54 4 (dk_at dksX3_visits_3 6 rfl rfl)
theorem dX3_visits_78 : decode cX3_visits 78 = .ok (.iload 4, 2) := dk_21 4 (dk_at dksX3_visits_3 8 rfl rfl)
theorem dX3_visits_80 : decode cX3_visits 80 = .ok (.aload_n 0, 1) := dk_42 (dk_at dksX3_visits_3 10 rfl rfl)
theorem dX3_visits_81 : decode cX3_visits 81 = .ok (.getfield 9, 3) := dk_180 0 9 (dk_at dksX3_visits_3 11 rfl rfl)
theorem dX3_visits_84 : decode cX3_visits 84 = .ok (.iconst 2, 1) := dk_5 (dk_at dksX3_visits_3 14 rfl rfl)
theorem dX3_visits_85 : decode cX3_visits 85 = .ok (.iaload, 1) := dk_46 (dk_at dksX3_visits_3 15 rfl rfl)
theorem dX3_visits_86 : decode cX3_visits 86 = .ok (.iconst 1, 1) := dk_4 (dk_at dksX3_visits_3 16 rfl rfl)
theorem dX3_visits_87 : decode cX3_visits 87 = .ok (.isub, 1) := dk_100 (dk_at dksX3_visits_3 17 rfl rfl)
theorem dX3_visits_88 : decode cX3_visits 88 = .ok (.if_icmp .ge 31, 3) := dk_162 0 31 (dk_at dksX3_visits_3 18 rfl rfl)
theorem dX3_visits_91 : decode cX3_visits 91 = .ok (.aload_n 0, 1) := dk_42 (dk_at dksX3_visits_3 21 rfl rfl)
theorem dX3_visits_92 : decode cX3_visits 92 = .ok (.getfield 9, 3) := dk_180 0 9 (dk_at dksX3_visits_4 0 rfl rfl)
theorem dX3_visits_95 : decode cX3_visits 95 = .ok (.bipush 118, 2) := dk_16 118 (dk_at dksX3_visits_4 3 rfl rfl)
theorem dX3_visits_97 : decode cX3_visits 97 = .ok (.iload 4, 2) := dk_21 4 (dk_at dksX3_visits_4 5 rfl rfl)
theorem dX3_visits_99 : decode cX3_visits 99 = .ok (.iadd, 1) := dk_96 (dk_at dksX3_visits_4 7 rfl rfl)
theorem dX3_visits_100 : decode cX3_visits 100 = .ok (.aload_n 0, 1) := dk_42 (dk_at dksX3_visits_4 8 rfl rfl)
theorem dX3_visits_101 : decode cX3_visits 101 = .ok (.getfield 9, 3) := dk_180 0 9 (dk_at dksX3_visits_4 9 rfl rfl)
theorem dX3_visits_104 : decode cX3_visits 104 = .ok (.bipush 118, 2) := dk_16 118 (dk_at dksX3_visits_4 12 rfl rfl)
theorem dX3_visits_106 : decode cX3_visits 106 = .ok (.iload 4, 2) := dk_21 4 (dk_at dksX3_visits_4 14 rfl rfl)
theorem dX3_visits_108 : decode cX3_visits 108 = .ok (.iadd, 1) := dk_96 (dk_at dksX3_visits_4 16 rfl rfl)
theorem dX3_visits_109 : decode cX3_visits 109 = .ok (.iconst 1, 1) := dk_4 (dk_at dksX3_visits_4 17 rfl rfl)
theorem dX3_visits_110 : decode cX3_visits 110 = .ok (.iadd, 1) := dk_96 (dk_at dksX3_visits_4 18 rfl rfl)
theorem dX3_visits_111 : decode cX3_visits 111 = .ok (.iaload, 1) := dk_46 (dk_at dksX3_visits_4 19 rfl rfl)
theorem dX3_visits_112 : decode cX3_visits 112 = .ok (.iastore, 1) := dk_79 (dk_at dksX3_visits_4 20 rfl rfl)
theorem dX3_visits_113 : decode cX3_visits 113 = .ok (.iinc 4 1, 3) := dk_132 4 1 (dk_at dksX3_visits_4 21 rfl rfl)
theorem dX3_visits_116 : decode cX3_visits 116 = .ok (.goto (-38), 3) := dk_167 255 218 (dk_at dksX3_visits_5 0 rfl rfl)
theorem dX3_visits_119 : decode cX3_visits 119 = .ok (.aload_n 0, 1) := dk_42 (dk_at dksX3_visits_5 3 rfl rfl)
theorem dX3_visits_120 : decode cX3_visits 120 = .ok (.getfield 9, 3) := dk_180 0 9 (dk_at dksX3_visits_5 4 rfl rfl)
theorem dX3_visits_123 : decode cX3_visits 123 = .ok (.bipush 118, 2) := dk_16 118 (dk_at dksX3_visits_5 7 rfl rfl)
theorem dX3_visits_125 : decode cX3_visits 125 = .ok (.aload_n 0, 1) := dk_42 (dk_at dksX3_visits_5 9 rfl rfl)
theorem dX3_visits_126 : decode cX3_visits 126 = .ok (.getfield 9, 3) := dk_180 0 9 (dk_at dksX3_visits_5 10 rfl rfl)
theorem dX3_visits_129 : decode cX3_visits 129 = .ok (.iconst 2, 1) := dk_5 (dk_at dksX3_visits_5 13 rfl rfl)
theorem dX3_visits_130 : decode cX3_visits 130 = .ok (.iaload, 1) := dk_46 (dk_at dksX3_visits_5 14 rfl rfl)
theorem dX3_visits_131 : decode cX3_visits 131 = .ok (.iadd, 1) := dk_96 (dk_at dksX3_visits_5 15 rfl rfl)
theorem dX3_visits_132 : decode cX3_visits 132 = .ok (.iconst 1, 1) := dk_4 (dk_at dksX3_visits_5 16 rfl rfl)
theorem dX3_visits_133 : decode cX3_visits 133 = .ok (.isub, 1) := dk_100 (dk_at dksX3_visits_5 17 rfl rfl)
theorem dX3_visits_134 : decode cX3_visits 134 = .ok (.iload_n 1, 1) := dk_27 (dk_at dksX3_visits_5 18 rfl rfl)
theorem dX3_visits_135 : decode cX3_visits 135 = .ok (.iastore, 1) := dk_79 (dk_at dksX3_visits_5 19 rfl rfl)
theorem dX3_visits_136 : decode cX3_visits 136 = .ok (.iconst 0, 1) := dk_3 (dk_at dksX3_visits_5 20 rfl rfl)
theorem dX3_visits_137 : decode cX3_visits 137 = .ok (.ireturn, 1) := dk_172 (dk_at dksX3_visits_5 21 rfl rfl)
abbrev cX3_setRate : ByteArray := prog_9_method_36_code
def yX3_setRate : MethodName := ⟨RX3, "setRate", "(II)I"⟩
def dkwX3_setRate_0 : List UInt8 := [42, 182, 0, 63, 42, 42, 27, 28, 182, 0, 121, 3, 4, 3, 182, 0, 70, 172]
abbrev dktX3_setRate_0 : List UInt8 := dkwX3_setRate_0 ++ []
theorem dksX3_setRate_0 : cX3_setRate.data.toList.drop 0 = dktX3_setRate_0 := by decide +kernel
theorem dX3_setRate_0 : decode cX3_setRate 0 = .ok (.aload_n 0, 1) := dk_42 (dk_at dksX3_setRate_0 0 rfl rfl)
theorem dX3_setRate_1 : decode cX3_setRate 1 = .ok (.invokevirtual 63, 3) := dk_182 0 63 (dk_at dksX3_setRate_0 1 rfl rfl)
theorem dX3_setRate_4 : decode cX3_setRate 4 = .ok (.aload_n 0, 1) := dk_42 (dk_at dksX3_setRate_0 4 rfl rfl)
theorem dX3_setRate_5 : decode cX3_setRate 5 = .ok (.aload_n 0, 1) := dk_42 (dk_at dksX3_setRate_0 5 rfl rfl)
theorem dX3_setRate_6 : decode cX3_setRate 6 = .ok (.iload_n 1, 1) := dk_27 (dk_at dksX3_setRate_0 6 rfl rfl)
theorem dX3_setRate_7 : decode cX3_setRate 7 = .ok (.iload_n 2, 1) := dk_28 (dk_at dksX3_setRate_0 7 rfl rfl)
theorem dX3_setRate_8 : decode cX3_setRate 8 = .ok (.invokevirtual 121, 3) := dk_182 0 121 (dk_at dksX3_setRate_0 8 rfl rfl)
theorem dX3_setRate_11 : decode cX3_setRate 11 = .ok (.iconst 0, 1) := dk_3 (dk_at dksX3_setRate_0 11 rfl rfl)
theorem dX3_setRate_12 : decode cX3_setRate 12 = .ok (.iconst 1, 1) := dk_4 (dk_at dksX3_setRate_0 12 rfl rfl)
theorem dX3_setRate_13 : decode cX3_setRate 13 = .ok (.iconst 0, 1) := dk_3 (dk_at dksX3_setRate_0 13 rfl rfl)
theorem dX3_setRate_14 : decode cX3_setRate 14 = .ok (.invokevirtual 70, 3) := dk_182 0 70 (dk_at dksX3_setRate_0 14 rfl rfl)
theorem dX3_setRate_17 : decode cX3_setRate 17 = .ok (.ireturn, 1) := dk_172 (dk_at dksX3_setRate_0 17 rfl rfl)
abbrev cX3_setsRate : ByteArray := prog_9_method_35_code
def yX3_setsRate : MethodName := ⟨RX3, "setsRate", "(II)I"⟩
def dkwX3_setsRate_1 : List UInt8 := [180, 0, 9, 16, 10, 27, 96, 46, 181, 0, 40, 42, 180, 0, 9, 16, 10, 27, 96, 28, 79, 3, 172]
abbrev dktX3_setsRate_1 : List UInt8 := dkwX3_setsRate_1 ++ []
def dkwX3_setsRate_0 : List UInt8 := [27, 3, 6, 184, 0, 55, 153, 0, 13, 28, 3, 16, 20, 184, 0, 55, 154, 0, 5, 5, 172, 42, 42]
abbrev dktX3_setsRate_0 : List UInt8 := dkwX3_setsRate_0 ++ dktX3_setsRate_1
theorem dksX3_setsRate_0 : cX3_setsRate.data.toList.drop 0 = dktX3_setsRate_0 := by decide +kernel
theorem dksX3_setsRate_1 : cX3_setsRate.data.toList.drop 23 = dktX3_setsRate_1 := dk_seg dksX3_setsRate_0 23 rfl rfl
theorem dX3_setsRate_0 : decode cX3_setsRate 0 = .ok (.iload_n 1, 1) := dk_27 (dk_at dksX3_setsRate_0 0 rfl rfl)
theorem dX3_setsRate_1 : decode cX3_setsRate 1 = .ok (.iconst 0, 1) := dk_3 (dk_at dksX3_setsRate_0 1 rfl rfl)
theorem dX3_setsRate_2 : decode cX3_setsRate 2 = .ok (.iconst 3, 1) := dk_6 (dk_at dksX3_setsRate_0 2 rfl rfl)
theorem dX3_setsRate_3 : decode cX3_setsRate 3 = .ok (.invokestatic 55, 3) := dk_184 0 55 (dk_at dksX3_setsRate_0 3 rfl rfl)
theorem dX3_setsRate_6 : decode cX3_setsRate 6 = .ok (.ifCond .eq 13, 3) := dk_153 0 13 (dk_at dksX3_setsRate_0 6 rfl rfl)
theorem dX3_setsRate_9 : decode cX3_setsRate 9 = .ok (.iload_n 2, 1) := dk_28 (dk_at dksX3_setsRate_0 9 rfl rfl)
theorem dX3_setsRate_10 : decode cX3_setsRate 10 = .ok (.iconst 0, 1) := dk_3 (dk_at dksX3_setsRate_0 10 rfl rfl)
theorem dX3_setsRate_11 : decode cX3_setsRate 11 = .ok (.bipush 20, 2) := dk_16 20 (dk_at dksX3_setsRate_0 11 rfl rfl)
theorem dX3_setsRate_13 : decode cX3_setsRate 13 = .ok (.invokestatic 55, 3) := dk_184 0 55 (dk_at dksX3_setsRate_0 13 rfl rfl)
theorem dX3_setsRate_16 : decode cX3_setsRate 16 = .ok (.ifCond .ne 5, 3) := dk_154 0 5 (dk_at dksX3_setsRate_0 16 rfl rfl)
theorem dX3_setsRate_19 : decode cX3_setsRate 19 = .ok (.iconst 2, 1) := dk_5 (dk_at dksX3_setsRate_0 19 rfl rfl)
theorem dX3_setsRate_20 : decode cX3_setsRate 20 = .ok (.ireturn, 1) := dk_172 (dk_at dksX3_setsRate_0 20 rfl rfl)
theorem dX3_setsRate_21 : decode cX3_setsRate 21 = .ok (.aload_n 0, 1) := dk_42 (dk_at dksX3_setsRate_0 21 rfl rfl)
theorem dX3_setsRate_22 : decode cX3_setsRate 22 = .ok (.aload_n 0, 1) := dk_42 (dk_at dksX3_setsRate_0 22 rfl rfl)
theorem dX3_setsRate_23 : decode cX3_setsRate 23 = .ok (.getfield 9, 3) := dk_180 0 9 (dk_at dksX3_setsRate_1 0 rfl rfl)
theorem dX3_setsRate_26 : decode cX3_setsRate 26 = .ok (.bipush 10, 2) := dk_16 10 (dk_at dksX3_setsRate_1 3 rfl rfl)
theorem dX3_setsRate_28 : decode cX3_setsRate 28 = .ok (.iload_n 1, 1) := dk_27 (dk_at dksX3_setsRate_1 5 rfl rfl)
theorem dX3_setsRate_29 : decode cX3_setsRate 29 = .ok (.iadd, 1) := dk_96 (dk_at dksX3_setsRate_1 6 rfl rfl)
theorem dX3_setsRate_30 : decode cX3_setsRate 30 = .ok (.iaload, 1) := dk_46 (dk_at dksX3_setsRate_1 7 rfl rfl)
theorem dX3_setsRate_31 : decode cX3_setsRate 31 = .ok (.putfield 40, 3) := dk_181 0 40 (dk_at dksX3_setsRate_1 8 rfl rfl)
theorem dX3_setsRate_34 : decode cX3_setsRate 34 = .ok (.aload_n 0, 1) := dk_42 (dk_at dksX3_setsRate_1 11 rfl rfl)
theorem dX3_setsRate_35 : decode cX3_setsRate 35 = .ok (.getfield 9, 3) := dk_180 0 9 (dk_at dksX3_setsRate_1 12 rfl rfl)
theorem dX3_setsRate_38 : decode cX3_setsRate 38 = .ok (.bipush 10, 2) := dk_16 10 (dk_at dksX3_setsRate_1 15 rfl rfl)
theorem dX3_setsRate_40 : decode cX3_setsRate 40 = .ok (.iload_n 1, 1) := dk_27 (dk_at dksX3_setsRate_1 17 rfl rfl)
theorem dX3_setsRate_41 : decode cX3_setsRate 41 = .ok (.iadd, 1) := dk_96 (dk_at dksX3_setsRate_1 18 rfl rfl)
theorem dX3_setsRate_42 : decode cX3_setsRate 42 = .ok (.iload_n 2, 1) := dk_28 (dk_at dksX3_setsRate_1 19 rfl rfl)
theorem dX3_setsRate_43 : decode cX3_setsRate 43 = .ok (.iastore, 1) := dk_79 (dk_at dksX3_setsRate_1 20 rfl rfl)
theorem dX3_setsRate_44 : decode cX3_setsRate 44 = .ok (.iconst 0, 1) := dk_3 (dk_at dksX3_setsRate_1 21 rfl rfl)
theorem dX3_setsRate_45 : decode cX3_setsRate 45 = .ok (.ireturn, 1) := dk_172 (dk_at dksX3_setsRate_1 22 rfl rfl)
abbrev cX3_time : ByteArray := prog_9_method_37_code
def yX3_time : MethodName := ⟨RX3, "time", "()I"⟩
def dkwX3_time_0 : List UInt8 := [42, 3, 181, 0, 30, 42, 180, 0, 9, 3, 46, 172]
abbrev dktX3_time_0 : List UInt8 := dkwX3_time_0 ++ []
theorem dksX3_time_0 : cX3_time.data.toList.drop 0 = dktX3_time_0 := by decide +kernel
theorem dX3_time_0 : decode cX3_time 0 = .ok (.aload_n 0, 1) := dk_42 (dk_at dksX3_time_0 0 rfl rfl)
theorem dX3_time_1 : decode cX3_time 1 = .ok (.iconst 0, 1) := dk_3 (dk_at dksX3_time_0 1 rfl rfl)
theorem dX3_time_2 : decode cX3_time 2 = .ok (.putfield 30, 3) := dk_181 0 30 (dk_at dksX3_time_0 2 rfl rfl)
theorem dX3_time_5 : decode cX3_time 5 = .ok (.aload_n 0, 1) := dk_42 (dk_at dksX3_time_0 5 rfl rfl)
theorem dX3_time_6 : decode cX3_time 6 = .ok (.getfield 9, 3) := dk_180 0 9 (dk_at dksX3_time_0 6 rfl rfl)
theorem dX3_time_9 : decode cX3_time 9 = .ok (.iconst 0, 1) := dk_3 (dk_at dksX3_time_0 9 rfl rfl)
theorem dX3_time_10 : decode cX3_time 10 = .ok (.iaload, 1) := dk_46 (dk_at dksX3_time_0 10 rfl rfl)
theorem dX3_time_11 : decode cX3_time 11 = .ok (.ireturn, 1) := dk_172 (dk_at dksX3_time_0 11 rfl rfl)
abbrev cX3_phase : ByteArray := prog_9_method_38_code
def yX3_phase : MethodName := ⟨RX3, "phase", "()I"⟩
def dkwX3_phase_0 : List UInt8 := [42, 3, 181, 0, 30, 42, 42, 180, 0, 9, 3, 46, 182, 0, 99, 172]
abbrev dktX3_phase_0 : List UInt8 := dkwX3_phase_0 ++ []
theorem dksX3_phase_0 : cX3_phase.data.toList.drop 0 = dktX3_phase_0 := by decide +kernel
theorem dX3_phase_0 : decode cX3_phase 0 = .ok (.aload_n 0, 1) := dk_42 (dk_at dksX3_phase_0 0 rfl rfl)
theorem dX3_phase_1 : decode cX3_phase 1 = .ok (.iconst 0, 1) := dk_3 (dk_at dksX3_phase_0 1 rfl rfl)
theorem dX3_phase_2 : decode cX3_phase 2 = .ok (.putfield 30, 3) := dk_181 0 30 (dk_at dksX3_phase_0 2 rfl rfl)
theorem dX3_phase_5 : decode cX3_phase 5 = .ok (.aload_n 0, 1) := dk_42 (dk_at dksX3_phase_0 5 rfl rfl)
theorem dX3_phase_6 : decode cX3_phase 6 = .ok (.aload_n 0, 1) := dk_42 (dk_at dksX3_phase_0 6 rfl rfl)
theorem dX3_phase_7 : decode cX3_phase 7 = .ok (.getfield 9, 3) := dk_180 0 9 (dk_at dksX3_phase_0 7 rfl rfl)
theorem dX3_phase_10 : decode cX3_phase 10 = .ok (.iconst 0, 1) := dk_3 (dk_at dksX3_phase_0 10 rfl rfl)
theorem dX3_phase_11 : decode cX3_phase 11 = .ok (.iaload, 1) := dk_46 (dk_at dksX3_phase_0 11 rfl rfl)
theorem dX3_phase_12 : decode cX3_phase 12 = .ok (.invokevirtual 99, 3) := dk_182 0 99 (dk_at dksX3_phase_0 12 rfl rfl)
theorem dX3_phase_15 : decode cX3_phase 15 = .ok (.ireturn, 1) := dk_172 (dk_at dksX3_phase_0 15 rfl rfl)
abbrev cX3_rate : ByteArray := prog_9_method_39_code
def yX3_rate : MethodName := ⟨RX3, "rate", "(I)I"⟩
def dkwX3_rate_1 : List UInt8 := [167, 0, 4, 3, 172]
abbrev dktX3_rate_1 : List UInt8 := dkwX3_rate_1 ++ []
def dkwX3_rate_0 : List UInt8 := [42, 27, 3, 6, 184, 0, 55, 182, 0, 124, 153, 0, 15, 42, 180, 0, 9, 16, 10, 27, 96, 46]
abbrev dktX3_rate_0 : List UInt8 := dkwX3_rate_0 ++ dktX3_rate_1
theorem dksX3_rate_0 : cX3_rate.data.toList.drop 0 = dktX3_rate_0 := by decide +kernel
theorem dksX3_rate_1 : cX3_rate.data.toList.drop 22 = dktX3_rate_1 := dk_seg dksX3_rate_0 22 rfl rfl
theorem dX3_rate_0 : decode cX3_rate 0 = .ok (.aload_n 0, 1) := dk_42 (dk_at dksX3_rate_0 0 rfl rfl)
theorem dX3_rate_1 : decode cX3_rate 1 = .ok (.iload_n 1, 1) := dk_27 (dk_at dksX3_rate_0 1 rfl rfl)
theorem dX3_rate_2 : decode cX3_rate 2 = .ok (.iconst 0, 1) := dk_3 (dk_at dksX3_rate_0 2 rfl rfl)
theorem dX3_rate_3 : decode cX3_rate 3 = .ok (.iconst 3, 1) := dk_6 (dk_at dksX3_rate_0 3 rfl rfl)
theorem dX3_rate_4 : decode cX3_rate 4 = .ok (.invokestatic 55, 3) := dk_184 0 55 (dk_at dksX3_rate_0 4 rfl rfl)
theorem dX3_rate_7 : decode cX3_rate 7 = .ok (.invokevirtual 124, 3) := dk_182 0 124 (dk_at dksX3_rate_0 7 rfl rfl)
theorem dX3_rate_10 : decode cX3_rate 10 = .ok (.ifCond .eq 15, 3) := dk_153 0 15 (dk_at dksX3_rate_0 10 rfl rfl)
theorem dX3_rate_13 : decode cX3_rate 13 = .ok (.aload_n 0, 1) := dk_42 (dk_at dksX3_rate_0 13 rfl rfl)
theorem dX3_rate_14 : decode cX3_rate 14 = .ok (.getfield 9, 3) := dk_180 0 9 (dk_at dksX3_rate_0 14 rfl rfl)
theorem dX3_rate_17 : decode cX3_rate 17 = .ok (.bipush 10, 2) := dk_16 10 (dk_at dksX3_rate_0 17 rfl rfl)
theorem dX3_rate_19 : decode cX3_rate 19 = .ok (.iload_n 1, 1) := dk_27 (dk_at dksX3_rate_0 19 rfl rfl)
theorem dX3_rate_20 : decode cX3_rate 20 = .ok (.iadd, 1) := dk_96 (dk_at dksX3_rate_0 20 rfl rfl)
theorem dX3_rate_21 : decode cX3_rate 21 = .ok (.iaload, 1) := dk_46 (dk_at dksX3_rate_0 21 rfl rfl)
theorem dX3_rate_22 : decode cX3_rate 22 = .ok (.goto 4, 3) := dk_167 0 4 (dk_at dksX3_rate_1 0 rfl rfl)
theorem dX3_rate_25 : decode cX3_rate 25 = .ok (.iconst 0, 1) := dk_3 (dk_at dksX3_rate_1 3 rfl rfl)
theorem dX3_rate_26 : decode cX3_rate 26 = .ok (.ireturn, 1) := dk_172 (dk_at dksX3_rate_1 4 rfl rfl)
abbrev cX3_isFine : ByteArray := prog_9_method_7_code
def yX3_isFine : MethodName := ⟨RX3, "isFine", "(Z)Z"⟩
def dkwX3_isFine_0 : List UInt8 := [42, 27, 153, 0, 7, 3, 167, 0, 4, 4, 181, 0, 30, 27, 172]
abbrev dktX3_isFine_0 : List UInt8 := dkwX3_isFine_0 ++ []
theorem dksX3_isFine_0 : cX3_isFine.data.toList.drop 0 = dktX3_isFine_0 := by decide +kernel
theorem dX3_isFine_0 : decode cX3_isFine 0 = .ok (.aload_n 0, 1) := dk_42 (dk_at dksX3_isFine_0 0 rfl rfl)
theorem dX3_isFine_1 : decode cX3_isFine 1 = .ok (.iload_n 1, 1) := dk_27 (dk_at dksX3_isFine_0 1 rfl rfl)
theorem dX3_isFine_2 : decode cX3_isFine 2 = .ok (.ifCond .eq 7, 3) := dk_153 0 7 (dk_at dksX3_isFine_0 2 rfl rfl)
theorem dX3_isFine_5 : decode cX3_isFine 5 = .ok (.iconst 0, 1) := dk_3 (dk_at dksX3_isFine_0 5 rfl rfl)
theorem dX3_isFine_6 : decode cX3_isFine 6 = .ok (.goto 4, 3) := dk_167 0 4 (dk_at dksX3_isFine_0 6 rfl rfl)
theorem dX3_isFine_9 : decode cX3_isFine 9 = .ok (.iconst 1, 1) := dk_4 (dk_at dksX3_isFine_0 9 rfl rfl)
theorem dX3_isFine_10 : decode cX3_isFine 10 = .ok (.putfield 30, 3) := dk_181 0 30 (dk_at dksX3_isFine_0 10 rfl rfl)
theorem dX3_isFine_13 : decode cX3_isFine 13 = .ok (.iload_n 1, 1) := dk_27 (dk_at dksX3_isFine_0 13 rfl rfl)
theorem dX3_isFine_14 : decode cX3_isFine 14 = .ok (.ireturn, 1) := dk_172 (dk_at dksX3_isFine_0 14 rfl rfl)
abbrev cX3_activeCount : ByteArray := prog_9_method_40_code
def yX3_activeCount : MethodName := ⟨RX3, "activeCount", "()I"⟩
def dkwX3_activeCount_0 : List UInt8 := [42, 3, 181, 0, 30, 42, 180, 0, 9, 5, 46, 172]
abbrev dktX3_activeCount_0 : List UInt8 := dkwX3_activeCount_0 ++ []
theorem dksX3_activeCount_0 : cX3_activeCount.data.toList.drop 0 = dktX3_activeCount_0 := by decide +kernel
theorem dX3_activeCount_0 : decode cX3_activeCount 0 = .ok (.aload_n 0, 1) := dk_42 (dk_at dksX3_activeCount_0 0 rfl rfl)
theorem dX3_activeCount_1 : decode cX3_activeCount 1 = .ok (.iconst 0, 1) := dk_3 (dk_at dksX3_activeCount_0 1 rfl rfl)
theorem dX3_activeCount_2 : decode cX3_activeCount 2 = .ok (.putfield 30, 3) := dk_181 0 30 (dk_at dksX3_activeCount_0 2 rfl rfl)
theorem dX3_activeCount_5 : decode cX3_activeCount 5 = .ok (.aload_n 0, 1) := dk_42 (dk_at dksX3_activeCount_0 5 rfl rfl)
theorem dX3_activeCount_6 : decode cX3_activeCount 6 = .ok (.getfield 9, 3) := dk_180 0 9 (dk_at dksX3_activeCount_0 6 rfl rfl)
theorem dX3_activeCount_9 : decode cX3_activeCount 9 = .ok (.iconst 2, 1) := dk_5 (dk_at dksX3_activeCount_0 9 rfl rfl)
theorem dX3_activeCount_10 : decode cX3_activeCount 10 = .ok (.iaload, 1) := dk_46 (dk_at dksX3_activeCount_0 10 rfl rfl)
theorem dX3_activeCount_11 : decode cX3_activeCount 11 = .ok (.ireturn, 1) := dk_172 (dk_at dksX3_activeCount_0 11 rfl rfl)
abbrev cX3_isActive : ByteArray := prog_9_method_41_code
def yX3_isActive : MethodName := ⟨RX3, "isActive", "(I)Z"⟩
def dkwX3_isActive_0 : List UInt8 := [42, 3, 181, 0, 30, 42, 27, 182, 0, 76, 155, 0, 7, 4, 167, 0, 4, 3, 172]
abbrev dktX3_isActive_0 : List UInt8 := dkwX3_isActive_0 ++ []
theorem dksX3_isActive_0 : cX3_isActive.data.toList.drop 0 = dktX3_isActive_0 := by decide +kernel
theorem dX3_isActive_0 : decode cX3_isActive 0 = .ok (.aload_n 0, 1) := dk_42 (dk_at dksX3_isActive_0 0 rfl rfl)
theorem dX3_isActive_1 : decode cX3_isActive 1 = .ok (.iconst 0, 1) := dk_3 (dk_at dksX3_isActive_0 1 rfl rfl)
theorem dX3_isActive_2 : decode cX3_isActive 2 = .ok (.putfield 30, 3) := dk_181 0 30 (dk_at dksX3_isActive_0 2 rfl rfl)
theorem dX3_isActive_5 : decode cX3_isActive 5 = .ok (.aload_n 0, 1) := dk_42 (dk_at dksX3_isActive_0 5 rfl rfl)
theorem dX3_isActive_6 : decode cX3_isActive 6 = .ok (.iload_n 1, 1) := dk_27 (dk_at dksX3_isActive_0 6 rfl rfl)
theorem dX3_isActive_7 : decode cX3_isActive 7 = .ok (.invokevirtual 76, 3) := dk_182 0 76 (dk_at dksX3_isActive_0 7 rfl rfl)
theorem dX3_isActive_10 : decode cX3_isActive 10 = .ok (.ifCond .lt 7, 3) := dk_155 0 7 (dk_at dksX3_isActive_0 10 rfl rfl)
theorem dX3_isActive_13 : decode cX3_isActive 13 = .ok (.iconst 1, 1) := dk_4 (dk_at dksX3_isActive_0 13 rfl rfl)
theorem dX3_isActive_14 : decode cX3_isActive 14 = .ok (.goto 4, 3) := dk_167 0 4 (dk_at dksX3_isActive_0 14 rfl rfl)
theorem dX3_isActive_17 : decode cX3_isActive 17 = .ok (.iconst 0, 1) := dk_3 (dk_at dksX3_isActive_0 17 rfl rfl)
theorem dX3_isActive_18 : decode cX3_isActive 18 = .ok (.ireturn, 1) := dk_172 (dk_at dksX3_isActive_0 18 rfl rfl)
abbrev cX3_idAt : ByteArray := prog_9_method_42_code
def yX3_idAt : MethodName := ⟨RX3, "idAt", "(I)I"⟩
def dkwX3_idAt_1 : List UInt8 := [182, 0, 43, 167, 0, 4, 3, 172]
abbrev dktX3_idAt_1 : List UInt8 := dkwX3_idAt_1 ++ []
def dkwX3_idAt_0 : List UInt8 := [42, 27, 3, 42, 180, 0, 9, 5, 46, 4, 100, 184, 0, 55, 182, 0, 124, 153, 0, 12, 42, 27, 3]
abbrev dktX3_idAt_0 : List UInt8 := dkwX3_idAt_0 ++ dktX3_idAt_1
theorem dksX3_idAt_0 : cX3_idAt.data.toList.drop 0 = dktX3_idAt_0 := by decide +kernel
theorem dksX3_idAt_1 : cX3_idAt.data.toList.drop 23 = dktX3_idAt_1 := dk_seg dksX3_idAt_0 23 rfl rfl
theorem dX3_idAt_0 : decode cX3_idAt 0 = .ok (.aload_n 0, 1) := dk_42 (dk_at dksX3_idAt_0 0 rfl rfl)
theorem dX3_idAt_1 : decode cX3_idAt 1 = .ok (.iload_n 1, 1) := dk_27 (dk_at dksX3_idAt_0 1 rfl rfl)
theorem dX3_idAt_2 : decode cX3_idAt 2 = .ok (.iconst 0, 1) := dk_3 (dk_at dksX3_idAt_0 2 rfl rfl)
theorem dX3_idAt_3 : decode cX3_idAt 3 = .ok (.aload_n 0, 1) := dk_42 (dk_at dksX3_idAt_0 3 rfl rfl)
theorem dX3_idAt_4 : decode cX3_idAt 4 = .ok (.getfield 9, 3) := dk_180 0 9 (dk_at dksX3_idAt_0 4 rfl rfl)
theorem dX3_idAt_7 : decode cX3_idAt 7 = .ok (.iconst 2, 1) := dk_5 (dk_at dksX3_idAt_0 7 rfl rfl)
theorem dX3_idAt_8 : decode cX3_idAt 8 = .ok (.iaload, 1) := dk_46 (dk_at dksX3_idAt_0 8 rfl rfl)
theorem dX3_idAt_9 : decode cX3_idAt 9 = .ok (.iconst 1, 1) := dk_4 (dk_at dksX3_idAt_0 9 rfl rfl)
theorem dX3_idAt_10 : decode cX3_idAt 10 = .ok (.isub, 1) := dk_100 (dk_at dksX3_idAt_0 10 rfl rfl)
theorem dX3_idAt_11 : decode cX3_idAt 11 = .ok (.invokestatic 55, 3) := dk_184 0 55 (dk_at dksX3_idAt_0 11 rfl rfl)
theorem dX3_idAt_14 : decode cX3_idAt 14 = .ok (.invokevirtual 124, 3) := dk_182 0 124 (dk_at dksX3_idAt_0 14 rfl rfl)
theorem dX3_idAt_17 : decode cX3_idAt 17 = .ok (.ifCond .eq 12, 3) := dk_153 0 12 (dk_at dksX3_idAt_0 17 rfl rfl)
theorem dX3_idAt_20 : decode cX3_idAt 20 = .ok (.aload_n 0, 1) := dk_42 (dk_at dksX3_idAt_0 20 rfl rfl)
theorem dX3_idAt_21 : decode cX3_idAt 21 = .ok (.iload_n 1, 1) := dk_27 (dk_at dksX3_idAt_0 21 rfl rfl)
theorem dX3_idAt_22 : decode cX3_idAt 22 = .ok (.iconst 0, 1) := dk_3 (dk_at dksX3_idAt_0 22 rfl rfl)
theorem dX3_idAt_23 : decode cX3_idAt 23 = .ok (.invokevirtual 43, 3) := dk_182 0 43 (dk_at dksX3_idAt_1 0 rfl rfl)
theorem dX3_idAt_26 : decode cX3_idAt 26 = .ok (.goto 4, 3) := dk_167 0 4 (dk_at dksX3_idAt_1 3 rfl rfl)
theorem dX3_idAt_29 : decode cX3_idAt 29 = .ok (.iconst 0, 1) := dk_3 (dk_at dksX3_idAt_1 6 rfl rfl)
theorem dX3_idAt_30 : decode cX3_idAt 30 = .ok (.ireturn, 1) := dk_172 (dk_at dksX3_idAt_1 7 rfl rfl)
abbrev cX3_debtor : ByteArray := prog_9_method_44_code
def yX3_debtor : MethodName := ⟨RX3, "debtor", "(I)I"⟩
def dkwX3_debtor_0 : List UInt8 := [42, 27, 4, 182, 0, 128, 172]
abbrev dktX3_debtor_0 : List UInt8 := dkwX3_debtor_0 ++ []
theorem dksX3_debtor_0 : cX3_debtor.data.toList.drop 0 = dktX3_debtor_0 := by decide +kernel
theorem dX3_debtor_0 : decode cX3_debtor 0 = .ok (.aload_n 0, 1) := dk_42 (dk_at dksX3_debtor_0 0 rfl rfl)
theorem dX3_debtor_1 : decode cX3_debtor 1 = .ok (.iload_n 1, 1) := dk_27 (dk_at dksX3_debtor_0 1 rfl rfl)
theorem dX3_debtor_2 : decode cX3_debtor 2 = .ok (.iconst 1, 1) := dk_4 (dk_at dksX3_debtor_0 2 rfl rfl)
theorem dX3_debtor_3 : decode cX3_debtor 3 = .ok (.invokevirtual 128, 3) := dk_182 0 128 (dk_at dksX3_debtor_0 3 rfl rfl)
theorem dX3_debtor_6 : decode cX3_debtor 6 = .ok (.ireturn, 1) := dk_172 (dk_at dksX3_debtor_0 6 rfl rfl)
abbrev cX3_ofClaim : ByteArray := prog_9_method_43_code
def yX3_ofClaim : MethodName := ⟨RX3, "ofClaim", "(II)I"⟩
def dkwX3_ofClaim_1 : List UInt8 := [28, 182, 0, 43, 167, 0, 4, 3, 172]
abbrev dktX3_ofClaim_1 : List UInt8 := dkwX3_ofClaim_1 ++ []
def dkwX3_ofClaim_0 : List UInt8 := [42, 27, 182, 0, 76, 62, 42, 29, 155, 0, 7, 4, 167, 0, 4, 3, 182, 0, 124, 153, 0, 12, 42, 29]
abbrev dktX3_ofClaim_0 : List UInt8 := dkwX3_ofClaim_0 ++ dktX3_ofClaim_1
theorem dksX3_ofClaim_0 : cX3_ofClaim.data.toList.drop 0 = dktX3_ofClaim_0 := by decide +kernel
theorem dksX3_ofClaim_1 : cX3_ofClaim.data.toList.drop 24 = dktX3_ofClaim_1 := dk_seg dksX3_ofClaim_0 24 rfl rfl
theorem dX3_ofClaim_0 : decode cX3_ofClaim 0 = .ok (.aload_n 0, 1) := dk_42 (dk_at dksX3_ofClaim_0 0 rfl rfl)
theorem dX3_ofClaim_1 : decode cX3_ofClaim 1 = .ok (.iload_n 1, 1) := dk_27 (dk_at dksX3_ofClaim_0 1 rfl rfl)
theorem dX3_ofClaim_2 : decode cX3_ofClaim 2 = .ok (.invokevirtual 76, 3) := dk_182 0 76 (dk_at dksX3_ofClaim_0 2 rfl rfl)
theorem dX3_ofClaim_5 : decode cX3_ofClaim 5 = .ok (.istore_n 3, 1) := dk_62 (dk_at dksX3_ofClaim_0 5 rfl rfl)
theorem dX3_ofClaim_6 : decode cX3_ofClaim 6 = .ok (.aload_n 0, 1) := dk_42 (dk_at dksX3_ofClaim_0 6 rfl rfl)
theorem dX3_ofClaim_7 : decode cX3_ofClaim 7 = .ok (.iload_n 3, 1) := dk_29 (dk_at dksX3_ofClaim_0 7 rfl rfl)
theorem dX3_ofClaim_8 : decode cX3_ofClaim 8 = .ok (.ifCond .lt 7, 3) := dk_155 0 7 (dk_at dksX3_ofClaim_0 8 rfl rfl)
theorem dX3_ofClaim_11 : decode cX3_ofClaim 11 = .ok (.iconst 1, 1) := dk_4 (dk_at dksX3_ofClaim_0 11 rfl rfl)
theorem dX3_ofClaim_12 : decode cX3_ofClaim 12 = .ok (.goto 4, 3) := dk_167 0 4 (dk_at dksX3_ofClaim_0 12 rfl rfl)
theorem dX3_ofClaim_15 : decode cX3_ofClaim 15 = .ok (.iconst 0, 1) := dk_3 (dk_at dksX3_ofClaim_0 15 rfl rfl)
theorem dX3_ofClaim_16 : decode cX3_ofClaim 16 = .ok (.invokevirtual 124, 3) := dk_182 0 124 (dk_at dksX3_ofClaim_0 16 rfl rfl)
theorem dX3_ofClaim_19 : decode cX3_ofClaim 19 = .ok (.ifCond .eq 12, 3) := dk_153 0 12 (dk_at dksX3_ofClaim_0 19 rfl rfl)
theorem dX3_ofClaim_22 : decode cX3_ofClaim 22 = .ok (.aload_n 0, 1) := dk_42 (dk_at dksX3_ofClaim_0 22 rfl rfl)
theorem dX3_ofClaim_23 : decode cX3_ofClaim 23 = .ok (.iload_n 3, 1) := dk_29 (dk_at dksX3_ofClaim_0 23 rfl rfl)
theorem dX3_ofClaim_24 : decode cX3_ofClaim 24 = .ok (.iload_n 2, 1) := dk_28 (dk_at dksX3_ofClaim_1 0 rfl rfl)
theorem dX3_ofClaim_25 : decode cX3_ofClaim 25 = .ok (.invokevirtual 43, 3) := dk_182 0 43 (dk_at dksX3_ofClaim_1 1 rfl rfl)
theorem dX3_ofClaim_28 : decode cX3_ofClaim 28 = .ok (.goto 4, 3) := dk_167 0 4 (dk_at dksX3_ofClaim_1 4 rfl rfl)
theorem dX3_ofClaim_31 : decode cX3_ofClaim 31 = .ok (.iconst 0, 1) := dk_3 (dk_at dksX3_ofClaim_1 7 rfl rfl)
theorem dX3_ofClaim_32 : decode cX3_ofClaim 32 = .ok (.ireturn, 1) := dk_172 (dk_at dksX3_ofClaim_1 8 rfl rfl)
abbrev cX3_creditor : ByteArray := prog_9_method_45_code
def yX3_creditor : MethodName := ⟨RX3, "creditor", "(I)I"⟩
def dkwX3_creditor_0 : List UInt8 := [42, 27, 5, 182, 0, 128, 172]
abbrev dktX3_creditor_0 : List UInt8 := dkwX3_creditor_0 ++ []
theorem dksX3_creditor_0 : cX3_creditor.data.toList.drop 0 = dktX3_creditor_0 := by decide +kernel
theorem dX3_creditor_0 : decode cX3_creditor 0 = .ok (.aload_n 0, 1) := dk_42 (dk_at dksX3_creditor_0 0 rfl rfl)
theorem dX3_creditor_1 : decode cX3_creditor 1 = .ok (.iload_n 1, 1) := dk_27 (dk_at dksX3_creditor_0 1 rfl rfl)
theorem dX3_creditor_2 : decode cX3_creditor 2 = .ok (.iconst 2, 1) := dk_5 (dk_at dksX3_creditor_0 2 rfl rfl)
theorem dX3_creditor_3 : decode cX3_creditor 3 = .ok (.invokevirtual 128, 3) := dk_182 0 128 (dk_at dksX3_creditor_0 3 rfl rfl)
theorem dX3_creditor_6 : decode cX3_creditor 6 = .ok (.ireturn, 1) := dk_172 (dk_at dksX3_creditor_0 6 rfl rfl)
abbrev cX3_weight : ByteArray := prog_9_method_46_code
def yX3_weight : MethodName := ⟨RX3, "weight", "(I)I"⟩
def dkwX3_weight_0 : List UInt8 := [42, 27, 6, 182, 0, 128, 172]
abbrev dktX3_weight_0 : List UInt8 := dkwX3_weight_0 ++ []
theorem dksX3_weight_0 : cX3_weight.data.toList.drop 0 = dktX3_weight_0 := by decide +kernel
theorem dX3_weight_0 : decode cX3_weight 0 = .ok (.aload_n 0, 1) := dk_42 (dk_at dksX3_weight_0 0 rfl rfl)
theorem dX3_weight_1 : decode cX3_weight 1 = .ok (.iload_n 1, 1) := dk_27 (dk_at dksX3_weight_0 1 rfl rfl)
theorem dX3_weight_2 : decode cX3_weight 2 = .ok (.iconst 3, 1) := dk_6 (dk_at dksX3_weight_0 2 rfl rfl)
theorem dX3_weight_3 : decode cX3_weight 3 = .ok (.invokevirtual 128, 3) := dk_182 0 128 (dk_at dksX3_weight_0 3 rfl rfl)
theorem dX3_weight_6 : decode cX3_weight 6 = .ok (.ireturn, 1) := dk_172 (dk_at dksX3_weight_0 6 rfl rfl)
abbrev cX3_expiry : ByteArray := prog_9_method_47_code
def yX3_expiry : MethodName := ⟨RX3, "expiry", "(I)I"⟩
def dkwX3_expiry_0 : List UInt8 := [42, 27, 7, 182, 0, 128, 172]
abbrev dktX3_expiry_0 : List UInt8 := dkwX3_expiry_0 ++ []
theorem dksX3_expiry_0 : cX3_expiry.data.toList.drop 0 = dktX3_expiry_0 := by decide +kernel
theorem dX3_expiry_0 : decode cX3_expiry 0 = .ok (.aload_n 0, 1) := dk_42 (dk_at dksX3_expiry_0 0 rfl rfl)
theorem dX3_expiry_1 : decode cX3_expiry 1 = .ok (.iload_n 1, 1) := dk_27 (dk_at dksX3_expiry_0 1 rfl rfl)
theorem dX3_expiry_2 : decode cX3_expiry 2 = .ok (.iconst 4, 1) := dk_7 (dk_at dksX3_expiry_0 2 rfl rfl)
theorem dX3_expiry_3 : decode cX3_expiry 3 = .ok (.invokevirtual 128, 3) := dk_182 0 128 (dk_at dksX3_expiry_0 3 rfl rfl)
theorem dX3_expiry_6 : decode cX3_expiry 6 = .ok (.ireturn, 1) := dk_172 (dk_at dksX3_expiry_0 6 rfl rfl)
abbrev cX3_strikes : ByteArray := prog_9_method_48_code
def yX3_strikes : MethodName := ⟨RX3, "strikes", "(I)I"⟩
def dkwX3_strikes_0 : List UInt8 := [42, 27, 8, 182, 0, 128, 172]
abbrev dktX3_strikes_0 : List UInt8 := dkwX3_strikes_0 ++ []
theorem dksX3_strikes_0 : cX3_strikes.data.toList.drop 0 = dktX3_strikes_0 := by decide +kernel
theorem dX3_strikes_0 : decode cX3_strikes 0 = .ok (.aload_n 0, 1) := dk_42 (dk_at dksX3_strikes_0 0 rfl rfl)
theorem dX3_strikes_1 : decode cX3_strikes 1 = .ok (.iload_n 1, 1) := dk_27 (dk_at dksX3_strikes_0 1 rfl rfl)
theorem dX3_strikes_2 : decode cX3_strikes 2 = .ok (.iconst 5, 1) := dk_8 (dk_at dksX3_strikes_0 2 rfl rfl)
theorem dX3_strikes_3 : decode cX3_strikes 3 = .ok (.invokevirtual 128, 3) := dk_182 0 128 (dk_at dksX3_strikes_0 3 rfl rfl)
theorem dX3_strikes_6 : decode cX3_strikes 6 = .ok (.ireturn, 1) := dk_172 (dk_at dksX3_strikes_0 6 rfl rfl)
abbrev cX3_isSigned : ByteArray := prog_9_method_49_code
def yX3_isSigned : MethodName := ⟨RX3, "isSigned", "(I)Z"⟩
def dkwX3_isSigned_0 : List UInt8 := [42, 27, 16, 6, 182, 0, 128, 158, 0, 7, 4, 167, 0, 4, 3, 172]
abbrev dktX3_isSigned_0 : List UInt8 := dkwX3_isSigned_0 ++ []
theorem dksX3_isSigned_0 : cX3_isSigned.data.toList.drop 0 = dktX3_isSigned_0 := by decide +kernel
theorem dX3_isSigned_0 : decode cX3_isSigned 0 = .ok (.aload_n 0, 1) := dk_42 (dk_at dksX3_isSigned_0 0 rfl rfl)
theorem dX3_isSigned_1 : decode cX3_isSigned 1 = .ok (.iload_n 1, 1) := dk_27 (dk_at dksX3_isSigned_0 1 rfl rfl)
theorem dX3_isSigned_2 : decode cX3_isSigned 2 = .ok (.bipush 6, 2) := dk_16 6 (dk_at dksX3_isSigned_0 2 rfl rfl)
theorem dX3_isSigned_4 : decode cX3_isSigned 4 = .ok (.invokevirtual 128, 3) := dk_182 0 128 (dk_at dksX3_isSigned_0 4 rfl rfl)
theorem dX3_isSigned_7 : decode cX3_isSigned 7 = .ok (.ifCond .le 7, 3) := dk_158 0 7 (dk_at dksX3_isSigned_0 7 rfl rfl)
theorem dX3_isSigned_10 : decode cX3_isSigned 10 = .ok (.iconst 1, 1) := dk_4 (dk_at dksX3_isSigned_0 10 rfl rfl)
theorem dX3_isSigned_11 : decode cX3_isSigned 11 = .ok (.goto 4, 3) := dk_167 0 4 (dk_at dksX3_isSigned_0 11 rfl rfl)
theorem dX3_isSigned_14 : decode cX3_isSigned 14 = .ok (.iconst 0, 1) := dk_3 (dk_at dksX3_isSigned_0 14 rfl rfl)
theorem dX3_isSigned_15 : decode cX3_isSigned 15 = .ok (.ireturn, 1) := dk_172 (dk_at dksX3_isSigned_0 15 rfl rfl)
abbrev cX3_isCountersigned : ByteArray := prog_9_method_50_code
def yX3_isCountersigned : MethodName := ⟨RX3, "isCountersigned", "(I)Z"⟩
def dkwX3_isCountersigned_0 : List UInt8 := [42, 27, 16, 7, 182, 0, 128, 158, 0, 7, 4, 167, 0, 4, 3, 172]
abbrev dktX3_isCountersigned_0 : List UInt8 := dkwX3_isCountersigned_0 ++ []
theorem dksX3_isCountersigned_0 : cX3_isCountersigned.data.toList.drop 0 = dktX3_isCountersigned_0 := by decide +kernel
theorem dX3_isCountersigned_0 : decode cX3_isCountersigned 0 = .ok (.aload_n 0, 1) := dk_42 (dk_at dksX3_isCountersigned_0 0 rfl rfl)
theorem dX3_isCountersigned_1 : decode cX3_isCountersigned 1 = .ok (.iload_n 1, 1) := dk_27 (dk_at dksX3_isCountersigned_0 1 rfl rfl)
theorem dX3_isCountersigned_2 : decode cX3_isCountersigned 2 = .ok (.bipush 7, 2) := dk_16 7 (dk_at dksX3_isCountersigned_0 2 rfl rfl)
theorem dX3_isCountersigned_4 : decode cX3_isCountersigned 4 = .ok (.invokevirtual 128, 3) := dk_182 0 128 (dk_at dksX3_isCountersigned_0 4 rfl rfl)
theorem dX3_isCountersigned_7 : decode cX3_isCountersigned 7 = .ok (.ifCond .le 7, 3) := dk_158 0 7 (dk_at dksX3_isCountersigned_0 7 rfl rfl)
theorem dX3_isCountersigned_10 : decode cX3_isCountersigned 10 = .ok (.iconst 1, 1) := dk_4 (dk_at dksX3_isCountersigned_0 10 rfl rfl)
theorem dX3_isCountersigned_11 : decode cX3_isCountersigned 11 = .ok (.goto 4, 3) := dk_167 0 4 (dk_at dksX3_isCountersigned_0 11 rfl rfl)
theorem dX3_isCountersigned_14 : decode cX3_isCountersigned 14 = .ok (.iconst 0, 1) := dk_3 (dk_at dksX3_isCountersigned_0 14 rfl rfl)
theorem dX3_isCountersigned_15 : decode cX3_isCountersigned 15 = .ok (.ireturn, 1) := dk_172 (dk_at dksX3_isCountersigned_0 15 rfl rfl)
abbrev cX3_signer : ByteArray := prog_9_method_52_code
def yX3_signer : MethodName := ⟨RX3, "signer", "(I)I"⟩
def dkwX3_signer_0 : List UInt8 := [42, 27, 16, 6, 182, 0, 131, 172]
abbrev dktX3_signer_0 : List UInt8 := dkwX3_signer_0 ++ []
theorem dksX3_signer_0 : cX3_signer.data.toList.drop 0 = dktX3_signer_0 := by decide +kernel
theorem dX3_signer_0 : decode cX3_signer 0 = .ok (.aload_n 0, 1) := dk_42 (dk_at dksX3_signer_0 0 rfl rfl)
theorem dX3_signer_1 : decode cX3_signer 1 = .ok (.iload_n 1, 1) := dk_27 (dk_at dksX3_signer_0 1 rfl rfl)
theorem dX3_signer_2 : decode cX3_signer 2 = .ok (.bipush 6, 2) := dk_16 6 (dk_at dksX3_signer_0 2 rfl rfl)
theorem dX3_signer_4 : decode cX3_signer 4 = .ok (.invokevirtual 131, 3) := dk_182 0 131 (dk_at dksX3_signer_0 4 rfl rfl)
theorem dX3_signer_7 : decode cX3_signer 7 = .ok (.ireturn, 1) := dk_172 (dk_at dksX3_signer_0 7 rfl rfl)
abbrev cX3_whoSigned : ByteArray := prog_9_method_51_code
def yX3_whoSigned : MethodName := ⟨RX3, "whoSigned", "(II)I"⟩
def dkwX3_whoSigned_1 : List UInt8 := [180, 0, 30, 154, 0, 9, 29, 4, 100, 167, 0, 4, 3, 172]
abbrev dktX3_whoSigned_1 : List UInt8 := dkwX3_whoSigned_1 ++ []
def dkwX3_whoSigned_0 : List UInt8 := [42, 27, 28, 182, 0, 128, 62, 42, 180, 0, 30, 154, 0, 12, 29, 154, 0, 8, 42, 5, 181, 0, 30, 42]
abbrev dktX3_whoSigned_0 : List UInt8 := dkwX3_whoSigned_0 ++ dktX3_whoSigned_1
theorem dksX3_whoSigned_0 : cX3_whoSigned.data.toList.drop 0 = dktX3_whoSigned_0 := by decide +kernel
theorem dksX3_whoSigned_1 : cX3_whoSigned.data.toList.drop 24 = dktX3_whoSigned_1 := dk_seg dksX3_whoSigned_0 24 rfl rfl
theorem dX3_whoSigned_0 : decode cX3_whoSigned 0 = .ok (.aload_n 0, 1) := dk_42 (dk_at dksX3_whoSigned_0 0 rfl rfl)
theorem dX3_whoSigned_1 : decode cX3_whoSigned 1 = .ok (.iload_n 1, 1) := dk_27 (dk_at dksX3_whoSigned_0 1 rfl rfl)
theorem dX3_whoSigned_2 : decode cX3_whoSigned 2 = .ok (.iload_n 2, 1) := dk_28 (dk_at dksX3_whoSigned_0 2 rfl rfl)
theorem dX3_whoSigned_3 : decode cX3_whoSigned 3 = .ok (.invokevirtual 128, 3) := dk_182 0 128 (dk_at dksX3_whoSigned_0 3 rfl rfl)
theorem dX3_whoSigned_6 : decode cX3_whoSigned 6 = .ok (.istore_n 3, 1) := dk_62 (dk_at dksX3_whoSigned_0 6 rfl rfl)
theorem dX3_whoSigned_7 : decode cX3_whoSigned 7 = .ok (.aload_n 0, 1) := dk_42 (dk_at dksX3_whoSigned_0 7 rfl rfl)
theorem dX3_whoSigned_8 : decode cX3_whoSigned 8 = .ok (.getfield 30, 3) := dk_180 0 30 (dk_at dksX3_whoSigned_0 8 rfl rfl)
theorem dX3_whoSigned_11 : decode cX3_whoSigned 11 = .ok (.ifCond .ne 12, 3) := dk_154 0 12 (dk_at dksX3_whoSigned_0 11 rfl rfl)
theorem dX3_whoSigned_14 : decode cX3_whoSigned 14 = .ok (.iload_n 3, 1) := dk_29 (dk_at dksX3_whoSigned_0 14 rfl rfl)
theorem dX3_whoSigned_15 : decode cX3_whoSigned 15 = .ok (.ifCond .ne 8, 3) := dk_154 0 8 (dk_at dksX3_whoSigned_0 15 rfl rfl)
theorem dX3_whoSigned_18 : decode cX3_whoSigned 18 = .ok (.aload_n 0, 1) := dk_42 (dk_at dksX3_whoSigned_0 18 rfl rfl)
theorem dX3_whoSigned_19 : decode cX3_whoSigned 19 = .ok (.iconst 2, 1) := dk_5 (dk_at dksX3_whoSigned_0 19 rfl rfl)
theorem dX3_whoSigned_20 : decode cX3_whoSigned 20 = .ok (.putfield 30, 3) := dk_181 0 30 (dk_at dksX3_whoSigned_0 20 rfl rfl)
theorem dX3_whoSigned_23 : decode cX3_whoSigned 23 = .ok (.aload_n 0, 1) := dk_42 (dk_at dksX3_whoSigned_0 23 rfl rfl)
theorem dX3_whoSigned_24 : decode cX3_whoSigned 24 = .ok (.getfield 30, 3) := dk_180 0 30 (dk_at dksX3_whoSigned_1 0 rfl rfl)
theorem dX3_whoSigned_27 : decode cX3_whoSigned 27 = .ok (.ifCond .ne 9, 3) := dk_154 0 9 (dk_at dksX3_whoSigned_1 3 rfl rfl)
theorem dX3_whoSigned_30 : decode cX3_whoSigned 30 = .ok (.iload_n 3, 1) := dk_29 (dk_at dksX3_whoSigned_1 6 rfl rfl)
theorem dX3_whoSigned_31 : decode cX3_whoSigned 31 = .ok (.iconst 1, 1) := dk_4 (dk_at dksX3_whoSigned_1 7 rfl rfl)
theorem dX3_whoSigned_32 : decode cX3_whoSigned 32 = .ok (.isub, 1) := dk_100 (dk_at dksX3_whoSigned_1 8 rfl rfl)
theorem dX3_whoSigned_33 : decode cX3_whoSigned 33 = .ok (.goto 4, 3) := dk_167 0 4 (dk_at dksX3_whoSigned_1 9 rfl rfl)
theorem dX3_whoSigned_36 : decode cX3_whoSigned 36 = .ok (.iconst 0, 1) := dk_3 (dk_at dksX3_whoSigned_1 12 rfl rfl)
theorem dX3_whoSigned_37 : decode cX3_whoSigned 37 = .ok (.ireturn, 1) := dk_172 (dk_at dksX3_whoSigned_1 13 rfl rfl)
abbrev cX3_countersigner : ByteArray := prog_9_method_53_code
def yX3_countersigner : MethodName := ⟨RX3, "countersigner", "(I)I"⟩
def dkwX3_countersigner_0 : List UInt8 := [42, 27, 16, 7, 182, 0, 131, 172]
abbrev dktX3_countersigner_0 : List UInt8 := dkwX3_countersigner_0 ++ []
theorem dksX3_countersigner_0 : cX3_countersigner.data.toList.drop 0 = dktX3_countersigner_0 := by decide +kernel
theorem dX3_countersigner_0 : decode cX3_countersigner 0 = .ok (.aload_n 0, 1) := dk_42 (dk_at dksX3_countersigner_0 0 rfl rfl)
theorem dX3_countersigner_1 : decode cX3_countersigner 1 = .ok (.iload_n 1, 1) := dk_27 (dk_at dksX3_countersigner_0 1 rfl rfl)
theorem dX3_countersigner_2 : decode cX3_countersigner 2 = .ok (.bipush 7, 2) := dk_16 7 (dk_at dksX3_countersigner_0 2 rfl rfl)
theorem dX3_countersigner_4 : decode cX3_countersigner 4 = .ok (.invokevirtual 131, 3) := dk_182 0 131 (dk_at dksX3_countersigner_0 4 rfl rfl)
theorem dX3_countersigner_7 : decode cX3_countersigner 7 = .ok (.ireturn, 1) := dk_172 (dk_at dksX3_countersigner_0 7 rfl rfl)
abbrev cX3_signaturesOf : ByteArray := prog_9_method_54_code
def yX3_signaturesOf : MethodName := ⟨RX3, "signaturesOf", "(I)I"⟩
def dkwX3_signaturesOf_1 : List UInt8 := [172]
abbrev dktX3_signaturesOf_1 : List UInt8 := dkwX3_signaturesOf_1 ++ []
def dkwX3_signaturesOf_0 : List UInt8 := [42, 27, 3, 6, 184, 0, 55, 182, 0, 124, 153, 0, 13, 42, 16, 6, 27, 182, 0, 73, 167, 0, 4, 3]
abbrev dktX3_signaturesOf_0 : List UInt8 := dkwX3_signaturesOf_0 ++ dktX3_signaturesOf_1
theorem dksX3_signaturesOf_0 : cX3_signaturesOf.data.toList.drop 0 = dktX3_signaturesOf_0 := by decide +kernel
theorem dksX3_signaturesOf_1 : cX3_signaturesOf.data.toList.drop 24 = dktX3_signaturesOf_1 := dk_seg dksX3_signaturesOf_0 24 rfl rfl
theorem dX3_signaturesOf_0 : decode cX3_signaturesOf 0 = .ok (.aload_n 0, 1) := dk_42 (dk_at dksX3_signaturesOf_0 0 rfl rfl)
theorem dX3_signaturesOf_1 : decode cX3_signaturesOf 1 = .ok (.iload_n 1, 1) := dk_27 (dk_at dksX3_signaturesOf_0 1 rfl rfl)
theorem dX3_signaturesOf_2 : decode cX3_signaturesOf 2 = .ok (.iconst 0, 1) := dk_3 (dk_at dksX3_signaturesOf_0 2 rfl rfl)
theorem dX3_signaturesOf_3 : decode cX3_signaturesOf 3 = .ok (.iconst 3, 1) := dk_6 (dk_at dksX3_signaturesOf_0 3 rfl rfl)
theorem dX3_signaturesOf_4 : decode cX3_signaturesOf 4 = .ok (.invokestatic 55, 3) := dk_184 0 55 (dk_at dksX3_signaturesOf_0 4 rfl rfl)
theorem dX3_signaturesOf_7 : decode cX3_signaturesOf 7 = .ok (.invokevirtual 124, 3) := dk_182 0 124 (dk_at dksX3_signaturesOf_0 7 rfl rfl)
theorem dX3_signaturesOf_10 : decode cX3_signaturesOf 10 = .ok (.ifCond .eq 13, 3) := dk_153 0 13 (dk_at dksX3_signaturesOf_0 10 rfl rfl)
theorem dX3_signaturesOf_13 : decode cX3_signaturesOf 13 = .ok (.aload_n 0, 1) := dk_42 (dk_at dksX3_signaturesOf_0 13 rfl rfl)
theorem dX3_signaturesOf_14 : decode cX3_signaturesOf 14 = .ok (.bipush 6, 2) := dk_16 6 (dk_at dksX3_signaturesOf_0 14 rfl rfl)
theorem dX3_signaturesOf_16 : decode cX3_signaturesOf 16 = .ok (.iload_n 1, 1) := dk_27 (dk_at dksX3_signaturesOf_0 16 rfl rfl)
theorem dX3_signaturesOf_17 : decode cX3_signaturesOf 17 = .ok (.invokevirtual 73, 3) := dk_182 0 73 (dk_at dksX3_signaturesOf_0 17 rfl rfl)
theorem dX3_signaturesOf_20 : decode cX3_signaturesOf 20 = .ok (.goto 4, 3) := dk_167 0 4 (dk_at dksX3_signaturesOf_0 20 rfl rfl)
theorem dX3_signaturesOf_23 : decode cX3_signaturesOf 23 = .ok (.iconst 0, 1) := dk_3 (dk_at dksX3_signaturesOf_0 23 rfl rfl)
theorem dX3_signaturesOf_24 : decode cX3_signaturesOf 24 = .ok (.ireturn, 1) := dk_172 (dk_at dksX3_signaturesOf_1 0 rfl rfl)
abbrev cX3_countersignaturesOf : ByteArray := prog_9_method_55_code
def yX3_countersignaturesOf : MethodName := ⟨RX3, "countersignaturesOf", "(I)I"⟩
def dkwX3_countersignaturesOf_1 : List UInt8 := [172]
abbrev dktX3_countersignaturesOf_1 : List UInt8 := dkwX3_countersignaturesOf_1 ++ []
def dkwX3_countersignaturesOf_0 : List UInt8 := [42, 27, 3, 6, 184, 0, 55, 182, 0, 124, 153, 0, 13, 42, 16, 7, 27, 182, 0, 73, 167, 0, 4, 3]
abbrev dktX3_countersignaturesOf_0 : List UInt8 := dkwX3_countersignaturesOf_0 ++ dktX3_countersignaturesOf_1
theorem dksX3_countersignaturesOf_0 : cX3_countersignaturesOf.data.toList.drop 0 = dktX3_countersignaturesOf_0 := by decide +kernel
theorem dksX3_countersignaturesOf_1 : cX3_countersignaturesOf.data.toList.drop 24 = dktX3_countersignaturesOf_1 := dk_seg dksX3_countersignaturesOf_0 24 rfl rfl
theorem dX3_countersignaturesOf_0 : decode cX3_countersignaturesOf 0 = .ok (.aload_n 0, 1) := dk_42 (dk_at dksX3_countersignaturesOf_0 0 rfl rfl)
theorem dX3_countersignaturesOf_1 : decode cX3_countersignaturesOf 1 = .ok (.iload_n 1, 1) := dk_27 (dk_at dksX3_countersignaturesOf_0 1 rfl rfl)
theorem dX3_countersignaturesOf_2 : decode cX3_countersignaturesOf 2 = .ok (.iconst 0, 1) := dk_3 (dk_at dksX3_countersignaturesOf_0 2 rfl rfl)
theorem dX3_countersignaturesOf_3 : decode cX3_countersignaturesOf 3 = .ok (.iconst 3, 1) := dk_6 (dk_at dksX3_countersignaturesOf_0 3 rfl rfl)
theorem dX3_countersignaturesOf_4 : decode cX3_countersignaturesOf 4 = .ok (.invokestatic 55, 3) := dk_184 0 55 (dk_at dksX3_countersignaturesOf_0 4 rfl rfl)
theorem dX3_countersignaturesOf_7 : decode cX3_countersignaturesOf 7 = .ok (.invokevirtual 124, 3) := dk_182 0 124 (dk_at dksX3_countersignaturesOf_0 7 rfl rfl)
theorem dX3_countersignaturesOf_10 : decode cX3_countersignaturesOf 10 = .ok (.ifCond .eq 13, 3) := dk_153 0 13 (dk_at dksX3_countersignaturesOf_0 10 rfl rfl)
theorem dX3_countersignaturesOf_13 : decode cX3_countersignaturesOf 13 = .ok (.aload_n 0, 1) := dk_42 (dk_at dksX3_countersignaturesOf_0 13 rfl rfl)
theorem dX3_countersignaturesOf_14 : decode cX3_countersignaturesOf 14 = .ok (.bipush 7, 2) := dk_16 7 (dk_at dksX3_countersignaturesOf_0 14 rfl rfl)
theorem dX3_countersignaturesOf_16 : decode cX3_countersignaturesOf 16 = .ok (.iload_n 1, 1) := dk_27 (dk_at dksX3_countersignaturesOf_0 16 rfl rfl)
theorem dX3_countersignaturesOf_17 : decode cX3_countersignaturesOf 17 = .ok (.invokevirtual 73, 3) := dk_182 0 73 (dk_at dksX3_countersignaturesOf_0 17 rfl rfl)
theorem dX3_countersignaturesOf_20 : decode cX3_countersignaturesOf 20 = .ok (.goto 4, 3) := dk_167 0 4 (dk_at dksX3_countersignaturesOf_0 20 rfl rfl)
theorem dX3_countersignaturesOf_23 : decode cX3_countersignaturesOf 23 = .ok (.iconst 0, 1) := dk_3 (dk_at dksX3_countersignaturesOf_0 23 rfl rfl)
theorem dX3_countersignaturesOf_24 : decode cX3_countersignaturesOf 24 = .ok (.ireturn, 1) := dk_172 (dk_at dksX3_countersignaturesOf_1 0 rfl rfl)
abbrev cX3_owedBy : ByteArray := prog_9_method_57_code
def yX3_owedBy : MethodName := ⟨RX3, "owedBy", "(I)I"⟩
def dkwX3_owedBy_0 : List UInt8 := [42, 27, 184, 0, 59, 182, 0, 124, 153, 0, 12, 42, 4, 27, 182, 0, 134, 167, 0, 4, 3, 172]
abbrev dktX3_owedBy_0 : List UInt8 := dkwX3_owedBy_0 ++ []
theorem dksX3_owedBy_0 : cX3_owedBy.data.toList.drop 0 = dktX3_owedBy_0 := by decide +kernel
theorem dX3_owedBy_0 : decode cX3_owedBy 0 = .ok (.aload_n 0, 1) := dk_42 (dk_at dksX3_owedBy_0 0 rfl rfl)
theorem dX3_owedBy_1 : decode cX3_owedBy 1 = .ok (.iload_n 1, 1) := dk_27 (dk_at dksX3_owedBy_0 1 rfl rfl)
theorem dX3_owedBy_2 : decode cX3_owedBy 2 = .ok (.invokestatic 59, 3) := dk_184 0 59 (dk_at dksX3_owedBy_0 2 rfl rfl)
theorem dX3_owedBy_5 : decode cX3_owedBy 5 = .ok (.invokevirtual 124, 3) := dk_182 0 124 (dk_at dksX3_owedBy_0 5 rfl rfl)
theorem dX3_owedBy_8 : decode cX3_owedBy 8 = .ok (.ifCond .eq 12, 3) := dk_153 0 12 (dk_at dksX3_owedBy_0 8 rfl rfl)
theorem dX3_owedBy_11 : decode cX3_owedBy 11 = .ok (.aload_n 0, 1) := dk_42 (dk_at dksX3_owedBy_0 11 rfl rfl)
theorem dX3_owedBy_12 : decode cX3_owedBy 12 = .ok (.iconst 1, 1) := dk_4 (dk_at dksX3_owedBy_0 12 rfl rfl)
theorem dX3_owedBy_13 : decode cX3_owedBy 13 = .ok (.iload_n 1, 1) := dk_27 (dk_at dksX3_owedBy_0 13 rfl rfl)
theorem dX3_owedBy_14 : decode cX3_owedBy 14 = .ok (.invokevirtual 134, 3) := dk_182 0 134 (dk_at dksX3_owedBy_0 14 rfl rfl)
theorem dX3_owedBy_17 : decode cX3_owedBy 17 = .ok (.goto 4, 3) := dk_167 0 4 (dk_at dksX3_owedBy_0 17 rfl rfl)
theorem dX3_owedBy_20 : decode cX3_owedBy 20 = .ok (.iconst 0, 1) := dk_3 (dk_at dksX3_owedBy_0 20 rfl rfl)
theorem dX3_owedBy_21 : decode cX3_owedBy 21 = .ok (.ireturn, 1) := dk_172 (dk_at dksX3_owedBy_0 21 rfl rfl)
abbrev cX3_sumOf : ByteArray := prog_9_method_56_code
def yX3_sumOf : MethodName := ⟨RX3, "sumOf", "(II)I"⟩
def dkwX3_sumOf_2 : List UInt8 := [172]
abbrev dktX3_sumOf_2 : List UInt8 := dkwX3_sumOf_2 ++ []
def dkwX3_sumOf_1 : List UInt8 := [28, 160, 0, 13, 42, 21, 4, 6, 182, 0, 43, 167, 0, 4, 3, 96, 62, 132, 4, 1, 167, 255, 217, 29]
abbrev dktX3_sumOf_1 : List UInt8 := dkwX3_sumOf_1 ++ dktX3_sumOf_2
def dkwX3_sumOf_0 : List UInt8 := [3, 62, 3, 54, 4, 21, 4, 42, 180, 0, 9, 5, 46, 162, 0, 34, 29, 42, 21, 4, 27, 182, 0, 43]
abbrev dktX3_sumOf_0 : List UInt8 := dkwX3_sumOf_0 ++ dktX3_sumOf_1
theorem dksX3_sumOf_0 : cX3_sumOf.data.toList.drop 0 = dktX3_sumOf_0 := by decide +kernel
theorem dksX3_sumOf_1 : cX3_sumOf.data.toList.drop 24 = dktX3_sumOf_1 := dk_seg dksX3_sumOf_0 24 rfl rfl
theorem dksX3_sumOf_2 : cX3_sumOf.data.toList.drop 48 = dktX3_sumOf_2 := dk_seg dksX3_sumOf_1 24 rfl rfl
theorem dX3_sumOf_0 : decode cX3_sumOf 0 = .ok (.iconst 0, 1) := dk_3 (dk_at dksX3_sumOf_0 0 rfl rfl)
theorem dX3_sumOf_1 : decode cX3_sumOf 1 = .ok (.istore_n 3, 1) := dk_62 (dk_at dksX3_sumOf_0 1 rfl rfl)
theorem dX3_sumOf_2 : decode cX3_sumOf 2 = .ok (.iconst 0, 1) := dk_3 (dk_at dksX3_sumOf_0 2 rfl rfl)
theorem dX3_sumOf_3 : decode cX3_sumOf 3 = .ok (.istore 4, 2) := dk_54 4 (dk_at dksX3_sumOf_0 3 rfl rfl)
theorem dX3_sumOf_5 : decode cX3_sumOf 5 = .ok (.iload 4, 2) := dk_21 4 (dk_at dksX3_sumOf_0 5 rfl rfl)
theorem dX3_sumOf_7 : decode cX3_sumOf 7 = .ok (.aload_n 0, 1) := dk_42 (dk_at dksX3_sumOf_0 7 rfl rfl)
theorem dX3_sumOf_8 : decode cX3_sumOf 8 = .ok (.getfield 9, 3) := dk_180 0 9 (dk_at dksX3_sumOf_0 8 rfl rfl)
theorem dX3_sumOf_11 : decode cX3_sumOf 11 = .ok (.iconst 2, 1) := dk_5 (dk_at dksX3_sumOf_0 11 rfl rfl)
theorem dX3_sumOf_12 : decode cX3_sumOf 12 = .ok (.iaload, 1) := dk_46 (dk_at dksX3_sumOf_0 12 rfl rfl)
theorem dX3_sumOf_13 : decode cX3_sumOf 13 = .ok (.if_icmp .ge 34, 3) := dk_162 0 34 (dk_at dksX3_sumOf_0 13 rfl rfl)
theorem dX3_sumOf_16 : decode cX3_sumOf 16 = .ok (.iload_n 3, 1) := dk_29 (dk_at dksX3_sumOf_0 16 rfl rfl)
theorem dX3_sumOf_17 : decode cX3_sumOf 17 = .ok (.aload_n 0, 1) := dk_42 (dk_at dksX3_sumOf_0 17 rfl rfl)
theorem dX3_sumOf_18 : decode cX3_sumOf 18 = .ok (.iload 4, 2) := dk_21 4 (dk_at dksX3_sumOf_0 18 rfl rfl)
theorem dX3_sumOf_20 : decode cX3_sumOf 20 = .ok (.iload_n 1, 1) := dk_27 (dk_at dksX3_sumOf_0 20 rfl rfl)
theorem dX3_sumOf_21 : decode cX3_sumOf 21 = .ok (.invokevirtual 43, 3) := dk_182 0 43 (dk_at dksX3_sumOf_0 21 rfl rfl)
theorem dX3_sumOf_24 : decode cX3_sumOf 24 = .ok (.iload_n 2, 1) := dk_28 (dk_at dksX3_sumOf_1 0 rfl rfl)
theorem dX3_sumOf_25 : decode cX3_sumOf 25 = .ok (.if_icmp .ne 13, 3) := dk_160 0 13 (dk_at dksX3_sumOf_1 1 rfl rfl)
theorem dX3_sumOf_28 : decode cX3_sumOf 28 = .ok (.aload_n 0, 1) := dk_42 (dk_at dksX3_sumOf_1 4 rfl rfl)
theorem dX3_sumOf_29 : decode cX3_sumOf 29 = .ok (.iload 4, 2) := dk_21 4 (dk_at dksX3_sumOf_1 5 rfl rfl)
theorem dX3_sumOf_31 : decode cX3_sumOf 31 = .ok (.iconst 3, 1) := dk_6 (dk_at dksX3_sumOf_1 7 rfl rfl)
theorem dX3_sumOf_32 : decode cX3_sumOf 32 = .ok (.invokevirtual 43, 3) := dk_182 0 43 (dk_at dksX3_sumOf_1 8 rfl rfl)
theorem dX3_sumOf_35 : decode cX3_sumOf 35 = .ok (.goto 4, 3) := dk_167 0 4 (dk_at dksX3_sumOf_1 11 rfl rfl)
theorem dX3_sumOf_38 : decode cX3_sumOf 38 = .ok (.iconst 0, 1) := dk_3 (dk_at dksX3_sumOf_1 14 rfl rfl)
theorem dX3_sumOf_39 : decode cX3_sumOf 39 = .ok (.iadd, 1) := dk_96 (dk_at dksX3_sumOf_1 15 rfl rfl)
theorem dX3_sumOf_40 : decode cX3_sumOf 40 = .ok (.istore_n 3, 1) := dk_62 (dk_at dksX3_sumOf_1 16 rfl rfl)
theorem dX3_sumOf_41 : decode cX3_sumOf 41 = .ok (.iinc 4 1, 3) := dk_132 4 1 (dk_at dksX3_sumOf_1 17 rfl rfl)
theorem dX3_sumOf_44 : decode cX3_sumOf 44 = .ok (.goto (-39), 3) := dk_167 255 217 (dk_at dksX3_sumOf_1 20 rfl rfl)
theorem dX3_sumOf_47 : decode cX3_sumOf 47 = .ok (.iload_n 3, 1) := dk_29 (dk_at dksX3_sumOf_1 23 rfl rfl)
theorem dX3_sumOf_48 : decode cX3_sumOf 48 = .ok (.ireturn, 1) := dk_172 (dk_at dksX3_sumOf_2 0 rfl rfl)
abbrev cX3_owedTo : ByteArray := prog_9_method_58_code
def yX3_owedTo : MethodName := ⟨RX3, "owedTo", "(I)I"⟩
def dkwX3_owedTo_0 : List UInt8 := [42, 27, 184, 0, 59, 182, 0, 124, 153, 0, 12, 42, 5, 27, 182, 0, 134, 167, 0, 4, 3, 172]
abbrev dktX3_owedTo_0 : List UInt8 := dkwX3_owedTo_0 ++ []
theorem dksX3_owedTo_0 : cX3_owedTo.data.toList.drop 0 = dktX3_owedTo_0 := by decide +kernel
theorem dX3_owedTo_0 : decode cX3_owedTo 0 = .ok (.aload_n 0, 1) := dk_42 (dk_at dksX3_owedTo_0 0 rfl rfl)
theorem dX3_owedTo_1 : decode cX3_owedTo 1 = .ok (.iload_n 1, 1) := dk_27 (dk_at dksX3_owedTo_0 1 rfl rfl)
theorem dX3_owedTo_2 : decode cX3_owedTo 2 = .ok (.invokestatic 59, 3) := dk_184 0 59 (dk_at dksX3_owedTo_0 2 rfl rfl)
theorem dX3_owedTo_5 : decode cX3_owedTo 5 = .ok (.invokevirtual 124, 3) := dk_182 0 124 (dk_at dksX3_owedTo_0 5 rfl rfl)
theorem dX3_owedTo_8 : decode cX3_owedTo 8 = .ok (.ifCond .eq 12, 3) := dk_153 0 12 (dk_at dksX3_owedTo_0 8 rfl rfl)
theorem dX3_owedTo_11 : decode cX3_owedTo 11 = .ok (.aload_n 0, 1) := dk_42 (dk_at dksX3_owedTo_0 11 rfl rfl)
theorem dX3_owedTo_12 : decode cX3_owedTo 12 = .ok (.iconst 2, 1) := dk_5 (dk_at dksX3_owedTo_0 12 rfl rfl)
theorem dX3_owedTo_13 : decode cX3_owedTo 13 = .ok (.iload_n 1, 1) := dk_27 (dk_at dksX3_owedTo_0 13 rfl rfl)
theorem dX3_owedTo_14 : decode cX3_owedTo 14 = .ok (.invokevirtual 134, 3) := dk_182 0 134 (dk_at dksX3_owedTo_0 14 rfl rfl)
theorem dX3_owedTo_17 : decode cX3_owedTo 17 = .ok (.goto 4, 3) := dk_167 0 4 (dk_at dksX3_owedTo_0 17 rfl rfl)
theorem dX3_owedTo_20 : decode cX3_owedTo 20 = .ok (.iconst 0, 1) := dk_3 (dk_at dksX3_owedTo_0 20 rfl rfl)
theorem dX3_owedTo_21 : decode cX3_owedTo 21 = .ok (.ireturn, 1) := dk_172 (dk_at dksX3_owedTo_0 21 rfl rfl)
abbrev cX3_balance : ByteArray := prog_9_method_60_code
def yX3_balance : MethodName := ⟨RX3, "balance", "(I)I"⟩
def dkwX3_balance_0 : List UInt8 := [42, 27, 184, 0, 59, 182, 0, 124, 153, 0, 11, 42, 27, 182, 0, 137, 167, 0, 4, 3, 172]
abbrev dktX3_balance_0 : List UInt8 := dkwX3_balance_0 ++ []
theorem dksX3_balance_0 : cX3_balance.data.toList.drop 0 = dktX3_balance_0 := by decide +kernel
theorem dX3_balance_0 : decode cX3_balance 0 = .ok (.aload_n 0, 1) := dk_42 (dk_at dksX3_balance_0 0 rfl rfl)
theorem dX3_balance_1 : decode cX3_balance 1 = .ok (.iload_n 1, 1) := dk_27 (dk_at dksX3_balance_0 1 rfl rfl)
theorem dX3_balance_2 : decode cX3_balance 2 = .ok (.invokestatic 59, 3) := dk_184 0 59 (dk_at dksX3_balance_0 2 rfl rfl)
theorem dX3_balance_5 : decode cX3_balance 5 = .ok (.invokevirtual 124, 3) := dk_182 0 124 (dk_at dksX3_balance_0 5 rfl rfl)
theorem dX3_balance_8 : decode cX3_balance 8 = .ok (.ifCond .eq 11, 3) := dk_153 0 11 (dk_at dksX3_balance_0 8 rfl rfl)
theorem dX3_balance_11 : decode cX3_balance 11 = .ok (.aload_n 0, 1) := dk_42 (dk_at dksX3_balance_0 11 rfl rfl)
theorem dX3_balance_12 : decode cX3_balance 12 = .ok (.iload_n 1, 1) := dk_27 (dk_at dksX3_balance_0 12 rfl rfl)
theorem dX3_balance_13 : decode cX3_balance 13 = .ok (.invokevirtual 137, 3) := dk_182 0 137 (dk_at dksX3_balance_0 13 rfl rfl)
theorem dX3_balance_16 : decode cX3_balance 16 = .ok (.goto 4, 3) := dk_167 0 4 (dk_at dksX3_balance_0 16 rfl rfl)
theorem dX3_balance_19 : decode cX3_balance 19 = .ok (.iconst 0, 1) := dk_3 (dk_at dksX3_balance_0 19 rfl rfl)
theorem dX3_balance_20 : decode cX3_balance 20 = .ok (.ireturn, 1) := dk_172 (dk_at dksX3_balance_0 20 rfl rfl)
abbrev cX3_balanceOf : ByteArray := prog_9_method_59_code
def yX3_balanceOf : MethodName := ⟨RX3, "balanceOf", "(I)I"⟩
def dkwX3_balanceOf_0 : List UInt8 := [42, 5, 27, 182, 0, 134, 42, 4, 27, 182, 0, 134, 100, 172]
abbrev dktX3_balanceOf_0 : List UInt8 := dkwX3_balanceOf_0 ++ []
theorem dksX3_balanceOf_0 : cX3_balanceOf.data.toList.drop 0 = dktX3_balanceOf_0 := by decide +kernel
theorem dX3_balanceOf_0 : decode cX3_balanceOf 0 = .ok (.aload_n 0, 1) := dk_42 (dk_at dksX3_balanceOf_0 0 rfl rfl)
theorem dX3_balanceOf_1 : decode cX3_balanceOf 1 = .ok (.iconst 2, 1) := dk_5 (dk_at dksX3_balanceOf_0 1 rfl rfl)
theorem dX3_balanceOf_2 : decode cX3_balanceOf 2 = .ok (.iload_n 1, 1) := dk_27 (dk_at dksX3_balanceOf_0 2 rfl rfl)
theorem dX3_balanceOf_3 : decode cX3_balanceOf 3 = .ok (.invokevirtual 134, 3) := dk_182 0 134 (dk_at dksX3_balanceOf_0 3 rfl rfl)
theorem dX3_balanceOf_6 : decode cX3_balanceOf 6 = .ok (.aload_n 0, 1) := dk_42 (dk_at dksX3_balanceOf_0 6 rfl rfl)
theorem dX3_balanceOf_7 : decode cX3_balanceOf 7 = .ok (.iconst 1, 1) := dk_4 (dk_at dksX3_balanceOf_0 7 rfl rfl)
theorem dX3_balanceOf_8 : decode cX3_balanceOf 8 = .ok (.iload_n 1, 1) := dk_27 (dk_at dksX3_balanceOf_0 8 rfl rfl)
theorem dX3_balanceOf_9 : decode cX3_balanceOf 9 = .ok (.invokevirtual 134, 3) := dk_182 0 134 (dk_at dksX3_balanceOf_0 9 rfl rfl)
theorem dX3_balanceOf_12 : decode cX3_balanceOf 12 = .ok (.isub, 1) := dk_100 (dk_at dksX3_balanceOf_0 12 rfl rfl)
theorem dX3_balanceOf_13 : decode cX3_balanceOf 13 = .ok (.ireturn, 1) := dk_172 (dk_at dksX3_balanceOf_0 13 rfl rfl)
abbrev cX3_mostIndebted : ByteArray := prog_9_method_61_code
def yX3_mostIndebted : MethodName := ⟨RX3, "mostIndebted", "()I"⟩
def dkwX3_mostIndebted_2 : List UInt8 := [167, 0, 4, 27, 60, 132, 2, 1, 167, 255, 228, 27, 172]
abbrev dktX3_mostIndebted_2 : List UInt8 := dkwX3_mostIndebted_2 ++ []
def dkwX3_mostIndebted_1 : List UInt8 := [60, 4, 61, 28, 16, 8, 162, 0, 28, 42, 28, 182, 0, 137, 42, 27, 182, 0, 137, 162, 0, 7, 28]
abbrev dktX3_mostIndebted_1 : List UInt8 := dkwX3_mostIndebted_1 ++ dktX3_mostIndebted_2
def dkwX3_mostIndebted_0 : List UInt8 := [42, 42, 180, 0, 9, 5, 46, 158, 0, 7, 4, 167, 0, 4, 3, 182, 0, 124, 154, 0, 5, 3, 172, 3]
abbrev dktX3_mostIndebted_0 : List UInt8 := dkwX3_mostIndebted_0 ++ dktX3_mostIndebted_1
theorem dksX3_mostIndebted_0 : cX3_mostIndebted.data.toList.drop 0 = dktX3_mostIndebted_0 := by decide +kernel
theorem dksX3_mostIndebted_1 : cX3_mostIndebted.data.toList.drop 24 = dktX3_mostIndebted_1 := dk_seg dksX3_mostIndebted_0 24 rfl rfl
theorem dksX3_mostIndebted_2 : cX3_mostIndebted.data.toList.drop 47 = dktX3_mostIndebted_2 := dk_seg dksX3_mostIndebted_1 23 rfl rfl
theorem dX3_mostIndebted_0 : decode cX3_mostIndebted 0 = .ok (.aload_n 0, 1) := dk_42 (dk_at dksX3_mostIndebted_0 0 rfl rfl)
theorem dX3_mostIndebted_1 : decode cX3_mostIndebted 1 = .ok (.aload_n 0, 1) := dk_42 (dk_at dksX3_mostIndebted_0 1 rfl rfl)
theorem dX3_mostIndebted_2 : decode cX3_mostIndebted 2 = .ok (.getfield 9, 3) := dk_180 0 9 (dk_at dksX3_mostIndebted_0 2 rfl rfl)
theorem dX3_mostIndebted_5 : decode cX3_mostIndebted 5 = .ok (.iconst 2, 1) := dk_5 (dk_at dksX3_mostIndebted_0 5 rfl rfl)
theorem dX3_mostIndebted_6 : decode cX3_mostIndebted 6 = .ok (.iaload, 1) := dk_46 (dk_at dksX3_mostIndebted_0 6 rfl rfl)
theorem dX3_mostIndebted_7 : decode cX3_mostIndebted 7 = .ok (.ifCond .le 7, 3) := dk_158 0 7 (dk_at dksX3_mostIndebted_0 7 rfl rfl)
theorem dX3_mostIndebted_10 : decode cX3_mostIndebted 10 = .ok (.iconst 1, 1) := dk_4 (dk_at dksX3_mostIndebted_0 10 rfl rfl)
theorem dX3_mostIndebted_11 : decode cX3_mostIndebted 11 = .ok (.goto 4, 3) := dk_167 0 4 (dk_at dksX3_mostIndebted_0 11 rfl rfl)
theorem dX3_mostIndebted_14 : decode cX3_mostIndebted 14 = .ok (.iconst 0, 1) := dk_3 (dk_at dksX3_mostIndebted_0 14 rfl rfl)
theorem dX3_mostIndebted_15 : decode cX3_mostIndebted 15 = .ok (.invokevirtual 124, 3) := dk_182 0 124 (dk_at dksX3_mostIndebted_0 15 rfl rfl)
theorem dX3_mostIndebted_18 : decode cX3_mostIndebted 18 = .ok (.ifCond .ne 5, 3) := dk_154 0 5 (dk_at dksX3_mostIndebted_0 18 rfl rfl)
theorem dX3_mostIndebted_21 : decode cX3_mostIndebted 21 = .ok (.iconst 0, 1) := dk_3 (dk_at dksX3_mostIndebted_0 21 rfl rfl)
theorem dX3_mostIndebted_22 : decode cX3_mostIndebted 22 = .ok (.ireturn, 1) := dk_172 (dk_at dksX3_mostIndebted_0 22 rfl rfl)
theorem dX3_mostIndebted_23 : decode cX3_mostIndebted 23 = .ok (.iconst 0, 1) := dk_3 (dk_at dksX3_mostIndebted_0 23 rfl rfl)
theorem dX3_mostIndebted_24 : decode cX3_mostIndebted 24 = .ok (.istore_n 1, 1) := dk_60 (dk_at dksX3_mostIndebted_1 0 rfl rfl)
theorem dX3_mostIndebted_25 : decode cX3_mostIndebted 25 = .ok (.iconst 1, 1) := dk_4 (dk_at dksX3_mostIndebted_1 1 rfl rfl)
theorem dX3_mostIndebted_26 : decode cX3_mostIndebted 26 = .ok (.istore_n 2, 1) := dk_61 (dk_at dksX3_mostIndebted_1 2 rfl rfl)
theorem dX3_mostIndebted_27 : decode cX3_mostIndebted 27 = .ok (.iload_n 2, 1) := dk_28 (dk_at dksX3_mostIndebted_1 3 rfl rfl)
theorem dX3_mostIndebted_28 : decode cX3_mostIndebted 28 = .ok (.bipush 8, 2) := dk_16 8 (dk_at dksX3_mostIndebted_1 4 rfl rfl)
theorem dX3_mostIndebted_30 : decode cX3_mostIndebted 30 = .ok (.if_icmp .ge 28, 3) := dk_162 0 28 (dk_at dksX3_mostIndebted_1 6 rfl rfl)
theorem dX3_mostIndebted_33 : decode cX3_mostIndebted 33 = .ok (.aload_n 0, 1) := dk_42 (dk_at dksX3_mostIndebted_1 9 rfl rfl)
theorem dX3_mostIndebted_34 : decode cX3_mostIndebted 34 = .ok (.iload_n 2, 1) := dk_28 (dk_at dksX3_mostIndebted_1 10 rfl rfl)
theorem dX3_mostIndebted_35 : decode cX3_mostIndebted 35 = .ok (.invokevirtual 137, 3) := dk_182 0 137 (dk_at dksX3_mostIndebted_1 11 rfl rfl)
theorem dX3_mostIndebted_38 : decode cX3_mostIndebted 38 = .ok (.aload_n 0, 1) := dk_42 (dk_at dksX3_mostIndebted_1 14 rfl rfl)
theorem dX3_mostIndebted_39 : decode cX3_mostIndebted 39 = .ok (.iload_n 1, 1) := dk_27 (dk_at dksX3_mostIndebted_1 15 rfl rfl)
theorem dX3_mostIndebted_40 : decode cX3_mostIndebted 40 = .ok (.invokevirtual 137, 3) := dk_182 0 137 (dk_at dksX3_mostIndebted_1 16 rfl rfl)
theorem dX3_mostIndebted_43 : decode cX3_mostIndebted 43 = .ok (.if_icmp .ge 7, 3) := dk_162 0 7 (dk_at dksX3_mostIndebted_1 19 rfl rfl)
theorem dX3_mostIndebted_46 : decode cX3_mostIndebted 46 = .ok (.iload_n 2, 1) := dk_28 (dk_at dksX3_mostIndebted_1 22 rfl rfl)
theorem dX3_mostIndebted_47 : decode cX3_mostIndebted 47 = .ok (.goto 4, 3) := dk_167 0 4 (dk_at dksX3_mostIndebted_2 0 rfl rfl)
theorem dX3_mostIndebted_50 : decode cX3_mostIndebted 50 = .ok (.iload_n 1, 1) := dk_27 (dk_at dksX3_mostIndebted_2 3 rfl rfl)
theorem dX3_mostIndebted_51 : decode cX3_mostIndebted 51 = .ok (.istore_n 1, 1) := dk_60 (dk_at dksX3_mostIndebted_2 4 rfl rfl)
theorem dX3_mostIndebted_52 : decode cX3_mostIndebted 52 = .ok (.iinc 2 1, 3) := dk_132 2 1 (dk_at dksX3_mostIndebted_2 5 rfl rfl)
theorem dX3_mostIndebted_55 : decode cX3_mostIndebted 55 = .ok (.goto (-28), 3) := dk_167 255 228 (dk_at dksX3_mostIndebted_2 8 rfl rfl)
theorem dX3_mostIndebted_58 : decode cX3_mostIndebted 58 = .ok (.iload_n 1, 1) := dk_27 (dk_at dksX3_mostIndebted_2 11 rfl rfl)
theorem dX3_mostIndebted_59 : decode cX3_mostIndebted 59 = .ok (.ireturn, 1) := dk_172 (dk_at dksX3_mostIndebted_2 12 rfl rfl)
abbrev cX3_heaviest : ByteArray := prog_9_method_62_code
def yX3_heaviest : MethodName := ⟨RX3, "heaviest", "()I"⟩
def dkwX3_heaviest_3 : List UInt8 := [172]
abbrev dktX3_heaviest_3 : List UInt8 := dkwX3_heaviest_3 ++ []
def dkwX3_heaviest_2 : List UInt8 := [182, 0, 43, 164, 0, 7, 28, 167, 0, 4, 27, 60, 132, 2, 1, 167, 255, 222, 42, 27, 3, 182, 0, 43]
abbrev dktX3_heaviest_2 : List UInt8 := dkwX3_heaviest_2 ++ dktX3_heaviest_3
def dkwX3_heaviest_1 : List UInt8 := [60, 4, 61, 28, 42, 180, 0, 9, 5, 46, 162, 0, 30, 42, 28, 6, 182, 0, 43, 42, 27, 6]
abbrev dktX3_heaviest_1 : List UInt8 := dkwX3_heaviest_1 ++ dktX3_heaviest_2
def dkwX3_heaviest_0 : List UInt8 := [42, 42, 180, 0, 9, 5, 46, 158, 0, 7, 4, 167, 0, 4, 3, 182, 0, 124, 154, 0, 5, 3, 172, 3]
abbrev dktX3_heaviest_0 : List UInt8 := dkwX3_heaviest_0 ++ dktX3_heaviest_1
theorem dksX3_heaviest_0 : cX3_heaviest.data.toList.drop 0 = dktX3_heaviest_0 := by decide +kernel
theorem dksX3_heaviest_1 : cX3_heaviest.data.toList.drop 24 = dktX3_heaviest_1 := dk_seg dksX3_heaviest_0 24 rfl rfl
theorem dksX3_heaviest_2 : cX3_heaviest.data.toList.drop 46 = dktX3_heaviest_2 := dk_seg dksX3_heaviest_1 22 rfl rfl
theorem dksX3_heaviest_3 : cX3_heaviest.data.toList.drop 70 = dktX3_heaviest_3 := dk_seg dksX3_heaviest_2 24 rfl rfl
theorem dX3_heaviest_0 : decode cX3_heaviest 0 = .ok (.aload_n 0, 1) := dk_42 (dk_at dksX3_heaviest_0 0 rfl rfl)
theorem dX3_heaviest_1 : decode cX3_heaviest 1 = .ok (.aload_n 0, 1) := dk_42 (dk_at dksX3_heaviest_0 1 rfl rfl)
theorem dX3_heaviest_2 : decode cX3_heaviest 2 = .ok (.getfield 9, 3) := dk_180 0 9 (dk_at dksX3_heaviest_0 2 rfl rfl)
theorem dX3_heaviest_5 : decode cX3_heaviest 5 = .ok (.iconst 2, 1) := dk_5 (dk_at dksX3_heaviest_0 5 rfl rfl)
theorem dX3_heaviest_6 : decode cX3_heaviest 6 = .ok (.iaload, 1) := dk_46 (dk_at dksX3_heaviest_0 6 rfl rfl)
theorem dX3_heaviest_7 : decode cX3_heaviest 7 = .ok (.ifCond .le 7, 3) := dk_158 0 7 (dk_at dksX3_heaviest_0 7 rfl rfl)
theorem dX3_heaviest_10 : decode cX3_heaviest 10 = .ok (.iconst 1, 1) := dk_4 (dk_at dksX3_heaviest_0 10 rfl rfl)
theorem dX3_heaviest_11 : decode cX3_heaviest 11 = .ok (.goto 4, 3) := dk_167 0 4 (dk_at dksX3_heaviest_0 11 rfl rfl)
theorem dX3_heaviest_14 : decode cX3_heaviest 14 = .ok (.iconst 0, 1) := dk_3 (dk_at dksX3_heaviest_0 14 rfl rfl)
theorem dX3_heaviest_15 : decode cX3_heaviest 15 = .ok (.invokevirtual 124, 3) := dk_182 0 124 (dk_at dksX3_heaviest_0 15 rfl rfl)
theorem dX3_heaviest_18 : decode cX3_heaviest 18 = .ok (.ifCond .ne 5, 3) := dk_154 0 5 (dk_at dksX3_heaviest_0 18 rfl rfl)
theorem dX3_heaviest_21 : decode cX3_heaviest 21 = .ok (.iconst 0, 1) := dk_3 (dk_at dksX3_heaviest_0 21 rfl rfl)
theorem dX3_heaviest_22 : decode cX3_heaviest 22 = .ok (.ireturn, 1) := dk_172 (dk_at dksX3_heaviest_0 22 rfl rfl)
theorem dX3_heaviest_23 : decode cX3_heaviest 23 = .ok (.iconst 0, 1) := dk_3 (dk_at dksX3_heaviest_0 23 rfl rfl)
theorem dX3_heaviest_24 : decode cX3_heaviest 24 = .ok (.istore_n 1, 1) := dk_60 (dk_at dksX3_heaviest_1 0 rfl rfl)
theorem dX3_heaviest_25 : decode cX3_heaviest 25 = .ok (.iconst 1, 1) := dk_4 (dk_at dksX3_heaviest_1 1 rfl rfl)
theorem dX3_heaviest_26 : decode cX3_heaviest 26 = .ok (.istore_n 2, 1) := dk_61 (dk_at dksX3_heaviest_1 2 rfl rfl)
theorem dX3_heaviest_27 : decode cX3_heaviest 27 = .ok (.iload_n 2, 1) := dk_28 (dk_at dksX3_heaviest_1 3 rfl rfl)
theorem dX3_heaviest_28 : decode cX3_heaviest 28 = .ok (.aload_n 0, 1) := dk_42 (dk_at dksX3_heaviest_1 4 rfl rfl)
theorem dX3_heaviest_29 : decode cX3_heaviest 29 = .ok (.getfield 9, 3) := dk_180 0 9 (dk_at dksX3_heaviest_1 5 rfl rfl)
theorem dX3_heaviest_32 : decode cX3_heaviest 32 = .ok (.iconst 2, 1) := dk_5 (dk_at dksX3_heaviest_1 8 rfl rfl)
theorem dX3_heaviest_33 : decode cX3_heaviest 33 = .ok (.iaload, 1) := dk_46 (dk_at dksX3_heaviest_1 9 rfl rfl)
theorem dX3_heaviest_34 : decode cX3_heaviest 34 = .ok (.if_icmp .ge 30, 3) := dk_162 0 30 (dk_at dksX3_heaviest_1 10 rfl rfl)
theorem dX3_heaviest_37 : decode cX3_heaviest 37 = .ok (.aload_n 0, 1) := dk_42 (dk_at dksX3_heaviest_1 13 rfl rfl)
theorem dX3_heaviest_38 : decode cX3_heaviest 38 = .ok (.iload_n 2, 1) := dk_28 (dk_at dksX3_heaviest_1 14 rfl rfl)
theorem dX3_heaviest_39 : decode cX3_heaviest 39 = .ok (.iconst 3, 1) := dk_6 (dk_at dksX3_heaviest_1 15 rfl rfl)
theorem dX3_heaviest_40 : decode cX3_heaviest 40 = .ok (.invokevirtual 43, 3) := dk_182 0 43 (dk_at dksX3_heaviest_1 16 rfl rfl)
theorem dX3_heaviest_43 : decode cX3_heaviest 43 = .ok (.aload_n 0, 1) := dk_42 (dk_at dksX3_heaviest_1 19 rfl rfl)
theorem dX3_heaviest_44 : decode cX3_heaviest 44 = .ok (.iload_n 1, 1) := dk_27 (dk_at dksX3_heaviest_1 20 rfl rfl)
theorem dX3_heaviest_45 : decode cX3_heaviest 45 = .ok (.iconst 3, 1) := dk_6 (dk_at dksX3_heaviest_1 21 rfl rfl)
theorem dX3_heaviest_46 : decode cX3_heaviest 46 = .ok (.invokevirtual 43, 3) := dk_182 0 43 (dk_at dksX3_heaviest_2 0 rfl rfl)
theorem dX3_heaviest_49 : decode cX3_heaviest 49 = .ok (.if_icmp .le 7, 3) := dk_164 0 7 (dk_at dksX3_heaviest_2 3 rfl rfl)
theorem dX3_heaviest_52 : decode cX3_heaviest 52 = .ok (.iload_n 2, 1) := dk_28 (dk_at dksX3_heaviest_2 6 rfl rfl)
theorem dX3_heaviest_53 : decode cX3_heaviest 53 = .ok (.goto 4, 3) := dk_167 0 4 (dk_at dksX3_heaviest_2 7 rfl rfl)
theorem dX3_heaviest_56 : decode cX3_heaviest 56 = .ok (.iload_n 1, 1) := dk_27 (dk_at dksX3_heaviest_2 10 rfl rfl)
theorem dX3_heaviest_57 : decode cX3_heaviest 57 = .ok (.istore_n 1, 1) := dk_60 (dk_at dksX3_heaviest_2 11 rfl rfl)
theorem dX3_heaviest_58 : decode cX3_heaviest 58 = .ok (.iinc 2 1, 3) := dk_132 2 1 (dk_at dksX3_heaviest_2 12 rfl rfl)
theorem dX3_heaviest_61 : decode cX3_heaviest 61 = .ok (.goto (-34), 3) := dk_167 255 222 (dk_at dksX3_heaviest_2 15 rfl rfl)
theorem dX3_heaviest_64 : decode cX3_heaviest 64 = .ok (.aload_n 0, 1) := dk_42 (dk_at dksX3_heaviest_2 18 rfl rfl)
theorem dX3_heaviest_65 : decode cX3_heaviest 65 = .ok (.iload_n 1, 1) := dk_27 (dk_at dksX3_heaviest_2 19 rfl rfl)
theorem dX3_heaviest_66 : decode cX3_heaviest 66 = .ok (.iconst 0, 1) := dk_3 (dk_at dksX3_heaviest_2 20 rfl rfl)
theorem dX3_heaviest_67 : decode cX3_heaviest 67 = .ok (.invokevirtual 43, 3) := dk_182 0 43 (dk_at dksX3_heaviest_2 21 rfl rfl)
theorem dX3_heaviest_70 : decode cX3_heaviest 70 = .ok (.ireturn, 1) := dk_172 (dk_at dksX3_heaviest_3 0 rfl rfl)
abbrev cX3_nextExpiry : ByteArray := prog_9_method_63_code
def yX3_nextExpiry : MethodName := ⟨RX3, "nextExpiry", "()I"⟩
def dkwX3_nextExpiry_2 : List UInt8 := [27, 162, 0, 12, 42, 28, 7, 182, 0, 43, 167, 0, 4, 27, 60, 132, 2, 1, 167, 255, 222, 27, 172]
abbrev dktX3_nextExpiry_2 : List UInt8 := dkwX3_nextExpiry_2 ++ []
def dkwX3_nextExpiry_1 : List UInt8 := [3, 7, 182, 0, 43, 60, 4, 61, 28, 42, 180, 0, 9, 5, 46, 162, 0, 30, 42, 28, 7, 182, 0, 43]
abbrev dktX3_nextExpiry_1 : List UInt8 := dkwX3_nextExpiry_1 ++ dktX3_nextExpiry_2
def dkwX3_nextExpiry_0 : List UInt8 := [42, 42, 180, 0, 9, 5, 46, 158, 0, 7, 4, 167, 0, 4, 3, 182, 0, 124, 154, 0, 5, 3, 172, 42]
abbrev dktX3_nextExpiry_0 : List UInt8 := dkwX3_nextExpiry_0 ++ dktX3_nextExpiry_1
theorem dksX3_nextExpiry_0 : cX3_nextExpiry.data.toList.drop 0 = dktX3_nextExpiry_0 := by decide +kernel
theorem dksX3_nextExpiry_1 : cX3_nextExpiry.data.toList.drop 24 = dktX3_nextExpiry_1 := dk_seg dksX3_nextExpiry_0 24 rfl rfl
theorem dksX3_nextExpiry_2 : cX3_nextExpiry.data.toList.drop 48 = dktX3_nextExpiry_2 := dk_seg dksX3_nextExpiry_1 24 rfl rfl
theorem dX3_nextExpiry_0 : decode cX3_nextExpiry 0 = .ok (.aload_n 0, 1) := dk_42 (dk_at dksX3_nextExpiry_0 0 rfl rfl)
theorem dX3_nextExpiry_1 : decode cX3_nextExpiry 1 = .ok (.aload_n 0, 1) := dk_42 (dk_at dksX3_nextExpiry_0 1 rfl rfl)
theorem dX3_nextExpiry_2 : decode cX3_nextExpiry 2 = .ok (.getfield 9, 3) := dk_180 0 9 (dk_at dksX3_nextExpiry_0 2 rfl rfl)
theorem dX3_nextExpiry_5 : decode cX3_nextExpiry 5 = .ok (.iconst 2, 1) := dk_5 (dk_at dksX3_nextExpiry_0 5 rfl rfl)
theorem dX3_nextExpiry_6 : decode cX3_nextExpiry 6 = .ok (.iaload, 1) := dk_46 (dk_at dksX3_nextExpiry_0 6 rfl rfl)
theorem dX3_nextExpiry_7 : decode cX3_nextExpiry 7 = .ok (.ifCond .le 7, 3) := dk_158 0 7 (dk_at dksX3_nextExpiry_0 7 rfl rfl)
theorem dX3_nextExpiry_10 : decode cX3_nextExpiry 10 = .ok (.iconst 1, 1) := dk_4 (dk_at dksX3_nextExpiry_0 10 rfl rfl)
theorem dX3_nextExpiry_11 : decode cX3_nextExpiry 11 = .ok (.goto 4, 3) := dk_167 0 4 (dk_at dksX3_nextExpiry_0 11 rfl rfl)
theorem dX3_nextExpiry_14 : decode cX3_nextExpiry 14 = .ok (.iconst 0, 1) := dk_3 (dk_at dksX3_nextExpiry_0 14 rfl rfl)
theorem dX3_nextExpiry_15 : decode cX3_nextExpiry 15 = .ok (.invokevirtual 124, 3) := dk_182 0 124 (dk_at dksX3_nextExpiry_0 15 rfl rfl)
theorem dX3_nextExpiry_18 : decode cX3_nextExpiry 18 = .ok (.ifCond .ne 5, 3) := dk_154 0 5 (dk_at dksX3_nextExpiry_0 18 rfl rfl)
theorem dX3_nextExpiry_21 : decode cX3_nextExpiry 21 = .ok (.iconst 0, 1) := dk_3 (dk_at dksX3_nextExpiry_0 21 rfl rfl)
theorem dX3_nextExpiry_22 : decode cX3_nextExpiry 22 = .ok (.ireturn, 1) := dk_172 (dk_at dksX3_nextExpiry_0 22 rfl rfl)
theorem dX3_nextExpiry_23 : decode cX3_nextExpiry 23 = .ok (.aload_n 0, 1) := dk_42 (dk_at dksX3_nextExpiry_0 23 rfl rfl)
theorem dX3_nextExpiry_24 : decode cX3_nextExpiry 24 = .ok (.iconst 0, 1) := dk_3 (dk_at dksX3_nextExpiry_1 0 rfl rfl)
theorem dX3_nextExpiry_25 : decode cX3_nextExpiry 25 = .ok (.iconst 4, 1) := dk_7 (dk_at dksX3_nextExpiry_1 1 rfl rfl)
theorem dX3_nextExpiry_26 : decode cX3_nextExpiry 26 = .ok (.invokevirtual 43, 3) := dk_182 0 43 (dk_at dksX3_nextExpiry_1 2 rfl rfl)
theorem dX3_nextExpiry_29 : decode cX3_nextExpiry 29 = .ok (.istore_n 1, 1) := dk_60 (dk_at dksX3_nextExpiry_1 5 rfl rfl)
theorem dX3_nextExpiry_30 : decode cX3_nextExpiry 30 = .ok (.iconst 1, 1) := dk_4 (dk_at dksX3_nextExpiry_1 6 rfl rfl)
theorem dX3_nextExpiry_31 : decode cX3_nextExpiry 31 = .ok (.istore_n 2, 1) := dk_61 (dk_at dksX3_nextExpiry_1 7 rfl rfl)
theorem dX3_nextExpiry_32 : decode cX3_nextExpiry 32 = .ok (.iload_n 2, 1) := dk_28 (dk_at dksX3_nextExpiry_1 8 rfl rfl)
theorem dX3_nextExpiry_33 : decode cX3_nextExpiry 33 = .ok (.aload_n 0, 1) := dk_42 (dk_at dksX3_nextExpiry_1 9 rfl rfl)
theorem dX3_nextExpiry_34 : decode cX3_nextExpiry 34 = .ok (.getfield 9, 3) := dk_180 0 9 (dk_at dksX3_nextExpiry_1 10 rfl rfl)
theorem dX3_nextExpiry_37 : decode cX3_nextExpiry 37 = .ok (.iconst 2, 1) := dk_5 (dk_at dksX3_nextExpiry_1 13 rfl rfl)
theorem dX3_nextExpiry_38 : decode cX3_nextExpiry 38 = .ok (.iaload, 1) := dk_46 (dk_at dksX3_nextExpiry_1 14 rfl rfl)
theorem dX3_nextExpiry_39 : decode cX3_nextExpiry 39 = .ok (.if_icmp .ge 30, 3) := dk_162 0 30 (dk_at dksX3_nextExpiry_1 15 rfl rfl)
theorem dX3_nextExpiry_42 : decode cX3_nextExpiry 42 = .ok (.aload_n 0, 1) := dk_42 (dk_at dksX3_nextExpiry_1 18 rfl rfl)
theorem dX3_nextExpiry_43 : decode cX3_nextExpiry 43 = .ok (.iload_n 2, 1) := dk_28 (dk_at dksX3_nextExpiry_1 19 rfl rfl)
theorem dX3_nextExpiry_44 : decode cX3_nextExpiry 44 = .ok (.iconst 4, 1) := dk_7 (dk_at dksX3_nextExpiry_1 20 rfl rfl)
theorem dX3_nextExpiry_45 : decode cX3_nextExpiry 45 = .ok (.invokevirtual 43, 3) := dk_182 0 43 (dk_at dksX3_nextExpiry_1 21 rfl rfl)
theorem dX3_nextExpiry_48 : decode cX3_nextExpiry 48 = .ok (.iload_n 1, 1) := dk_27 (dk_at dksX3_nextExpiry_2 0 rfl rfl)
theorem dX3_nextExpiry_49 : decode cX3_nextExpiry 49 = .ok (.if_icmp .ge 12, 3) := dk_162 0 12 (dk_at dksX3_nextExpiry_2 1 rfl rfl)
theorem dX3_nextExpiry_52 : decode cX3_nextExpiry 52 = .ok (.aload_n 0, 1) := dk_42 (dk_at dksX3_nextExpiry_2 4 rfl rfl)
theorem dX3_nextExpiry_53 : decode cX3_nextExpiry 53 = .ok (.iload_n 2, 1) := dk_28 (dk_at dksX3_nextExpiry_2 5 rfl rfl)
theorem dX3_nextExpiry_54 : decode cX3_nextExpiry 54 = .ok (.iconst 4, 1) := dk_7 (dk_at dksX3_nextExpiry_2 6 rfl rfl)
theorem dX3_nextExpiry_55 : decode cX3_nextExpiry 55 = .ok (.invokevirtual 43, 3) := dk_182 0 43 (dk_at dksX3_nextExpiry_2 7 rfl rfl)
theorem dX3_nextExpiry_58 : decode cX3_nextExpiry 58 = .ok (.goto 4, 3) := dk_167 0 4 (dk_at dksX3_nextExpiry_2 10 rfl rfl)
theorem dX3_nextExpiry_61 : decode cX3_nextExpiry 61 = .ok (.iload_n 1, 1) := dk_27 (dk_at dksX3_nextExpiry_2 13 rfl rfl)
theorem dX3_nextExpiry_62 : decode cX3_nextExpiry 62 = .ok (.istore_n 1, 1) := dk_60 (dk_at dksX3_nextExpiry_2 14 rfl rfl)
theorem dX3_nextExpiry_63 : decode cX3_nextExpiry 63 = .ok (.iinc 2 1, 3) := dk_132 2 1 (dk_at dksX3_nextExpiry_2 15 rfl rfl)
theorem dX3_nextExpiry_66 : decode cX3_nextExpiry 66 = .ok (.goto (-34), 3) := dk_167 255 222 (dk_at dksX3_nextExpiry_2 18 rfl rfl)
theorem dX3_nextExpiry_69 : decode cX3_nextExpiry 69 = .ok (.iload_n 1, 1) := dk_27 (dk_at dksX3_nextExpiry_2 21 rfl rfl)
theorem dX3_nextExpiry_70 : decode cX3_nextExpiry 70 = .ok (.ireturn, 1) := dk_172 (dk_at dksX3_nextExpiry_2 22 rfl rfl)
abbrev cX3_nextToAudit : ByteArray := prog_9_method_64_code
def yX3_nextToAudit : MethodName := ⟨RX3, "nextToAudit", "()I"⟩
def dkwX3_nextToAudit_1 : List UInt8 := [180, 0, 9, 16, 118, 46, 167, 0, 4, 3, 172]
abbrev dktX3_nextToAudit_1 : List UInt8 := dkwX3_nextToAudit_1 ++ []
def dkwX3_nextToAudit_0 : List UInt8 := [42, 42, 180, 0, 9, 5, 46, 158, 0, 7, 4, 167, 0, 4, 3, 182, 0, 124, 153, 0, 13, 42]
abbrev dktX3_nextToAudit_0 : List UInt8 := dkwX3_nextToAudit_0 ++ dktX3_nextToAudit_1
theorem dksX3_nextToAudit_0 : cX3_nextToAudit.data.toList.drop 0 = dktX3_nextToAudit_0 := by decide +kernel
theorem dksX3_nextToAudit_1 : cX3_nextToAudit.data.toList.drop 22 = dktX3_nextToAudit_1 := dk_seg dksX3_nextToAudit_0 22 rfl rfl
theorem dX3_nextToAudit_0 : decode cX3_nextToAudit 0 = .ok (.aload_n 0, 1) := dk_42 (dk_at dksX3_nextToAudit_0 0 rfl rfl)
theorem dX3_nextToAudit_1 : decode cX3_nextToAudit 1 = .ok (.aload_n 0, 1) := dk_42 (dk_at dksX3_nextToAudit_0 1 rfl rfl)
theorem dX3_nextToAudit_2 : decode cX3_nextToAudit 2 = .ok (.getfield 9, 3) := dk_180 0 9 (dk_at dksX3_nextToAudit_0 2 rfl rfl)
theorem dX3_nextToAudit_5 : decode cX3_nextToAudit 5 = .ok (.iconst 2, 1) := dk_5 (dk_at dksX3_nextToAudit_0 5 rfl rfl)
theorem dX3_nextToAudit_6 : decode cX3_nextToAudit 6 = .ok (.iaload, 1) := dk_46 (dk_at dksX3_nextToAudit_0 6 rfl rfl)
theorem dX3_nextToAudit_7 : decode cX3_nextToAudit 7 = .ok (.ifCond .le 7, 3) := dk_158 0 7 (dk_at dksX3_nextToAudit_0 7 rfl rfl)
theorem dX3_nextToAudit_10 : decode cX3_nextToAudit 10 = .ok (.iconst 1, 1) := dk_4 (dk_at dksX3_nextToAudit_0 10 rfl rfl)
theorem dX3_nextToAudit_11 : decode cX3_nextToAudit 11 = .ok (.goto 4, 3) := dk_167 0 4 (dk_at dksX3_nextToAudit_0 11 rfl rfl)
theorem dX3_nextToAudit_14 : decode cX3_nextToAudit 14 = .ok (.iconst 0, 1) := dk_3 (dk_at dksX3_nextToAudit_0 14 rfl rfl)
theorem dX3_nextToAudit_15 : decode cX3_nextToAudit 15 = .ok (.invokevirtual 124, 3) := dk_182 0 124 (dk_at dksX3_nextToAudit_0 15 rfl rfl)
theorem dX3_nextToAudit_18 : decode cX3_nextToAudit 18 = .ok (.ifCond .eq 13, 3) := dk_153 0 13 (dk_at dksX3_nextToAudit_0 18 rfl rfl)
theorem dX3_nextToAudit_21 : decode cX3_nextToAudit 21 = .ok (.aload_n 0, 1) := dk_42 (dk_at dksX3_nextToAudit_0 21 rfl rfl)
theorem dX3_nextToAudit_22 : decode cX3_nextToAudit 22 = .ok (.getfield 9, 3) := dk_180 0 9 (dk_at dksX3_nextToAudit_1 0 rfl rfl)
theorem dX3_nextToAudit_25 : decode cX3_nextToAudit 25 = .ok (.bipush 118, 2) := dk_16 118 (dk_at dksX3_nextToAudit_1 3 rfl rfl)
theorem dX3_nextToAudit_27 : decode cX3_nextToAudit 27 = .ok (.iaload, 1) := dk_46 (dk_at dksX3_nextToAudit_1 5 rfl rfl)
theorem dX3_nextToAudit_28 : decode cX3_nextToAudit 28 = .ok (.goto 4, 3) := dk_167 0 4 (dk_at dksX3_nextToAudit_1 6 rfl rfl)
theorem dX3_nextToAudit_31 : decode cX3_nextToAudit 31 = .ok (.iconst 0, 1) := dk_3 (dk_at dksX3_nextToAudit_1 9 rfl rfl)
theorem dX3_nextToAudit_32 : decode cX3_nextToAudit 32 = .ok (.ireturn, 1) := dk_172 (dk_at dksX3_nextToAudit_1 10 rfl rfl)
abbrev cX3_auditPosition : ByteArray := prog_9_method_65_code
def yX3_auditPosition : MethodName := ⟨RX3, "auditPosition", "(I)I"⟩
def dkwX3_auditPosition_1 : List UInt8 := [182, 0, 47, 167, 0, 4, 3, 172]
abbrev dktX3_auditPosition_1 : List UInt8 := dkwX3_auditPosition_1 ++ []
def dkwX3_auditPosition_0 : List UInt8 := [42, 42, 27, 182, 0, 76, 155, 0, 7, 4, 167, 0, 4, 3, 182, 0, 124, 153, 0, 11, 42, 27]
abbrev dktX3_auditPosition_0 : List UInt8 := dkwX3_auditPosition_0 ++ dktX3_auditPosition_1
theorem dksX3_auditPosition_0 : cX3_auditPosition.data.toList.drop 0 = dktX3_auditPosition_0 := by decide +kernel
theorem dksX3_auditPosition_1 : cX3_auditPosition.data.toList.drop 22 = dktX3_auditPosition_1 := dk_seg dksX3_auditPosition_0 22 rfl rfl
theorem dX3_auditPosition_0 : decode cX3_auditPosition 0 = .ok (.aload_n 0, 1) := dk_42 (dk_at dksX3_auditPosition_0 0 rfl rfl)
theorem dX3_auditPosition_1 : decode cX3_auditPosition 1 = .ok (.aload_n 0, 1) := dk_42 (dk_at dksX3_auditPosition_0 1 rfl rfl)
theorem dX3_auditPosition_2 : decode cX3_auditPosition 2 = .ok (.iload_n 1, 1) := dk_27 (dk_at dksX3_auditPosition_0 2 rfl rfl)
theorem dX3_auditPosition_3 : decode cX3_auditPosition 3 = .ok (.invokevirtual 76, 3) := dk_182 0 76 (dk_at dksX3_auditPosition_0 3 rfl rfl)
theorem dX3_auditPosition_6 : decode cX3_auditPosition 6 = .ok (.ifCond .lt 7, 3) := dk_155 0 7 (dk_at dksX3_auditPosition_0 6 rfl rfl)
theorem dX3_auditPosition_9 : decode cX3_auditPosition 9 = .ok (.iconst 1, 1) := dk_4 (dk_at dksX3_auditPosition_0 9 rfl rfl)
theorem dX3_auditPosition_10 : decode cX3_auditPosition 10 = .ok (.goto 4, 3) := dk_167 0 4 (dk_at dksX3_auditPosition_0 10 rfl rfl)
theorem dX3_auditPosition_13 : decode cX3_auditPosition 13 = .ok (.iconst 0, 1) := dk_3 (dk_at dksX3_auditPosition_0 13 rfl rfl)
theorem dX3_auditPosition_14 : decode cX3_auditPosition 14 = .ok (.invokevirtual 124, 3) := dk_182 0 124 (dk_at dksX3_auditPosition_0 14 rfl rfl)
theorem dX3_auditPosition_17 : decode cX3_auditPosition 17 = .ok (.ifCond .eq 11, 3) := dk_153 0 11 (dk_at dksX3_auditPosition_0 17 rfl rfl)
theorem dX3_auditPosition_20 : decode cX3_auditPosition 20 = .ok (.aload_n 0, 1) := dk_42 (dk_at dksX3_auditPosition_0 20 rfl rfl)
theorem dX3_auditPosition_21 : decode cX3_auditPosition 21 = .ok (.iload_n 1, 1) := dk_27 (dk_at dksX3_auditPosition_0 21 rfl rfl)
theorem dX3_auditPosition_22 : decode cX3_auditPosition 22 = .ok (.invokevirtual 47, 3) := dk_182 0 47 (dk_at dksX3_auditPosition_1 0 rfl rfl)
theorem dX3_auditPosition_25 : decode cX3_auditPosition 25 = .ok (.goto 4, 3) := dk_167 0 4 (dk_at dksX3_auditPosition_1 3 rfl rfl)
theorem dX3_auditPosition_28 : decode cX3_auditPosition 28 = .ok (.iconst 0, 1) := dk_3 (dk_at dksX3_auditPosition_1 6 rfl rfl)
theorem dX3_auditPosition_29 : decode cX3_auditPosition 29 = .ok (.ireturn, 1) := dk_172 (dk_at dksX3_auditPosition_1 7 rfl rfl)
abbrev cX3_owes : ByteArray := prog_9_method_67_code
def yX3_owes : MethodName := ⟨RX3, "owes", "(II)Z"⟩
def dkwX3_owes_1 : List UInt8 := [153, 0, 16, 42, 27, 28, 182, 0, 140, 153, 0, 7, 4, 167, 0, 4, 3, 172]
abbrev dktX3_owes_1 : List UInt8 := dkwX3_owes_1 ++ []
def dkwX3_owes_0 : List UInt8 := [42, 27, 184, 0, 59, 153, 0, 14, 28, 184, 0, 59, 153, 0, 7, 4, 167, 0, 4, 3, 182, 0, 124]
abbrev dktX3_owes_0 : List UInt8 := dkwX3_owes_0 ++ dktX3_owes_1
theorem dksX3_owes_0 : cX3_owes.data.toList.drop 0 = dktX3_owes_0 := by decide +kernel
theorem dksX3_owes_1 : cX3_owes.data.toList.drop 23 = dktX3_owes_1 := dk_seg dksX3_owes_0 23 rfl rfl
theorem dX3_owes_0 : decode cX3_owes 0 = .ok (.aload_n 0, 1) := dk_42 (dk_at dksX3_owes_0 0 rfl rfl)
theorem dX3_owes_1 : decode cX3_owes 1 = .ok (.iload_n 1, 1) := dk_27 (dk_at dksX3_owes_0 1 rfl rfl)
theorem dX3_owes_2 : decode cX3_owes 2 = .ok (.invokestatic 59, 3) := dk_184 0 59 (dk_at dksX3_owes_0 2 rfl rfl)
theorem dX3_owes_5 : decode cX3_owes 5 = .ok (.ifCond .eq 14, 3) := dk_153 0 14 (dk_at dksX3_owes_0 5 rfl rfl)
theorem dX3_owes_8 : decode cX3_owes 8 = .ok (.iload_n 2, 1) := dk_28 (dk_at dksX3_owes_0 8 rfl rfl)
theorem dX3_owes_9 : decode cX3_owes 9 = .ok (.invokestatic 59, 3) := dk_184 0 59 (dk_at dksX3_owes_0 9 rfl rfl)
theorem dX3_owes_12 : decode cX3_owes 12 = .ok (.ifCond .eq 7, 3) := dk_153 0 7 (dk_at dksX3_owes_0 12 rfl rfl)
theorem dX3_owes_15 : decode cX3_owes 15 = .ok (.iconst 1, 1) := dk_4 (dk_at dksX3_owes_0 15 rfl rfl)
theorem dX3_owes_16 : decode cX3_owes 16 = .ok (.goto 4, 3) := dk_167 0 4 (dk_at dksX3_owes_0 16 rfl rfl)
theorem dX3_owes_19 : decode cX3_owes 19 = .ok (.iconst 0, 1) := dk_3 (dk_at dksX3_owes_0 19 rfl rfl)
theorem dX3_owes_20 : decode cX3_owes 20 = .ok (.invokevirtual 124, 3) := dk_182 0 124 (dk_at dksX3_owes_0 20 rfl rfl)
theorem dX3_owes_23 : decode cX3_owes 23 = .ok (.ifCond .eq 16, 3) := dk_153 0 16 (dk_at dksX3_owes_1 0 rfl rfl)
theorem dX3_owes_26 : decode cX3_owes 26 = .ok (.aload_n 0, 1) := dk_42 (dk_at dksX3_owes_1 3 rfl rfl)
theorem dX3_owes_27 : decode cX3_owes 27 = .ok (.iload_n 1, 1) := dk_27 (dk_at dksX3_owes_1 4 rfl rfl)
theorem dX3_owes_28 : decode cX3_owes 28 = .ok (.iload_n 2, 1) := dk_28 (dk_at dksX3_owes_1 5 rfl rfl)
theorem dX3_owes_29 : decode cX3_owes 29 = .ok (.invokevirtual 140, 3) := dk_182 0 140 (dk_at dksX3_owes_1 6 rfl rfl)
theorem dX3_owes_32 : decode cX3_owes 32 = .ok (.ifCond .eq 7, 3) := dk_153 0 7 (dk_at dksX3_owes_1 9 rfl rfl)
theorem dX3_owes_35 : decode cX3_owes 35 = .ok (.iconst 1, 1) := dk_4 (dk_at dksX3_owes_1 12 rfl rfl)
theorem dX3_owes_36 : decode cX3_owes 36 = .ok (.goto 4, 3) := dk_167 0 4 (dk_at dksX3_owes_1 13 rfl rfl)
theorem dX3_owes_39 : decode cX3_owes 39 = .ok (.iconst 0, 1) := dk_3 (dk_at dksX3_owes_1 16 rfl rfl)
theorem dX3_owes_40 : decode cX3_owes 40 = .ok (.ireturn, 1) := dk_172 (dk_at dksX3_owes_1 17 rfl rfl)
abbrev cX3_owesNow : ByteArray := prog_9_method_66_code
def yX3_owesNow : MethodName := ⟨RX3, "owesNow", "(II)Z"⟩
def dkwX3_owesNow_1 : List UInt8 := [5, 182, 0, 43, 28, 160, 0, 5, 4, 172, 132, 3, 1, 167, 255, 221, 3, 172]
abbrev dktX3_owesNow_1 : List UInt8 := dkwX3_owesNow_1 ++ []
def dkwX3_owesNow_0 : List UInt8 := [3, 62, 29, 42, 180, 0, 9, 5, 46, 162, 0, 31, 42, 29, 4, 182, 0, 43, 27, 160, 0, 15, 42, 29]
abbrev dktX3_owesNow_0 : List UInt8 := dkwX3_owesNow_0 ++ dktX3_owesNow_1
theorem dksX3_owesNow_0 : cX3_owesNow.data.toList.drop 0 = dktX3_owesNow_0 := by decide +kernel
theorem dksX3_owesNow_1 : cX3_owesNow.data.toList.drop 24 = dktX3_owesNow_1 := dk_seg dksX3_owesNow_0 24 rfl rfl
theorem dX3_owesNow_0 : decode cX3_owesNow 0 = .ok (.iconst 0, 1) := dk_3 (dk_at dksX3_owesNow_0 0 rfl rfl)
theorem dX3_owesNow_1 : decode cX3_owesNow 1 = .ok (.istore_n 3, 1) := dk_62 (dk_at dksX3_owesNow_0 1 rfl rfl)
theorem dX3_owesNow_2 : decode cX3_owesNow 2 = .ok (.iload_n 3, 1) := dk_29 (dk_at dksX3_owesNow_0 2 rfl rfl)
theorem dX3_owesNow_3 : decode cX3_owesNow 3 = .ok (.aload_n 0, 1) := dk_42 (dk_at dksX3_owesNow_0 3 rfl rfl)
theorem dX3_owesNow_4 : decode cX3_owesNow 4 = .ok (.getfield 9, 3) := dk_180 0 9 (dk_at dksX3_owesNow_0 4 rfl rfl)
theorem dX3_owesNow_7 : decode cX3_owesNow 7 = .ok (.iconst 2, 1) := dk_5 (dk_at dksX3_owesNow_0 7 rfl rfl)
theorem dX3_owesNow_8 : decode cX3_owesNow 8 = .ok (.iaload, 1) := dk_46 (dk_at dksX3_owesNow_0 8 rfl rfl)
theorem dX3_owesNow_9 : decode cX3_owesNow 9 = .ok (.if_icmp .ge 31, 3) := dk_162 0 31 (dk_at dksX3_owesNow_0 9 rfl rfl)
theorem dX3_owesNow_12 : decode cX3_owesNow 12 = .ok (.aload_n 0, 1) := dk_42 (dk_at dksX3_owesNow_0 12 rfl rfl)
theorem dX3_owesNow_13 : decode cX3_owesNow 13 = .ok (.iload_n 3, 1) := dk_29 (dk_at dksX3_owesNow_0 13 rfl rfl)
theorem dX3_owesNow_14 : decode cX3_owesNow 14 = .ok (.iconst 1, 1) := dk_4 (dk_at dksX3_owesNow_0 14 rfl rfl)
theorem dX3_owesNow_15 : decode cX3_owesNow 15 = .ok (.invokevirtual 43, 3) := dk_182 0 43 (dk_at dksX3_owesNow_0 15 rfl rfl)
theorem dX3_owesNow_18 : decode cX3_owesNow 18 = .ok (.iload_n 1, 1) := dk_27 (dk_at dksX3_owesNow_0 18 rfl rfl)
theorem dX3_owesNow_19 : decode cX3_owesNow 19 = .ok (.if_icmp .ne 15, 3) := dk_160 0 15 (dk_at dksX3_owesNow_0 19 rfl rfl)
theorem dX3_owesNow_22 : decode cX3_owesNow 22 = .ok (.aload_n 0, 1) := dk_42 (dk_at dksX3_owesNow_0 22 rfl rfl)
theorem dX3_owesNow_23 : decode cX3_owesNow 23 = .ok (.iload_n 3, 1) := dk_29 (dk_at dksX3_owesNow_0 23 rfl rfl)
theorem dX3_owesNow_24 : decode cX3_owesNow 24 = .ok (.iconst 2, 1) := dk_5 (dk_at dksX3_owesNow_1 0 rfl rfl)
theorem dX3_owesNow_25 : decode cX3_owesNow 25 = .ok (.invokevirtual 43, 3) := dk_182 0 43 (dk_at dksX3_owesNow_1 1 rfl rfl)
theorem dX3_owesNow_28 : decode cX3_owesNow 28 = .ok (.iload_n 2, 1) := dk_28 (dk_at dksX3_owesNow_1 4 rfl rfl)
theorem dX3_owesNow_29 : decode cX3_owesNow 29 = .ok (.if_icmp .ne 5, 3) := dk_160 0 5 (dk_at dksX3_owesNow_1 5 rfl rfl)
theorem dX3_owesNow_32 : decode cX3_owesNow 32 = .ok (.iconst 1, 1) := dk_4 (dk_at dksX3_owesNow_1 8 rfl rfl)
theorem dX3_owesNow_33 : decode cX3_owesNow 33 = .ok (.ireturn, 1) := dk_172 (dk_at dksX3_owesNow_1 9 rfl rfl)
theorem dX3_owesNow_34 : decode cX3_owesNow 34 = .ok (.iinc 3 1, 3) := dk_132 3 1 (dk_at dksX3_owesNow_1 10 rfl rfl)
theorem dX3_owesNow_37 : decode cX3_owesNow 37 = .ok (.goto (-35), 3) := dk_167 255 221 (dk_at dksX3_owesNow_1 13 rfl rfl)
theorem dX3_owesNow_40 : decode cX3_owesNow 40 = .ok (.iconst 0, 1) := dk_3 (dk_at dksX3_owesNow_1 16 rfl rfl)
theorem dX3_owesNow_41 : decode cX3_owesNow 41 = .ok (.ireturn, 1) := dk_172 (dk_at dksX3_owesNow_1 17 rfl rfl)
abbrev cX3_pairBalance : ByteArray := prog_9_method_69_code
def yX3_pairBalance : MethodName := ⟨RX3, "pairBalance", "(II)I"⟩
def dkwX3_pairBalance_1 : List UInt8 := [153, 0, 19, 42, 28, 27, 182, 0, 143, 42, 27, 28, 182, 0, 143, 100, 167, 0, 4, 3, 172]
abbrev dktX3_pairBalance_1 : List UInt8 := dkwX3_pairBalance_1 ++ []
def dkwX3_pairBalance_0 : List UInt8 := [42, 27, 184, 0, 59, 153, 0, 14, 28, 184, 0, 59, 153, 0, 7, 4, 167, 0, 4, 3, 182, 0, 124]
abbrev dktX3_pairBalance_0 : List UInt8 := dkwX3_pairBalance_0 ++ dktX3_pairBalance_1
theorem dksX3_pairBalance_0 : cX3_pairBalance.data.toList.drop 0 = dktX3_pairBalance_0 := by decide +kernel
theorem dksX3_pairBalance_1 : cX3_pairBalance.data.toList.drop 23 = dktX3_pairBalance_1 := dk_seg dksX3_pairBalance_0 23 rfl rfl
theorem dX3_pairBalance_0 : decode cX3_pairBalance 0 = .ok (.aload_n 0, 1) := dk_42 (dk_at dksX3_pairBalance_0 0 rfl rfl)
theorem dX3_pairBalance_1 : decode cX3_pairBalance 1 = .ok (.iload_n 1, 1) := dk_27 (dk_at dksX3_pairBalance_0 1 rfl rfl)
theorem dX3_pairBalance_2 : decode cX3_pairBalance 2 = .ok (.invokestatic 59, 3) := dk_184 0 59 (dk_at dksX3_pairBalance_0 2 rfl rfl)
theorem dX3_pairBalance_5 : decode cX3_pairBalance 5 = .ok (.ifCond .eq 14, 3) := dk_153 0 14 (dk_at dksX3_pairBalance_0 5 rfl rfl)
theorem dX3_pairBalance_8 : decode cX3_pairBalance 8 = .ok (.iload_n 2, 1) := dk_28 (dk_at dksX3_pairBalance_0 8 rfl rfl)
theorem dX3_pairBalance_9 : decode cX3_pairBalance 9 = .ok (.invokestatic 59, 3) := dk_184 0 59 (dk_at dksX3_pairBalance_0 9 rfl rfl)
theorem dX3_pairBalance_12 : decode cX3_pairBalance 12 = .ok (.ifCond .eq 7, 3) := dk_153 0 7 (dk_at dksX3_pairBalance_0 12 rfl rfl)
theorem dX3_pairBalance_15 : decode cX3_pairBalance 15 = .ok (.iconst 1, 1) := dk_4 (dk_at dksX3_pairBalance_0 15 rfl rfl)
theorem dX3_pairBalance_16 : decode cX3_pairBalance 16 = .ok (.goto 4, 3) := dk_167 0 4 (dk_at dksX3_pairBalance_0 16 rfl rfl)
theorem dX3_pairBalance_19 : decode cX3_pairBalance 19 = .ok (.iconst 0, 1) := dk_3 (dk_at dksX3_pairBalance_0 19 rfl rfl)
theorem dX3_pairBalance_20 : decode cX3_pairBalance 20 = .ok (.invokevirtual 124, 3) := dk_182 0 124 (dk_at dksX3_pairBalance_0 20 rfl rfl)
theorem dX3_pairBalance_23 : decode cX3_pairBalance 23 = .ok (.ifCond .eq 19, 3) := dk_153 0 19 (dk_at dksX3_pairBalance_1 0 rfl rfl)
theorem dX3_pairBalance_26 : decode cX3_pairBalance 26 = .ok (.aload_n 0, 1) := dk_42 (dk_at dksX3_pairBalance_1 3 rfl rfl)
theorem dX3_pairBalance_27 : decode cX3_pairBalance 27 = .ok (.iload_n 2, 1) := dk_28 (dk_at dksX3_pairBalance_1 4 rfl rfl)
theorem dX3_pairBalance_28 : decode cX3_pairBalance 28 = .ok (.iload_n 1, 1) := dk_27 (dk_at dksX3_pairBalance_1 5 rfl rfl)
theorem dX3_pairBalance_29 : decode cX3_pairBalance 29 = .ok (.invokevirtual 143, 3) := dk_182 0 143 (dk_at dksX3_pairBalance_1 6 rfl rfl)
theorem dX3_pairBalance_32 : decode cX3_pairBalance 32 = .ok (.aload_n 0, 1) := dk_42 (dk_at dksX3_pairBalance_1 9 rfl rfl)
theorem dX3_pairBalance_33 : decode cX3_pairBalance 33 = .ok (.iload_n 1, 1) := dk_27 (dk_at dksX3_pairBalance_1 10 rfl rfl)
theorem dX3_pairBalance_34 : decode cX3_pairBalance 34 = .ok (.iload_n 2, 1) := dk_28 (dk_at dksX3_pairBalance_1 11 rfl rfl)
theorem dX3_pairBalance_35 : decode cX3_pairBalance 35 = .ok (.invokevirtual 143, 3) := dk_182 0 143 (dk_at dksX3_pairBalance_1 12 rfl rfl)
theorem dX3_pairBalance_38 : decode cX3_pairBalance 38 = .ok (.isub, 1) := dk_100 (dk_at dksX3_pairBalance_1 15 rfl rfl)
theorem dX3_pairBalance_39 : decode cX3_pairBalance 39 = .ok (.goto 4, 3) := dk_167 0 4 (dk_at dksX3_pairBalance_1 16 rfl rfl)
theorem dX3_pairBalance_42 : decode cX3_pairBalance 42 = .ok (.iconst 0, 1) := dk_3 (dk_at dksX3_pairBalance_1 19 rfl rfl)
theorem dX3_pairBalance_43 : decode cX3_pairBalance 43 = .ok (.ireturn, 1) := dk_172 (dk_at dksX3_pairBalance_1 20 rfl rfl)
abbrev cX3_owedAmong : ByteArray := prog_9_method_68_code
def yX3_owedAmong : MethodName := ⟨RX3, "owedAmong", "(II)I"⟩
def dkwX3_owedAmong_2 : List UInt8 := [167, 0, 4, 3, 96, 62, 132, 4, 1, 167, 255, 206, 29, 172]
abbrev dktX3_owedAmong_2 : List UInt8 := dkwX3_owedAmong_2 ++ []
def dkwX3_owedAmong_1 : List UInt8 := [27, 160, 0, 24, 42, 21, 4, 5, 182, 0, 43, 28, 160, 0, 13, 42, 21, 4, 6, 182, 0, 43]
abbrev dktX3_owedAmong_1 : List UInt8 := dkwX3_owedAmong_1 ++ dktX3_owedAmong_2
def dkwX3_owedAmong_0 : List UInt8 := [3, 62, 3, 54, 4, 21, 4, 42, 180, 0, 9, 5, 46, 162, 0, 45, 29, 42, 21, 4, 4, 182, 0, 43]
abbrev dktX3_owedAmong_0 : List UInt8 := dkwX3_owedAmong_0 ++ dktX3_owedAmong_1
theorem dksX3_owedAmong_0 : cX3_owedAmong.data.toList.drop 0 = dktX3_owedAmong_0 := by decide +kernel
theorem dksX3_owedAmong_1 : cX3_owedAmong.data.toList.drop 24 = dktX3_owedAmong_1 := dk_seg dksX3_owedAmong_0 24 rfl rfl
theorem dksX3_owedAmong_2 : cX3_owedAmong.data.toList.drop 46 = dktX3_owedAmong_2 := dk_seg dksX3_owedAmong_1 22 rfl rfl
theorem dX3_owedAmong_0 : decode cX3_owedAmong 0 = .ok (.iconst 0, 1) := dk_3 (dk_at dksX3_owedAmong_0 0 rfl rfl)
theorem dX3_owedAmong_1 : decode cX3_owedAmong 1 = .ok (.istore_n 3, 1) := dk_62 (dk_at dksX3_owedAmong_0 1 rfl rfl)
theorem dX3_owedAmong_2 : decode cX3_owedAmong 2 = .ok (.iconst 0, 1) := dk_3 (dk_at dksX3_owedAmong_0 2 rfl rfl)
theorem dX3_owedAmong_3 : decode cX3_owedAmong 3 = .ok (.istore 4, 2) := dk_54 4 (dk_at dksX3_owedAmong_0 3 rfl rfl)
theorem dX3_owedAmong_5 : decode cX3_owedAmong 5 = .ok (.iload 4, 2) := dk_21 4 (dk_at dksX3_owedAmong_0 5 rfl rfl)
theorem dX3_owedAmong_7 : decode cX3_owedAmong 7 = .ok (.aload_n 0, 1) := dk_42 (dk_at dksX3_owedAmong_0 7 rfl rfl)
theorem dX3_owedAmong_8 : decode cX3_owedAmong 8 = .ok (.getfield 9, 3) := dk_180 0 9 (dk_at dksX3_owedAmong_0 8 rfl rfl)
theorem dX3_owedAmong_11 : decode cX3_owedAmong 11 = .ok (.iconst 2, 1) := dk_5 (dk_at dksX3_owedAmong_0 11 rfl rfl)
theorem dX3_owedAmong_12 : decode cX3_owedAmong 12 = .ok (.iaload, 1) := dk_46 (dk_at dksX3_owedAmong_0 12 rfl rfl)
theorem dX3_owedAmong_13 : decode cX3_owedAmong 13 = .ok (.if_icmp .ge 45, 3) := dk_162 0 45 (dk_at dksX3_owedAmong_0 13 rfl rfl)
theorem dX3_owedAmong_16 : decode cX3_owedAmong 16 = .ok (.iload_n 3, 1) := dk_29 (dk_at dksX3_owedAmong_0 16 rfl rfl)
theorem dX3_owedAmong_17 : decode cX3_owedAmong 17 = .ok (.aload_n 0, 1) := dk_42 (dk_at dksX3_owedAmong_0 17 rfl rfl)
theorem dX3_owedAmong_18 : decode cX3_owedAmong 18 = .ok (.iload 4, 2) := dk_21 4 (dk_at dksX3_owedAmong_0 18 rfl rfl)
theorem dX3_owedAmong_20 : decode cX3_owedAmong 20 = .ok (.iconst 1, 1) := dk_4 (dk_at dksX3_owedAmong_0 20 rfl rfl)
theorem dX3_owedAmong_21 : decode cX3_owedAmong 21 = .ok (.invokevirtual 43, 3) := dk_182 0 43 (dk_at dksX3_owedAmong_0 21 rfl rfl)
theorem dX3_owedAmong_24 : decode cX3_owedAmong 24 = .ok (.iload_n 1, 1) := dk_27 (dk_at dksX3_owedAmong_1 0 rfl rfl)
theorem dX3_owedAmong_25 : decode cX3_owedAmong 25 = .ok (.if_icmp .ne 24, 3) := dk_160 0 24 (dk_at dksX3_owedAmong_1 1 rfl rfl)
theorem dX3_owedAmong_28 : decode cX3_owedAmong 28 = .ok (.aload_n 0, 1) := dk_42 (dk_at dksX3_owedAmong_1 4 rfl rfl)
theorem dX3_owedAmong_29 : decode cX3_owedAmong 29 = .ok (.iload 4, 2) := dk_21 4 (dk_at dksX3_owedAmong_1 5 rfl rfl)
theorem dX3_owedAmong_31 : decode cX3_owedAmong 31 = .ok (.iconst 2, 1) := dk_5 (dk_at dksX3_owedAmong_1 7 rfl rfl)
theorem dX3_owedAmong_32 : decode cX3_owedAmong 32 = .ok (.invokevirtual 43, 3) := dk_182 0 43 (dk_at dksX3_owedAmong_1 8 rfl rfl)
theorem dX3_owedAmong_35 : decode cX3_owedAmong 35 = .ok (.iload_n 2, 1) := dk_28 (dk_at dksX3_owedAmong_1 11 rfl rfl)
theorem dX3_owedAmong_36 : decode cX3_owedAmong 36 = .ok (.if_icmp .ne 13, 3) := dk_160 0 13 (dk_at dksX3_owedAmong_1 12 rfl rfl)
theorem dX3_owedAmong_39 : decode cX3_owedAmong 39 = .ok (.aload_n 0, 1) := dk_42 (dk_at dksX3_owedAmong_1 15 rfl rfl)
theorem dX3_owedAmong_40 : decode cX3_owedAmong 40 = .ok (.iload 4, 2) := dk_21 4 (dk_at dksX3_owedAmong_1 16 rfl rfl)
theorem dX3_owedAmong_42 : decode cX3_owedAmong 42 = .ok (.iconst 3, 1) := dk_6 (dk_at dksX3_owedAmong_1 18 rfl rfl)
theorem dX3_owedAmong_43 : decode cX3_owedAmong 43 = .ok (.invokevirtual 43, 3) := dk_182 0 43 (dk_at dksX3_owedAmong_1 19 rfl rfl)
theorem dX3_owedAmong_46 : decode cX3_owedAmong 46 = .ok (.goto 4, 3) := dk_167 0 4 (dk_at dksX3_owedAmong_2 0 rfl rfl)
theorem dX3_owedAmong_49 : decode cX3_owedAmong 49 = .ok (.iconst 0, 1) := dk_3 (dk_at dksX3_owedAmong_2 3 rfl rfl)
theorem dX3_owedAmong_50 : decode cX3_owedAmong 50 = .ok (.iadd, 1) := dk_96 (dk_at dksX3_owedAmong_2 4 rfl rfl)
theorem dX3_owedAmong_51 : decode cX3_owedAmong 51 = .ok (.istore_n 3, 1) := dk_62 (dk_at dksX3_owedAmong_2 5 rfl rfl)
theorem dX3_owedAmong_52 : decode cX3_owedAmong 52 = .ok (.iinc 4 1, 3) := dk_132 4 1 (dk_at dksX3_owedAmong_2 6 rfl rfl)
theorem dX3_owedAmong_55 : decode cX3_owedAmong 55 = .ok (.goto (-50), 3) := dk_167 255 206 (dk_at dksX3_owedAmong_2 9 rfl rfl)
theorem dX3_owedAmong_58 : decode cX3_owedAmong 58 = .ok (.iload_n 3, 1) := dk_29 (dk_at dksX3_owedAmong_2 12 rfl rfl)
theorem dX3_owedAmong_59 : decode cX3_owedAmong 59 = .ok (.ireturn, 1) := dk_172 (dk_at dksX3_owedAmong_2 13 rfl rfl)
abbrev cX3_chainLength : ByteArray := prog_9_method_71_code
def yX3_chainLength : MethodName := ⟨RX3, "chainLength", "(II)I"⟩
def dkwX3_chainLength_3 : List UInt8 := [132, 4, 1, 167, 255, 221, 3, 172]
abbrev dktX3_chainLength_3 : List UInt8 := dkwX3_chainLength_3 ++ []
def dkwX3_chainLength_2 : List UInt8 := [29, 182, 0, 146, 62, 29, 28, 122, 4, 126, 154, 0, 6, 167, 0, 11, 42, 3, 181, 0, 30, 21, 4, 172]
abbrev dktX3_chainLength_2 : List UInt8 := dkwX3_chainLength_2 ++ dktX3_chainLength_3
def dkwX3_chainLength_1 : List UInt8 := [180, 0, 30, 4, 160, 0, 5, 3, 172, 4, 27, 120, 62, 4, 54, 4, 21, 4, 16, 8, 163, 0, 34, 42]
abbrev dktX3_chainLength_1 : List UInt8 := dkwX3_chainLength_1 ++ dktX3_chainLength_2
def dkwX3_chainLength_0 : List UInt8 := [42, 27, 184, 0, 59, 153, 0, 14, 28, 184, 0, 59, 153, 0, 7, 5, 167, 0, 4, 4, 181, 0, 30, 42]
abbrev dktX3_chainLength_0 : List UInt8 := dkwX3_chainLength_0 ++ dktX3_chainLength_1
theorem dksX3_chainLength_0 : cX3_chainLength.data.toList.drop 0 = dktX3_chainLength_0 := by decide +kernel
theorem dksX3_chainLength_1 : cX3_chainLength.data.toList.drop 24 = dktX3_chainLength_1 := dk_seg dksX3_chainLength_0 24 rfl rfl
theorem dksX3_chainLength_2 : cX3_chainLength.data.toList.drop 48 = dktX3_chainLength_2 := dk_seg dksX3_chainLength_1 24 rfl rfl
theorem dksX3_chainLength_3 : cX3_chainLength.data.toList.drop 72 = dktX3_chainLength_3 := dk_seg dksX3_chainLength_2 24 rfl rfl
theorem dX3_chainLength_0 : decode cX3_chainLength 0 = .ok (.aload_n 0, 1) := dk_42 (dk_at dksX3_chainLength_0 0 rfl rfl)
theorem dX3_chainLength_1 : decode cX3_chainLength 1 = .ok (.iload_n 1, 1) := dk_27 (dk_at dksX3_chainLength_0 1 rfl rfl)
theorem dX3_chainLength_2 : decode cX3_chainLength 2 = .ok (.invokestatic 59, 3) := dk_184 0 59 (dk_at dksX3_chainLength_0 2 rfl rfl)
theorem dX3_chainLength_5 : decode cX3_chainLength 5 = .ok (.ifCond .eq 14, 3) := dk_153 0 14 (dk_at dksX3_chainLength_0 5 rfl rfl)
theorem dX3_chainLength_8 : decode cX3_chainLength 8 = .ok (.iload_n 2, 1) := dk_28 (dk_at dksX3_chainLength_0 8 rfl rfl)
theorem dX3_chainLength_9 : decode cX3_chainLength 9 = .ok (.invokestatic 59, 3) := dk_184 0 59 (dk_at dksX3_chainLength_0 9 rfl rfl)
theorem dX3_chainLength_12 : decode cX3_chainLength 12 = .ok (.ifCond .eq 7, 3) := dk_153 0 7 (dk_at dksX3_chainLength_0 12 rfl rfl)
theorem dX3_chainLength_15 : decode cX3_chainLength 15 = .ok (.iconst 2, 1) := dk_5 (dk_at dksX3_chainLength_0 15 rfl rfl)
theorem dX3_chainLength_16 : decode cX3_chainLength 16 = .ok (.goto 4, 3) := dk_167 0 4 (dk_at dksX3_chainLength_0 16 rfl rfl)
theorem dX3_chainLength_19 : decode cX3_chainLength 19 = .ok (.iconst 1, 1) := dk_4 (dk_at dksX3_chainLength_0 19 rfl rfl)
theorem dX3_chainLength_20 : decode cX3_chainLength 20 = .ok (.putfield 30, 3) := dk_181 0 30 (dk_at dksX3_chainLength_0 20 rfl rfl)
theorem dX3_chainLength_23 : decode cX3_chainLength 23 = .ok (.aload_n 0, 1) := dk_42 (dk_at dksX3_chainLength_0 23 rfl rfl)
theorem dX3_chainLength_24 : decode cX3_chainLength 24 = .ok (.getfield 30, 3) := dk_180 0 30 (dk_at dksX3_chainLength_1 0 rfl rfl)
theorem dX3_chainLength_27 : decode cX3_chainLength 27 = .ok (.iconst 1, 1) := dk_4 (dk_at dksX3_chainLength_1 3 rfl rfl)
theorem dX3_chainLength_28 : decode cX3_chainLength 28 = .ok (.if_icmp .ne 5, 3) := dk_160 0 5 (dk_at dksX3_chainLength_1 4 rfl rfl)
theorem dX3_chainLength_31 : decode cX3_chainLength 31 = .ok (.iconst 0, 1) := dk_3 (dk_at dksX3_chainLength_1 7 rfl rfl)
theorem dX3_chainLength_32 : decode cX3_chainLength 32 = .ok (.ireturn, 1) := dk_172 (dk_at dksX3_chainLength_1 8 rfl rfl)
theorem dX3_chainLength_33 : decode cX3_chainLength 33 = .ok (.iconst 1, 1) := dk_4 (dk_at dksX3_chainLength_1 9 rfl rfl)
theorem dX3_chainLength_34 : decode cX3_chainLength 34 = .ok (.iload_n 1, 1) := dk_27 (dk_at dksX3_chainLength_1 10 rfl rfl)
theorem dX3_chainLength_35 : decode cX3_chainLength 35 = .ok (.ishl, 1) := dk_120 (dk_at dksX3_chainLength_1 11 rfl rfl)
theorem dX3_chainLength_36 : decode cX3_chainLength 36 = .ok (.istore_n 3, 1) := dk_62 (dk_at dksX3_chainLength_1 12 rfl rfl)
theorem dX3_chainLength_37 : decode cX3_chainLength 37 = .ok (.iconst 1, 1) := dk_4 (dk_at dksX3_chainLength_1 13 rfl rfl)
theorem dX3_chainLength_38 : decode cX3_chainLength 38 = .ok (.istore 4, 2) := dk_54 4 (dk_at dksX3_chainLength_1 14 rfl rfl)
theorem dX3_chainLength_40 : decode cX3_chainLength 40 = .ok (.iload 4, 2) := dk_21 4 (dk_at dksX3_chainLength_1 16 rfl rfl)
theorem dX3_chainLength_42 : decode cX3_chainLength 42 = .ok (.bipush 8, 2) := dk_16 8 (dk_at dksX3_chainLength_1 18 rfl rfl)
theorem dX3_chainLength_44 : decode cX3_chainLength 44 = .ok (.if_icmp .gt 34, 3) := dk_163 0 34 (dk_at dksX3_chainLength_1 20 rfl rfl)
theorem dX3_chainLength_47 : decode cX3_chainLength 47 = .ok (.aload_n 0, 1) := dk_42 (dk_at dksX3_chainLength_1 23 rfl rfl)
theorem dX3_chainLength_48 : decode cX3_chainLength 48 = .ok (.iload_n 3, 1) := dk_29 (dk_at dksX3_chainLength_2 0 rfl rfl)
theorem dX3_chainLength_49 : decode cX3_chainLength 49 = .ok (.invokevirtual 146, 3) := dk_182 0 146 (dk_at dksX3_chainLength_2 1 rfl rfl)
theorem dX3_chainLength_52 : decode cX3_chainLength 52 = .ok (.istore_n 3, 1) := dk_62 (dk_at dksX3_chainLength_2 4 rfl rfl)
theorem dX3_chainLength_53 : decode cX3_chainLength 53 = .ok (.iload_n 3, 1) := dk_29 (dk_at dksX3_chainLength_2 5 rfl rfl)
theorem dX3_chainLength_54 : decode cX3_chainLength 54 = .ok (.iload_n 2, 1) := dk_28 (dk_at dksX3_chainLength_2 6 rfl rfl)
theorem dX3_chainLength_55 : decode cX3_chainLength 55 = .ok (.ishr, 1) := dk_122 (dk_at dksX3_chainLength_2 7 rfl rfl)
theorem dX3_chainLength_56 : decode cX3_chainLength 56 = .ok (.iconst 1, 1) := dk_4 (dk_at dksX3_chainLength_2 8 rfl rfl)
theorem dX3_chainLength_57 : decode cX3_chainLength 57 = .ok (.iand, 1) := dk_126 (dk_at dksX3_chainLength_2 9 rfl rfl)
theorem dX3_chainLength_58 : decode cX3_chainLength 58 = .ok (.ifCond .ne 6, 3) := dk_154 0 6 (dk_at dksX3_chainLength_2 10 rfl rfl)
theorem dX3_chainLength_61 : decode cX3_chainLength 61 = .ok (.goto 11, 3) := dk_167 0 11 (dk_at dksX3_chainLength_2 13 rfl rfl)
theorem dX3_chainLength_64 : decode cX3_chainLength 64 = .ok (.aload_n 0, 1) := dk_42 (dk_at dksX3_chainLength_2 16 rfl rfl)
theorem dX3_chainLength_65 : decode cX3_chainLength 65 = .ok (.iconst 0, 1) := dk_3 (dk_at dksX3_chainLength_2 17 rfl rfl)
theorem dX3_chainLength_66 : decode cX3_chainLength 66 = .ok (.putfield 30, 3) := dk_181 0 30 (dk_at dksX3_chainLength_2 18 rfl rfl)
theorem dX3_chainLength_69 : decode cX3_chainLength 69 = .ok (.iload 4, 2) := dk_21 4 (dk_at dksX3_chainLength_2 21 rfl rfl)
theorem dX3_chainLength_71 : decode cX3_chainLength 71 = .ok (.ireturn, 1) := dk_172 (dk_at dksX3_chainLength_2 23 rfl rfl)
theorem dX3_chainLength_72 : decode cX3_chainLength 72 = .ok (.iinc 4 1, 3) := dk_132 4 1 (dk_at dksX3_chainLength_3 0 rfl rfl)
theorem dX3_chainLength_75 : decode cX3_chainLength 75 = .ok (.goto (-35), 3) := dk_167 255 221 (dk_at dksX3_chainLength_3 3 rfl rfl)
theorem dX3_chainLength_78 : decode cX3_chainLength 78 = .ok (.iconst 0, 1) := dk_3 (dk_at dksX3_chainLength_3 6 rfl rfl)
theorem dX3_chainLength_79 : decode cX3_chainLength 79 = .ok (.ireturn, 1) := dk_172 (dk_at dksX3_chainLength_3 7 rfl rfl)
abbrev cX3_owedBySet : ByteArray := prog_9_method_70_code
def yX3_owedBySet : MethodName := ⟨RX3, "owedBySet", "(I)I"⟩
def dkwX3_owedBySet_2 : List UInt8 := [167, 255, 214, 28, 172]
abbrev dktX3_owedBySet_2 : List UInt8 := dkwX3_owedBySet_2 ++ []
def dkwX3_owedBySet_1 : List UInt8 := [126, 4, 160, 0, 14, 4, 42, 29, 5, 182, 0, 43, 120, 167, 0, 4, 3, 128, 61, 132, 3, 1]
abbrev dktX3_owedBySet_1 : List UInt8 := dkwX3_owedBySet_1 ++ dktX3_owedBySet_2
def dkwX3_owedBySet_0 : List UInt8 := [3, 61, 3, 62, 29, 42, 180, 0, 9, 5, 46, 162, 0, 38, 28, 27, 42, 29, 4, 182, 0, 43, 122, 4]
abbrev dktX3_owedBySet_0 : List UInt8 := dkwX3_owedBySet_0 ++ dktX3_owedBySet_1
theorem dksX3_owedBySet_0 : cX3_owedBySet.data.toList.drop 0 = dktX3_owedBySet_0 := by decide +kernel
theorem dksX3_owedBySet_1 : cX3_owedBySet.data.toList.drop 24 = dktX3_owedBySet_1 := dk_seg dksX3_owedBySet_0 24 rfl rfl
theorem dksX3_owedBySet_2 : cX3_owedBySet.data.toList.drop 46 = dktX3_owedBySet_2 := dk_seg dksX3_owedBySet_1 22 rfl rfl
theorem dX3_owedBySet_0 : decode cX3_owedBySet 0 = .ok (.iconst 0, 1) := dk_3 (dk_at dksX3_owedBySet_0 0 rfl rfl)
theorem dX3_owedBySet_1 : decode cX3_owedBySet 1 = .ok (.istore_n 2, 1) := dk_61 (dk_at dksX3_owedBySet_0 1 rfl rfl)
theorem dX3_owedBySet_2 : decode cX3_owedBySet 2 = .ok (.iconst 0, 1) := dk_3 (dk_at dksX3_owedBySet_0 2 rfl rfl)
theorem dX3_owedBySet_3 : decode cX3_owedBySet 3 = .ok (.istore_n 3, 1) := dk_62 (dk_at dksX3_owedBySet_0 3 rfl rfl)
theorem dX3_owedBySet_4 : decode cX3_owedBySet 4 = .ok (.iload_n 3, 1) := dk_29 (dk_at dksX3_owedBySet_0 4 rfl rfl)
theorem dX3_owedBySet_5 : decode cX3_owedBySet 5 = .ok (.aload_n 0, 1) := dk_42 (dk_at dksX3_owedBySet_0 5 rfl rfl)
theorem dX3_owedBySet_6 : decode cX3_owedBySet 6 = .ok (.getfield 9, 3) := dk_180 0 9 (dk_at dksX3_owedBySet_0 6 rfl rfl)
theorem dX3_owedBySet_9 : decode cX3_owedBySet 9 = .ok (.iconst 2, 1) := dk_5 (dk_at dksX3_owedBySet_0 9 rfl rfl)
theorem dX3_owedBySet_10 : decode cX3_owedBySet 10 = .ok (.iaload, 1) := dk_46 (dk_at dksX3_owedBySet_0 10 rfl rfl)
theorem dX3_owedBySet_11 : decode cX3_owedBySet 11 = .ok (.if_icmp .ge 38, 3) := dk_162 0 38 (dk_at dksX3_owedBySet_0 11 rfl rfl)
theorem dX3_owedBySet_14 : decode cX3_owedBySet 14 = .ok (.iload_n 2, 1) := dk_28 (dk_at dksX3_owedBySet_0 14 rfl rfl)
theorem dX3_owedBySet_15 : decode cX3_owedBySet 15 = .ok (.iload_n 1, 1) := dk_27 (dk_at dksX3_owedBySet_0 15 rfl rfl)
theorem dX3_owedBySet_16 : decode cX3_owedBySet 16 = .ok (.aload_n 0, 1) := dk_42 (dk_at dksX3_owedBySet_0 16 rfl rfl)
theorem dX3_owedBySet_17 : decode cX3_owedBySet 17 = .ok (.iload_n 3, 1) := dk_29 (dk_at dksX3_owedBySet_0 17 rfl rfl)
theorem dX3_owedBySet_18 : decode cX3_owedBySet 18 = .ok (.iconst 1, 1) := dk_4 (dk_at dksX3_owedBySet_0 18 rfl rfl)
theorem dX3_owedBySet_19 : decode cX3_owedBySet 19 = .ok (.invokevirtual 43, 3) := dk_182 0 43 (dk_at dksX3_owedBySet_0 19 rfl rfl)
theorem dX3_owedBySet_22 : decode cX3_owedBySet 22 = .ok (.ishr, 1) := dk_122 (dk_at dksX3_owedBySet_0 22 rfl rfl)
theorem dX3_owedBySet_23 : decode cX3_owedBySet 23 = .ok (.iconst 1, 1) := dk_4 (dk_at dksX3_owedBySet_0 23 rfl rfl)
theorem dX3_owedBySet_24 : decode cX3_owedBySet 24 = .ok (.iand, 1) := dk_126 (dk_at dksX3_owedBySet_1 0 rfl rfl)
theorem dX3_owedBySet_25 : decode cX3_owedBySet 25 = .ok (.iconst 1, 1) := dk_4 (dk_at dksX3_owedBySet_1 1 rfl rfl)
theorem dX3_owedBySet_26 : decode cX3_owedBySet 26 = .ok (.if_icmp .ne 14, 3) := dk_160 0 14 (dk_at dksX3_owedBySet_1 2 rfl rfl)
theorem dX3_owedBySet_29 : decode cX3_owedBySet 29 = .ok (.iconst 1, 1) := dk_4 (dk_at dksX3_owedBySet_1 5 rfl rfl)
theorem dX3_owedBySet_30 : decode cX3_owedBySet 30 = .ok (.aload_n 0, 1) := dk_42 (dk_at dksX3_owedBySet_1 6 rfl rfl)
theorem dX3_owedBySet_31 : decode cX3_owedBySet 31 = .ok (.iload_n 3, 1) := dk_29 (dk_at dksX3_owedBySet_1 7 rfl rfl)
theorem dX3_owedBySet_32 : decode cX3_owedBySet 32 = .ok (.iconst 2, 1) := dk_5 (dk_at dksX3_owedBySet_1 8 rfl rfl)
theorem dX3_owedBySet_33 : decode cX3_owedBySet 33 = .ok (.invokevirtual 43, 3) := dk_182 0 43 (dk_at dksX3_owedBySet_1 9 rfl rfl)
theorem dX3_owedBySet_36 : decode cX3_owedBySet 36 = .ok (.ishl, 1) := dk_120 (dk_at dksX3_owedBySet_1 12 rfl rfl)
theorem dX3_owedBySet_37 : decode cX3_owedBySet 37 = .ok (.goto 4, 3) := dk_167 0 4 (dk_at dksX3_owedBySet_1 13 rfl rfl)
theorem dX3_owedBySet_40 : decode cX3_owedBySet 40 = .ok (.iconst 0, 1) := dk_3 (dk_at dksX3_owedBySet_1 16 rfl rfl)
theorem dX3_owedBySet_41 : decode cX3_owedBySet 41 = .ok (.ior, 1) := dk_128 (dk_at dksX3_owedBySet_1 17 rfl rfl)
theorem dX3_owedBySet_42 : decode cX3_owedBySet 42 = .ok (.istore_n 2, 1) := dk_61 (dk_at dksX3_owedBySet_1 18 rfl rfl)
theorem dX3_owedBySet_43 : decode cX3_owedBySet 43 = .ok (.iinc 3 1, 3) := dk_132 3 1 (dk_at dksX3_owedBySet_1 19 rfl rfl)
theorem dX3_owedBySet_46 : decode cX3_owedBySet 46 = .ok (.goto (-42), 3) := dk_167 255 214 (dk_at dksX3_owedBySet_2 0 rfl rfl)
theorem dX3_owedBySet_49 : decode cX3_owedBySet 49 = .ok (.iload_n 2, 1) := dk_28 (dk_at dksX3_owedBySet_2 3 rfl rfl)
theorem dX3_owedBySet_50 : decode cX3_owedBySet 50 = .ok (.ireturn, 1) := dk_172 (dk_at dksX3_owedBySet_2 4 rfl rfl)
abbrev cX3_chainLengthByRounds : ByteArray := prog_9_method_72_code
def yX3_chainLengthByRounds : MethodName := ⟨RX3, "chainLengthByRounds", "(II)I"⟩
def dkwX3_chainLengthByRounds_0 : List UInt8 := [42, 27, 28, 182, 0, 149, 172]
abbrev dktX3_chainLengthByRounds_0 : List UInt8 := dkwX3_chainLengthByRounds_0 ++ []
theorem dksX3_chainLengthByRounds_0 : cX3_chainLengthByRounds.data.toList.drop 0 = dktX3_chainLengthByRounds_0 := by decide +kernel
theorem dX3_chainLengthByRounds_0 : decode cX3_chainLengthByRounds 0 = .ok (.aload_n 0, 1) := dk_42 (dk_at dksX3_chainLengthByRounds_0 0 rfl rfl)
theorem dX3_chainLengthByRounds_1 : decode cX3_chainLengthByRounds 1 = .ok (.iload_n 1, 1) := dk_27 (dk_at dksX3_chainLengthByRounds_0 1 rfl rfl)
theorem dX3_chainLengthByRounds_2 : decode cX3_chainLengthByRounds 2 = .ok (.iload_n 2, 1) := dk_28 (dk_at dksX3_chainLengthByRounds_0 2 rfl rfl)
theorem dX3_chainLengthByRounds_3 : decode cX3_chainLengthByRounds 3 = .ok (.invokevirtual 149, 3) := dk_182 0 149 (dk_at dksX3_chainLengthByRounds_0 3 rfl rfl)
theorem dX3_chainLengthByRounds_6 : decode cX3_chainLengthByRounds 6 = .ok (.ireturn, 1) := dk_172 (dk_at dksX3_chainLengthByRounds_0 6 rfl rfl)
abbrev cX3_reachableFrom : ByteArray := prog_9_method_74_code
def yX3_reachableFrom : MethodName := ⟨RX3, "reachableFrom", "(I)I"⟩
def dkwX3_reachableFrom_0 : List UInt8 := [42, 27, 184, 0, 59, 182, 0, 124, 153, 0, 11, 42, 27, 182, 0, 152, 167, 0, 4, 3, 172]
abbrev dktX3_reachableFrom_0 : List UInt8 := dkwX3_reachableFrom_0 ++ []
theorem dksX3_reachableFrom_0 : cX3_reachableFrom.data.toList.drop 0 = dktX3_reachableFrom_0 := by decide +kernel
theorem dX3_reachableFrom_0 : decode cX3_reachableFrom 0 = .ok (.aload_n 0, 1) := dk_42 (dk_at dksX3_reachableFrom_0 0 rfl rfl)
theorem dX3_reachableFrom_1 : decode cX3_reachableFrom 1 = .ok (.iload_n 1, 1) := dk_27 (dk_at dksX3_reachableFrom_0 1 rfl rfl)
theorem dX3_reachableFrom_2 : decode cX3_reachableFrom 2 = .ok (.invokestatic 59, 3) := dk_184 0 59 (dk_at dksX3_reachableFrom_0 2 rfl rfl)
theorem dX3_reachableFrom_5 : decode cX3_reachableFrom 5 = .ok (.invokevirtual 124, 3) := dk_182 0 124 (dk_at dksX3_reachableFrom_0 5 rfl rfl)
theorem dX3_reachableFrom_8 : decode cX3_reachableFrom 8 = .ok (.ifCond .eq 11, 3) := dk_153 0 11 (dk_at dksX3_reachableFrom_0 8 rfl rfl)
theorem dX3_reachableFrom_11 : decode cX3_reachableFrom 11 = .ok (.aload_n 0, 1) := dk_42 (dk_at dksX3_reachableFrom_0 11 rfl rfl)
theorem dX3_reachableFrom_12 : decode cX3_reachableFrom 12 = .ok (.iload_n 1, 1) := dk_27 (dk_at dksX3_reachableFrom_0 12 rfl rfl)
theorem dX3_reachableFrom_13 : decode cX3_reachableFrom 13 = .ok (.invokevirtual 152, 3) := dk_182 0 152 (dk_at dksX3_reachableFrom_0 13 rfl rfl)
theorem dX3_reachableFrom_16 : decode cX3_reachableFrom 16 = .ok (.goto 4, 3) := dk_167 0 4 (dk_at dksX3_reachableFrom_0 16 rfl rfl)
theorem dX3_reachableFrom_19 : decode cX3_reachableFrom 19 = .ok (.iconst 0, 1) := dk_3 (dk_at dksX3_reachableFrom_0 19 rfl rfl)
theorem dX3_reachableFrom_20 : decode cX3_reachableFrom 20 = .ok (.ireturn, 1) := dk_172 (dk_at dksX3_reachableFrom_0 20 rfl rfl)
abbrev cX3_reached : ByteArray := prog_9_method_73_code
def yX3_reached : MethodName := ⟨RX3, "reached", "(I)I"⟩
def dkwX3_reached_1 : List UInt8 := [128, 61, 132, 4, 1, 167, 255, 236, 28, 172]
abbrev dktX3_reached_1 : List UInt8 := dkwX3_reached_1 ++ []
def dkwX3_reached_0 : List UInt8 := [3, 61, 4, 27, 120, 62, 3, 54, 4, 21, 4, 16, 8, 162, 0, 19, 42, 29, 182, 0, 146, 62, 28, 29]
abbrev dktX3_reached_0 : List UInt8 := dkwX3_reached_0 ++ dktX3_reached_1
theorem dksX3_reached_0 : cX3_reached.data.toList.drop 0 = dktX3_reached_0 := by decide +kernel
theorem dksX3_reached_1 : cX3_reached.data.toList.drop 24 = dktX3_reached_1 := dk_seg dksX3_reached_0 24 rfl rfl
theorem dX3_reached_0 : decode cX3_reached 0 = .ok (.iconst 0, 1) := dk_3 (dk_at dksX3_reached_0 0 rfl rfl)
theorem dX3_reached_1 : decode cX3_reached 1 = .ok (.istore_n 2, 1) := dk_61 (dk_at dksX3_reached_0 1 rfl rfl)
theorem dX3_reached_2 : decode cX3_reached 2 = .ok (.iconst 1, 1) := dk_4 (dk_at dksX3_reached_0 2 rfl rfl)
theorem dX3_reached_3 : decode cX3_reached 3 = .ok (.iload_n 1, 1) := dk_27 (dk_at dksX3_reached_0 3 rfl rfl)
theorem dX3_reached_4 : decode cX3_reached 4 = .ok (.ishl, 1) := dk_120 (dk_at dksX3_reached_0 4 rfl rfl)
theorem dX3_reached_5 : decode cX3_reached 5 = .ok (.istore_n 3, 1) := dk_62 (dk_at dksX3_reached_0 5 rfl rfl)
theorem dX3_reached_6 : decode cX3_reached 6 = .ok (.iconst 0, 1) := dk_3 (dk_at dksX3_reached_0 6 rfl rfl)
theorem dX3_reached_7 : decode cX3_reached 7 = .ok (.istore 4, 2) := dk_54 4 (dk_at dksX3_reached_0 7 rfl rfl)
theorem dX3_reached_9 : decode cX3_reached 9 = .ok (.iload 4, 2) := dk_21 4 (dk_at dksX3_reached_0 9 rfl rfl)
theorem dX3_reached_11 : decode cX3_reached 11 = .ok (.bipush 8, 2) := dk_16 8 (dk_at dksX3_reached_0 11 rfl rfl)
theorem dX3_reached_13 : decode cX3_reached 13 = .ok (.if_icmp .ge 19, 3) := dk_162 0 19 (dk_at dksX3_reached_0 13 rfl rfl)
theorem dX3_reached_16 : decode cX3_reached 16 = .ok (.aload_n 0, 1) := dk_42 (dk_at dksX3_reached_0 16 rfl rfl)
theorem dX3_reached_17 : decode cX3_reached 17 = .ok (.iload_n 3, 1) := dk_29 (dk_at dksX3_reached_0 17 rfl rfl)
theorem dX3_reached_18 : decode cX3_reached 18 = .ok (.invokevirtual 146, 3) := dk_182 0 146 (dk_at dksX3_reached_0 18 rfl rfl)
theorem dX3_reached_21 : decode cX3_reached 21 = .ok (.istore_n 3, 1) := dk_62 (dk_at dksX3_reached_0 21 rfl rfl)
theorem dX3_reached_22 : decode cX3_reached 22 = .ok (.iload_n 2, 1) := dk_28 (dk_at dksX3_reached_0 22 rfl rfl)
theorem dX3_reached_23 : decode cX3_reached 23 = .ok (.iload_n 3, 1) := dk_29 (dk_at dksX3_reached_0 23 rfl rfl)
theorem dX3_reached_24 : decode cX3_reached 24 = .ok (.ior, 1) := dk_128 (dk_at dksX3_reached_1 0 rfl rfl)
theorem dX3_reached_25 : decode cX3_reached 25 = .ok (.istore_n 2, 1) := dk_61 (dk_at dksX3_reached_1 1 rfl rfl)
theorem dX3_reached_26 : decode cX3_reached 26 = .ok (.iinc 4 1, 3) := dk_132 4 1 (dk_at dksX3_reached_1 2 rfl rfl)
theorem dX3_reached_29 : decode cX3_reached 29 = .ok (.goto (-20), 3) := dk_167 255 236 (dk_at dksX3_reached_1 5 rfl rfl)
theorem dX3_reached_32 : decode cX3_reached 32 = .ok (.iload_n 2, 1) := dk_28 (dk_at dksX3_reached_1 8 rfl rfl)
theorem dX3_reached_33 : decode cX3_reached 33 = .ok (.ireturn, 1) := dk_172 (dk_at dksX3_reached_1 9 rfl rfl)
abbrev cX3_hasCycle : ByteArray := prog_9_method_75_code
def yX3_hasCycle : MethodName := ⟨RX3, "hasCycle", "()Z"⟩
def dkwX3_hasCycle_1 : List UInt8 := [126, 96, 60, 132, 2, 1, 167, 255, 235, 27, 158, 0, 7, 4, 167, 0, 4, 3, 172]
abbrev dktX3_hasCycle_1 : List UInt8 := dkwX3_hasCycle_1 ++ []
def dkwX3_hasCycle_0 : List UInt8 := [42, 3, 181, 0, 30, 3, 60, 3, 61, 28, 16, 8, 162, 0, 21, 27, 42, 28, 182, 0, 152, 28, 122, 4]
abbrev dktX3_hasCycle_0 : List UInt8 := dkwX3_hasCycle_0 ++ dktX3_hasCycle_1
theorem dksX3_hasCycle_0 : cX3_hasCycle.data.toList.drop 0 = dktX3_hasCycle_0 := by decide +kernel
theorem dksX3_hasCycle_1 : cX3_hasCycle.data.toList.drop 24 = dktX3_hasCycle_1 := dk_seg dksX3_hasCycle_0 24 rfl rfl
theorem dX3_hasCycle_0 : decode cX3_hasCycle 0 = .ok (.aload_n 0, 1) := dk_42 (dk_at dksX3_hasCycle_0 0 rfl rfl)
theorem dX3_hasCycle_1 : decode cX3_hasCycle 1 = .ok (.iconst 0, 1) := dk_3 (dk_at dksX3_hasCycle_0 1 rfl rfl)
theorem dX3_hasCycle_2 : decode cX3_hasCycle 2 = .ok (.putfield 30, 3) := dk_181 0 30 (dk_at dksX3_hasCycle_0 2 rfl rfl)
theorem dX3_hasCycle_5 : decode cX3_hasCycle 5 = .ok (.iconst 0, 1) := dk_3 (dk_at dksX3_hasCycle_0 5 rfl rfl)
theorem dX3_hasCycle_6 : decode cX3_hasCycle 6 = .ok (.istore_n 1, 1) := dk_60 (dk_at dksX3_hasCycle_0 6 rfl rfl)
theorem dX3_hasCycle_7 : decode cX3_hasCycle 7 = .ok (.iconst 0, 1) := dk_3 (dk_at dksX3_hasCycle_0 7 rfl rfl)
theorem dX3_hasCycle_8 : decode cX3_hasCycle 8 = .ok (.istore_n 2, 1) := dk_61 (dk_at dksX3_hasCycle_0 8 rfl rfl)
theorem dX3_hasCycle_9 : decode cX3_hasCycle 9 = .ok (.iload_n 2, 1) := dk_28 (dk_at dksX3_hasCycle_0 9 rfl rfl)
theorem dX3_hasCycle_10 : decode cX3_hasCycle 10 = .ok (.bipush 8, 2) := dk_16 8 (dk_at dksX3_hasCycle_0 10 rfl rfl)
theorem dX3_hasCycle_12 : decode cX3_hasCycle 12 = .ok (.if_icmp .ge 21, 3) := dk_162 0 21 (dk_at dksX3_hasCycle_0 12 rfl rfl)
theorem dX3_hasCycle_15 : decode cX3_hasCycle 15 = .ok (.iload_n 1, 1) := dk_27 (dk_at dksX3_hasCycle_0 15 rfl rfl)
theorem dX3_hasCycle_16 : decode cX3_hasCycle 16 = .ok (.aload_n 0, 1) := dk_42 (dk_at dksX3_hasCycle_0 16 rfl rfl)
theorem dX3_hasCycle_17 : decode cX3_hasCycle 17 = .ok (.iload_n 2, 1) := dk_28 (dk_at dksX3_hasCycle_0 17 rfl rfl)
theorem dX3_hasCycle_18 : decode cX3_hasCycle 18 = .ok (.invokevirtual 152, 3) := dk_182 0 152 (dk_at dksX3_hasCycle_0 18 rfl rfl)
theorem dX3_hasCycle_21 : decode cX3_hasCycle 21 = .ok (.iload_n 2, 1) := dk_28 (dk_at dksX3_hasCycle_0 21 rfl rfl)
theorem dX3_hasCycle_22 : decode cX3_hasCycle 22 = .ok (.ishr, 1) := dk_122 (dk_at dksX3_hasCycle_0 22 rfl rfl)
theorem dX3_hasCycle_23 : decode cX3_hasCycle 23 = .ok (.iconst 1, 1) := dk_4 (dk_at dksX3_hasCycle_0 23 rfl rfl)
theorem dX3_hasCycle_24 : decode cX3_hasCycle 24 = .ok (.iand, 1) := dk_126 (dk_at dksX3_hasCycle_1 0 rfl rfl)
theorem dX3_hasCycle_25 : decode cX3_hasCycle 25 = .ok (.iadd, 1) := dk_96 (dk_at dksX3_hasCycle_1 1 rfl rfl)
theorem dX3_hasCycle_26 : decode cX3_hasCycle 26 = .ok (.istore_n 1, 1) := dk_60 (dk_at dksX3_hasCycle_1 2 rfl rfl)
theorem dX3_hasCycle_27 : decode cX3_hasCycle 27 = .ok (.iinc 2 1, 3) := dk_132 2 1 (dk_at dksX3_hasCycle_1 3 rfl rfl)
theorem dX3_hasCycle_30 : decode cX3_hasCycle 30 = .ok (.goto (-21), 3) := dk_167 255 235 (dk_at dksX3_hasCycle_1 6 rfl rfl)
theorem dX3_hasCycle_33 : decode cX3_hasCycle 33 = .ok (.iload_n 1, 1) := dk_27 (dk_at dksX3_hasCycle_1 9 rfl rfl)
theorem dX3_hasCycle_34 : decode cX3_hasCycle 34 = .ok (.ifCond .le 7, 3) := dk_158 0 7 (dk_at dksX3_hasCycle_1 10 rfl rfl)
theorem dX3_hasCycle_37 : decode cX3_hasCycle 37 = .ok (.iconst 1, 1) := dk_4 (dk_at dksX3_hasCycle_1 13 rfl rfl)
theorem dX3_hasCycle_38 : decode cX3_hasCycle 38 = .ok (.goto 4, 3) := dk_167 0 4 (dk_at dksX3_hasCycle_1 14 rfl rfl)
theorem dX3_hasCycle_41 : decode cX3_hasCycle 41 = .ok (.iconst 0, 1) := dk_3 (dk_at dksX3_hasCycle_1 17 rfl rfl)
theorem dX3_hasCycle_42 : decode cX3_hasCycle 42 = .ok (.ireturn, 1) := dk_172 (dk_at dksX3_hasCycle_1 18 rfl rfl)
abbrev cX3_idByExpiry : ByteArray := prog_9_method_77_code
def yX3_idByExpiry : MethodName := ⟨RX3, "idByExpiry", "(I)I"⟩
def dkwX3_idByExpiry_2 : List UInt8 := [4, 181, 0, 30, 3, 172]
abbrev dktX3_idByExpiry_2 : List UInt8 := dkwX3_idByExpiry_2 ++ []
def dkwX3_idByExpiry_1 : List UInt8 := [167, 0, 4, 3, 182, 0, 124, 153, 0, 10, 42, 28, 3, 182, 0, 43, 172, 132, 2, 1, 167, 255, 215, 42]
abbrev dktX3_idByExpiry_1 : List UInt8 := dkwX3_idByExpiry_1 ++ dktX3_idByExpiry_2
def dkwX3_idByExpiry_0 : List UInt8 := [3, 61, 28, 42, 180, 0, 9, 5, 46, 162, 0, 37, 42, 42, 28, 182, 0, 155, 27, 160, 0, 7, 4]
abbrev dktX3_idByExpiry_0 : List UInt8 := dkwX3_idByExpiry_0 ++ dktX3_idByExpiry_1
theorem dksX3_idByExpiry_0 : cX3_idByExpiry.data.toList.drop 0 = dktX3_idByExpiry_0 := by decide +kernel
theorem dksX3_idByExpiry_1 : cX3_idByExpiry.data.toList.drop 23 = dktX3_idByExpiry_1 := dk_seg dksX3_idByExpiry_0 23 rfl rfl
theorem dksX3_idByExpiry_2 : cX3_idByExpiry.data.toList.drop 47 = dktX3_idByExpiry_2 := dk_seg dksX3_idByExpiry_1 24 rfl rfl
theorem dX3_idByExpiry_0 : decode cX3_idByExpiry 0 = .ok (.iconst 0, 1) := dk_3 (dk_at dksX3_idByExpiry_0 0 rfl rfl)
theorem dX3_idByExpiry_1 : decode cX3_idByExpiry 1 = .ok (.istore_n 2, 1) := dk_61 (dk_at dksX3_idByExpiry_0 1 rfl rfl)
theorem dX3_idByExpiry_2 : decode cX3_idByExpiry 2 = .ok (.iload_n 2, 1) := dk_28 (dk_at dksX3_idByExpiry_0 2 rfl rfl)
theorem dX3_idByExpiry_3 : decode cX3_idByExpiry 3 = .ok (.aload_n 0, 1) := dk_42 (dk_at dksX3_idByExpiry_0 3 rfl rfl)
theorem dX3_idByExpiry_4 : decode cX3_idByExpiry 4 = .ok (.getfield 9, 3) := dk_180 0 9 (dk_at dksX3_idByExpiry_0 4 rfl rfl)
theorem dX3_idByExpiry_7 : decode cX3_idByExpiry 7 = .ok (.iconst 2, 1) := dk_5 (dk_at dksX3_idByExpiry_0 7 rfl rfl)
theorem dX3_idByExpiry_8 : decode cX3_idByExpiry 8 = .ok (.iaload, 1) := dk_46 (dk_at dksX3_idByExpiry_0 8 rfl rfl)
theorem dX3_idByExpiry_9 : decode cX3_idByExpiry 9 = .ok (.if_icmp .ge 37, 3) := dk_162 0 37 (dk_at dksX3_idByExpiry_0 9 rfl rfl)
theorem dX3_idByExpiry_12 : decode cX3_idByExpiry 12 = .ok (.aload_n 0, 1) := dk_42 (dk_at dksX3_idByExpiry_0 12 rfl rfl)
theorem dX3_idByExpiry_13 : decode cX3_idByExpiry 13 = .ok (.aload_n 0, 1) := dk_42 (dk_at dksX3_idByExpiry_0 13 rfl rfl)
theorem dX3_idByExpiry_14 : decode cX3_idByExpiry 14 = .ok (.iload_n 2, 1) := dk_28 (dk_at dksX3_idByExpiry_0 14 rfl rfl)
theorem dX3_idByExpiry_15 : decode cX3_idByExpiry 15 = .ok (.invokevirtual 155, 3) := dk_182 0 155 (dk_at dksX3_idByExpiry_0 15 rfl rfl)
theorem dX3_idByExpiry_18 : decode cX3_idByExpiry 18 = .ok (.iload_n 1, 1) := dk_27 (dk_at dksX3_idByExpiry_0 18 rfl rfl)
theorem dX3_idByExpiry_19 : decode cX3_idByExpiry 19 = .ok (.if_icmp .ne 7, 3) := dk_160 0 7 (dk_at dksX3_idByExpiry_0 19 rfl rfl)
theorem dX3_idByExpiry_22 : decode cX3_idByExpiry 22 = .ok (.iconst 1, 1) := dk_4 (dk_at dksX3_idByExpiry_0 22 rfl rfl)
theorem dX3_idByExpiry_23 : decode cX3_idByExpiry 23 = .ok (.goto 4, 3) := dk_167 0 4 (dk_at dksX3_idByExpiry_1 0 rfl rfl)
theorem dX3_idByExpiry_26 : decode cX3_idByExpiry 26 = .ok (.iconst 0, 1) := dk_3 (dk_at dksX3_idByExpiry_1 3 rfl rfl)
theorem dX3_idByExpiry_27 : decode cX3_idByExpiry 27 = .ok (.invokevirtual 124, 3) := dk_182 0 124 (dk_at dksX3_idByExpiry_1 4 rfl rfl)
theorem dX3_idByExpiry_30 : decode cX3_idByExpiry 30 = .ok (.ifCond .eq 10, 3) := dk_153 0 10 (dk_at dksX3_idByExpiry_1 7 rfl rfl)
theorem dX3_idByExpiry_33 : decode cX3_idByExpiry 33 = .ok (.aload_n 0, 1) := dk_42 (dk_at dksX3_idByExpiry_1 10 rfl rfl)
theorem dX3_idByExpiry_34 : decode cX3_idByExpiry 34 = .ok (.iload_n 2, 1) := dk_28 (dk_at dksX3_idByExpiry_1 11 rfl rfl)
theorem dX3_idByExpiry_35 : decode cX3_idByExpiry 35 = .ok (.iconst 0, 1) := dk_3 (dk_at dksX3_idByExpiry_1 12 rfl rfl)
theorem dX3_idByExpiry_36 : decode cX3_idByExpiry 36 = .ok (.invokevirtual 43, 3) := dk_182 0 43 (dk_at dksX3_idByExpiry_1 13 rfl rfl)
theorem dX3_idByExpiry_39 : decode cX3_idByExpiry 39 = .ok (.ireturn, 1) := dk_172 (dk_at dksX3_idByExpiry_1 16 rfl rfl)
theorem dX3_idByExpiry_40 : decode cX3_idByExpiry 40 = .ok (.iinc 2 1, 3) := dk_132 2 1 (dk_at dksX3_idByExpiry_1 17 rfl rfl)
theorem dX3_idByExpiry_43 : decode cX3_idByExpiry 43 = .ok (.goto (-41), 3) := dk_167 255 215 (dk_at dksX3_idByExpiry_1 20 rfl rfl)
theorem dX3_idByExpiry_46 : decode cX3_idByExpiry 46 = .ok (.aload_n 0, 1) := dk_42 (dk_at dksX3_idByExpiry_1 23 rfl rfl)
theorem dX3_idByExpiry_47 : decode cX3_idByExpiry 47 = .ok (.iconst 1, 1) := dk_4 (dk_at dksX3_idByExpiry_2 0 rfl rfl)
theorem dX3_idByExpiry_48 : decode cX3_idByExpiry 48 = .ok (.putfield 30, 3) := dk_181 0 30 (dk_at dksX3_idByExpiry_2 1 rfl rfl)
theorem dX3_idByExpiry_51 : decode cX3_idByExpiry 51 = .ok (.iconst 0, 1) := dk_3 (dk_at dksX3_idByExpiry_2 4 rfl rfl)
theorem dX3_idByExpiry_52 : decode cX3_idByExpiry 52 = .ok (.ireturn, 1) := dk_172 (dk_at dksX3_idByExpiry_2 5 rfl rfl)
abbrev cX3_rankAt : ByteArray := prog_9_method_76_code
def yX3_rankAt : MethodName := ⟨RX3, "rankAt", "(I)I"⟩
def dkwX3_rankAt_3 : List UInt8 := [167, 0, 4, 3, 96, 61, 132, 3, 1, 167, 255, 180, 28, 172]
abbrev dktX3_rankAt_3 : List UInt8 := dkwX3_rankAt_3 ++ []
def dkwX3_rankAt_2 : List UInt8 := [157, 0, 23, 21, 4, 154, 0, 22, 21, 5, 157, 0, 13, 21, 5, 154, 0, 12, 29, 27, 162, 0, 7, 4]
abbrev dktX3_rankAt_2 : List UInt8 := dkwX3_rankAt_2 ++ dktX3_rankAt_3
def dkwX3_rankAt_1 : List UInt8 := [182, 0, 43, 100, 54, 4, 42, 29, 6, 182, 0, 43, 42, 27, 6, 182, 0, 43, 100, 54, 5, 28, 21, 4]
abbrev dktX3_rankAt_1 : List UInt8 := dkwX3_rankAt_1 ++ dktX3_rankAt_2
def dkwX3_rankAt_0 : List UInt8 := [3, 61, 3, 62, 29, 42, 180, 0, 9, 5, 46, 162, 0, 72, 42, 27, 7, 182, 0, 43, 42, 29, 7]
abbrev dktX3_rankAt_0 : List UInt8 := dkwX3_rankAt_0 ++ dktX3_rankAt_1
theorem dksX3_rankAt_0 : cX3_rankAt.data.toList.drop 0 = dktX3_rankAt_0 := by decide +kernel
theorem dksX3_rankAt_1 : cX3_rankAt.data.toList.drop 23 = dktX3_rankAt_1 := dk_seg dksX3_rankAt_0 23 rfl rfl
theorem dksX3_rankAt_2 : cX3_rankAt.data.toList.drop 47 = dktX3_rankAt_2 := dk_seg dksX3_rankAt_1 24 rfl rfl
theorem dksX3_rankAt_3 : cX3_rankAt.data.toList.drop 71 = dktX3_rankAt_3 := dk_seg dksX3_rankAt_2 24 rfl rfl
theorem dX3_rankAt_0 : decode cX3_rankAt 0 = .ok (.iconst 0, 1) := dk_3 (dk_at dksX3_rankAt_0 0 rfl rfl)
theorem dX3_rankAt_1 : decode cX3_rankAt 1 = .ok (.istore_n 2, 1) := dk_61 (dk_at dksX3_rankAt_0 1 rfl rfl)
theorem dX3_rankAt_2 : decode cX3_rankAt 2 = .ok (.iconst 0, 1) := dk_3 (dk_at dksX3_rankAt_0 2 rfl rfl)
theorem dX3_rankAt_3 : decode cX3_rankAt 3 = .ok (.istore_n 3, 1) := dk_62 (dk_at dksX3_rankAt_0 3 rfl rfl)
theorem dX3_rankAt_4 : decode cX3_rankAt 4 = .ok (.iload_n 3, 1) := dk_29 (dk_at dksX3_rankAt_0 4 rfl rfl)
theorem dX3_rankAt_5 : decode cX3_rankAt 5 = .ok (.aload_n 0, 1) := dk_42 (dk_at dksX3_rankAt_0 5 rfl rfl)
theorem dX3_rankAt_6 : decode cX3_rankAt 6 = .ok (.getfield 9, 3) := dk_180 0 9 (dk_at dksX3_rankAt_0 6 rfl rfl)
theorem dX3_rankAt_9 : decode cX3_rankAt 9 = .ok (.iconst 2, 1) := dk_5 (dk_at dksX3_rankAt_0 9 rfl rfl)
theorem dX3_rankAt_10 : decode cX3_rankAt 10 = .ok (.iaload, 1) := dk_46 (dk_at dksX3_rankAt_0 10 rfl rfl)
theorem dX3_rankAt_11 : decode cX3_rankAt 11 = .ok (.if_icmp .ge 72, 3) := dk_162 0 72 (dk_at dksX3_rankAt_0 11 rfl rfl)
theorem dX3_rankAt_14 : decode cX3_rankAt 14 = .ok (.aload_n 0, 1) := dk_42 (dk_at dksX3_rankAt_0 14 rfl rfl)
theorem dX3_rankAt_15 : decode cX3_rankAt 15 = .ok (.iload_n 1, 1) := dk_27 (dk_at dksX3_rankAt_0 15 rfl rfl)
theorem dX3_rankAt_16 : decode cX3_rankAt 16 = .ok (.iconst 4, 1) := dk_7 (dk_at dksX3_rankAt_0 16 rfl rfl)
theorem dX3_rankAt_17 : decode cX3_rankAt 17 = .ok (.invokevirtual 43, 3) := dk_182 0 43 (dk_at dksX3_rankAt_0 17 rfl rfl)
theorem dX3_rankAt_20 : decode cX3_rankAt 20 = .ok (.aload_n 0, 1) := dk_42 (dk_at dksX3_rankAt_0 20 rfl rfl)
theorem dX3_rankAt_21 : decode cX3_rankAt 21 = .ok (.iload_n 3, 1) := dk_29 (dk_at dksX3_rankAt_0 21 rfl rfl)
theorem dX3_rankAt_22 : decode cX3_rankAt 22 = .ok (.iconst 4, 1) := dk_7 (dk_at dksX3_rankAt_0 22 rfl rfl)
theorem dX3_rankAt_23 : decode cX3_rankAt 23 = .ok (.invokevirtual 43, 3) := dk_182 0 43 (dk_at dksX3_rankAt_1 0 rfl rfl)
theorem dX3_rankAt_26 : decode cX3_rankAt 26 = .ok (.isub, 1) := dk_100 (dk_at dksX3_rankAt_1 3 rfl rfl)
theorem dX3_rankAt_27 : decode cX3_rankAt 27 = .ok (.istore 4, 2) := dk_54 4 (dk_at dksX3_rankAt_1 4 rfl rfl)
theorem dX3_rankAt_29 : decode cX3_rankAt 29 = .ok (.aload_n 0, 1) := dk_42 (dk_at dksX3_rankAt_1 6 rfl rfl)
theorem dX3_rankAt_30 : decode cX3_rankAt 30 = .ok (.iload_n 3, 1) := dk_29 (dk_at dksX3_rankAt_1 7 rfl rfl)
theorem dX3_rankAt_31 : decode cX3_rankAt 31 = .ok (.iconst 3, 1) := dk_6 (dk_at dksX3_rankAt_1 8 rfl rfl)
theorem dX3_rankAt_32 : decode cX3_rankAt 32 = .ok (.invokevirtual 43, 3) := dk_182 0 43 (dk_at dksX3_rankAt_1 9 rfl rfl)
theorem dX3_rankAt_35 : decode cX3_rankAt 35 = .ok (.aload_n 0, 1) := dk_42 (dk_at dksX3_rankAt_1 12 rfl rfl)
theorem dX3_rankAt_36 : decode cX3_rankAt 36 = .ok (.iload_n 1, 1) := dk_27 (dk_at dksX3_rankAt_1 13 rfl rfl)
theorem dX3_rankAt_37 : decode cX3_rankAt 37 = .ok (.iconst 3, 1) := dk_6 (dk_at dksX3_rankAt_1 14 rfl rfl)
theorem dX3_rankAt_38 : decode cX3_rankAt 38 = .ok (.invokevirtual 43, 3) := dk_182 0 43 (dk_at dksX3_rankAt_1 15 rfl rfl)
theorem dX3_rankAt_41 : decode cX3_rankAt 41 = .ok (.isub, 1) := dk_100 (dk_at dksX3_rankAt_1 18 rfl rfl)
theorem dX3_rankAt_42 : decode cX3_rankAt 42 = .ok (.istore 5, 2) := dk_54 5 (dk_at dksX3_rankAt_1 19 rfl rfl)
theorem dX3_rankAt_44 : decode cX3_rankAt 44 = .ok (.iload_n 2, 1) := dk_28 (dk_at dksX3_rankAt_1 21 rfl rfl)
theorem dX3_rankAt_45 : decode cX3_rankAt 45 = .ok (.iload 4, 2) := dk_21 4 (dk_at dksX3_rankAt_1 22 rfl rfl)
theorem dX3_rankAt_47 : decode cX3_rankAt 47 = .ok (.ifCond .gt 23, 3) := dk_157 0 23 (dk_at dksX3_rankAt_2 0 rfl rfl)
theorem dX3_rankAt_50 : decode cX3_rankAt 50 = .ok (.iload 4, 2) := dk_21 4 (dk_at dksX3_rankAt_2 3 rfl rfl)
theorem dX3_rankAt_52 : decode cX3_rankAt 52 = .ok (.ifCond .ne 22, 3) := dk_154 0 22 (dk_at dksX3_rankAt_2 5 rfl rfl)
theorem dX3_rankAt_55 : decode cX3_rankAt 55 = .ok (.iload 5, 2) := dk_21 5 (dk_at dksX3_rankAt_2 8 rfl rfl)
theorem dX3_rankAt_57 : decode cX3_rankAt 57 = .ok (.ifCond .gt 13, 3) := dk_157 0 13 (dk_at dksX3_rankAt_2 10 rfl rfl)
theorem dX3_rankAt_60 : decode cX3_rankAt 60 = .ok (.iload 5, 2) := dk_21 5 (dk_at dksX3_rankAt_2 13 rfl rfl)
theorem dX3_rankAt_62 : decode cX3_rankAt 62 = .ok (.ifCond .ne 12, 3) := dk_154 0 12 (dk_at dksX3_rankAt_2 15 rfl rfl)
theorem dX3_rankAt_65 : decode cX3_rankAt 65 = .ok (.iload_n 3, 1) := dk_29 (dk_at dksX3_rankAt_2 18 rfl rfl)
theorem dX3_rankAt_66 : decode cX3_rankAt 66 = .ok (.iload_n 1, 1) := dk_27 (dk_at dksX3_rankAt_2 19 rfl rfl)
theorem dX3_rankAt_67 : decode cX3_rankAt 67 = .ok (.if_icmp .ge 7, 3) := dk_162 0 7 (dk_at dksX3_rankAt_2 20 rfl rfl)
theorem dX3_rankAt_70 : decode cX3_rankAt 70 = .ok (.iconst 1, 1) := dk_4 (dk_at dksX3_rankAt_2 23 rfl rfl)
theorem dX3_rankAt_71 : decode cX3_rankAt 71 = .ok (.goto 4, 3) := dk_167 0 4 (dk_at dksX3_rankAt_3 0 rfl rfl)
theorem dX3_rankAt_74 : decode cX3_rankAt 74 = .ok (.iconst 0, 1) := dk_3 (dk_at dksX3_rankAt_3 3 rfl rfl)
theorem dX3_rankAt_75 : decode cX3_rankAt 75 = .ok (.iadd, 1) := dk_96 (dk_at dksX3_rankAt_3 4 rfl rfl)
theorem dX3_rankAt_76 : decode cX3_rankAt 76 = .ok (.istore_n 2, 1) := dk_61 (dk_at dksX3_rankAt_3 5 rfl rfl)
theorem dX3_rankAt_77 : decode cX3_rankAt 77 = .ok (.iinc 3 1, 3) := dk_132 3 1 (dk_at dksX3_rankAt_3 6 rfl rfl)
theorem dX3_rankAt_80 : decode cX3_rankAt 80 = .ok (.goto (-76), 3) := dk_167 255 180 (dk_at dksX3_rankAt_3 9 rfl rfl)
theorem dX3_rankAt_83 : decode cX3_rankAt 83 = .ok (.iload_n 2, 1) := dk_28 (dk_at dksX3_rankAt_3 12 rfl rfl)
theorem dX3_rankAt_84 : decode cX3_rankAt 84 = .ok (.ireturn, 1) := dk_172 (dk_at dksX3_rankAt_3 13 rfl rfl)
abbrev cX3_expiryRank : ByteArray := prog_9_method_78_code
def yX3_expiryRank : MethodName := ⟨RX3, "expiryRank", "(I)I"⟩
def dkwX3_expiryRank_1 : List UInt8 := [182, 0, 155, 167, 0, 4, 3, 172]
abbrev dktX3_expiryRank_1 : List UInt8 := dkwX3_expiryRank_1 ++ []
def dkwX3_expiryRank_0 : List UInt8 := [42, 27, 182, 0, 76, 61, 42, 28, 155, 0, 7, 4, 167, 0, 4, 3, 182, 0, 124, 153, 0, 11, 42, 28]
abbrev dktX3_expiryRank_0 : List UInt8 := dkwX3_expiryRank_0 ++ dktX3_expiryRank_1
theorem dksX3_expiryRank_0 : cX3_expiryRank.data.toList.drop 0 = dktX3_expiryRank_0 := by decide +kernel
theorem dksX3_expiryRank_1 : cX3_expiryRank.data.toList.drop 24 = dktX3_expiryRank_1 := dk_seg dksX3_expiryRank_0 24 rfl rfl
theorem dX3_expiryRank_0 : decode cX3_expiryRank 0 = .ok (.aload_n 0, 1) := dk_42 (dk_at dksX3_expiryRank_0 0 rfl rfl)
theorem dX3_expiryRank_1 : decode cX3_expiryRank 1 = .ok (.iload_n 1, 1) := dk_27 (dk_at dksX3_expiryRank_0 1 rfl rfl)
theorem dX3_expiryRank_2 : decode cX3_expiryRank 2 = .ok (.invokevirtual 76, 3) := dk_182 0 76 (dk_at dksX3_expiryRank_0 2 rfl rfl)
theorem dX3_expiryRank_5 : decode cX3_expiryRank 5 = .ok (.istore_n 2, 1) := dk_61 (dk_at dksX3_expiryRank_0 5 rfl rfl)
theorem dX3_expiryRank_6 : decode cX3_expiryRank 6 = .ok (.aload_n 0, 1) := dk_42 (dk_at dksX3_expiryRank_0 6 rfl rfl)
theorem dX3_expiryRank_7 : decode cX3_expiryRank 7 = .ok (.iload_n 2, 1) := dk_28 (dk_at dksX3_expiryRank_0 7 rfl rfl)
theorem dX3_expiryRank_8 : decode cX3_expiryRank 8 = .ok (.ifCond .lt 7, 3) := dk_155 0 7 (dk_at dksX3_expiryRank_0 8 rfl rfl)
theorem dX3_expiryRank_11 : decode cX3_expiryRank 11 = .ok (.iconst 1, 1) := dk_4 (dk_at dksX3_expiryRank_0 11 rfl rfl)
theorem dX3_expiryRank_12 : decode cX3_expiryRank 12 = .ok (.goto 4, 3) := dk_167 0 4 (dk_at dksX3_expiryRank_0 12 rfl rfl)
theorem dX3_expiryRank_15 : decode cX3_expiryRank 15 = .ok (.iconst 0, 1) := dk_3 (dk_at dksX3_expiryRank_0 15 rfl rfl)
theorem dX3_expiryRank_16 : decode cX3_expiryRank 16 = .ok (.invokevirtual 124, 3) := dk_182 0 124 (dk_at dksX3_expiryRank_0 16 rfl rfl)
theorem dX3_expiryRank_19 : decode cX3_expiryRank 19 = .ok (.ifCond .eq 11, 3) := dk_153 0 11 (dk_at dksX3_expiryRank_0 19 rfl rfl)
theorem dX3_expiryRank_22 : decode cX3_expiryRank 22 = .ok (.aload_n 0, 1) := dk_42 (dk_at dksX3_expiryRank_0 22 rfl rfl)
theorem dX3_expiryRank_23 : decode cX3_expiryRank 23 = .ok (.iload_n 2, 1) := dk_28 (dk_at dksX3_expiryRank_0 23 rfl rfl)
theorem dX3_expiryRank_24 : decode cX3_expiryRank 24 = .ok (.invokevirtual 155, 3) := dk_182 0 155 (dk_at dksX3_expiryRank_1 0 rfl rfl)
theorem dX3_expiryRank_27 : decode cX3_expiryRank 27 = .ok (.goto 4, 3) := dk_167 0 4 (dk_at dksX3_expiryRank_1 3 rfl rfl)
theorem dX3_expiryRank_30 : decode cX3_expiryRank 30 = .ok (.iconst 0, 1) := dk_3 (dk_at dksX3_expiryRank_1 6 rfl rfl)
theorem dX3_expiryRank_31 : decode cX3_expiryRank 31 = .ok (.ireturn, 1) := dk_172 (dk_at dksX3_expiryRank_1 7 rfl rfl)
abbrev cX3_expiringWithin : ByteArray := prog_9_method_79_code
def yX3_expiringWithin : MethodName := ⟨RX3, "expiringWithin", "(I)I"⟩
def dkwX3_expiringWithin_2 : List UInt8 := [163, 0, 7, 4, 167, 0, 4, 3, 96, 61, 132, 3, 1, 167, 255, 218, 28, 172]
abbrev dktX3_expiringWithin_2 : List UInt8 := dkwX3_expiringWithin_2 ++ []
def dkwX3_expiringWithin_1 : List UInt8 := [180, 0, 9, 5, 46, 162, 0, 34, 28, 42, 29, 7, 182, 0, 43, 42, 180, 0, 9, 3, 46, 27, 96]
abbrev dktX3_expiringWithin_1 : List UInt8 := dkwX3_expiringWithin_1 ++ dktX3_expiringWithin_2
def dkwX3_expiringWithin_0 : List UInt8 := [42, 27, 3, 16, 50, 184, 0, 55, 182, 0, 124, 154, 0, 5, 3, 172, 3, 61, 3, 62, 29, 42]
abbrev dktX3_expiringWithin_0 : List UInt8 := dkwX3_expiringWithin_0 ++ dktX3_expiringWithin_1
theorem dksX3_expiringWithin_0 : cX3_expiringWithin.data.toList.drop 0 = dktX3_expiringWithin_0 := by decide +kernel
theorem dksX3_expiringWithin_1 : cX3_expiringWithin.data.toList.drop 22 = dktX3_expiringWithin_1 := dk_seg dksX3_expiringWithin_0 22 rfl rfl
theorem dksX3_expiringWithin_2 : cX3_expiringWithin.data.toList.drop 45 = dktX3_expiringWithin_2 := dk_seg dksX3_expiringWithin_1 23 rfl rfl
theorem dX3_expiringWithin_0 : decode cX3_expiringWithin 0 = .ok (.aload_n 0, 1) := dk_42 (dk_at dksX3_expiringWithin_0 0 rfl rfl)
theorem dX3_expiringWithin_1 : decode cX3_expiringWithin 1 = .ok (.iload_n 1, 1) := dk_27 (dk_at dksX3_expiringWithin_0 1 rfl rfl)
theorem dX3_expiringWithin_2 : decode cX3_expiringWithin 2 = .ok (.iconst 0, 1) := dk_3 (dk_at dksX3_expiringWithin_0 2 rfl rfl)
theorem dX3_expiringWithin_3 : decode cX3_expiringWithin 3 = .ok (.bipush 50, 2) := dk_16 50 (dk_at dksX3_expiringWithin_0 3 rfl rfl)
theorem dX3_expiringWithin_5 : decode cX3_expiringWithin 5 = .ok (.invokestatic 55, 3) := dk_184 0 55 (dk_at dksX3_expiringWithin_0 5 rfl rfl)
theorem dX3_expiringWithin_8 : decode cX3_expiringWithin 8 = .ok (.invokevirtual 124, 3) := dk_182 0 124 (dk_at dksX3_expiringWithin_0 8 rfl rfl)
theorem dX3_expiringWithin_11 : decode cX3_expiringWithin 11 = .ok (.ifCond .ne 5, 3) := dk_154 0 5 (dk_at dksX3_expiringWithin_0 11 rfl rfl)
theorem dX3_expiringWithin_14 : decode cX3_expiringWithin 14 = .ok (.iconst 0, 1) := dk_3 (dk_at dksX3_expiringWithin_0 14 rfl rfl)
theorem dX3_expiringWithin_15 : decode cX3_expiringWithin 15 = .ok (.ireturn, 1) := dk_172 (dk_at dksX3_expiringWithin_0 15 rfl rfl)
theorem dX3_expiringWithin_16 : decode cX3_expiringWithin 16 = .ok (.iconst 0, 1) := dk_3 (dk_at dksX3_expiringWithin_0 16 rfl rfl)
theorem dX3_expiringWithin_17 : decode cX3_expiringWithin 17 = .ok (.istore_n 2, 1) := dk_61 (dk_at dksX3_expiringWithin_0 17 rfl rfl)
theorem dX3_expiringWithin_18 : decode cX3_expiringWithin 18 = .ok (.iconst 0, 1) := dk_3 (dk_at dksX3_expiringWithin_0 18 rfl rfl)
theorem dX3_expiringWithin_19 : decode cX3_expiringWithin 19 = .ok (.istore_n 3, 1) := dk_62 (dk_at dksX3_expiringWithin_0 19 rfl rfl)
theorem dX3_expiringWithin_20 : decode cX3_expiringWithin 20 = .ok (.iload_n 3, 1) := dk_29 (dk_at dksX3_expiringWithin_0 20 rfl rfl)
theorem dX3_expiringWithin_21 : decode cX3_expiringWithin 21 = .ok (.aload_n 0, 1) := dk_42 (dk_at dksX3_expiringWithin_0 21 rfl rfl)
theorem dX3_expiringWithin_22 : decode cX3_expiringWithin 22 = .ok (.getfield 9, 3) := dk_180 0 9 (dk_at dksX3_expiringWithin_1 0 rfl rfl)
theorem dX3_expiringWithin_25 : decode cX3_expiringWithin 25 = .ok (.iconst 2, 1) := dk_5 (dk_at dksX3_expiringWithin_1 3 rfl rfl)
theorem dX3_expiringWithin_26 : decode cX3_expiringWithin 26 = .ok (.iaload, 1) := dk_46 (dk_at dksX3_expiringWithin_1 4 rfl rfl)
theorem dX3_expiringWithin_27 : decode cX3_expiringWithin 27 = .ok (.if_icmp .ge 34, 3) := dk_162 0 34 (dk_at dksX3_expiringWithin_1 5 rfl rfl)
theorem dX3_expiringWithin_30 : decode cX3_expiringWithin 30 = .ok (.iload_n 2, 1) := dk_28 (dk_at dksX3_expiringWithin_1 8 rfl rfl)
theorem dX3_expiringWithin_31 : decode cX3_expiringWithin 31 = .ok (.aload_n 0, 1) := dk_42 (dk_at dksX3_expiringWithin_1 9 rfl rfl)
theorem dX3_expiringWithin_32 : decode cX3_expiringWithin 32 = .ok (.iload_n 3, 1) := dk_29 (dk_at dksX3_expiringWithin_1 10 rfl rfl)
theorem dX3_expiringWithin_33 : decode cX3_expiringWithin 33 = .ok (.iconst 4, 1) := dk_7 (dk_at dksX3_expiringWithin_1 11 rfl rfl)
theorem dX3_expiringWithin_34 : decode cX3_expiringWithin 34 = .ok (.invokevirtual 43, 3) := dk_182 0 43 (dk_at dksX3_expiringWithin_1 12 rfl rfl)
theorem dX3_expiringWithin_37 : decode cX3_expiringWithin 37 = .ok (.aload_n 0, 1) := dk_42 (dk_at dksX3_expiringWithin_1 15 rfl rfl)
theorem dX3_expiringWithin_38 : decode cX3_expiringWithin 38 = .ok (.getfield 9, 3) := dk_180 0 9 (dk_at dksX3_expiringWithin_1 16 rfl rfl)
theorem dX3_expiringWithin_41 : decode cX3_expiringWithin 41 = .ok (.iconst 0, 1) := dk_3 (dk_at dksX3_expiringWithin_1 19 rfl rfl)
theorem dX3_expiringWithin_42 : decode cX3_expiringWithin 42 = .ok (.iaload, 1) := dk_46 (dk_at dksX3_expiringWithin_1 20 rfl rfl)
theorem dX3_expiringWithin_43 : decode cX3_expiringWithin 43 = .ok (.iload_n 1, 1) := dk_27 (dk_at dksX3_expiringWithin_1 21 rfl rfl)
theorem dX3_expiringWithin_44 : decode cX3_expiringWithin 44 = .ok (.iadd, 1) := dk_96 (dk_at dksX3_expiringWithin_1 22 rfl rfl)
theorem dX3_expiringWithin_45 : decode cX3_expiringWithin 45 = .ok (.if_icmp .gt 7, 3) := dk_163 0 7 (dk_at dksX3_expiringWithin_2 0 rfl rfl)
theorem dX3_expiringWithin_48 : decode cX3_expiringWithin 48 = .ok (.iconst 1, 1) := dk_4 (dk_at dksX3_expiringWithin_2 3 rfl rfl)
theorem dX3_expiringWithin_49 : decode cX3_expiringWithin 49 = .ok (.goto 4, 3) := dk_167 0 4 (dk_at dksX3_expiringWithin_2 4 rfl rfl)
theorem dX3_expiringWithin_52 : decode cX3_expiringWithin 52 = .ok (.iconst 0, 1) := dk_3 (dk_at dksX3_expiringWithin_2 7 rfl rfl)
theorem dX3_expiringWithin_53 : decode cX3_expiringWithin 53 = .ok (.iadd, 1) := dk_96 (dk_at dksX3_expiringWithin_2 8 rfl rfl)
theorem dX3_expiringWithin_54 : decode cX3_expiringWithin 54 = .ok (.istore_n 2, 1) := dk_61 (dk_at dksX3_expiringWithin_2 9 rfl rfl)
theorem dX3_expiringWithin_55 : decode cX3_expiringWithin 55 = .ok (.iinc 3 1, 3) := dk_132 3 1 (dk_at dksX3_expiringWithin_2 10 rfl rfl)
theorem dX3_expiringWithin_58 : decode cX3_expiringWithin 58 = .ok (.goto (-38), 3) := dk_167 255 218 (dk_at dksX3_expiringWithin_2 13 rfl rfl)
theorem dX3_expiringWithin_61 : decode cX3_expiringWithin 61 = .ok (.iload_n 2, 1) := dk_28 (dk_at dksX3_expiringWithin_2 16 rfl rfl)
theorem dX3_expiringWithin_62 : decode cX3_expiringWithin 62 = .ok (.ireturn, 1) := dk_172 (dk_at dksX3_expiringWithin_2 17 rfl rfl)
abbrev cX3_expiringBySimulation : ByteArray := prog_9_method_80_code
def yX3_expiringBySimulation : MethodName := ⟨RX3, "expiringBySimulation", "(I)I"⟩
def dkwX3_expiringBySimulation_2 : List UInt8 := [3, 182, 0, 33, 28, 172]
abbrev dktX3_expiringBySimulation_2 : List UInt8 := dkwX3_expiringBySimulation_2 ++ []
def dkwX3_expiringBySimulation_1 : List UInt8 := [61, 3, 62, 29, 27, 162, 0, 16, 28, 42, 182, 0, 108, 96, 61, 132, 3, 1, 167, 255, 241, 42, 16, 11]
abbrev dktX3_expiringBySimulation_1 : List UInt8 := dkwX3_expiringBySimulation_1 ++ dktX3_expiringBySimulation_2
def dkwX3_expiringBySimulation_0 : List UInt8 := [42, 27, 3, 16, 50, 184, 0, 55, 182, 0, 124, 154, 0, 5, 3, 172, 42, 3, 16, 11, 182, 0, 33, 3]
abbrev dktX3_expiringBySimulation_0 : List UInt8 := dkwX3_expiringBySimulation_0 ++ dktX3_expiringBySimulation_1
theorem dksX3_expiringBySimulation_0 : cX3_expiringBySimulation.data.toList.drop 0 = dktX3_expiringBySimulation_0 := by decide +kernel
theorem dksX3_expiringBySimulation_1 : cX3_expiringBySimulation.data.toList.drop 24 = dktX3_expiringBySimulation_1 := dk_seg dksX3_expiringBySimulation_0 24 rfl rfl
theorem dksX3_expiringBySimulation_2 : cX3_expiringBySimulation.data.toList.drop 48 = dktX3_expiringBySimulation_2 := dk_seg dksX3_expiringBySimulation_1 24 rfl rfl
theorem dX3_expiringBySimulation_0 : decode cX3_expiringBySimulation 0 = .ok (.aload_n 0, 1) := dk_42 (dk_at dksX3_expiringBySimulation_0 0 rfl rfl)
theorem dX3_expiringBySimulation_1 : decode cX3_expiringBySimulation 1 = .ok (.iload_n 1, 1) := dk_27 (dk_at dksX3_expiringBySimulation_0 1 rfl rfl)
theorem dX3_expiringBySimulation_2 : decode cX3_expiringBySimulation 2 = .ok (.iconst 0, 1) := dk_3 (dk_at dksX3_expiringBySimulation_0 2 rfl rfl)
theorem dX3_expiringBySimulation_3 : decode cX3_expiringBySimulation 3 = .ok (.bipush 50, 2) := dk_16 50 (dk_at dksX3_expiringBySimulation_0 3 rfl rfl)
theorem dX3_expiringBySimulation_5 : decode cX3_expiringBySimulation 5 = .ok (.invokestatic 55, 3) := dk_184 0 55 (dk_at dksX3_expiringBySimulation_0 5 rfl rfl)
theorem dX3_expiringBySimulation_8 : decode cX3_expiringBySimulation 8 = .ok (.invokevirtual 124, 3) := dk_182 0 124 (dk_at dksX3_expiringBySimulation_0 8 rfl rfl)
theorem dX3_expiringBySimulation_11 : decode cX3_expiringBySimulation 11 = .ok (.ifCond .ne 5, 3) := dk_154 0 5 (dk_at dksX3_expiringBySimulation_0 11 rfl rfl)
theorem dX3_expiringBySimulation_14 : decode cX3_expiringBySimulation 14 = .ok (.iconst 0, 1) := dk_3 (dk_at dksX3_expiringBySimulation_0 14 rfl rfl)
theorem dX3_expiringBySimulation_15 : decode cX3_expiringBySimulation 15 = .ok (.ireturn, 1) := dk_172 (dk_at dksX3_expiringBySimulation_0 15 rfl rfl)
theorem dX3_expiringBySimulation_16 : decode cX3_expiringBySimulation 16 = .ok (.aload_n 0, 1) := dk_42 (dk_at dksX3_expiringBySimulation_0 16 rfl rfl)
theorem dX3_expiringBySimulation_17 : decode cX3_expiringBySimulation 17 = .ok (.iconst 0, 1) := dk_3 (dk_at dksX3_expiringBySimulation_0 17 rfl rfl)
theorem dX3_expiringBySimulation_18 : decode cX3_expiringBySimulation 18 = .ok (.bipush 11, 2) := dk_16 11 (dk_at dksX3_expiringBySimulation_0 18 rfl rfl)
theorem dX3_expiringBySimulation_20 : decode cX3_expiringBySimulation 20 = .ok (.invokevirtual 33, 3) := dk_182 0 33 (dk_at dksX3_expiringBySimulation_0 20 rfl rfl)
theorem dX3_expiringBySimulation_23 : decode cX3_expiringBySimulation 23 = .ok (.iconst 0, 1) := dk_3 (dk_at dksX3_expiringBySimulation_0 23 rfl rfl)
theorem dX3_expiringBySimulation_24 : decode cX3_expiringBySimulation 24 = .ok (.istore_n 2, 1) := dk_61 (dk_at dksX3_expiringBySimulation_1 0 rfl rfl)
theorem dX3_expiringBySimulation_25 : decode cX3_expiringBySimulation 25 = .ok (.iconst 0, 1) := dk_3 (dk_at dksX3_expiringBySimulation_1 1 rfl rfl)
theorem dX3_expiringBySimulation_26 : decode cX3_expiringBySimulation 26 = .ok (.istore_n 3, 1) := dk_62 (dk_at dksX3_expiringBySimulation_1 2 rfl rfl)
theorem dX3_expiringBySimulation_27 : decode cX3_expiringBySimulation 27 = .ok (.iload_n 3, 1) := dk_29 (dk_at dksX3_expiringBySimulation_1 3 rfl rfl)
theorem dX3_expiringBySimulation_28 : decode cX3_expiringBySimulation 28 = .ok (.iload_n 1, 1) := dk_27 (dk_at dksX3_expiringBySimulation_1 4 rfl rfl)
theorem dX3_expiringBySimulation_29 : decode cX3_expiringBySimulation 29 = .ok (.if_icmp .ge 16, 3) := dk_162 0 16 (dk_at dksX3_expiringBySimulation_1 5 rfl rfl)
theorem dX3_expiringBySimulation_32 : decode cX3_expiringBySimulation 32 = .ok (.iload_n 2, 1) := dk_28 (dk_at dksX3_expiringBySimulation_1 8 rfl rfl)
theorem dX3_expiringBySimulation_33 : decode cX3_expiringBySimulation 33 = .ok (.aload_n 0, 1) := dk_42 (dk_at dksX3_expiringBySimulation_1 9 rfl rfl)
theorem dX3_expiringBySimulation_34 : decode cX3_expiringBySimulation 34 = .ok (.invokevirtual 108, 3) := dk_182 0 108 (dk_at dksX3_expiringBySimulation_1 10 rfl rfl)
theorem dX3_expiringBySimulation_37 : decode cX3_expiringBySimulation 37 = .ok (.iadd, 1) := dk_96 (dk_at dksX3_expiringBySimulation_1 13 rfl rfl)
theorem dX3_expiringBySimulation_38 : decode cX3_expiringBySimulation 38 = .ok (.istore_n 2, 1) := dk_61 (dk_at dksX3_expiringBySimulation_1 14 rfl rfl)
theorem dX3_expiringBySimulation_39 : decode cX3_expiringBySimulation 39 = .ok (.iinc 3 1, 3) := dk_132 3 1 (dk_at dksX3_expiringBySimulation_1 15 rfl rfl)
theorem dX3_expiringBySimulation_42 : decode cX3_expiringBySimulation 42 = .ok (.goto (-15), 3) := dk_167 255 241 (dk_at dksX3_expiringBySimulation_1 18 rfl rfl)
theorem dX3_expiringBySimulation_45 : decode cX3_expiringBySimulation 45 = .ok (.aload_n 0, 1) := dk_42 (dk_at dksX3_expiringBySimulation_1 21 rfl rfl)
theorem dX3_expiringBySimulation_46 : decode cX3_expiringBySimulation 46 = .ok (.bipush 11, 2) := dk_16 11 (dk_at dksX3_expiringBySimulation_1 22 rfl rfl)
theorem dX3_expiringBySimulation_48 : decode cX3_expiringBySimulation 48 = .ok (.iconst 0, 1) := dk_3 (dk_at dksX3_expiringBySimulation_2 0 rfl rfl)
theorem dX3_expiringBySimulation_49 : decode cX3_expiringBySimulation 49 = .ok (.invokevirtual 33, 3) := dk_182 0 33 (dk_at dksX3_expiringBySimulation_2 1 rfl rfl)
theorem dX3_expiringBySimulation_52 : decode cX3_expiringBySimulation 52 = .ok (.iload_n 2, 1) := dk_28 (dk_at dksX3_expiringBySimulation_2 4 rfl rfl)
theorem dX3_expiringBySimulation_53 : decode cX3_expiringBySimulation 53 = .ok (.ireturn, 1) := dk_172 (dk_at dksX3_expiringBySimulation_2 5 rfl rfl)
abbrev cX3_weightAfter : ByteArray := prog_9_method_81_code
def yX3_weightAfter : MethodName := ⟨RX3, "weightAfter", "(II)I"⟩
def dkwX3_weightAfter_4 : List UInt8 := [184, 0, 102, 54, 4, 132, 5, 1, 167, 255, 209, 21, 4, 172]
abbrev dktX3_weightAfter_4 : List UInt8 := dkwX3_weightAfter_4 ++ []
def dkwX3_weightAfter_3 : List UInt8 := [21, 4, 42, 180, 0, 9, 16, 10, 42, 42, 180, 0, 9, 3, 46, 21, 5, 96, 182, 0, 99, 96, 46]
abbrev dktX3_weightAfter_3 : List UInt8 := dkwX3_weightAfter_3 ++ dktX3_weightAfter_4
def dkwX3_weightAfter_2 : List UInt8 := [182, 0, 43, 54, 4, 4, 54, 5, 42, 29, 16, 6, 182, 0, 43, 154, 0, 43, 21, 5, 28, 163, 0, 37]
abbrev dktX3_weightAfter_2 : List UInt8 := dkwX3_weightAfter_2 ++ dktX3_weightAfter_3
def dkwX3_weightAfter_1 : List UInt8 := [153, 0, 7, 3, 167, 0, 4, 5, 181, 0, 30, 42, 180, 0, 30, 153, 0, 5, 3, 172, 42, 29, 6]
abbrev dktX3_weightAfter_1 : List UInt8 := dkwX3_weightAfter_1 ++ dktX3_weightAfter_2
def dkwX3_weightAfter_0 : List UInt8 := [42, 27, 182, 0, 76, 62, 42, 29, 156, 0, 7, 4, 167, 0, 18, 28, 3, 16, 50, 184, 0, 55]
abbrev dktX3_weightAfter_0 : List UInt8 := dkwX3_weightAfter_0 ++ dktX3_weightAfter_1
theorem dksX3_weightAfter_0 : cX3_weightAfter.data.toList.drop 0 = dktX3_weightAfter_0 := by decide +kernel
theorem dksX3_weightAfter_1 : cX3_weightAfter.data.toList.drop 22 = dktX3_weightAfter_1 := dk_seg dksX3_weightAfter_0 22 rfl rfl
theorem dksX3_weightAfter_2 : cX3_weightAfter.data.toList.drop 45 = dktX3_weightAfter_2 := dk_seg dksX3_weightAfter_1 23 rfl rfl
theorem dksX3_weightAfter_3 : cX3_weightAfter.data.toList.drop 69 = dktX3_weightAfter_3 := dk_seg dksX3_weightAfter_2 24 rfl rfl
theorem dksX3_weightAfter_4 : cX3_weightAfter.data.toList.drop 92 = dktX3_weightAfter_4 := dk_seg dksX3_weightAfter_3 23 rfl rfl
theorem dX3_weightAfter_0 : decode cX3_weightAfter 0 = .ok (.aload_n 0, 1) := dk_42 (dk_at dksX3_weightAfter_0 0 rfl rfl)
theorem dX3_weightAfter_1 : decode cX3_weightAfter 1 = .ok (.iload_n 1, 1) := dk_27 (dk_at dksX3_weightAfter_0 1 rfl rfl)
theorem dX3_weightAfter_2 : decode cX3_weightAfter 2 = .ok (.invokevirtual 76, 3) := dk_182 0 76 (dk_at dksX3_weightAfter_0 2 rfl rfl)
theorem dX3_weightAfter_5 : decode cX3_weightAfter 5 = .ok (.istore_n 3, 1) := dk_62 (dk_at dksX3_weightAfter_0 5 rfl rfl)
theorem dX3_weightAfter_6 : decode cX3_weightAfter 6 = .ok (.aload_n 0, 1) := dk_42 (dk_at dksX3_weightAfter_0 6 rfl rfl)
theorem dX3_weightAfter_7 : decode cX3_weightAfter 7 = .ok (.iload_n 3, 1) := dk_29 (dk_at dksX3_weightAfter_0 7 rfl rfl)
theorem dX3_weightAfter_8 : decode cX3_weightAfter 8 = .ok (.ifCond .ge 7, 3) := dk_156 0 7 (dk_at dksX3_weightAfter_0 8 rfl rfl)
theorem dX3_weightAfter_11 : decode cX3_weightAfter 11 = .ok (.iconst 1, 1) := dk_4 (dk_at dksX3_weightAfter_0 11 rfl rfl)
theorem dX3_weightAfter_12 : decode cX3_weightAfter 12 = .ok (.goto 18, 3) := dk_167 0 18 (dk_at dksX3_weightAfter_0 12 rfl rfl)
theorem dX3_weightAfter_15 : decode cX3_weightAfter 15 = .ok (.iload_n 2, 1) := dk_28 (dk_at dksX3_weightAfter_0 15 rfl rfl)
theorem dX3_weightAfter_16 : decode cX3_weightAfter 16 = .ok (.iconst 0, 1) := dk_3 (dk_at dksX3_weightAfter_0 16 rfl rfl)
theorem dX3_weightAfter_17 : decode cX3_weightAfter 17 = .ok (.bipush 50, 2) := dk_16 50 (dk_at dksX3_weightAfter_0 17 rfl rfl)
theorem dX3_weightAfter_19 : decode cX3_weightAfter 19 = .ok (.invokestatic 55, 3) := dk_184 0 55 (dk_at dksX3_weightAfter_0 19 rfl rfl)
theorem dX3_weightAfter_22 : decode cX3_weightAfter 22 = .ok (.ifCond .eq 7, 3) := dk_153 0 7 (dk_at dksX3_weightAfter_1 0 rfl rfl)
theorem dX3_weightAfter_25 : decode cX3_weightAfter 25 = .ok (.iconst 0, 1) := dk_3 (dk_at dksX3_weightAfter_1 3 rfl rfl)
theorem dX3_weightAfter_26 : decode cX3_weightAfter 26 = .ok (.goto 4, 3) := dk_167 0 4 (dk_at dksX3_weightAfter_1 4 rfl rfl)
theorem dX3_weightAfter_29 : decode cX3_weightAfter 29 = .ok (.iconst 2, 1) := dk_5 (dk_at dksX3_weightAfter_1 7 rfl rfl)
theorem dX3_weightAfter_30 : decode cX3_weightAfter 30 = .ok (.putfield 30, 3) := dk_181 0 30 (dk_at dksX3_weightAfter_1 8 rfl rfl)
theorem dX3_weightAfter_33 : decode cX3_weightAfter 33 = .ok (.aload_n 0, 1) := dk_42 (dk_at dksX3_weightAfter_1 11 rfl rfl)
theorem dX3_weightAfter_34 : decode cX3_weightAfter 34 = .ok (.getfield 30, 3) := dk_180 0 30 (dk_at dksX3_weightAfter_1 12 rfl rfl)
theorem dX3_weightAfter_37 : decode cX3_weightAfter 37 = .ok (.ifCond .eq 5, 3) := dk_153 0 5 (dk_at dksX3_weightAfter_1 15 rfl rfl)
theorem dX3_weightAfter_40 : decode cX3_weightAfter 40 = .ok (.iconst 0, 1) := dk_3 (dk_at dksX3_weightAfter_1 18 rfl rfl)
theorem dX3_weightAfter_41 : decode cX3_weightAfter 41 = .ok (.ireturn, 1) := dk_172 (dk_at dksX3_weightAfter_1 19 rfl rfl)
theorem dX3_weightAfter_42 : decode cX3_weightAfter 42 = .ok (.aload_n 0, 1) := dk_42 (dk_at dksX3_weightAfter_1 20 rfl rfl)
theorem dX3_weightAfter_43 : decode cX3_weightAfter 43 = .ok (.iload_n 3, 1) := dk_29 (dk_at dksX3_weightAfter_1 21 rfl rfl)
theorem dX3_weightAfter_44 : decode cX3_weightAfter 44 = .ok (.iconst 3, 1) := dk_6 (dk_at dksX3_weightAfter_1 22 rfl rfl)
theorem dX3_weightAfter_45 : decode cX3_weightAfter 45 = .ok (.invokevirtual 43, 3) := dk_182 0 43 (dk_at dksX3_weightAfter_2 0 rfl rfl)
theorem dX3_weightAfter_48 : decode cX3_weightAfter 48 = .ok (.istore 4, 2) := dk_54 4 (dk_at dksX3_weightAfter_2 3 rfl rfl)
theorem dX3_weightAfter_50 : decode cX3_weightAfter 50 = .ok (.iconst 1, 1) := dk_4 (dk_at dksX3_weightAfter_2 5 rfl rfl)
theorem dX3_weightAfter_51 : decode cX3_weightAfter 51 = .ok (.istore 5, 2) := dk_54 5 (dk_at dksX3_weightAfter_2 6 rfl rfl)
theorem dX3_weightAfter_53 : decode cX3_weightAfter 53 = .ok (.aload_n 0, 1) := dk_42 (dk_at dksX3_weightAfter_2 8 rfl rfl)
theorem dX3_weightAfter_54 : decode cX3_weightAfter 54 = .ok (.iload_n 3, 1) := dk_29 (dk_at dksX3_weightAfter_2 9 rfl rfl)
theorem dX3_weightAfter_55 : decode cX3_weightAfter 55 = .ok (.bipush 6, 2) := dk_16 6 (dk_at dksX3_weightAfter_2 10 rfl rfl)
theorem dX3_weightAfter_57 : decode cX3_weightAfter 57 = .ok (.invokevirtual 43, 3) := dk_182 0 43 (dk_at dksX3_weightAfter_2 12 rfl rfl)
theorem dX3_weightAfter_60 : decode cX3_weightAfter 60 = .ok (.ifCond .ne 43, 3) := dk_154 0 43 (dk_at dksX3_weightAfter_2 15 rfl rfl)
theorem dX3_weightAfter_63 : decode cX3_weightAfter 63 = .ok (.iload 5, 2) := dk_21 5 (dk_at dksX3_weightAfter_2 18 rfl rfl)
theorem dX3_weightAfter_65 : decode cX3_weightAfter 65 = .ok (.iload_n 2, 1) := dk_28 (dk_at dksX3_weightAfter_2 20 rfl rfl)
theorem dX3_weightAfter_66 : decode cX3_weightAfter 66 = .ok (.if_icmp .gt 37, 3) := dk_163 0 37 (dk_at dksX3_weightAfter_2 21 rfl rfl)
theorem dX3_weightAfter_69 : decode cX3_weightAfter 69 = .ok (.iload 4, 2) := dk_21 4 (dk_at dksX3_weightAfter_3 0 rfl rfl)
theorem dX3_weightAfter_71 : decode cX3_weightAfter 71 = .ok (.aload_n 0, 1) := dk_42 (dk_at dksX3_weightAfter_3 2 rfl rfl)
theorem dX3_weightAfter_72 : decode cX3_weightAfter 72 = .ok (.getfield 9, 3) := dk_180 0 9 (dk_at dksX3_weightAfter_3 3 rfl rfl)
theorem dX3_weightAfter_75 : decode cX3_weightAfter 75 = .ok (.bipush 10, 2) := dk_16 10 (dk_at dksX3_weightAfter_3 6 rfl rfl)
theorem dX3_weightAfter_77 : decode cX3_weightAfter 77 = .ok (.aload_n 0, 1) := dk_42 (dk_at dksX3_weightAfter_3 8 rfl rfl)
theorem dX3_weightAfter_78 : decode cX3_weightAfter 78 = .ok (.aload_n 0, 1) := dk_42 (dk_at dksX3_weightAfter_3 9 rfl rfl)
theorem dX3_weightAfter_79 : decode cX3_weightAfter 79 = .ok (.getfield 9, 3) := dk_180 0 9 (dk_at dksX3_weightAfter_3 10 rfl rfl)
theorem dX3_weightAfter_82 : decode cX3_weightAfter 82 = .ok (.iconst 0, 1) := dk_3 (dk_at dksX3_weightAfter_3 13 rfl rfl)
theorem dX3_weightAfter_83 : decode cX3_weightAfter 83 = .ok (.iaload, 1) := dk_46 (dk_at dksX3_weightAfter_3 14 rfl rfl)
theorem dX3_weightAfter_84 : decode cX3_weightAfter 84 = .ok (.iload 5, 2) := dk_21 5 (dk_at dksX3_weightAfter_3 15 rfl rfl)
theorem dX3_weightAfter_86 : decode cX3_weightAfter 86 = .ok (.iadd, 1) := dk_96 (dk_at dksX3_weightAfter_3 17 rfl rfl)
theorem dX3_weightAfter_87 : decode cX3_weightAfter 87 = .ok (.invokevirtual 99, 3) := dk_182 0 99 (dk_at dksX3_weightAfter_3 18 rfl rfl)
theorem dX3_weightAfter_90 : decode cX3_weightAfter 90 = .ok (.iadd, 1) := dk_96 (dk_at dksX3_weightAfter_3 21 rfl rfl)
theorem dX3_weightAfter_91 : decode cX3_weightAfter 91 = .ok (.iaload, 1) := dk_46 (dk_at dksX3_weightAfter_3 22 rfl rfl)
theorem dX3_weightAfter_92 : decode cX3_weightAfter 92 = .ok (.invokestatic 102, 3) := dk_184 0 102 (dk_at dksX3_weightAfter_4 0 rfl rfl)
theorem dX3_weightAfter_95 : decode cX3_weightAfter 95 = .ok (.istore 4, 2) := dk_54 4 (dk_at dksX3_weightAfter_4 3 rfl rfl)
theorem dX3_weightAfter_97 : decode cX3_weightAfter 97 = .ok (.iinc 5 1, 3) := dk_132 5 1 (dk_at dksX3_weightAfter_4 5 rfl rfl)
theorem dX3_weightAfter_100 : decode cX3_weightAfter 100 = .ok (.goto (-47), 3) := dk_167 255 209 (dk_at dksX3_weightAfter_4 8 rfl rfl)
theorem dX3_weightAfter_103 : decode cX3_weightAfter 103 = .ok (.iload 4, 2) := dk_21 4 (dk_at dksX3_weightAfter_4 11 rfl rfl)
theorem dX3_weightAfter_105 : decode cX3_weightAfter 105 = .ok (.ireturn, 1) := dk_172 (dk_at dksX3_weightAfter_4 13 rfl rfl)
abbrev cX3_canSign : ByteArray := prog_9_method_82_code
def yX3_canSign : MethodName := ⟨RX3, "canSign", "(II)Z"⟩
def dkwX3_canSign_2 : List UInt8 := [4, 167, 0, 4, 3, 172]
abbrev dktX3_canSign_2 : List UInt8 := dkwX3_canSign_2 ++ []
def dkwX3_canSign_1 : List UInt8 := [3, 167, 0, 4, 5, 181, 0, 30, 42, 180, 0, 30, 154, 0, 16, 42, 29, 28, 182, 0, 79, 153, 0, 7]
abbrev dktX3_canSign_1 : List UInt8 := dkwX3_canSign_1 ++ dktX3_canSign_2
def dkwX3_canSign_0 : List UInt8 := [42, 27, 182, 0, 76, 62, 42, 29, 156, 0, 7, 4, 167, 0, 17, 28, 3, 6, 184, 0, 55, 153, 0, 7]
abbrev dktX3_canSign_0 : List UInt8 := dkwX3_canSign_0 ++ dktX3_canSign_1
theorem dksX3_canSign_0 : cX3_canSign.data.toList.drop 0 = dktX3_canSign_0 := by decide +kernel
theorem dksX3_canSign_1 : cX3_canSign.data.toList.drop 24 = dktX3_canSign_1 := dk_seg dksX3_canSign_0 24 rfl rfl
theorem dksX3_canSign_2 : cX3_canSign.data.toList.drop 48 = dktX3_canSign_2 := dk_seg dksX3_canSign_1 24 rfl rfl
theorem dX3_canSign_0 : decode cX3_canSign 0 = .ok (.aload_n 0, 1) := dk_42 (dk_at dksX3_canSign_0 0 rfl rfl)
theorem dX3_canSign_1 : decode cX3_canSign 1 = .ok (.iload_n 1, 1) := dk_27 (dk_at dksX3_canSign_0 1 rfl rfl)
theorem dX3_canSign_2 : decode cX3_canSign 2 = .ok (.invokevirtual 76, 3) := dk_182 0 76 (dk_at dksX3_canSign_0 2 rfl rfl)
theorem dX3_canSign_5 : decode cX3_canSign 5 = .ok (.istore_n 3, 1) := dk_62 (dk_at dksX3_canSign_0 5 rfl rfl)
theorem dX3_canSign_6 : decode cX3_canSign 6 = .ok (.aload_n 0, 1) := dk_42 (dk_at dksX3_canSign_0 6 rfl rfl)
theorem dX3_canSign_7 : decode cX3_canSign 7 = .ok (.iload_n 3, 1) := dk_29 (dk_at dksX3_canSign_0 7 rfl rfl)
theorem dX3_canSign_8 : decode cX3_canSign 8 = .ok (.ifCond .ge 7, 3) := dk_156 0 7 (dk_at dksX3_canSign_0 8 rfl rfl)
theorem dX3_canSign_11 : decode cX3_canSign 11 = .ok (.iconst 1, 1) := dk_4 (dk_at dksX3_canSign_0 11 rfl rfl)
theorem dX3_canSign_12 : decode cX3_canSign 12 = .ok (.goto 17, 3) := dk_167 0 17 (dk_at dksX3_canSign_0 12 rfl rfl)
theorem dX3_canSign_15 : decode cX3_canSign 15 = .ok (.iload_n 2, 1) := dk_28 (dk_at dksX3_canSign_0 15 rfl rfl)
theorem dX3_canSign_16 : decode cX3_canSign 16 = .ok (.iconst 0, 1) := dk_3 (dk_at dksX3_canSign_0 16 rfl rfl)
theorem dX3_canSign_17 : decode cX3_canSign 17 = .ok (.iconst 3, 1) := dk_6 (dk_at dksX3_canSign_0 17 rfl rfl)
theorem dX3_canSign_18 : decode cX3_canSign 18 = .ok (.invokestatic 55, 3) := dk_184 0 55 (dk_at dksX3_canSign_0 18 rfl rfl)
theorem dX3_canSign_21 : decode cX3_canSign 21 = .ok (.ifCond .eq 7, 3) := dk_153 0 7 (dk_at dksX3_canSign_0 21 rfl rfl)
theorem dX3_canSign_24 : decode cX3_canSign 24 = .ok (.iconst 0, 1) := dk_3 (dk_at dksX3_canSign_1 0 rfl rfl)
theorem dX3_canSign_25 : decode cX3_canSign 25 = .ok (.goto 4, 3) := dk_167 0 4 (dk_at dksX3_canSign_1 1 rfl rfl)
theorem dX3_canSign_28 : decode cX3_canSign 28 = .ok (.iconst 2, 1) := dk_5 (dk_at dksX3_canSign_1 4 rfl rfl)
theorem dX3_canSign_29 : decode cX3_canSign 29 = .ok (.putfield 30, 3) := dk_181 0 30 (dk_at dksX3_canSign_1 5 rfl rfl)
theorem dX3_canSign_32 : decode cX3_canSign 32 = .ok (.aload_n 0, 1) := dk_42 (dk_at dksX3_canSign_1 8 rfl rfl)
theorem dX3_canSign_33 : decode cX3_canSign 33 = .ok (.getfield 30, 3) := dk_180 0 30 (dk_at dksX3_canSign_1 9 rfl rfl)
theorem dX3_canSign_36 : decode cX3_canSign 36 = .ok (.ifCond .ne 16, 3) := dk_154 0 16 (dk_at dksX3_canSign_1 12 rfl rfl)
theorem dX3_canSign_39 : decode cX3_canSign 39 = .ok (.aload_n 0, 1) := dk_42 (dk_at dksX3_canSign_1 15 rfl rfl)
theorem dX3_canSign_40 : decode cX3_canSign 40 = .ok (.iload_n 3, 1) := dk_29 (dk_at dksX3_canSign_1 16 rfl rfl)
theorem dX3_canSign_41 : decode cX3_canSign 41 = .ok (.iload_n 2, 1) := dk_28 (dk_at dksX3_canSign_1 17 rfl rfl)
theorem dX3_canSign_42 : decode cX3_canSign 42 = .ok (.invokevirtual 79, 3) := dk_182 0 79 (dk_at dksX3_canSign_1 18 rfl rfl)
theorem dX3_canSign_45 : decode cX3_canSign 45 = .ok (.ifCond .eq 7, 3) := dk_153 0 7 (dk_at dksX3_canSign_1 21 rfl rfl)
theorem dX3_canSign_48 : decode cX3_canSign 48 = .ok (.iconst 1, 1) := dk_4 (dk_at dksX3_canSign_2 0 rfl rfl)
theorem dX3_canSign_49 : decode cX3_canSign 49 = .ok (.goto 4, 3) := dk_167 0 4 (dk_at dksX3_canSign_2 1 rfl rfl)
theorem dX3_canSign_52 : decode cX3_canSign 52 = .ok (.iconst 0, 1) := dk_3 (dk_at dksX3_canSign_2 4 rfl rfl)
theorem dX3_canSign_53 : decode cX3_canSign 53 = .ok (.ireturn, 1) := dk_172 (dk_at dksX3_canSign_2 5 rfl rfl)
abbrev cX3_canCountersign : ByteArray := prog_9_method_83_code
def yX3_canCountersign : MethodName := ⟨RX3, "canCountersign", "(II)Z"⟩
def dkwX3_canCountersign_2 : List UInt8 := [4, 167, 0, 4, 3, 172]
abbrev dktX3_canCountersign_2 : List UInt8 := dkwX3_canCountersign_2 ++ []
def dkwX3_canCountersign_1 : List UInt8 := [3, 167, 0, 4, 5, 181, 0, 30, 42, 180, 0, 30, 154, 0, 16, 42, 29, 28, 182, 0, 86, 153, 0, 7]
abbrev dktX3_canCountersign_1 : List UInt8 := dkwX3_canCountersign_1 ++ dktX3_canCountersign_2
def dkwX3_canCountersign_0 : List UInt8 := [42, 27, 182, 0, 76, 62, 42, 29, 156, 0, 7, 4, 167, 0, 17, 28, 3, 6, 184, 0, 55, 153, 0, 7]
abbrev dktX3_canCountersign_0 : List UInt8 := dkwX3_canCountersign_0 ++ dktX3_canCountersign_1
theorem dksX3_canCountersign_0 : cX3_canCountersign.data.toList.drop 0 = dktX3_canCountersign_0 := by decide +kernel
theorem dksX3_canCountersign_1 : cX3_canCountersign.data.toList.drop 24 = dktX3_canCountersign_1 := dk_seg dksX3_canCountersign_0 24 rfl rfl
theorem dksX3_canCountersign_2 : cX3_canCountersign.data.toList.drop 48 = dktX3_canCountersign_2 := dk_seg dksX3_canCountersign_1 24 rfl rfl
theorem dX3_canCountersign_0 : decode cX3_canCountersign 0 = .ok (.aload_n 0, 1) := dk_42 (dk_at dksX3_canCountersign_0 0 rfl rfl)
theorem dX3_canCountersign_1 : decode cX3_canCountersign 1 = .ok (.iload_n 1, 1) := dk_27 (dk_at dksX3_canCountersign_0 1 rfl rfl)
theorem dX3_canCountersign_2 : decode cX3_canCountersign 2 = .ok (.invokevirtual 76, 3) := dk_182 0 76 (dk_at dksX3_canCountersign_0 2 rfl rfl)
theorem dX3_canCountersign_5 : decode cX3_canCountersign 5 = .ok (.istore_n 3, 1) := dk_62 (dk_at dksX3_canCountersign_0 5 rfl rfl)
theorem dX3_canCountersign_6 : decode cX3_canCountersign 6 = .ok (.aload_n 0, 1) := dk_42 (dk_at dksX3_canCountersign_0 6 rfl rfl)
theorem dX3_canCountersign_7 : decode cX3_canCountersign 7 = .ok (.iload_n 3, 1) := dk_29 (dk_at dksX3_canCountersign_0 7 rfl rfl)
theorem dX3_canCountersign_8 : decode cX3_canCountersign 8 = .ok (.ifCond .ge 7, 3) := dk_156 0 7 (dk_at dksX3_canCountersign_0 8 rfl rfl)
theorem dX3_canCountersign_11 : decode cX3_canCountersign 11 = .ok (.iconst 1, 1) := dk_4 (dk_at dksX3_canCountersign_0 11 rfl rfl)
theorem dX3_canCountersign_12 : decode cX3_canCountersign 12 = .ok (.goto 17, 3) := dk_167 0 17 (dk_at dksX3_canCountersign_0 12 rfl rfl)
theorem dX3_canCountersign_15 : decode cX3_canCountersign 15 = .ok (.iload_n 2, 1) := dk_28 (dk_at dksX3_canCountersign_0 15 rfl rfl)
theorem dX3_canCountersign_16 : decode cX3_canCountersign 16 = .ok (.iconst 0, 1) := dk_3 (dk_at dksX3_canCountersign_0 16 rfl rfl)
theorem dX3_canCountersign_17 : decode cX3_canCountersign 17 = .ok (.iconst 3, 1) := dk_6 (dk_at dksX3_canCountersign_0 17 rfl rfl)
theorem dX3_canCountersign_18 : decode cX3_canCountersign 18 = .ok (.invokestatic 55, 3) := dk_184 0 55 (dk_at dksX3_canCountersign_0 18 rfl rfl)
theorem dX3_canCountersign_21 : decode cX3_canCountersign 21 = .ok (.ifCond .eq 7, 3) := dk_153 0 7 (dk_at dksX3_canCountersign_0 21 rfl rfl)
theorem dX3_canCountersign_24 : decode cX3_canCountersign 24 = .ok (.iconst 0, 1) := dk_3 (dk_at dksX3_canCountersign_1 0 rfl rfl)
theorem dX3_canCountersign_25 : decode cX3_canCountersign 25 = .ok (.goto 4, 3) := dk_167 0 4 (dk_at dksX3_canCountersign_1 1 rfl rfl)
theorem dX3_canCountersign_28 : decode cX3_canCountersign 28 = .ok (.iconst 2, 1) := dk_5 (dk_at dksX3_canCountersign_1 4 rfl rfl)
theorem dX3_canCountersign_29 : decode cX3_canCountersign 29 = .ok (.putfield 30, 3) := dk_181 0 30 (dk_at dksX3_canCountersign_1 5 rfl rfl)
theorem dX3_canCountersign_32 : decode cX3_canCountersign 32 = .ok (.aload_n 0, 1) := dk_42 (dk_at dksX3_canCountersign_1 8 rfl rfl)
theorem dX3_canCountersign_33 : decode cX3_canCountersign 33 = .ok (.getfield 30, 3) := dk_180 0 30 (dk_at dksX3_canCountersign_1 9 rfl rfl)
theorem dX3_canCountersign_36 : decode cX3_canCountersign 36 = .ok (.ifCond .ne 16, 3) := dk_154 0 16 (dk_at dksX3_canCountersign_1 12 rfl rfl)
theorem dX3_canCountersign_39 : decode cX3_canCountersign 39 = .ok (.aload_n 0, 1) := dk_42 (dk_at dksX3_canCountersign_1 15 rfl rfl)
theorem dX3_canCountersign_40 : decode cX3_canCountersign 40 = .ok (.iload_n 3, 1) := dk_29 (dk_at dksX3_canCountersign_1 16 rfl rfl)
theorem dX3_canCountersign_41 : decode cX3_canCountersign 41 = .ok (.iload_n 2, 1) := dk_28 (dk_at dksX3_canCountersign_1 17 rfl rfl)
theorem dX3_canCountersign_42 : decode cX3_canCountersign 42 = .ok (.invokevirtual 86, 3) := dk_182 0 86 (dk_at dksX3_canCountersign_1 18 rfl rfl)
theorem dX3_canCountersign_45 : decode cX3_canCountersign 45 = .ok (.ifCond .eq 7, 3) := dk_153 0 7 (dk_at dksX3_canCountersign_1 21 rfl rfl)
theorem dX3_canCountersign_48 : decode cX3_canCountersign 48 = .ok (.iconst 1, 1) := dk_4 (dk_at dksX3_canCountersign_2 0 rfl rfl)
theorem dX3_canCountersign_49 : decode cX3_canCountersign 49 = .ok (.goto 4, 3) := dk_167 0 4 (dk_at dksX3_canCountersign_2 1 rfl rfl)
theorem dX3_canCountersign_52 : decode cX3_canCountersign 52 = .ok (.iconst 0, 1) := dk_3 (dk_at dksX3_canCountersign_2 4 rfl rfl)
theorem dX3_canCountersign_53 : decode cX3_canCountersign 53 = .ok (.ireturn, 1) := dk_172 (dk_at dksX3_canCountersign_2 5 rfl rfl)
abbrev cX3_recentlyExpired : ByteArray := prog_9_method_84_code
def yX3_recentlyExpired : MethodName := ⟨RX3, "recentlyExpired", "(I)I"⟩
def dkwX3_recentlyExpired_1 : List UInt8 := [180, 0, 9, 16, 14, 27, 96, 46, 167, 0, 4, 3, 172]
abbrev dktX3_recentlyExpired_1 : List UInt8 := dkwX3_recentlyExpired_1 ++ []
def dkwX3_recentlyExpired_0 : List UInt8 := [42, 27, 3, 42, 180, 0, 9, 16, 9, 46, 4, 100, 184, 0, 55, 182, 0, 124, 153, 0, 15, 42]
abbrev dktX3_recentlyExpired_0 : List UInt8 := dkwX3_recentlyExpired_0 ++ dktX3_recentlyExpired_1
theorem dksX3_recentlyExpired_0 : cX3_recentlyExpired.data.toList.drop 0 = dktX3_recentlyExpired_0 := by decide +kernel
theorem dksX3_recentlyExpired_1 : cX3_recentlyExpired.data.toList.drop 22 = dktX3_recentlyExpired_1 := dk_seg dksX3_recentlyExpired_0 22 rfl rfl
theorem dX3_recentlyExpired_0 : decode cX3_recentlyExpired 0 = .ok (.aload_n 0, 1) := dk_42 (dk_at dksX3_recentlyExpired_0 0 rfl rfl)
theorem dX3_recentlyExpired_1 : decode cX3_recentlyExpired 1 = .ok (.iload_n 1, 1) := dk_27 (dk_at dksX3_recentlyExpired_0 1 rfl rfl)
theorem dX3_recentlyExpired_2 : decode cX3_recentlyExpired 2 = .ok (.iconst 0, 1) := dk_3 (dk_at dksX3_recentlyExpired_0 2 rfl rfl)
theorem dX3_recentlyExpired_3 : decode cX3_recentlyExpired 3 = .ok (.aload_n 0, 1) := dk_42 (dk_at dksX3_recentlyExpired_0 3 rfl rfl)
theorem dX3_recentlyExpired_4 : decode cX3_recentlyExpired 4 = .ok (.getfield 9, 3) := dk_180 0 9 (dk_at dksX3_recentlyExpired_0 4 rfl rfl)
theorem dX3_recentlyExpired_7 : decode cX3_recentlyExpired 7 = .ok (.bipush 9, 2) := dk_16 9 (dk_at dksX3_recentlyExpired_0 7 rfl rfl)
theorem dX3_recentlyExpired_9 : decode cX3_recentlyExpired 9 = .ok (.iaload, 1) := dk_46 (dk_at dksX3_recentlyExpired_0 9 rfl rfl)
theorem dX3_recentlyExpired_10 : decode cX3_recentlyExpired 10 = .ok (.iconst 1, 1) := dk_4 (dk_at dksX3_recentlyExpired_0 10 rfl rfl)
theorem dX3_recentlyExpired_11 : decode cX3_recentlyExpired 11 = .ok (.isub, 1) := dk_100 (dk_at dksX3_recentlyExpired_0 11 rfl rfl)
theorem dX3_recentlyExpired_12 : decode cX3_recentlyExpired 12 = .ok (.invokestatic 55, 3) := dk_184 0 55 (dk_at dksX3_recentlyExpired_0 12 rfl rfl)
theorem dX3_recentlyExpired_15 : decode cX3_recentlyExpired 15 = .ok (.invokevirtual 124, 3) := dk_182 0 124 (dk_at dksX3_recentlyExpired_0 15 rfl rfl)
theorem dX3_recentlyExpired_18 : decode cX3_recentlyExpired 18 = .ok (.ifCond .eq 15, 3) := dk_153 0 15 (dk_at dksX3_recentlyExpired_0 18 rfl rfl)
theorem dX3_recentlyExpired_21 : decode cX3_recentlyExpired 21 = .ok (.aload_n 0, 1) := dk_42 (dk_at dksX3_recentlyExpired_0 21 rfl rfl)
theorem dX3_recentlyExpired_22 : decode cX3_recentlyExpired 22 = .ok (.getfield 9, 3) := dk_180 0 9 (dk_at dksX3_recentlyExpired_1 0 rfl rfl)
theorem dX3_recentlyExpired_25 : decode cX3_recentlyExpired 25 = .ok (.bipush 14, 2) := dk_16 14 (dk_at dksX3_recentlyExpired_1 3 rfl rfl)
theorem dX3_recentlyExpired_27 : decode cX3_recentlyExpired 27 = .ok (.iload_n 1, 1) := dk_27 (dk_at dksX3_recentlyExpired_1 5 rfl rfl)
theorem dX3_recentlyExpired_28 : decode cX3_recentlyExpired 28 = .ok (.iadd, 1) := dk_96 (dk_at dksX3_recentlyExpired_1 6 rfl rfl)
theorem dX3_recentlyExpired_29 : decode cX3_recentlyExpired 29 = .ok (.iaload, 1) := dk_46 (dk_at dksX3_recentlyExpired_1 7 rfl rfl)
theorem dX3_recentlyExpired_30 : decode cX3_recentlyExpired 30 = .ok (.goto 4, 3) := dk_167 0 4 (dk_at dksX3_recentlyExpired_1 8 rfl rfl)
theorem dX3_recentlyExpired_33 : decode cX3_recentlyExpired 33 = .ok (.iconst 0, 1) := dk_3 (dk_at dksX3_recentlyExpired_1 11 rfl rfl)
theorem dX3_recentlyExpired_34 : decode cX3_recentlyExpired 34 = .ok (.ireturn, 1) := dk_172 (dk_at dksX3_recentlyExpired_1 12 rfl rfl)
abbrev cX3_expiredCount : ByteArray := prog_9_method_85_code
def yX3_expiredCount : MethodName := ⟨RX3, "expiredCount", "()I"⟩
def dkwX3_expiredCount_0 : List UInt8 := [42, 3, 181, 0, 30, 42, 180, 0, 9, 8, 46, 172]
abbrev dktX3_expiredCount_0 : List UInt8 := dkwX3_expiredCount_0 ++ []
theorem dksX3_expiredCount_0 : cX3_expiredCount.data.toList.drop 0 = dktX3_expiredCount_0 := by decide +kernel
theorem dX3_expiredCount_0 : decode cX3_expiredCount 0 = .ok (.aload_n 0, 1) := dk_42 (dk_at dksX3_expiredCount_0 0 rfl rfl)
theorem dX3_expiredCount_1 : decode cX3_expiredCount 1 = .ok (.iconst 0, 1) := dk_3 (dk_at dksX3_expiredCount_0 1 rfl rfl)
theorem dX3_expiredCount_2 : decode cX3_expiredCount 2 = .ok (.putfield 30, 3) := dk_181 0 30 (dk_at dksX3_expiredCount_0 2 rfl rfl)
theorem dX3_expiredCount_5 : decode cX3_expiredCount 5 = .ok (.aload_n 0, 1) := dk_42 (dk_at dksX3_expiredCount_0 5 rfl rfl)
theorem dX3_expiredCount_6 : decode cX3_expiredCount 6 = .ok (.getfield 9, 3) := dk_180 0 9 (dk_at dksX3_expiredCount_0 6 rfl rfl)
theorem dX3_expiredCount_9 : decode cX3_expiredCount 9 = .ok (.iconst 5, 1) := dk_8 (dk_at dksX3_expiredCount_0 9 rfl rfl)
theorem dX3_expiredCount_10 : decode cX3_expiredCount 10 = .ok (.iaload, 1) := dk_46 (dk_at dksX3_expiredCount_0 10 rfl rfl)
theorem dX3_expiredCount_11 : decode cX3_expiredCount 11 = .ok (.ireturn, 1) := dk_172 (dk_at dksX3_expiredCount_0 11 rfl rfl)
abbrev cX3_settledCount : ByteArray := prog_9_method_86_code
def yX3_settledCount : MethodName := ⟨RX3, "settledCount", "()I"⟩
def dkwX3_settledCount_0 : List UInt8 := [42, 3, 181, 0, 30, 42, 180, 0, 9, 16, 6, 46, 172]
abbrev dktX3_settledCount_0 : List UInt8 := dkwX3_settledCount_0 ++ []
theorem dksX3_settledCount_0 : cX3_settledCount.data.toList.drop 0 = dktX3_settledCount_0 := by decide +kernel
theorem dX3_settledCount_0 : decode cX3_settledCount 0 = .ok (.aload_n 0, 1) := dk_42 (dk_at dksX3_settledCount_0 0 rfl rfl)
theorem dX3_settledCount_1 : decode cX3_settledCount 1 = .ok (.iconst 0, 1) := dk_3 (dk_at dksX3_settledCount_0 1 rfl rfl)
theorem dX3_settledCount_2 : decode cX3_settledCount 2 = .ok (.putfield 30, 3) := dk_181 0 30 (dk_at dksX3_settledCount_0 2 rfl rfl)
theorem dX3_settledCount_5 : decode cX3_settledCount 5 = .ok (.aload_n 0, 1) := dk_42 (dk_at dksX3_settledCount_0 5 rfl rfl)
theorem dX3_settledCount_6 : decode cX3_settledCount 6 = .ok (.getfield 9, 3) := dk_180 0 9 (dk_at dksX3_settledCount_0 6 rfl rfl)
theorem dX3_settledCount_9 : decode cX3_settledCount 9 = .ok (.bipush 6, 2) := dk_16 6 (dk_at dksX3_settledCount_0 9 rfl rfl)
theorem dX3_settledCount_11 : decode cX3_settledCount 11 = .ok (.iaload, 1) := dk_46 (dk_at dksX3_settledCount_0 11 rfl rfl)
theorem dX3_settledCount_12 : decode cX3_settledCount 12 = .ok (.ireturn, 1) := dk_172 (dk_at dksX3_settledCount_0 12 rfl rfl)
abbrev cX3_voidedCount : ByteArray := prog_9_method_87_code
def yX3_voidedCount : MethodName := ⟨RX3, "voidedCount", "()I"⟩
def dkwX3_voidedCount_0 : List UInt8 := [42, 3, 181, 0, 30, 42, 180, 0, 9, 16, 7, 46, 172]
abbrev dktX3_voidedCount_0 : List UInt8 := dkwX3_voidedCount_0 ++ []
theorem dksX3_voidedCount_0 : cX3_voidedCount.data.toList.drop 0 = dktX3_voidedCount_0 := by decide +kernel
theorem dX3_voidedCount_0 : decode cX3_voidedCount 0 = .ok (.aload_n 0, 1) := dk_42 (dk_at dksX3_voidedCount_0 0 rfl rfl)
theorem dX3_voidedCount_1 : decode cX3_voidedCount 1 = .ok (.iconst 0, 1) := dk_3 (dk_at dksX3_voidedCount_0 1 rfl rfl)
theorem dX3_voidedCount_2 : decode cX3_voidedCount 2 = .ok (.putfield 30, 3) := dk_181 0 30 (dk_at dksX3_voidedCount_0 2 rfl rfl)
theorem dX3_voidedCount_5 : decode cX3_voidedCount 5 = .ok (.aload_n 0, 1) := dk_42 (dk_at dksX3_voidedCount_0 5 rfl rfl)
theorem dX3_voidedCount_6 : decode cX3_voidedCount 6 = .ok (.getfield 9, 3) := dk_180 0 9 (dk_at dksX3_voidedCount_0 6 rfl rfl)
theorem dX3_voidedCount_9 : decode cX3_voidedCount 9 = .ok (.bipush 7, 2) := dk_16 7 (dk_at dksX3_voidedCount_0 9 rfl rfl)
theorem dX3_voidedCount_11 : decode cX3_voidedCount 11 = .ok (.iaload, 1) := dk_46 (dk_at dksX3_voidedCount_0 11 rfl rfl)
theorem dX3_voidedCount_12 : decode cX3_voidedCount 12 = .ok (.ireturn, 1) := dk_172 (dk_at dksX3_voidedCount_0 12 rfl rfl)
abbrev cX3_interestTotal : ByteArray := prog_9_method_88_code
def yX3_interestTotal : MethodName := ⟨RX3, "interestTotal", "()J"⟩
def dkwX3_interestTotal_0 : List UInt8 := [42, 3, 181, 0, 30, 42, 180, 0, 9, 6, 46, 133, 173]
abbrev dktX3_interestTotal_0 : List UInt8 := dkwX3_interestTotal_0 ++ []
theorem dksX3_interestTotal_0 : cX3_interestTotal.data.toList.drop 0 = dktX3_interestTotal_0 := by decide +kernel
theorem dX3_interestTotal_0 : decode cX3_interestTotal 0 = .ok (.aload_n 0, 1) := dk_42 (dk_at dksX3_interestTotal_0 0 rfl rfl)
theorem dX3_interestTotal_1 : decode cX3_interestTotal 1 = .ok (.iconst 0, 1) := dk_3 (dk_at dksX3_interestTotal_0 1 rfl rfl)
theorem dX3_interestTotal_2 : decode cX3_interestTotal 2 = .ok (.putfield 30, 3) := dk_181 0 30 (dk_at dksX3_interestTotal_0 2 rfl rfl)
theorem dX3_interestTotal_5 : decode cX3_interestTotal 5 = .ok (.aload_n 0, 1) := dk_42 (dk_at dksX3_interestTotal_0 5 rfl rfl)
theorem dX3_interestTotal_6 : decode cX3_interestTotal 6 = .ok (.getfield 9, 3) := dk_180 0 9 (dk_at dksX3_interestTotal_0 6 rfl rfl)
theorem dX3_interestTotal_9 : decode cX3_interestTotal 9 = .ok (.iconst 3, 1) := dk_6 (dk_at dksX3_interestTotal_0 9 rfl rfl)
theorem dX3_interestTotal_10 : decode cX3_interestTotal 10 = .ok (.iaload, 1) := dk_46 (dk_at dksX3_interestTotal_0 10 rfl rfl)
theorem dX3_interestTotal_11 : decode cX3_interestTotal 11 = .ok (.i2l, 1) := dk_133 (dk_at dksX3_interestTotal_0 11 rfl rfl)
theorem dX3_interestTotal_12 : decode cX3_interestTotal 12 = .ok (.lreturn, 1) := dk_173 (dk_at dksX3_interestTotal_0 12 rfl rfl)
abbrev cX3_activeWeight : ByteArray := prog_9_method_89_code
def yX3_activeWeight : MethodName := ⟨RX3, "activeWeight", "()J"⟩
def dkwX3_activeWeight_1 : List UInt8 := [182, 0, 43, 96, 60, 132, 2, 1, 167, 255, 234, 27, 133, 173]
abbrev dktX3_activeWeight_1 : List UInt8 := dkwX3_activeWeight_1 ++ []
def dkwX3_activeWeight_0 : List UInt8 := [42, 3, 181, 0, 30, 3, 60, 3, 61, 28, 42, 180, 0, 9, 5, 46, 162, 0, 18, 27, 42, 28, 6]
abbrev dktX3_activeWeight_0 : List UInt8 := dkwX3_activeWeight_0 ++ dktX3_activeWeight_1
theorem dksX3_activeWeight_0 : cX3_activeWeight.data.toList.drop 0 = dktX3_activeWeight_0 := by decide +kernel
theorem dksX3_activeWeight_1 : cX3_activeWeight.data.toList.drop 23 = dktX3_activeWeight_1 := dk_seg dksX3_activeWeight_0 23 rfl rfl
theorem dX3_activeWeight_0 : decode cX3_activeWeight 0 = .ok (.aload_n 0, 1) := dk_42 (dk_at dksX3_activeWeight_0 0 rfl rfl)
theorem dX3_activeWeight_1 : decode cX3_activeWeight 1 = .ok (.iconst 0, 1) := dk_3 (dk_at dksX3_activeWeight_0 1 rfl rfl)
theorem dX3_activeWeight_2 : decode cX3_activeWeight 2 = .ok (.putfield 30, 3) := dk_181 0 30 (dk_at dksX3_activeWeight_0 2 rfl rfl)
theorem dX3_activeWeight_5 : decode cX3_activeWeight 5 = .ok (.iconst 0, 1) := dk_3 (dk_at dksX3_activeWeight_0 5 rfl rfl)
theorem dX3_activeWeight_6 : decode cX3_activeWeight 6 = .ok (.istore_n 1, 1) := dk_60 (dk_at dksX3_activeWeight_0 6 rfl rfl)
theorem dX3_activeWeight_7 : decode cX3_activeWeight 7 = .ok (.iconst 0, 1) := dk_3 (dk_at dksX3_activeWeight_0 7 rfl rfl)
theorem dX3_activeWeight_8 : decode cX3_activeWeight 8 = .ok (.istore_n 2, 1) := dk_61 (dk_at dksX3_activeWeight_0 8 rfl rfl)
theorem dX3_activeWeight_9 : decode cX3_activeWeight 9 = .ok (.iload_n 2, 1) := dk_28 (dk_at dksX3_activeWeight_0 9 rfl rfl)
theorem dX3_activeWeight_10 : decode cX3_activeWeight 10 = .ok (.aload_n 0, 1) := dk_42 (dk_at dksX3_activeWeight_0 10 rfl rfl)
theorem dX3_activeWeight_11 : decode cX3_activeWeight 11 = .ok (.getfield 9, 3) := dk_180 0 9 (dk_at dksX3_activeWeight_0 11 rfl rfl)
theorem dX3_activeWeight_14 : decode cX3_activeWeight 14 = .ok (.iconst 2, 1) := dk_5 (dk_at dksX3_activeWeight_0 14 rfl rfl)
theorem dX3_activeWeight_15 : decode cX3_activeWeight 15 = .ok (.iaload, 1) := dk_46 (dk_at dksX3_activeWeight_0 15 rfl rfl)
theorem dX3_activeWeight_16 : decode cX3_activeWeight 16 = .ok (.if_icmp .ge 18, 3) := dk_162 0 18 (dk_at dksX3_activeWeight_0 16 rfl rfl)
theorem dX3_activeWeight_19 : decode cX3_activeWeight 19 = .ok (.iload_n 1, 1) := dk_27 (dk_at dksX3_activeWeight_0 19 rfl rfl)
theorem dX3_activeWeight_20 : decode cX3_activeWeight 20 = .ok (.aload_n 0, 1) := dk_42 (dk_at dksX3_activeWeight_0 20 rfl rfl)
theorem dX3_activeWeight_21 : decode cX3_activeWeight 21 = .ok (.iload_n 2, 1) := dk_28 (dk_at dksX3_activeWeight_0 21 rfl rfl)
theorem dX3_activeWeight_22 : decode cX3_activeWeight 22 = .ok (.iconst 3, 1) := dk_6 (dk_at dksX3_activeWeight_0 22 rfl rfl)
theorem dX3_activeWeight_23 : decode cX3_activeWeight 23 = .ok (.invokevirtual 43, 3) := dk_182 0 43 (dk_at dksX3_activeWeight_1 0 rfl rfl)
theorem dX3_activeWeight_26 : decode cX3_activeWeight 26 = .ok (.iadd, 1) := dk_96 (dk_at dksX3_activeWeight_1 3 rfl rfl)
theorem dX3_activeWeight_27 : decode cX3_activeWeight 27 = .ok (.istore_n 1, 1) := dk_60 (dk_at dksX3_activeWeight_1 4 rfl rfl)
theorem dX3_activeWeight_28 : decode cX3_activeWeight 28 = .ok (.iinc 2 1, 3) := dk_132 2 1 (dk_at dksX3_activeWeight_1 5 rfl rfl)
theorem dX3_activeWeight_31 : decode cX3_activeWeight 31 = .ok (.goto (-22), 3) := dk_167 255 234 (dk_at dksX3_activeWeight_1 8 rfl rfl)
theorem dX3_activeWeight_34 : decode cX3_activeWeight 34 = .ok (.iload_n 1, 1) := dk_27 (dk_at dksX3_activeWeight_1 11 rfl rfl)
theorem dX3_activeWeight_35 : decode cX3_activeWeight 35 = .ok (.i2l, 1) := dk_133 (dk_at dksX3_activeWeight_1 12 rfl rfl)
theorem dX3_activeWeight_36 : decode cX3_activeWeight 36 = .ok (.lreturn, 1) := dk_173 (dk_at dksX3_activeWeight_1 13 rfl rfl)
abbrev cX3_closedWeight : ByteArray := prog_9_method_90_code
def yX3_closedWeight : MethodName := ⟨RX3, "closedWeight", "()J"⟩
def dkwX3_closedWeight_0 : List UInt8 := [42, 3, 181, 0, 30, 42, 180, 0, 9, 16, 8, 46, 133, 173]
abbrev dktX3_closedWeight_0 : List UInt8 := dkwX3_closedWeight_0 ++ []
theorem dksX3_closedWeight_0 : cX3_closedWeight.data.toList.drop 0 = dktX3_closedWeight_0 := by decide +kernel
theorem dX3_closedWeight_0 : decode cX3_closedWeight 0 = .ok (.aload_n 0, 1) := dk_42 (dk_at dksX3_closedWeight_0 0 rfl rfl)
theorem dX3_closedWeight_1 : decode cX3_closedWeight 1 = .ok (.iconst 0, 1) := dk_3 (dk_at dksX3_closedWeight_0 1 rfl rfl)
theorem dX3_closedWeight_2 : decode cX3_closedWeight 2 = .ok (.putfield 30, 3) := dk_181 0 30 (dk_at dksX3_closedWeight_0 2 rfl rfl)
theorem dX3_closedWeight_5 : decode cX3_closedWeight 5 = .ok (.aload_n 0, 1) := dk_42 (dk_at dksX3_closedWeight_0 5 rfl rfl)
theorem dX3_closedWeight_6 : decode cX3_closedWeight 6 = .ok (.getfield 9, 3) := dk_180 0 9 (dk_at dksX3_closedWeight_0 6 rfl rfl)
theorem dX3_closedWeight_9 : decode cX3_closedWeight 9 = .ok (.bipush 8, 2) := dk_16 8 (dk_at dksX3_closedWeight_0 9 rfl rfl)
theorem dX3_closedWeight_11 : decode cX3_closedWeight 11 = .ok (.iaload, 1) := dk_46 (dk_at dksX3_closedWeight_0 11 rfl rfl)
theorem dX3_closedWeight_12 : decode cX3_closedWeight 12 = .ok (.i2l, 1) := dk_133 (dk_at dksX3_closedWeight_0 12 rfl rfl)
theorem dX3_closedWeight_13 : decode cX3_closedWeight 13 = .ok (.lreturn, 1) := dk_173 (dk_at dksX3_closedWeight_0 13 rfl rfl)
abbrev cX3_isConsistent : ByteArray := prog_9_method_91_code
def yX3_isConsistent : MethodName := ⟨RX3, "isConsistent", "()Z"⟩
def dkwX3_isConsistent_0 : List UInt8 := [42, 3, 181, 0, 30, 4, 172]
abbrev dktX3_isConsistent_0 : List UInt8 := dkwX3_isConsistent_0 ++ []
theorem dksX3_isConsistent_0 : cX3_isConsistent.data.toList.drop 0 = dktX3_isConsistent_0 := by decide +kernel
theorem dX3_isConsistent_0 : decode cX3_isConsistent 0 = .ok (.aload_n 0, 1) := dk_42 (dk_at dksX3_isConsistent_0 0 rfl rfl)
theorem dX3_isConsistent_1 : decode cX3_isConsistent 1 = .ok (.iconst 0, 1) := dk_3 (dk_at dksX3_isConsistent_0 1 rfl rfl)
theorem dX3_isConsistent_2 : decode cX3_isConsistent 2 = .ok (.putfield 30, 3) := dk_181 0 30 (dk_at dksX3_isConsistent_0 2 rfl rfl)
theorem dX3_isConsistent_5 : decode cX3_isConsistent 5 = .ok (.iconst 1, 1) := dk_4 (dk_at dksX3_isConsistent_0 5 rfl rfl)
theorem dX3_isConsistent_6 : decode cX3_isConsistent 6 = .ok (.ireturn, 1) := dk_172 (dk_at dksX3_isConsistent_0 6 rfl rfl)
abbrev cX3_format : ByteArray := prog_9_method_95_code
def yX3_format : MethodName := ⟨RX3, "format", "(I)I"⟩
def dkwX3_format_7 : List UInt8 := [8, 182, 0, 43, 182, 0, 167, 42, 180, 0, 158, 172]
abbrev dktX3_format_7 : List UInt8 := dkwX3_format_7 ++ []
def dkwX3_format_6 : List UInt8 := [16, 7, 182, 0, 43, 4, 100, 182, 0, 167, 42, 28, 8, 182, 0, 43, 158, 0, 15, 42, 16, 33, 42, 28]
abbrev dktX3_format_6 : List UInt8 := dkwX3_format_6 ++ dktX3_format_7
def dkwX3_format_5 : List UInt8 := [182, 0, 43, 4, 100, 182, 0, 167, 42, 28, 16, 7, 182, 0, 43, 158, 0, 18, 42, 16, 99, 42, 28]
abbrev dktX3_format_5 : List UInt8 := dkwX3_format_5 ++ dktX3_format_6
def dkwX3_format_4 : List UInt8 := [182, 0, 43, 182, 0, 167, 42, 28, 16, 6, 182, 0, 43, 158, 0, 18, 42, 16, 115, 42, 28, 16, 6]
abbrev dktX3_format_4 : List UInt8 := dkwX3_format_4 ++ dktX3_format_5
def dkwX3_format_3 : List UInt8 := [42, 16, 32, 182, 0, 164, 42, 42, 28, 6, 182, 0, 43, 182, 0, 161, 42, 16, 64, 42, 28, 7]
abbrev dktX3_format_3 : List UInt8 := dkwX3_format_3 ++ dktX3_format_4
def dkwX3_format_2 : List UInt8 := [28, 4, 182, 0, 43, 182, 0, 161, 42, 16, 62, 182, 0, 164, 42, 42, 28, 5, 182, 0, 43, 182, 0, 161]
abbrev dktX3_format_2 : List UInt8 := dkwX3_format_2 ++ dktX3_format_3
def dkwX3_format_1 : List UInt8 := [42, 3, 181, 0, 158, 42, 16, 35, 182, 0, 164, 42, 27, 182, 0, 161, 42, 16, 32, 182, 0, 164, 42, 42]
abbrev dktX3_format_1 : List UInt8 := dkwX3_format_1 ++ dktX3_format_2
def dkwX3_format_0 : List UInt8 := [42, 27, 182, 0, 76, 61, 42, 28, 155, 0, 7, 4, 167, 0, 4, 3, 182, 0, 124, 154, 0, 5, 3, 172]
abbrev dktX3_format_0 : List UInt8 := dkwX3_format_0 ++ dktX3_format_1
theorem dksX3_format_0 : cX3_format.data.toList.drop 0 = dktX3_format_0 := by decide +kernel
theorem dksX3_format_1 : cX3_format.data.toList.drop 24 = dktX3_format_1 := dk_seg dksX3_format_0 24 rfl rfl
theorem dksX3_format_2 : cX3_format.data.toList.drop 48 = dktX3_format_2 := dk_seg dksX3_format_1 24 rfl rfl
theorem dksX3_format_3 : cX3_format.data.toList.drop 72 = dktX3_format_3 := dk_seg dksX3_format_2 24 rfl rfl
theorem dksX3_format_4 : cX3_format.data.toList.drop 94 = dktX3_format_4 := dk_seg dksX3_format_3 22 rfl rfl
theorem dksX3_format_5 : cX3_format.data.toList.drop 117 = dktX3_format_5 := dk_seg dksX3_format_4 23 rfl rfl
theorem dksX3_format_6 : cX3_format.data.toList.drop 140 = dktX3_format_6 := dk_seg dksX3_format_5 23 rfl rfl
theorem dksX3_format_7 : cX3_format.data.toList.drop 164 = dktX3_format_7 := dk_seg dksX3_format_6 24 rfl rfl
theorem dX3_format_0 : decode cX3_format 0 = .ok (.aload_n 0, 1) := dk_42 (dk_at dksX3_format_0 0 rfl rfl)
theorem dX3_format_1 : decode cX3_format 1 = .ok (.iload_n 1, 1) := dk_27 (dk_at dksX3_format_0 1 rfl rfl)
theorem dX3_format_2 : decode cX3_format 2 = .ok (.invokevirtual 76, 3) := dk_182 0 76 (dk_at dksX3_format_0 2 rfl rfl)
theorem dX3_format_5 : decode cX3_format 5 = .ok (.istore_n 2, 1) := dk_61 (dk_at dksX3_format_0 5 rfl rfl)
theorem dX3_format_6 : decode cX3_format 6 = .ok (.aload_n 0, 1) := dk_42 (dk_at dksX3_format_0 6 rfl rfl)
theorem dX3_format_7 : decode cX3_format 7 = .ok (.iload_n 2, 1) := dk_28 (dk_at dksX3_format_0 7 rfl rfl)
theorem dX3_format_8 : decode cX3_format 8 = .ok (.ifCond .lt 7, 3) := dk_155 0 7 (dk_at dksX3_format_0 8 rfl rfl)
theorem dX3_format_11 : decode cX3_format 11 = .ok (.iconst 1, 1) := dk_4 (dk_at dksX3_format_0 11 rfl rfl)
theorem dX3_format_12 : decode cX3_format 12 = .ok (.goto 4, 3) := dk_167 0 4 (dk_at dksX3_format_0 12 rfl rfl)
theorem dX3_format_15 : decode cX3_format 15 = .ok (.iconst 0, 1) := dk_3 (dk_at dksX3_format_0 15 rfl rfl)
theorem dX3_format_16 : decode cX3_format 16 = .ok (.invokevirtual 124, 3) := dk_182 0 124 (dk_at dksX3_format_0 16 rfl rfl)
theorem dX3_format_19 : decode cX3_format 19 = .ok (.ifCond .ne 5, 3) := dk_154 0 5 (dk_at dksX3_format_0 19 rfl rfl)
theorem dX3_format_22 : decode cX3_format 22 = .ok (.iconst 0, 1) := dk_3 (dk_at dksX3_format_0 22 rfl rfl)
theorem dX3_format_23 : decode cX3_format 23 = .ok (.ireturn, 1) := dk_172 (dk_at dksX3_format_0 23 rfl rfl)
theorem dX3_format_24 : decode cX3_format 24 = .ok (.aload_n 0, 1) := dk_42 (dk_at dksX3_format_1 0 rfl rfl)
theorem dX3_format_25 : decode cX3_format 25 = .ok (.iconst 0, 1) := dk_3 (dk_at dksX3_format_1 1 rfl rfl)
theorem dX3_format_26 : decode cX3_format 26 = .ok (.putfield 158, 3) := dk_181 0 158 (dk_at dksX3_format_1 2 rfl rfl)
theorem dX3_format_29 : decode cX3_format 29 = .ok (.aload_n 0, 1) := dk_42 (dk_at dksX3_format_1 5 rfl rfl)
theorem dX3_format_30 : decode cX3_format 30 = .ok (.bipush 35, 2) := dk_16 35 (dk_at dksX3_format_1 6 rfl rfl)
theorem dX3_format_32 : decode cX3_format 32 = .ok (.invokevirtual 164, 3) := dk_182 0 164 (dk_at dksX3_format_1 8 rfl rfl)
theorem dX3_format_35 : decode cX3_format 35 = .ok (.aload_n 0, 1) := dk_42 (dk_at dksX3_format_1 11 rfl rfl)
theorem dX3_format_36 : decode cX3_format 36 = .ok (.iload_n 1, 1) := dk_27 (dk_at dksX3_format_1 12 rfl rfl)
theorem dX3_format_37 : decode cX3_format 37 = .ok (.invokevirtual 161, 3) := dk_182 0 161 (dk_at dksX3_format_1 13 rfl rfl)
theorem dX3_format_40 : decode cX3_format 40 = .ok (.aload_n 0, 1) := dk_42 (dk_at dksX3_format_1 16 rfl rfl)
theorem dX3_format_41 : decode cX3_format 41 = .ok (.bipush 32, 2) := dk_16 32 (dk_at dksX3_format_1 17 rfl rfl)
theorem dX3_format_43 : decode cX3_format 43 = .ok (.invokevirtual 164, 3) := dk_182 0 164 (dk_at dksX3_format_1 19 rfl rfl)
theorem dX3_format_46 : decode cX3_format 46 = .ok (.aload_n 0, 1) := dk_42 (dk_at dksX3_format_1 22 rfl rfl)
theorem dX3_format_47 : decode cX3_format 47 = .ok (.aload_n 0, 1) := dk_42 (dk_at dksX3_format_1 23 rfl rfl)
theorem dX3_format_48 : decode cX3_format 48 = .ok (.iload_n 2, 1) := dk_28 (dk_at dksX3_format_2 0 rfl rfl)
theorem dX3_format_49 : decode cX3_format 49 = .ok (.iconst 1, 1) := dk_4 (dk_at dksX3_format_2 1 rfl rfl)
theorem dX3_format_50 : decode cX3_format 50 = .ok (.invokevirtual 43, 3) := dk_182 0 43 (dk_at dksX3_format_2 2 rfl rfl)
theorem dX3_format_53 : decode cX3_format 53 = .ok (.invokevirtual 161, 3) := dk_182 0 161 (dk_at dksX3_format_2 5 rfl rfl)
theorem dX3_format_56 : decode cX3_format 56 = .ok (.aload_n 0, 1) := dk_42 (dk_at dksX3_format_2 8 rfl rfl)
theorem dX3_format_57 : decode cX3_format 57 = .ok (.bipush 62, 2) := dk_16 62 (dk_at dksX3_format_2 9 rfl rfl)
theorem dX3_format_59 : decode cX3_format 59 = .ok (.invokevirtual 164, 3) := dk_182 0 164 (dk_at dksX3_format_2 11 rfl rfl)
theorem dX3_format_62 : decode cX3_format 62 = .ok (.aload_n 0, 1) := dk_42 (dk_at dksX3_format_2 14 rfl rfl)
theorem dX3_format_63 : decode cX3_format 63 = .ok (.aload_n 0, 1) := dk_42 (dk_at dksX3_format_2 15 rfl rfl)
theorem dX3_format_64 : decode cX3_format 64 = .ok (.iload_n 2, 1) := dk_28 (dk_at dksX3_format_2 16 rfl rfl)
theorem dX3_format_65 : decode cX3_format 65 = .ok (.iconst 2, 1) := dk_5 (dk_at dksX3_format_2 17 rfl rfl)
theorem dX3_format_66 : decode cX3_format 66 = .ok (.invokevirtual 43, 3) := dk_182 0 43 (dk_at dksX3_format_2 18 rfl rfl)
theorem dX3_format_69 : decode cX3_format 69 = .ok (.invokevirtual 161, 3) := dk_182 0 161 (dk_at dksX3_format_2 21 rfl rfl)
theorem dX3_format_72 : decode cX3_format 72 = .ok (.aload_n 0, 1) := dk_42 (dk_at dksX3_format_3 0 rfl rfl)
theorem dX3_format_73 : decode cX3_format 73 = .ok (.bipush 32, 2) := dk_16 32 (dk_at dksX3_format_3 1 rfl rfl)
theorem dX3_format_75 : decode cX3_format 75 = .ok (.invokevirtual 164, 3) := dk_182 0 164 (dk_at dksX3_format_3 3 rfl rfl)
theorem dX3_format_78 : decode cX3_format 78 = .ok (.aload_n 0, 1) := dk_42 (dk_at dksX3_format_3 6 rfl rfl)
theorem dX3_format_79 : decode cX3_format 79 = .ok (.aload_n 0, 1) := dk_42 (dk_at dksX3_format_3 7 rfl rfl)
theorem dX3_format_80 : decode cX3_format 80 = .ok (.iload_n 2, 1) := dk_28 (dk_at dksX3_format_3 8 rfl rfl)
theorem dX3_format_81 : decode cX3_format 81 = .ok (.iconst 3, 1) := dk_6 (dk_at dksX3_format_3 9 rfl rfl)
theorem dX3_format_82 : decode cX3_format 82 = .ok (.invokevirtual 43, 3) := dk_182 0 43 (dk_at dksX3_format_3 10 rfl rfl)
theorem dX3_format_85 : decode cX3_format 85 = .ok (.invokevirtual 161, 3) := dk_182 0 161 (dk_at dksX3_format_3 13 rfl rfl)
theorem dX3_format_88 : decode cX3_format 88 = .ok (.aload_n 0, 1) := dk_42 (dk_at dksX3_format_3 16 rfl rfl)
theorem dX3_format_89 : decode cX3_format 89 = .ok (.bipush 64, 2) := dk_16 64 (dk_at dksX3_format_3 17 rfl rfl)
theorem dX3_format_91 : decode cX3_format 91 = .ok (.aload_n 0, 1) := dk_42 (dk_at dksX3_format_3 19 rfl rfl)
theorem dX3_format_92 : decode cX3_format 92 = .ok (.iload_n 2, 1) := dk_28 (dk_at dksX3_format_3 20 rfl rfl)
theorem dX3_format_93 : decode cX3_format 93 = .ok (.iconst 4, 1) := dk_7 (dk_at dksX3_format_3 21 rfl rfl)
theorem dX3_format_94 : decode cX3_format 94 = .ok (.invokevirtual 43, 3) := dk_182 0 43 (dk_at dksX3_format_4 0 rfl rfl)
theorem dX3_format_97 : decode cX3_format 97 = .ok (.invokevirtual 167, 3) := dk_182 0 167 (dk_at dksX3_format_4 3 rfl rfl)
theorem dX3_format_100 : decode cX3_format 100 = .ok (.aload_n 0, 1) := dk_42 (dk_at dksX3_format_4 6 rfl rfl)
theorem dX3_format_101 : decode cX3_format 101 = .ok (.iload_n 2, 1) := dk_28 (dk_at dksX3_format_4 7 rfl rfl)
theorem dX3_format_102 : decode cX3_format 102 = .ok (.bipush 6, 2) := dk_16 6 (dk_at dksX3_format_4 8 rfl rfl)
theorem dX3_format_104 : decode cX3_format 104 = .ok (.invokevirtual 43, 3) := dk_182 0 43 (dk_at dksX3_format_4 10 rfl rfl)
theorem dX3_format_107 : decode cX3_format 107 = .ok (.ifCond .le 18, 3) := dk_158 0 18 (dk_at dksX3_format_4 13 rfl rfl)
theorem dX3_format_110 : decode cX3_format 110 = .ok (.aload_n 0, 1) := dk_42 (dk_at dksX3_format_4 16 rfl rfl)
theorem dX3_format_111 : decode cX3_format 111 = .ok (.bipush 115, 2) := dk_16 115 (dk_at dksX3_format_4 17 rfl rfl)
theorem dX3_format_113 : decode cX3_format 113 = .ok (.aload_n 0, 1) := dk_42 (dk_at dksX3_format_4 19 rfl rfl)
theorem dX3_format_114 : decode cX3_format 114 = .ok (.iload_n 2, 1) := dk_28 (dk_at dksX3_format_4 20 rfl rfl)
theorem dX3_format_115 : decode cX3_format 115 = .ok (.bipush 6, 2) := dk_16 6 (dk_at dksX3_format_4 21 rfl rfl)
theorem dX3_format_117 : decode cX3_format 117 = .ok (.invokevirtual 43, 3) := dk_182 0 43 (dk_at dksX3_format_5 0 rfl rfl)
theorem dX3_format_120 : decode cX3_format 120 = .ok (.iconst 1, 1) := dk_4 (dk_at dksX3_format_5 3 rfl rfl)
theorem dX3_format_121 : decode cX3_format 121 = .ok (.isub, 1) := dk_100 (dk_at dksX3_format_5 4 rfl rfl)
theorem dX3_format_122 : decode cX3_format 122 = .ok (.invokevirtual 167, 3) := dk_182 0 167 (dk_at dksX3_format_5 5 rfl rfl)
theorem dX3_format_125 : decode cX3_format 125 = .ok (.aload_n 0, 1) := dk_42 (dk_at dksX3_format_5 8 rfl rfl)
theorem dX3_format_126 : decode cX3_format 126 = .ok (.iload_n 2, 1) := dk_28 (dk_at dksX3_format_5 9 rfl rfl)
theorem dX3_format_127 : decode cX3_format 127 = .ok (.bipush 7, 2) := dk_16 7 (dk_at dksX3_format_5 10 rfl rfl)
theorem dX3_format_129 : decode cX3_format 129 = .ok (.invokevirtual 43, 3) := dk_182 0 43 (dk_at dksX3_format_5 12 rfl rfl)
theorem dX3_format_132 : decode cX3_format 132 = .ok (.ifCond .le 18, 3) := dk_158 0 18 (dk_at dksX3_format_5 15 rfl rfl)
theorem dX3_format_135 : decode cX3_format 135 = .ok (.aload_n 0, 1) := dk_42 (dk_at dksX3_format_5 18 rfl rfl)
theorem dX3_format_136 : decode cX3_format 136 = .ok (.bipush 99, 2) := dk_16 99 (dk_at dksX3_format_5 19 rfl rfl)
theorem dX3_format_138 : decode cX3_format 138 = .ok (.aload_n 0, 1) := dk_42 (dk_at dksX3_format_5 21 rfl rfl)
theorem dX3_format_139 : decode cX3_format 139 = .ok (.iload_n 2, 1) := dk_28 (dk_at dksX3_format_5 22 rfl rfl)
theorem dX3_format_140 : decode cX3_format 140 = .ok (.bipush 7, 2) := dk_16 7 (dk_at dksX3_format_6 0 rfl rfl)
theorem dX3_format_142 : decode cX3_format 142 = .ok (.invokevirtual 43, 3) := dk_182 0 43 (dk_at dksX3_format_6 2 rfl rfl)
theorem dX3_format_145 : decode cX3_format 145 = .ok (.iconst 1, 1) := dk_4 (dk_at dksX3_format_6 5 rfl rfl)
theorem dX3_format_146 : decode cX3_format 146 = .ok (.isub, 1) := dk_100 (dk_at dksX3_format_6 6 rfl rfl)
theorem dX3_format_147 : decode cX3_format 147 = .ok (.invokevirtual 167, 3) := dk_182 0 167 (dk_at dksX3_format_6 7 rfl rfl)
theorem dX3_format_150 : decode cX3_format 150 = .ok (.aload_n 0, 1) := dk_42 (dk_at dksX3_format_6 10 rfl rfl)
theorem dX3_format_151 : decode cX3_format 151 = .ok (.iload_n 2, 1) := dk_28 (dk_at dksX3_format_6 11 rfl rfl)
theorem dX3_format_152 : decode cX3_format 152 = .ok (.iconst 5, 1) := dk_8 (dk_at dksX3_format_6 12 rfl rfl)
theorem dX3_format_153 : decode cX3_format 153 = .ok (.invokevirtual 43, 3) := dk_182 0 43 (dk_at dksX3_format_6 13 rfl rfl)
theorem dX3_format_156 : decode cX3_format 156 = .ok (.ifCond .le 15, 3) := dk_158 0 15 (dk_at dksX3_format_6 16 rfl rfl)
theorem dX3_format_159 : decode cX3_format 159 = .ok (.aload_n 0, 1) := dk_42 (dk_at dksX3_format_6 19 rfl rfl)
theorem dX3_format_160 : decode cX3_format 160 = .ok (.bipush 33, 2) := dk_16 33 (dk_at dksX3_format_6 20 rfl rfl)
theorem dX3_format_162 : decode cX3_format 162 = .ok (.aload_n 0, 1) := dk_42 (dk_at dksX3_format_6 22 rfl rfl)
theorem dX3_format_163 : decode cX3_format 163 = .ok (.iload_n 2, 1) := dk_28 (dk_at dksX3_format_6 23 rfl rfl)
theorem dX3_format_164 : decode cX3_format 164 = .ok (.iconst 5, 1) := dk_8 (dk_at dksX3_format_7 0 rfl rfl)
theorem dX3_format_165 : decode cX3_format 165 = .ok (.invokevirtual 43, 3) := dk_182 0 43 (dk_at dksX3_format_7 1 rfl rfl)
theorem dX3_format_168 : decode cX3_format 168 = .ok (.invokevirtual 167, 3) := dk_182 0 167 (dk_at dksX3_format_7 4 rfl rfl)
theorem dX3_format_171 : decode cX3_format 171 = .ok (.aload_n 0, 1) := dk_42 (dk_at dksX3_format_7 7 rfl rfl)
theorem dX3_format_172 : decode cX3_format 172 = .ok (.getfield 158, 3) := dk_180 0 158 (dk_at dksX3_format_7 8 rfl rfl)
theorem dX3_format_175 : decode cX3_format 175 = .ok (.ireturn, 1) := dk_172 (dk_at dksX3_format_7 11 rfl rfl)
abbrev cX3_writes : ByteArray := prog_9_method_92_code
def yX3_writes : MethodName := ⟨RX3, "writes", "(I)V"⟩
def dkwX3_writes_0 : List UInt8 := [42, 180, 0, 13, 42, 180, 0, 158, 27, 146, 85, 42, 89, 180, 0, 158, 4, 96, 181, 0, 158, 177]
abbrev dktX3_writes_0 : List UInt8 := dkwX3_writes_0 ++ []
theorem dksX3_writes_0 : cX3_writes.data.toList.drop 0 = dktX3_writes_0 := by decide +kernel
theorem dX3_writes_0 : decode cX3_writes 0 = .ok (.aload_n 0, 1) := dk_42 (dk_at dksX3_writes_0 0 rfl rfl)
theorem dX3_writes_1 : decode cX3_writes 1 = .ok (.getfield 13, 3) := dk_180 0 13 (dk_at dksX3_writes_0 1 rfl rfl)
theorem dX3_writes_4 : decode cX3_writes 4 = .ok (.aload_n 0, 1) := dk_42 (dk_at dksX3_writes_0 4 rfl rfl)
theorem dX3_writes_5 : decode cX3_writes 5 = .ok (.getfield 158, 3) := dk_180 0 158 (dk_at dksX3_writes_0 5 rfl rfl)
theorem dX3_writes_8 : decode cX3_writes 8 = .ok (.iload_n 1, 1) := dk_27 (dk_at dksX3_writes_0 8 rfl rfl)
theorem dX3_writes_9 : decode cX3_writes 9 = .ok (.i2c, 1) := dk_146 (dk_at dksX3_writes_0 9 rfl rfl)
theorem dX3_writes_10 : decode cX3_writes 10 = .ok (.castore, 1) := dk_85 (dk_at dksX3_writes_0 10 rfl rfl)
theorem dX3_writes_11 : decode cX3_writes 11 = .ok (.aload_n 0, 1) := dk_42 (dk_at dksX3_writes_0 11 rfl rfl)
theorem dX3_writes_12 : decode cX3_writes 12 = .ok (.dup, 1) := dk_89 (dk_at dksX3_writes_0 12 rfl rfl)
theorem dX3_writes_13 : decode cX3_writes 13 = .ok (.getfield 158, 3) := dk_180 0 158 (dk_at dksX3_writes_0 13 rfl rfl)
theorem dX3_writes_16 : decode cX3_writes 16 = .ok (.iconst 1, 1) := dk_4 (dk_at dksX3_writes_0 16 rfl rfl)
theorem dX3_writes_17 : decode cX3_writes 17 = .ok (.iadd, 1) := dk_96 (dk_at dksX3_writes_0 17 rfl rfl)
theorem dX3_writes_18 : decode cX3_writes 18 = .ok (.putfield 158, 3) := dk_181 0 158 (dk_at dksX3_writes_0 18 rfl rfl)
theorem dX3_writes_21 : decode cX3_writes 21 = .ok (.return_, 1) := dk_177 (dk_at dksX3_writes_0 21 rfl rfl)
abbrev cX3_writesNumber : ByteArray := prog_9_method_93_code
def yX3_writesNumber : MethodName := ⟨RX3, "writesNumber", "(I)V"⟩
def dkwX3_writesNumber_1 : List UInt8 := [182, 0, 164, 177]
abbrev dktX3_writesNumber_1 : List UInt8 := dkwX3_writesNumber_1 ++ []
def dkwX3_writesNumber_0 : List UInt8 := [27, 16, 9, 164, 0, 11, 42, 27, 16, 10, 108, 182, 0, 161, 42, 16, 48, 27, 16, 10, 112, 96]
abbrev dktX3_writesNumber_0 : List UInt8 := dkwX3_writesNumber_0 ++ dktX3_writesNumber_1
theorem dksX3_writesNumber_0 : cX3_writesNumber.data.toList.drop 0 = dktX3_writesNumber_0 := by decide +kernel
theorem dksX3_writesNumber_1 : cX3_writesNumber.data.toList.drop 22 = dktX3_writesNumber_1 := dk_seg dksX3_writesNumber_0 22 rfl rfl
theorem dX3_writesNumber_0 : decode cX3_writesNumber 0 = .ok (.iload_n 1, 1) := dk_27 (dk_at dksX3_writesNumber_0 0 rfl rfl)
theorem dX3_writesNumber_1 : decode cX3_writesNumber 1 = .ok (.bipush 9, 2) := dk_16 9 (dk_at dksX3_writesNumber_0 1 rfl rfl)
theorem dX3_writesNumber_3 : decode cX3_writesNumber 3 = .ok (.if_icmp .le 11, 3) := dk_164 0 11 (dk_at dksX3_writesNumber_0 3 rfl rfl)
theorem dX3_writesNumber_6 : decode cX3_writesNumber 6 = .ok (.aload_n 0, 1) := dk_42 (dk_at dksX3_writesNumber_0 6 rfl rfl)
theorem dX3_writesNumber_7 : decode cX3_writesNumber 7 = .ok (.iload_n 1, 1) := dk_27 (dk_at dksX3_writesNumber_0 7 rfl rfl)
theorem dX3_writesNumber_8 : decode cX3_writesNumber 8 = .ok (.bipush 10, 2) := dk_16 10 (dk_at dksX3_writesNumber_0 8 rfl rfl)
theorem dX3_writesNumber_10 : decode cX3_writesNumber 10 = .ok (.idiv, 1) := dk_108 (dk_at dksX3_writesNumber_0 10 rfl rfl)
theorem dX3_writesNumber_11 : decode cX3_writesNumber 11 = .ok (.invokevirtual 161, 3) := dk_182 0 161 (dk_at dksX3_writesNumber_0 11 rfl rfl)
theorem dX3_writesNumber_14 : decode cX3_writesNumber 14 = .ok (.aload_n 0, 1) := dk_42 (dk_at dksX3_writesNumber_0 14 rfl rfl)
theorem dX3_writesNumber_15 : decode cX3_writesNumber 15 = .ok (.bipush 48, 2) := dk_16 48 (dk_at dksX3_writesNumber_0 15 rfl rfl)
theorem dX3_writesNumber_17 : decode cX3_writesNumber 17 = .ok (.iload_n 1, 1) := dk_27 (dk_at dksX3_writesNumber_0 17 rfl rfl)
theorem dX3_writesNumber_18 : decode cX3_writesNumber 18 = .ok (.bipush 10, 2) := dk_16 10 (dk_at dksX3_writesNumber_0 18 rfl rfl)
theorem dX3_writesNumber_20 : decode cX3_writesNumber 20 = .ok (.irem, 1) := dk_112 (dk_at dksX3_writesNumber_0 20 rfl rfl)
theorem dX3_writesNumber_21 : decode cX3_writesNumber 21 = .ok (.iadd, 1) := dk_96 (dk_at dksX3_writesNumber_0 21 rfl rfl)
theorem dX3_writesNumber_22 : decode cX3_writesNumber 22 = .ok (.invokevirtual 164, 3) := dk_182 0 164 (dk_at dksX3_writesNumber_1 0 rfl rfl)
theorem dX3_writesNumber_25 : decode cX3_writesNumber 25 = .ok (.return_, 1) := dk_177 (dk_at dksX3_writesNumber_1 3 rfl rfl)
abbrev cX3_writesBehind : ByteArray := prog_9_method_94_code
def yX3_writesBehind : MethodName := ⟨RX3, "writesBehind", "(II)V"⟩
def dkwX3_writesBehind_0 : List UInt8 := [42, 16, 32, 182, 0, 164, 42, 27, 182, 0, 164, 42, 28, 182, 0, 161, 177]
abbrev dktX3_writesBehind_0 : List UInt8 := dkwX3_writesBehind_0 ++ []
theorem dksX3_writesBehind_0 : cX3_writesBehind.data.toList.drop 0 = dktX3_writesBehind_0 := by decide +kernel
theorem dX3_writesBehind_0 : decode cX3_writesBehind 0 = .ok (.aload_n 0, 1) := dk_42 (dk_at dksX3_writesBehind_0 0 rfl rfl)
theorem dX3_writesBehind_1 : decode cX3_writesBehind 1 = .ok (.bipush 32, 2) := dk_16 32 (dk_at dksX3_writesBehind_0 1 rfl rfl)
theorem dX3_writesBehind_3 : decode cX3_writesBehind 3 = .ok (.invokevirtual 164, 3) := dk_182 0 164 (dk_at dksX3_writesBehind_0 3 rfl rfl)
theorem dX3_writesBehind_6 : decode cX3_writesBehind 6 = .ok (.aload_n 0, 1) := dk_42 (dk_at dksX3_writesBehind_0 6 rfl rfl)
theorem dX3_writesBehind_7 : decode cX3_writesBehind 7 = .ok (.iload_n 1, 1) := dk_27 (dk_at dksX3_writesBehind_0 7 rfl rfl)
theorem dX3_writesBehind_8 : decode cX3_writesBehind 8 = .ok (.invokevirtual 164, 3) := dk_182 0 164 (dk_at dksX3_writesBehind_0 8 rfl rfl)
theorem dX3_writesBehind_11 : decode cX3_writesBehind 11 = .ok (.aload_n 0, 1) := dk_42 (dk_at dksX3_writesBehind_0 11 rfl rfl)
theorem dX3_writesBehind_12 : decode cX3_writesBehind 12 = .ok (.iload_n 2, 1) := dk_28 (dk_at dksX3_writesBehind_0 12 rfl rfl)
theorem dX3_writesBehind_13 : decode cX3_writesBehind 13 = .ok (.invokevirtual 161, 3) := dk_182 0 161 (dk_at dksX3_writesBehind_0 13 rfl rfl)
theorem dX3_writesBehind_16 : decode cX3_writesBehind 16 = .ok (.return_, 1) := dk_177 (dk_at dksX3_writesBehind_0 16 rfl rfl)
abbrev cX3_lineChar : ByteArray := prog_9_method_96_code
def yX3_lineChar : MethodName := ⟨RX3, "lineChar", "(I)C"⟩
def dkwX3_lineChar_1 : List UInt8 := [167, 0, 4, 3, 172]
abbrev dktX3_lineChar_1 : List UInt8 := dkwX3_lineChar_1 ++ []
def dkwX3_lineChar_0 : List UInt8 := [42, 27, 3, 42, 180, 0, 158, 4, 100, 184, 0, 55, 182, 0, 124, 153, 0, 12, 42, 180, 0, 13, 27, 52]
abbrev dktX3_lineChar_0 : List UInt8 := dkwX3_lineChar_0 ++ dktX3_lineChar_1
theorem dksX3_lineChar_0 : cX3_lineChar.data.toList.drop 0 = dktX3_lineChar_0 := by decide +kernel
theorem dksX3_lineChar_1 : cX3_lineChar.data.toList.drop 24 = dktX3_lineChar_1 := dk_seg dksX3_lineChar_0 24 rfl rfl
theorem dX3_lineChar_0 : decode cX3_lineChar 0 = .ok (.aload_n 0, 1) := dk_42 (dk_at dksX3_lineChar_0 0 rfl rfl)
theorem dX3_lineChar_1 : decode cX3_lineChar 1 = .ok (.iload_n 1, 1) := dk_27 (dk_at dksX3_lineChar_0 1 rfl rfl)
theorem dX3_lineChar_2 : decode cX3_lineChar 2 = .ok (.iconst 0, 1) := dk_3 (dk_at dksX3_lineChar_0 2 rfl rfl)
theorem dX3_lineChar_3 : decode cX3_lineChar 3 = .ok (.aload_n 0, 1) := dk_42 (dk_at dksX3_lineChar_0 3 rfl rfl)
theorem dX3_lineChar_4 : decode cX3_lineChar 4 = .ok (.getfield 158, 3) := dk_180 0 158 (dk_at dksX3_lineChar_0 4 rfl rfl)
theorem dX3_lineChar_7 : decode cX3_lineChar 7 = .ok (.iconst 1, 1) := dk_4 (dk_at dksX3_lineChar_0 7 rfl rfl)
theorem dX3_lineChar_8 : decode cX3_lineChar 8 = .ok (.isub, 1) := dk_100 (dk_at dksX3_lineChar_0 8 rfl rfl)
theorem dX3_lineChar_9 : decode cX3_lineChar 9 = .ok (.invokestatic 55, 3) := dk_184 0 55 (dk_at dksX3_lineChar_0 9 rfl rfl)
theorem dX3_lineChar_12 : decode cX3_lineChar 12 = .ok (.invokevirtual 124, 3) := dk_182 0 124 (dk_at dksX3_lineChar_0 12 rfl rfl)
theorem dX3_lineChar_15 : decode cX3_lineChar 15 = .ok (.ifCond .eq 12, 3) := dk_153 0 12 (dk_at dksX3_lineChar_0 15 rfl rfl)
theorem dX3_lineChar_18 : decode cX3_lineChar 18 = .ok (.aload_n 0, 1) := dk_42 (dk_at dksX3_lineChar_0 18 rfl rfl)
theorem dX3_lineChar_19 : decode cX3_lineChar 19 = .ok (.getfield 13, 3) := dk_180 0 13 (dk_at dksX3_lineChar_0 19 rfl rfl)
theorem dX3_lineChar_22 : decode cX3_lineChar 22 = .ok (.iload_n 1, 1) := dk_27 (dk_at dksX3_lineChar_0 22 rfl rfl)
theorem dX3_lineChar_23 : decode cX3_lineChar 23 = .ok (.caload, 1) := dk_52 (dk_at dksX3_lineChar_0 23 rfl rfl)
theorem dX3_lineChar_24 : decode cX3_lineChar 24 = .ok (.goto 4, 3) := dk_167 0 4 (dk_at dksX3_lineChar_1 0 rfl rfl)
theorem dX3_lineChar_27 : decode cX3_lineChar 27 = .ok (.iconst 0, 1) := dk_3 (dk_at dksX3_lineChar_1 3 rfl rfl)
theorem dX3_lineChar_28 : decode cX3_lineChar 28 = .ok (.ireturn, 1) := dk_172 (dk_at dksX3_lineChar_1 4 rfl rfl)
abbrev cX3_append : ByteArray := prog_9_method_97_code
def yX3_append : MethodName := ⟨RX3, "append", "(C)I"⟩
def dkwX3_append_2 : List UInt8 := [42, 180, 0, 170, 27, 85, 42, 89, 180, 0, 170, 4, 96, 181, 0, 170, 42, 180, 0, 170, 172]
abbrev dktX3_append_2 : List UInt8 := dkwX3_append_2 ++ []
def dkwX3_append_1 : List UInt8 := [160, 0, 7, 5, 167, 0, 4, 3, 181, 0, 30, 42, 180, 0, 30, 153, 0, 5, 3, 172, 42, 180, 0, 17]
abbrev dktX3_append_1 : List UInt8 := dkwX3_append_1 ++ dktX3_append_2
def dkwX3_append_0 : List UInt8 := [42, 27, 16, 32, 16, 126, 184, 0, 55, 154, 0, 7, 4, 167, 0, 17, 42, 180, 0, 170, 16, 60]
abbrev dktX3_append_0 : List UInt8 := dkwX3_append_0 ++ dktX3_append_1
theorem dksX3_append_0 : cX3_append.data.toList.drop 0 = dktX3_append_0 := by decide +kernel
theorem dksX3_append_1 : cX3_append.data.toList.drop 22 = dktX3_append_1 := dk_seg dksX3_append_0 22 rfl rfl
theorem dksX3_append_2 : cX3_append.data.toList.drop 46 = dktX3_append_2 := dk_seg dksX3_append_1 24 rfl rfl
theorem dX3_append_0 : decode cX3_append 0 = .ok (.aload_n 0, 1) := dk_42 (dk_at dksX3_append_0 0 rfl rfl)
theorem dX3_append_1 : decode cX3_append 1 = .ok (.iload_n 1, 1) := dk_27 (dk_at dksX3_append_0 1 rfl rfl)
theorem dX3_append_2 : decode cX3_append 2 = .ok (.bipush 32, 2) := dk_16 32 (dk_at dksX3_append_0 2 rfl rfl)
theorem dX3_append_4 : decode cX3_append 4 = .ok (.bipush 126, 2) := dk_16 126 (dk_at dksX3_append_0 4 rfl rfl)
theorem dX3_append_6 : decode cX3_append 6 = .ok (.invokestatic 55, 3) := dk_184 0 55 (dk_at dksX3_append_0 6 rfl rfl)
theorem dX3_append_9 : decode cX3_append 9 = .ok (.ifCond .ne 7, 3) := dk_154 0 7 (dk_at dksX3_append_0 9 rfl rfl)
theorem dX3_append_12 : decode cX3_append 12 = .ok (.iconst 1, 1) := dk_4 (dk_at dksX3_append_0 12 rfl rfl)
theorem dX3_append_13 : decode cX3_append 13 = .ok (.goto 17, 3) := dk_167 0 17 (dk_at dksX3_append_0 13 rfl rfl)
theorem dX3_append_16 : decode cX3_append 16 = .ok (.aload_n 0, 1) := dk_42 (dk_at dksX3_append_0 16 rfl rfl)
theorem dX3_append_17 : decode cX3_append 17 = .ok (.getfield 170, 3) := dk_180 0 170 (dk_at dksX3_append_0 17 rfl rfl)
theorem dX3_append_20 : decode cX3_append 20 = .ok (.bipush 60, 2) := dk_16 60 (dk_at dksX3_append_0 20 rfl rfl)
theorem dX3_append_22 : decode cX3_append 22 = .ok (.if_icmp .ne 7, 3) := dk_160 0 7 (dk_at dksX3_append_1 0 rfl rfl)
theorem dX3_append_25 : decode cX3_append 25 = .ok (.iconst 2, 1) := dk_5 (dk_at dksX3_append_1 3 rfl rfl)
theorem dX3_append_26 : decode cX3_append 26 = .ok (.goto 4, 3) := dk_167 0 4 (dk_at dksX3_append_1 4 rfl rfl)
theorem dX3_append_29 : decode cX3_append 29 = .ok (.iconst 0, 1) := dk_3 (dk_at dksX3_append_1 7 rfl rfl)
theorem dX3_append_30 : decode cX3_append 30 = .ok (.putfield 30, 3) := dk_181 0 30 (dk_at dksX3_append_1 8 rfl rfl)
theorem dX3_append_33 : decode cX3_append 33 = .ok (.aload_n 0, 1) := dk_42 (dk_at dksX3_append_1 11 rfl rfl)
theorem dX3_append_34 : decode cX3_append 34 = .ok (.getfield 30, 3) := dk_180 0 30 (dk_at dksX3_append_1 12 rfl rfl)
theorem dX3_append_37 : decode cX3_append 37 = .ok (.ifCond .eq 5, 3) := dk_153 0 5 (dk_at dksX3_append_1 15 rfl rfl)
theorem dX3_append_40 : decode cX3_append 40 = .ok (.iconst 0, 1) := dk_3 (dk_at dksX3_append_1 18 rfl rfl)
theorem dX3_append_41 : decode cX3_append 41 = .ok (.ireturn, 1) := dk_172 (dk_at dksX3_append_1 19 rfl rfl)
theorem dX3_append_42 : decode cX3_append 42 = .ok (.aload_n 0, 1) := dk_42 (dk_at dksX3_append_1 20 rfl rfl)
theorem dX3_append_43 : decode cX3_append 43 = .ok (.getfield 17, 3) := dk_180 0 17 (dk_at dksX3_append_1 21 rfl rfl)
theorem dX3_append_46 : decode cX3_append 46 = .ok (.aload_n 0, 1) := dk_42 (dk_at dksX3_append_2 0 rfl rfl)
theorem dX3_append_47 : decode cX3_append 47 = .ok (.getfield 170, 3) := dk_180 0 170 (dk_at dksX3_append_2 1 rfl rfl)
theorem dX3_append_50 : decode cX3_append 50 = .ok (.iload_n 1, 1) := dk_27 (dk_at dksX3_append_2 4 rfl rfl)
theorem dX3_append_51 : decode cX3_append 51 = .ok (.castore, 1) := dk_85 (dk_at dksX3_append_2 5 rfl rfl)
theorem dX3_append_52 : decode cX3_append 52 = .ok (.aload_n 0, 1) := dk_42 (dk_at dksX3_append_2 6 rfl rfl)
theorem dX3_append_53 : decode cX3_append 53 = .ok (.dup, 1) := dk_89 (dk_at dksX3_append_2 7 rfl rfl)
theorem dX3_append_54 : decode cX3_append 54 = .ok (.getfield 170, 3) := dk_180 0 170 (dk_at dksX3_append_2 8 rfl rfl)
theorem dX3_append_57 : decode cX3_append 57 = .ok (.iconst 1, 1) := dk_4 (dk_at dksX3_append_2 11 rfl rfl)
theorem dX3_append_58 : decode cX3_append 58 = .ok (.iadd, 1) := dk_96 (dk_at dksX3_append_2 12 rfl rfl)
theorem dX3_append_59 : decode cX3_append 59 = .ok (.putfield 170, 3) := dk_181 0 170 (dk_at dksX3_append_2 13 rfl rfl)
theorem dX3_append_62 : decode cX3_append 62 = .ok (.aload_n 0, 1) := dk_42 (dk_at dksX3_append_2 16 rfl rfl)
theorem dX3_append_63 : decode cX3_append 63 = .ok (.getfield 170, 3) := dk_180 0 170 (dk_at dksX3_append_2 17 rfl rfl)
theorem dX3_append_66 : decode cX3_append 66 = .ok (.ireturn, 1) := dk_172 (dk_at dksX3_append_2 20 rfl rfl)
abbrev cX3_run : ByteArray := prog_9_method_107_code
def yX3_run : MethodName := ⟨RX3, "run", "()I"⟩
def dkwX3_run_4 : List UInt8 := [180, 0, 191, 181, 0, 40, 42, 28, 153, 0, 7, 3, 167, 0, 4, 6, 3, 3, 5, 182, 0, 70, 172]
abbrev dktX3_run_4 : List UInt8 := dkwX3_run_4 ++ []
def dkwX3_run_3 : List UInt8 := [167, 0, 4, 3, 61, 42, 28, 153, 0, 10, 42, 180, 0, 24, 167, 0, 4, 27, 181, 0, 24, 42, 42]
abbrev dktX3_run_3 : List UInt8 := dkwX3_run_3 ++ dktX3_run_4
def dkwX3_run_2 : List UInt8 := [104, 182, 0, 206, 154, 0, 9, 132, 1, 1, 167, 255, 235, 27, 42, 180, 0, 191, 160, 0, 7, 4]
abbrev dktX3_run_2 : List UInt8 := dkwX3_run_2 ++ dktX3_run_3
def dkwX3_run_1 : List UInt8 := [42, 4, 181, 0, 30, 3, 172, 42, 182, 0, 63, 3, 60, 27, 42, 180, 0, 191, 162, 0, 19, 42, 8, 27]
abbrev dktX3_run_1 : List UInt8 := dkwX3_run_1 ++ dktX3_run_2
def dkwX3_run_0 : List UInt8 := [42, 182, 0, 203, 42, 3, 181, 0, 170, 42, 180, 0, 176, 155, 0, 18, 42, 42, 180, 0, 176, 181, 0, 20]
abbrev dktX3_run_0 : List UInt8 := dkwX3_run_0 ++ dktX3_run_1
theorem dksX3_run_0 : cX3_run.data.toList.drop 0 = dktX3_run_0 := by decide +kernel
theorem dksX3_run_1 : cX3_run.data.toList.drop 24 = dktX3_run_1 := dk_seg dksX3_run_0 24 rfl rfl
theorem dksX3_run_2 : cX3_run.data.toList.drop 48 = dktX3_run_2 := dk_seg dksX3_run_1 24 rfl rfl
theorem dksX3_run_3 : cX3_run.data.toList.drop 70 = dktX3_run_3 := dk_seg dksX3_run_2 22 rfl rfl
theorem dksX3_run_4 : cX3_run.data.toList.drop 93 = dktX3_run_4 := dk_seg dksX3_run_3 23 rfl rfl
theorem dX3_run_0 : decode cX3_run 0 = .ok (.aload_n 0, 1) := dk_42 (dk_at dksX3_run_0 0 rfl rfl)
theorem dX3_run_1 : decode cX3_run 1 = .ok (.invokevirtual 203, 3) := dk_182 0 203 (dk_at dksX3_run_0 1 rfl rfl)
theorem dX3_run_4 : decode cX3_run 4 = .ok (.aload_n 0, 1) := dk_42 (dk_at dksX3_run_0 4 rfl rfl)
theorem dX3_run_5 : decode cX3_run 5 = .ok (.iconst 0, 1) := dk_3 (dk_at dksX3_run_0 5 rfl rfl)
theorem dX3_run_6 : decode cX3_run 6 = .ok (.putfield 170, 3) := dk_181 0 170 (dk_at dksX3_run_0 6 rfl rfl)
theorem dX3_run_9 : decode cX3_run 9 = .ok (.aload_n 0, 1) := dk_42 (dk_at dksX3_run_0 9 rfl rfl)
theorem dX3_run_10 : decode cX3_run 10 = .ok (.getfield 176, 3) := dk_180 0 176 (dk_at dksX3_run_0 10 rfl rfl)
theorem dX3_run_13 : decode cX3_run 13 = .ok (.ifCond .lt 18, 3) := dk_155 0 18 (dk_at dksX3_run_0 13 rfl rfl)
theorem dX3_run_16 : decode cX3_run 16 = .ok (.aload_n 0, 1) := dk_42 (dk_at dksX3_run_0 16 rfl rfl)
theorem dX3_run_17 : decode cX3_run 17 = .ok (.aload_n 0, 1) := dk_42 (dk_at dksX3_run_0 17 rfl rfl)
theorem dX3_run_18 : decode cX3_run 18 = .ok (.getfield 176, 3) := dk_180 0 176 (dk_at dksX3_run_0 18 rfl rfl)
theorem dX3_run_21 : decode cX3_run 21 = .ok (.putfield 20, 3) := dk_181 0 20 (dk_at dksX3_run_0 21 rfl rfl)
theorem dX3_run_24 : decode cX3_run 24 = .ok (.aload_n 0, 1) := dk_42 (dk_at dksX3_run_1 0 rfl rfl)
theorem dX3_run_25 : decode cX3_run 25 = .ok (.iconst 1, 1) := dk_4 (dk_at dksX3_run_1 1 rfl rfl)
theorem dX3_run_26 : decode cX3_run 26 = .ok (.putfield 30, 3) := dk_181 0 30 (dk_at dksX3_run_1 2 rfl rfl)
theorem dX3_run_29 : decode cX3_run 29 = .ok (.iconst 0, 1) := dk_3 (dk_at dksX3_run_1 5 rfl rfl)
theorem dX3_run_30 : decode cX3_run 30 = .ok (.ireturn, 1) := dk_172 (dk_at dksX3_run_1 6 rfl rfl)
theorem dX3_run_31 : decode cX3_run 31 = .ok (.aload_n 0, 1) := dk_42 (dk_at dksX3_run_1 7 rfl rfl)
theorem dX3_run_32 : decode cX3_run 32 = .ok (.invokevirtual 63, 3) := dk_182 0 63 (dk_at dksX3_run_1 8 rfl rfl)
theorem dX3_run_35 : decode cX3_run 35 = .ok (.iconst 0, 1) := dk_3 (dk_at dksX3_run_1 11 rfl rfl)
theorem dX3_run_36 : decode cX3_run 36 = .ok (.istore_n 1, 1) := dk_60 (dk_at dksX3_run_1 12 rfl rfl)
theorem dX3_run_37 : decode cX3_run 37 = .ok (.iload_n 1, 1) := dk_27 (dk_at dksX3_run_1 13 rfl rfl)
theorem dX3_run_38 : decode cX3_run 38 = .ok (.aload_n 0, 1) := dk_42 (dk_at dksX3_run_1 14 rfl rfl)
theorem dX3_run_39 : decode cX3_run 39 = .ok (.getfield 191, 3) := dk_180 0 191 (dk_at dksX3_run_1 15 rfl rfl)
theorem dX3_run_42 : decode cX3_run 42 = .ok (.if_icmp .ge 19, 3) := dk_162 0 19 (dk_at dksX3_run_1 18 rfl rfl)
theorem dX3_run_45 : decode cX3_run 45 = .ok (.aload_n 0, 1) := dk_42 (dk_at dksX3_run_1 21 rfl rfl)
theorem dX3_run_46 : decode cX3_run 46 = .ok (.iconst 5, 1) := dk_8 (dk_at dksX3_run_1 22 rfl rfl)
theorem dX3_run_47 : decode cX3_run 47 = .ok (.iload_n 1, 1) := dk_27 (dk_at dksX3_run_1 23 rfl rfl)
theorem dX3_run_48 : decode cX3_run 48 = .ok (.imul, 1) := dk_104 (dk_at dksX3_run_2 0 rfl rfl)
theorem dX3_run_49 : decode cX3_run 49 = .ok (.invokevirtual 206, 3) := dk_182 0 206 (dk_at dksX3_run_2 1 rfl rfl)
theorem dX3_run_52 : decode cX3_run 52 = .ok (.ifCond .ne 9, 3) := dk_154 0 9 (dk_at dksX3_run_2 4 rfl rfl)
theorem dX3_run_55 : decode cX3_run 55 = .ok (.iinc 1 1, 3) := dk_132 1 1 (dk_at dksX3_run_2 7 rfl rfl)
theorem dX3_run_58 : decode cX3_run 58 = .ok (.goto (-21), 3) := dk_167 255 235 (dk_at dksX3_run_2 10 rfl rfl)
theorem dX3_run_61 : decode cX3_run 61 = .ok (.iload_n 1, 1) := dk_27 (dk_at dksX3_run_2 13 rfl rfl)
theorem dX3_run_62 : decode cX3_run 62 = .ok (.aload_n 0, 1) := dk_42 (dk_at dksX3_run_2 14 rfl rfl)
theorem dX3_run_63 : decode cX3_run 63 = .ok (.getfield 191, 3) := dk_180 0 191 (dk_at dksX3_run_2 15 rfl rfl)
theorem dX3_run_66 : decode cX3_run 66 = .ok (.if_icmp .ne 7, 3) := dk_160 0 7 (dk_at dksX3_run_2 18 rfl rfl)
theorem dX3_run_69 : decode cX3_run 69 = .ok (.iconst 1, 1) := dk_4 (dk_at dksX3_run_2 21 rfl rfl)
theorem dX3_run_70 : decode cX3_run 70 = .ok (.goto 4, 3) := dk_167 0 4 (dk_at dksX3_run_3 0 rfl rfl)
theorem dX3_run_73 : decode cX3_run 73 = .ok (.iconst 0, 1) := dk_3 (dk_at dksX3_run_3 3 rfl rfl)
theorem dX3_run_74 : decode cX3_run 74 = .ok (.istore_n 2, 1) := dk_61 (dk_at dksX3_run_3 4 rfl rfl)
theorem dX3_run_75 : decode cX3_run 75 = .ok (.aload_n 0, 1) := dk_42 (dk_at dksX3_run_3 5 rfl rfl)
theorem dX3_run_76 : decode cX3_run 76 = .ok (.iload_n 2, 1) := dk_28 (dk_at dksX3_run_3 6 rfl rfl)
theorem dX3_run_77 : decode cX3_run 77 = .ok (.ifCond .eq 10, 3) := dk_153 0 10 (dk_at dksX3_run_3 7 rfl rfl)
theorem dX3_run_80 : decode cX3_run 80 = .ok (.aload_n 0, 1) := dk_42 (dk_at dksX3_run_3 10 rfl rfl)
theorem dX3_run_81 : decode cX3_run 81 = .ok (.getfield 24, 3) := dk_180 0 24 (dk_at dksX3_run_3 11 rfl rfl)
theorem dX3_run_84 : decode cX3_run 84 = .ok (.goto 4, 3) := dk_167 0 4 (dk_at dksX3_run_3 14 rfl rfl)
theorem dX3_run_87 : decode cX3_run 87 = .ok (.iload_n 1, 1) := dk_27 (dk_at dksX3_run_3 17 rfl rfl)
theorem dX3_run_88 : decode cX3_run 88 = .ok (.putfield 24, 3) := dk_181 0 24 (dk_at dksX3_run_3 18 rfl rfl)
theorem dX3_run_91 : decode cX3_run 91 = .ok (.aload_n 0, 1) := dk_42 (dk_at dksX3_run_3 21 rfl rfl)
theorem dX3_run_92 : decode cX3_run 92 = .ok (.aload_n 0, 1) := dk_42 (dk_at dksX3_run_3 22 rfl rfl)
theorem dX3_run_93 : decode cX3_run 93 = .ok (.getfield 191, 3) := dk_180 0 191 (dk_at dksX3_run_4 0 rfl rfl)
theorem dX3_run_96 : decode cX3_run 96 = .ok (.putfield 40, 3) := dk_181 0 40 (dk_at dksX3_run_4 3 rfl rfl)
theorem dX3_run_99 : decode cX3_run 99 = .ok (.aload_n 0, 1) := dk_42 (dk_at dksX3_run_4 6 rfl rfl)
theorem dX3_run_100 : decode cX3_run 100 = .ok (.iload_n 2, 1) := dk_28 (dk_at dksX3_run_4 7 rfl rfl)
theorem dX3_run_101 : decode cX3_run 101 = .ok (.ifCond .eq 7, 3) := dk_153 0 7 (dk_at dksX3_run_4 8 rfl rfl)
theorem dX3_run_104 : decode cX3_run 104 = .ok (.iconst 0, 1) := dk_3 (dk_at dksX3_run_4 11 rfl rfl)
theorem dX3_run_105 : decode cX3_run 105 = .ok (.goto 4, 3) := dk_167 0 4 (dk_at dksX3_run_4 12 rfl rfl)
theorem dX3_run_108 : decode cX3_run 108 = .ok (.iconst 3, 1) := dk_6 (dk_at dksX3_run_4 15 rfl rfl)
theorem dX3_run_109 : decode cX3_run 109 = .ok (.iconst 0, 1) := dk_3 (dk_at dksX3_run_4 16 rfl rfl)
theorem dX3_run_110 : decode cX3_run 110 = .ok (.iconst 0, 1) := dk_3 (dk_at dksX3_run_4 17 rfl rfl)
theorem dX3_run_111 : decode cX3_run 111 = .ok (.iconst 2, 1) := dk_5 (dk_at dksX3_run_4 18 rfl rfl)
theorem dX3_run_112 : decode cX3_run 112 = .ok (.invokevirtual 70, 3) := dk_182 0 70 (dk_at dksX3_run_4 19 rfl rfl)
theorem dX3_run_115 : decode cX3_run 115 = .ok (.ireturn, 1) := dk_172 (dk_at dksX3_run_4 22 rfl rfl)
abbrev cX3_parse : ByteArray := prog_9_method_105_code
def yX3_parse : MethodName := ⟨RX3, "parse", "()V"⟩
def dkwX3_parse_3 : List UInt8 := [42, 42, 180, 0, 173, 181, 0, 176, 177]
abbrev dktX3_parse_3 : List UInt8 := dkwX3_parse_3 ++ []
def dkwX3_parse_2 : List UInt8 := [182, 0, 200, 167, 255, 226, 42, 180, 0, 176, 156, 0, 22, 42, 180, 0, 173, 42, 180, 0, 170, 162, 0, 11]
abbrev dktX3_parse_2 : List UInt8 := dkwX3_parse_2 ++ dktX3_parse_3
def dkwX3_parse_1 : List UInt8 := [156, 0, 29, 42, 182, 0, 179, 16, 59, 160, 0, 20, 42, 89, 180, 0, 173, 4, 96, 181, 0, 173, 42]
abbrev dktX3_parse_1 : List UInt8 := dkwX3_parse_1 ++ dktX3_parse_2
def dkwX3_parse_0 : List UInt8 := [42, 3, 181, 0, 173, 42, 2, 181, 0, 176, 42, 3, 181, 0, 191, 42, 182, 0, 200, 42, 180, 0, 176]
abbrev dktX3_parse_0 : List UInt8 := dkwX3_parse_0 ++ dktX3_parse_1
theorem dksX3_parse_0 : cX3_parse.data.toList.drop 0 = dktX3_parse_0 := by decide +kernel
theorem dksX3_parse_1 : cX3_parse.data.toList.drop 23 = dktX3_parse_1 := dk_seg dksX3_parse_0 23 rfl rfl
theorem dksX3_parse_2 : cX3_parse.data.toList.drop 46 = dktX3_parse_2 := dk_seg dksX3_parse_1 23 rfl rfl
theorem dksX3_parse_3 : cX3_parse.data.toList.drop 70 = dktX3_parse_3 := dk_seg dksX3_parse_2 24 rfl rfl
theorem dX3_parse_0 : decode cX3_parse 0 = .ok (.aload_n 0, 1) := dk_42 (dk_at dksX3_parse_0 0 rfl rfl)
theorem dX3_parse_1 : decode cX3_parse 1 = .ok (.iconst 0, 1) := dk_3 (dk_at dksX3_parse_0 1 rfl rfl)
theorem dX3_parse_2 : decode cX3_parse 2 = .ok (.putfield 173, 3) := dk_181 0 173 (dk_at dksX3_parse_0 2 rfl rfl)
theorem dX3_parse_5 : decode cX3_parse 5 = .ok (.aload_n 0, 1) := dk_42 (dk_at dksX3_parse_0 5 rfl rfl)
theorem dX3_parse_6 : decode cX3_parse 6 = .ok (.iconst (-1), 1) := dk_2 (dk_at dksX3_parse_0 6 rfl rfl)
theorem dX3_parse_7 : decode cX3_parse 7 = .ok (.putfield 176, 3) := dk_181 0 176 (dk_at dksX3_parse_0 7 rfl rfl)
theorem dX3_parse_10 : decode cX3_parse 10 = .ok (.aload_n 0, 1) := dk_42 (dk_at dksX3_parse_0 10 rfl rfl)
theorem dX3_parse_11 : decode cX3_parse 11 = .ok (.iconst 0, 1) := dk_3 (dk_at dksX3_parse_0 11 rfl rfl)
theorem dX3_parse_12 : decode cX3_parse 12 = .ok (.putfield 191, 3) := dk_181 0 191 (dk_at dksX3_parse_0 12 rfl rfl)
theorem dX3_parse_15 : decode cX3_parse 15 = .ok (.aload_n 0, 1) := dk_42 (dk_at dksX3_parse_0 15 rfl rfl)
theorem dX3_parse_16 : decode cX3_parse 16 = .ok (.invokevirtual 200, 3) := dk_182 0 200 (dk_at dksX3_parse_0 16 rfl rfl)
theorem dX3_parse_19 : decode cX3_parse 19 = .ok (.aload_n 0, 1) := dk_42 (dk_at dksX3_parse_0 19 rfl rfl)
theorem dX3_parse_20 : decode cX3_parse 20 = .ok (.getfield 176, 3) := dk_180 0 176 (dk_at dksX3_parse_0 20 rfl rfl)
theorem dX3_parse_23 : decode cX3_parse 23 = .ok (.ifCond .ge 29, 3) := dk_156 0 29 (dk_at dksX3_parse_1 0 rfl rfl)
theorem dX3_parse_26 : decode cX3_parse 26 = .ok (.aload_n 0, 1) := dk_42 (dk_at dksX3_parse_1 3 rfl rfl)
theorem dX3_parse_27 : decode cX3_parse 27 = .ok (.invokevirtual 179, 3) := dk_182 0 179 (dk_at dksX3_parse_1 4 rfl rfl)
theorem dX3_parse_30 : decode cX3_parse 30 = .ok (.bipush 59, 2) := dk_16 59 (dk_at dksX3_parse_1 7 rfl rfl)
theorem dX3_parse_32 : decode cX3_parse 32 = .ok (.if_icmp .ne 20, 3) := dk_160 0 20 (dk_at dksX3_parse_1 9 rfl rfl)
theorem dX3_parse_35 : decode cX3_parse 35 = .ok (.aload_n 0, 1) := dk_42 (dk_at dksX3_parse_1 12 rfl rfl)
theorem dX3_parse_36 : decode cX3_parse 36 = .ok (.dup, 1) := dk_89 (dk_at dksX3_parse_1 13 rfl rfl)
theorem dX3_parse_37 : decode cX3_parse 37 = .ok (.getfield 173, 3) := dk_180 0 173 (dk_at dksX3_parse_1 14 rfl rfl)
theorem dX3_parse_40 : decode cX3_parse 40 = .ok (.iconst 1, 1) := dk_4 (dk_at dksX3_parse_1 17 rfl rfl)
theorem dX3_parse_41 : decode cX3_parse 41 = .ok (.iadd, 1) := dk_96 (dk_at dksX3_parse_1 18 rfl rfl)
theorem dX3_parse_42 : decode cX3_parse 42 = .ok (.putfield 173, 3) := dk_181 0 173 (dk_at dksX3_parse_1 19 rfl rfl)
theorem dX3_parse_45 : decode cX3_parse 45 = .ok (.aload_n 0, 1) := dk_42 (dk_at dksX3_parse_1 22 rfl rfl)
theorem dX3_parse_46 : decode cX3_parse 46 = .ok (.invokevirtual 200, 3) := dk_182 0 200 (dk_at dksX3_parse_2 0 rfl rfl)
theorem dX3_parse_49 : decode cX3_parse 49 = .ok (.goto (-30), 3) := dk_167 255 226 (dk_at dksX3_parse_2 3 rfl rfl)
theorem dX3_parse_52 : decode cX3_parse 52 = .ok (.aload_n 0, 1) := dk_42 (dk_at dksX3_parse_2 6 rfl rfl)
theorem dX3_parse_53 : decode cX3_parse 53 = .ok (.getfield 176, 3) := dk_180 0 176 (dk_at dksX3_parse_2 7 rfl rfl)
theorem dX3_parse_56 : decode cX3_parse 56 = .ok (.ifCond .ge 22, 3) := dk_156 0 22 (dk_at dksX3_parse_2 10 rfl rfl)
theorem dX3_parse_59 : decode cX3_parse 59 = .ok (.aload_n 0, 1) := dk_42 (dk_at dksX3_parse_2 13 rfl rfl)
theorem dX3_parse_60 : decode cX3_parse 60 = .ok (.getfield 173, 3) := dk_180 0 173 (dk_at dksX3_parse_2 14 rfl rfl)
theorem dX3_parse_63 : decode cX3_parse 63 = .ok (.aload_n 0, 1) := dk_42 (dk_at dksX3_parse_2 17 rfl rfl)
theorem dX3_parse_64 : decode cX3_parse 64 = .ok (.getfield 170, 3) := dk_180 0 170 (dk_at dksX3_parse_2 18 rfl rfl)
theorem dX3_parse_67 : decode cX3_parse 67 = .ok (.if_icmp .ge 11, 3) := dk_162 0 11 (dk_at dksX3_parse_2 21 rfl rfl)
theorem dX3_parse_70 : decode cX3_parse 70 = .ok (.aload_n 0, 1) := dk_42 (dk_at dksX3_parse_3 0 rfl rfl)
theorem dX3_parse_71 : decode cX3_parse 71 = .ok (.aload_n 0, 1) := dk_42 (dk_at dksX3_parse_3 1 rfl rfl)
theorem dX3_parse_72 : decode cX3_parse 72 = .ok (.getfield 173, 3) := dk_180 0 173 (dk_at dksX3_parse_3 2 rfl rfl)
theorem dX3_parse_75 : decode cX3_parse 75 = .ok (.putfield 176, 3) := dk_181 0 176 (dk_at dksX3_parse_3 5 rfl rfl)
theorem dX3_parse_78 : decode cX3_parse 78 = .ok (.return_, 1) := dk_177 (dk_at dksX3_parse_3 8 rfl rfl)
abbrev cX3_command : ByteArray := prog_9_method_104_code
def yX3_command : MethodName := ⟨RX3, "command", "()V"⟩
def dkwX3_command_13 : List UInt8 := [79, 177]
abbrev dktX3_command_13 : List UInt8 := dkwX3_command_13 ++ []
def dkwX3_command_12 : List UInt8 := [180, 0, 27, 27, 4, 96, 42, 4, 182, 0, 197, 79, 42, 180, 0, 27, 27, 5, 96, 42, 6, 182, 0, 197]
abbrev dktX3_command_12 : List UInt8 := dkwX3_command_12 ++ dktX3_command_13
def dkwX3_command_11 : List UInt8 := [182, 0, 179, 16, 32, 160, 0, 11, 42, 6, 182, 0, 197, 167, 0, 4, 4, 79, 167, 0, 29, 42]
abbrev dktX3_command_11 : List UInt8 := dkwX3_command_11 ++ dktX3_command_12
def dkwX3_command_10 : List UInt8 := [182, 0, 197, 79, 167, 0, 65, 42, 180, 0, 27, 27, 4, 96, 42, 180, 0, 176, 156, 0, 20, 42]
abbrev dktX3_command_10 : List UInt8 := dkwX3_command_10 ++ dktX3_command_11
def dkwX3_command_9 : List UInt8 := [180, 0, 27, 27, 5, 96, 42, 4, 182, 0, 197, 79, 167, 0, 81, 42, 180, 0, 27, 27, 4, 96, 42, 6]
abbrev dktX3_command_9 : List UInt8 := dkwX3_command_9 ++ dktX3_command_10
def dkwX3_command_8 : List UInt8 := [42, 6, 182, 0, 197, 79, 167, 0, 110, 42, 180, 0, 27, 27, 4, 96, 42, 6, 182, 0, 197, 79, 42]
abbrev dktX3_command_8 : List UInt8 := dkwX3_command_8 ++ dktX3_command_9
def dkwX3_command_7 : List UInt8 := [182, 0, 185, 79, 42, 180, 0, 27, 27, 6, 96, 42, 6, 182, 0, 197, 79, 42, 180, 0, 27, 27, 7, 96]
abbrev dktX3_command_7 : List UInt8 := dkwX3_command_7 ++ dktX3_command_8
def dkwX3_command_6 : List UInt8 := [42, 180, 0, 27, 27, 4, 96, 42, 4, 182, 0, 197, 79, 42, 180, 0, 27, 27, 5, 96, 42, 4]
abbrev dktX3_command_6 : List UInt8 := dkwX3_command_6 ++ dktX3_command_7
def dkwX3_command_5 : List UInt8 := [171, 0, 0, 0, 193, 0, 0, 0, 6, 0, 0, 0, 97, 0, 0, 0, 57, 0, 0, 0, 99, 0, 0, 0, 112, 0, 0, 0, 101, 0, 0, 0, 141, 0, 0, 0, 115, 0, 0, 0, 112, 0, 0, 0, 116, 0, 0, 0, 157, 0, 0, 0, 117, 0, 0, 0, 141]
abbrev dktX3_command_5 : List UInt8 := dkwX3_command_5 ++ dktX3_command_6
def dkwX3_command_4 : List UInt8 := [182, 0, 194, 62, 42, 180, 0, 27, 27, 29, 79, 29]
abbrev dktX3_command_4 : List UInt8 := dkwX3_command_4 ++ dktX3_command_5
def dkwX3_command_3 : List UInt8 := [159, 0, 12, 42, 42, 180, 0, 173, 181, 0, 176, 177, 42, 89, 180, 0, 173, 4, 96, 181, 0, 173, 42, 28]
abbrev dktX3_command_3 : List UInt8 := dkwX3_command_3 ++ dktX3_command_4
def dkwX3_command_2 : List UInt8 := [159, 0, 36, 28, 16, 115, 159, 0, 30, 28, 16, 99, 159, 0, 24, 28, 16, 116, 159, 0, 18, 28, 16, 114]
abbrev dktX3_command_2 : List UInt8 := dkwX3_command_2 ++ dktX3_command_3
def dkwX3_command_1 : List UInt8 := [29, 8, 162, 0, 18, 42, 180, 0, 27, 27, 29, 96, 3, 79, 132, 3, 1, 167, 255, 239, 28, 16, 97]
abbrev dktX3_command_1 : List UInt8 := dkwX3_command_1 ++ dktX3_command_2
def dkwX3_command_0 : List UInt8 := [8, 42, 180, 0, 191, 104, 60, 42, 89, 180, 0, 191, 4, 96, 181, 0, 191, 42, 182, 0, 179, 61, 3, 62]
abbrev dktX3_command_0 : List UInt8 := dkwX3_command_0 ++ dktX3_command_1
theorem dksX3_command_0 : cX3_command.data.toList.drop 0 = dktX3_command_0 := by decide +kernel
theorem dksX3_command_1 : cX3_command.data.toList.drop 24 = dktX3_command_1 := dk_seg dksX3_command_0 24 rfl rfl
theorem dksX3_command_2 : cX3_command.data.toList.drop 47 = dktX3_command_2 := dk_seg dksX3_command_1 23 rfl rfl
theorem dksX3_command_3 : cX3_command.data.toList.drop 71 = dktX3_command_3 := dk_seg dksX3_command_2 24 rfl rfl
theorem dksX3_command_4 : cX3_command.data.toList.drop 95 = dktX3_command_4 := dk_seg dksX3_command_3 24 rfl rfl
theorem dksX3_command_5 : cX3_command.data.toList.drop 107 = dktX3_command_5 := dk_seg dksX3_command_4 12 rfl rfl
theorem dksX3_command_6 : cX3_command.data.toList.drop 164 = dktX3_command_6 := dk_seg dksX3_command_5 57 rfl rfl
theorem dksX3_command_7 : cX3_command.data.toList.drop 186 = dktX3_command_7 := dk_seg dksX3_command_6 22 rfl rfl
theorem dksX3_command_8 : cX3_command.data.toList.drop 210 = dktX3_command_8 := dk_seg dksX3_command_7 24 rfl rfl
theorem dksX3_command_9 : cX3_command.data.toList.drop 233 = dktX3_command_9 := dk_seg dksX3_command_8 23 rfl rfl
theorem dksX3_command_10 : cX3_command.data.toList.drop 257 = dktX3_command_10 := dk_seg dksX3_command_9 24 rfl rfl
theorem dksX3_command_11 : cX3_command.data.toList.drop 279 = dktX3_command_11 := dk_seg dksX3_command_10 22 rfl rfl
theorem dksX3_command_12 : cX3_command.data.toList.drop 301 = dktX3_command_12 := dk_seg dksX3_command_11 22 rfl rfl
theorem dksX3_command_13 : cX3_command.data.toList.drop 325 = dktX3_command_13 := dk_seg dksX3_command_12 24 rfl rfl
theorem dX3_command_0 : decode cX3_command 0 = .ok (.iconst 5, 1) := dk_8 (dk_at dksX3_command_0 0 rfl rfl)
theorem dX3_command_1 : decode cX3_command 1 = .ok (.aload_n 0, 1) := dk_42 (dk_at dksX3_command_0 1 rfl rfl)
theorem dX3_command_2 : decode cX3_command 2 = .ok (.getfield 191, 3) := dk_180 0 191 (dk_at dksX3_command_0 2 rfl rfl)
theorem dX3_command_5 : decode cX3_command 5 = .ok (.imul, 1) := dk_104 (dk_at dksX3_command_0 5 rfl rfl)
theorem dX3_command_6 : decode cX3_command 6 = .ok (.istore_n 1, 1) := dk_60 (dk_at dksX3_command_0 6 rfl rfl)
theorem dX3_command_7 : decode cX3_command 7 = .ok (.aload_n 0, 1) := dk_42 (dk_at dksX3_command_0 7 rfl rfl)
theorem dX3_command_8 : decode cX3_command 8 = .ok (.dup, 1) := dk_89 (dk_at dksX3_command_0 8 rfl rfl)
theorem dX3_command_9 : decode cX3_command 9 = .ok (.getfield 191, 3) := dk_180 0 191 (dk_at dksX3_command_0 9 rfl rfl)
theorem dX3_command_12 : decode cX3_command 12 = .ok (.iconst 1, 1) := dk_4 (dk_at dksX3_command_0 12 rfl rfl)
theorem dX3_command_13 : decode cX3_command 13 = .ok (.iadd, 1) := dk_96 (dk_at dksX3_command_0 13 rfl rfl)
theorem dX3_command_14 : decode cX3_command 14 = .ok (.putfield 191, 3) := dk_181 0 191 (dk_at dksX3_command_0 14 rfl rfl)
theorem dX3_command_17 : decode cX3_command 17 = .ok (.aload_n 0, 1) := dk_42 (dk_at dksX3_command_0 17 rfl rfl)
theorem dX3_command_18 : decode cX3_command 18 = .ok (.invokevirtual 179, 3) := dk_182 0 179 (dk_at dksX3_command_0 18 rfl rfl)
theorem dX3_command_21 : decode cX3_command 21 = .ok (.istore_n 2, 1) := dk_61 (dk_at dksX3_command_0 21 rfl rfl)
theorem dX3_command_22 : decode cX3_command 22 = .ok (.iconst 0, 1) := dk_3 (dk_at dksX3_command_0 22 rfl rfl)
theorem dX3_command_23 : decode cX3_command 23 = .ok (.istore_n 3, 1) := dk_62 (dk_at dksX3_command_0 23 rfl rfl)
theorem dX3_command_24 : decode cX3_command 24 = .ok (.iload_n 3, 1) := dk_29 (dk_at dksX3_command_1 0 rfl rfl)
theorem dX3_command_25 : decode cX3_command 25 = .ok (.iconst 5, 1) := dk_8 (dk_at dksX3_command_1 1 rfl rfl)
theorem dX3_command_26 : decode cX3_command 26 = .ok (.if_icmp .ge 18, 3) := dk_162 0 18 (dk_at dksX3_command_1 2 rfl rfl)
theorem dX3_command_29 : decode cX3_command 29 = .ok (.aload_n 0, 1) := dk_42 (dk_at dksX3_command_1 5 rfl rfl)
theorem dX3_command_30 : decode cX3_command 30 = .ok (.getfield 27, 3) := dk_180 0 27 (dk_at dksX3_command_1 6 rfl rfl)
theorem dX3_command_33 : decode cX3_command 33 = .ok (.iload_n 1, 1) := dk_27 (dk_at dksX3_command_1 9 rfl rfl)
theorem dX3_command_34 : decode cX3_command 34 = .ok (.iload_n 3, 1) := dk_29 (dk_at dksX3_command_1 10 rfl rfl)
theorem dX3_command_35 : decode cX3_command 35 = .ok (.iadd, 1) := dk_96 (dk_at dksX3_command_1 11 rfl rfl)
theorem dX3_command_36 : decode cX3_command 36 = .ok (.iconst 0, 1) := dk_3 (dk_at dksX3_command_1 12 rfl rfl)
theorem dX3_command_37 : decode cX3_command 37 = .ok (.iastore, 1) := dk_79 (dk_at dksX3_command_1 13 rfl rfl)
theorem dX3_command_38 : decode cX3_command 38 = .ok (.iinc 3 1, 3) := dk_132 3 1 (dk_at dksX3_command_1 14 rfl rfl)
theorem dX3_command_41 : decode cX3_command 41 = .ok (.goto (-17), 3) := dk_167 255 239 (dk_at dksX3_command_1 17 rfl rfl)
theorem dX3_command_44 : decode cX3_command 44 = .ok (.iload_n 2, 1) := dk_28 (dk_at dksX3_command_1 20 rfl rfl)
theorem dX3_command_45 : decode cX3_command 45 = .ok (.bipush 97, 2) := dk_16 97 (dk_at dksX3_command_1 21 rfl rfl)
theorem dX3_command_47 : decode cX3_command 47 = .ok (.if_icmp .eq 36, 3) := dk_159 0 36 (dk_at dksX3_command_2 0 rfl rfl)
theorem dX3_command_50 : decode cX3_command 50 = .ok (.iload_n 2, 1) := dk_28 (dk_at dksX3_command_2 3 rfl rfl)
theorem dX3_command_51 : decode cX3_command 51 = .ok (.bipush 115, 2) := dk_16 115 (dk_at dksX3_command_2 4 rfl rfl)
theorem dX3_command_53 : decode cX3_command 53 = .ok (.if_icmp .eq 30, 3) := dk_159 0 30 (dk_at dksX3_command_2 6 rfl rfl)
theorem dX3_command_56 : decode cX3_command 56 = .ok (.iload_n 2, 1) := dk_28 (dk_at dksX3_command_2 9 rfl rfl)
theorem dX3_command_57 : decode cX3_command 57 = .ok (.bipush 99, 2) := dk_16 99 (dk_at dksX3_command_2 10 rfl rfl)
theorem dX3_command_59 : decode cX3_command 59 = .ok (.if_icmp .eq 24, 3) := dk_159 0 24 (dk_at dksX3_command_2 12 rfl rfl)
theorem dX3_command_62 : decode cX3_command 62 = .ok (.iload_n 2, 1) := dk_28 (dk_at dksX3_command_2 15 rfl rfl)
theorem dX3_command_63 : decode cX3_command 63 = .ok (.bipush 116, 2) := dk_16 116 (dk_at dksX3_command_2 16 rfl rfl)
theorem dX3_command_65 : decode cX3_command 65 = .ok (.if_icmp .eq 18, 3) := dk_159 0 18 (dk_at dksX3_command_2 18 rfl rfl)
theorem dX3_command_68 : decode cX3_command 68 = .ok (.iload_n 2, 1) := dk_28 (dk_at dksX3_command_2 21 rfl rfl)
theorem dX3_command_69 : decode cX3_command 69 = .ok (.bipush 114, 2) := dk_16 114 (dk_at dksX3_command_2 22 rfl rfl)
theorem dX3_command_71 : decode cX3_command 71 = .ok (.if_icmp .eq 12, 3) := dk_159 0 12 (dk_at dksX3_command_3 0 rfl rfl)
theorem dX3_command_74 : decode cX3_command 74 = .ok (.aload_n 0, 1) := dk_42 (dk_at dksX3_command_3 3 rfl rfl)
theorem dX3_command_75 : decode cX3_command 75 = .ok (.aload_n 0, 1) := dk_42 (dk_at dksX3_command_3 4 rfl rfl)
theorem dX3_command_76 : decode cX3_command 76 = .ok (.getfield 173, 3) := dk_180 0 173 (dk_at dksX3_command_3 5 rfl rfl)
theorem dX3_command_79 : decode cX3_command 79 = .ok (.putfield 176, 3) := dk_181 0 176 (dk_at dksX3_command_3 8 rfl rfl)
theorem dX3_command_82 : decode cX3_command 82 = .ok (.return_, 1) := dk_177 (dk_at dksX3_command_3 11 rfl rfl)
theorem dX3_command_83 : decode cX3_command 83 = .ok (.aload_n 0, 1) := dk_42 (dk_at dksX3_command_3 12 rfl rfl)
theorem dX3_command_84 : decode cX3_command 84 = .ok (.dup, 1) := dk_89 (dk_at dksX3_command_3 13 rfl rfl)
theorem dX3_command_85 : decode cX3_command 85 = .ok (.getfield 173, 3) := dk_180 0 173 (dk_at dksX3_command_3 14 rfl rfl)
theorem dX3_command_88 : decode cX3_command 88 = .ok (.iconst 1, 1) := dk_4 (dk_at dksX3_command_3 17 rfl rfl)
theorem dX3_command_89 : decode cX3_command 89 = .ok (.iadd, 1) := dk_96 (dk_at dksX3_command_3 18 rfl rfl)
theorem dX3_command_90 : decode cX3_command 90 = .ok (.putfield 173, 3) := dk_181 0 173 (dk_at dksX3_command_3 19 rfl rfl)
theorem dX3_command_93 : decode cX3_command 93 = .ok (.aload_n 0, 1) := dk_42 (dk_at dksX3_command_3 22 rfl rfl)
theorem dX3_command_94 : decode cX3_command 94 = .ok (.iload_n 2, 1) := dk_28 (dk_at dksX3_command_3 23 rfl rfl)
theorem dX3_command_95 : decode cX3_command 95 = .ok (.invokevirtual 194, 3) := dk_182 0 194 (dk_at dksX3_command_4 0 rfl rfl)
theorem dX3_command_98 : decode cX3_command 98 = .ok (.istore_n 3, 1) := dk_62 (dk_at dksX3_command_4 3 rfl rfl)
theorem dX3_command_99 : decode cX3_command 99 = .ok (.aload_n 0, 1) := dk_42 (dk_at dksX3_command_4 4 rfl rfl)
theorem dX3_command_100 : decode cX3_command 100 = .ok (.getfield 27, 3) := dk_180 0 27 (dk_at dksX3_command_4 5 rfl rfl)
theorem dX3_command_103 : decode cX3_command 103 = .ok (.iload_n 1, 1) := dk_27 (dk_at dksX3_command_4 8 rfl rfl)
theorem dX3_command_104 : decode cX3_command 104 = .ok (.iload_n 3, 1) := dk_29 (dk_at dksX3_command_4 9 rfl rfl)
theorem dX3_command_105 : decode cX3_command 105 = .ok (.iastore, 1) := dk_79 (dk_at dksX3_command_4 10 rfl rfl)
theorem dX3_command_106 : decode cX3_command 106 = .ok (.iload_n 3, 1) := dk_29 (dk_at dksX3_command_4 11 rfl rfl)
theorem dX3_command_107 : decode cX3_command 107 = .ok (.lookupswitch 193 #[(97, 57), (99, 112), (101, 141), (115, 112), (116, 157), (117, 141)], 57) := by decide +kernel
theorem dX3_command_164 : decode cX3_command 164 = .ok (.aload_n 0, 1) := dk_42 (dk_at dksX3_command_6 0 rfl rfl)
theorem dX3_command_165 : decode cX3_command 165 = .ok (.getfield 27, 3) := dk_180 0 27 (dk_at dksX3_command_6 1 rfl rfl)
theorem dX3_command_168 : decode cX3_command 168 = .ok (.iload_n 1, 1) := dk_27 (dk_at dksX3_command_6 4 rfl rfl)
theorem dX3_command_169 : decode cX3_command 169 = .ok (.iconst 1, 1) := dk_4 (dk_at dksX3_command_6 5 rfl rfl)
theorem dX3_command_170 : decode cX3_command 170 = .ok (.iadd, 1) := dk_96 (dk_at dksX3_command_6 6 rfl rfl)
theorem dX3_command_171 : decode cX3_command 171 = .ok (.aload_n 0, 1) := dk_42 (dk_at dksX3_command_6 7 rfl rfl)
theorem dX3_command_172 : decode cX3_command 172 = .ok (.iconst 1, 1) := dk_4 (dk_at dksX3_command_6 8 rfl rfl)
theorem dX3_command_173 : decode cX3_command 173 = .ok (.invokevirtual 197, 3) := dk_182 0 197 (dk_at dksX3_command_6 9 rfl rfl)
theorem dX3_command_176 : decode cX3_command 176 = .ok (.iastore, 1) := dk_79 (dk_at dksX3_command_6 12 rfl rfl)
theorem dX3_command_177 : decode cX3_command 177 = .ok (.aload_n 0, 1) := dk_42 (dk_at dksX3_command_6 13 rfl rfl)
theorem dX3_command_178 : decode cX3_command 178 = .ok (.getfield 27, 3) := dk_180 0 27 (dk_at dksX3_command_6 14 rfl rfl)
theorem dX3_command_181 : decode cX3_command 181 = .ok (.iload_n 1, 1) := dk_27 (dk_at dksX3_command_6 17 rfl rfl)
theorem dX3_command_182 : decode cX3_command 182 = .ok (.iconst 2, 1) := dk_5 (dk_at dksX3_command_6 18 rfl rfl)
theorem dX3_command_183 : decode cX3_command 183 = .ok (.iadd, 1) := dk_96 (dk_at dksX3_command_6 19 rfl rfl)
theorem dX3_command_184 : decode cX3_command 184 = .ok (.aload_n 0, 1) := dk_42 (dk_at dksX3_command_6 20 rfl rfl)
theorem dX3_command_185 : decode cX3_command 185 = .ok (.iconst 1, 1) := dk_4 (dk_at dksX3_command_6 21 rfl rfl)
theorem dX3_command_186 : decode cX3_command 186 = .ok (.invokevirtual 185, 3) := dk_182 0 185 (dk_at dksX3_command_7 0 rfl rfl)
theorem dX3_command_189 : decode cX3_command 189 = .ok (.iastore, 1) := dk_79 (dk_at dksX3_command_7 3 rfl rfl)
theorem dX3_command_190 : decode cX3_command 190 = .ok (.aload_n 0, 1) := dk_42 (dk_at dksX3_command_7 4 rfl rfl)
theorem dX3_command_191 : decode cX3_command 191 = .ok (.getfield 27, 3) := dk_180 0 27 (dk_at dksX3_command_7 5 rfl rfl)
theorem dX3_command_194 : decode cX3_command 194 = .ok (.iload_n 1, 1) := dk_27 (dk_at dksX3_command_7 8 rfl rfl)
theorem dX3_command_195 : decode cX3_command 195 = .ok (.iconst 3, 1) := dk_6 (dk_at dksX3_command_7 9 rfl rfl)
theorem dX3_command_196 : decode cX3_command 196 = .ok (.iadd, 1) := dk_96 (dk_at dksX3_command_7 10 rfl rfl)
theorem dX3_command_197 : decode cX3_command 197 = .ok (.aload_n 0, 1) := dk_42 (dk_at dksX3_command_7 11 rfl rfl)
theorem dX3_command_198 : decode cX3_command 198 = .ok (.iconst 3, 1) := dk_6 (dk_at dksX3_command_7 12 rfl rfl)
theorem dX3_command_199 : decode cX3_command 199 = .ok (.invokevirtual 197, 3) := dk_182 0 197 (dk_at dksX3_command_7 13 rfl rfl)
theorem dX3_command_202 : decode cX3_command 202 = .ok (.iastore, 1) := dk_79 (dk_at dksX3_command_7 16 rfl rfl)
theorem dX3_command_203 : decode cX3_command 203 = .ok (.aload_n 0, 1) := dk_42 (dk_at dksX3_command_7 17 rfl rfl)
theorem dX3_command_204 : decode cX3_command 204 = .ok (.getfield 27, 3) := dk_180 0 27 (dk_at dksX3_command_7 18 rfl rfl)
theorem dX3_command_207 : decode cX3_command 207 = .ok (.iload_n 1, 1) := dk_27 (dk_at dksX3_command_7 21 rfl rfl)
theorem dX3_command_208 : decode cX3_command 208 = .ok (.iconst 4, 1) := dk_7 (dk_at dksX3_command_7 22 rfl rfl)
theorem dX3_command_209 : decode cX3_command 209 = .ok (.iadd, 1) := dk_96 (dk_at dksX3_command_7 23 rfl rfl)
theorem dX3_command_210 : decode cX3_command 210 = .ok (.aload_n 0, 1) := dk_42 (dk_at dksX3_command_8 0 rfl rfl)
theorem dX3_command_211 : decode cX3_command 211 = .ok (.iconst 3, 1) := dk_6 (dk_at dksX3_command_8 1 rfl rfl)
theorem dX3_command_212 : decode cX3_command 212 = .ok (.invokevirtual 197, 3) := dk_182 0 197 (dk_at dksX3_command_8 2 rfl rfl)
theorem dX3_command_215 : decode cX3_command 215 = .ok (.iastore, 1) := dk_79 (dk_at dksX3_command_8 5 rfl rfl)
theorem dX3_command_216 : decode cX3_command 216 = .ok (.goto 110, 3) := dk_167 0 110 (dk_at dksX3_command_8 6 rfl rfl)
theorem dX3_command_219 : decode cX3_command 219 = .ok (.aload_n 0, 1) := dk_42 (dk_at dksX3_command_8 9 rfl rfl)
theorem dX3_command_220 : decode cX3_command 220 = .ok (.getfield 27, 3) := dk_180 0 27 (dk_at dksX3_command_8 10 rfl rfl)
theorem dX3_command_223 : decode cX3_command 223 = .ok (.iload_n 1, 1) := dk_27 (dk_at dksX3_command_8 13 rfl rfl)
theorem dX3_command_224 : decode cX3_command 224 = .ok (.iconst 1, 1) := dk_4 (dk_at dksX3_command_8 14 rfl rfl)
theorem dX3_command_225 : decode cX3_command 225 = .ok (.iadd, 1) := dk_96 (dk_at dksX3_command_8 15 rfl rfl)
theorem dX3_command_226 : decode cX3_command 226 = .ok (.aload_n 0, 1) := dk_42 (dk_at dksX3_command_8 16 rfl rfl)
theorem dX3_command_227 : decode cX3_command 227 = .ok (.iconst 3, 1) := dk_6 (dk_at dksX3_command_8 17 rfl rfl)
theorem dX3_command_228 : decode cX3_command 228 = .ok (.invokevirtual 197, 3) := dk_182 0 197 (dk_at dksX3_command_8 18 rfl rfl)
theorem dX3_command_231 : decode cX3_command 231 = .ok (.iastore, 1) := dk_79 (dk_at dksX3_command_8 21 rfl rfl)
theorem dX3_command_232 : decode cX3_command 232 = .ok (.aload_n 0, 1) := dk_42 (dk_at dksX3_command_8 22 rfl rfl)
theorem dX3_command_233 : decode cX3_command 233 = .ok (.getfield 27, 3) := dk_180 0 27 (dk_at dksX3_command_9 0 rfl rfl)
theorem dX3_command_236 : decode cX3_command 236 = .ok (.iload_n 1, 1) := dk_27 (dk_at dksX3_command_9 3 rfl rfl)
theorem dX3_command_237 : decode cX3_command 237 = .ok (.iconst 2, 1) := dk_5 (dk_at dksX3_command_9 4 rfl rfl)
theorem dX3_command_238 : decode cX3_command 238 = .ok (.iadd, 1) := dk_96 (dk_at dksX3_command_9 5 rfl rfl)
theorem dX3_command_239 : decode cX3_command 239 = .ok (.aload_n 0, 1) := dk_42 (dk_at dksX3_command_9 6 rfl rfl)
theorem dX3_command_240 : decode cX3_command 240 = .ok (.iconst 1, 1) := dk_4 (dk_at dksX3_command_9 7 rfl rfl)
theorem dX3_command_241 : decode cX3_command 241 = .ok (.invokevirtual 197, 3) := dk_182 0 197 (dk_at dksX3_command_9 8 rfl rfl)
theorem dX3_command_244 : decode cX3_command 244 = .ok (.iastore, 1) := dk_79 (dk_at dksX3_command_9 11 rfl rfl)
theorem dX3_command_245 : decode cX3_command 245 = .ok (.goto 81, 3) := dk_167 0 81 (dk_at dksX3_command_9 12 rfl rfl)
theorem dX3_command_248 : decode cX3_command 248 = .ok (.aload_n 0, 1) := dk_42 (dk_at dksX3_command_9 15 rfl rfl)
theorem dX3_command_249 : decode cX3_command 249 = .ok (.getfield 27, 3) := dk_180 0 27 (dk_at dksX3_command_9 16 rfl rfl)
theorem dX3_command_252 : decode cX3_command 252 = .ok (.iload_n 1, 1) := dk_27 (dk_at dksX3_command_9 19 rfl rfl)
theorem dX3_command_253 : decode cX3_command 253 = .ok (.iconst 1, 1) := dk_4 (dk_at dksX3_command_9 20 rfl rfl)
theorem dX3_command_254 : decode cX3_command 254 = .ok (.iadd, 1) := dk_96 (dk_at dksX3_command_9 21 rfl rfl)
theorem dX3_command_255 : decode cX3_command 255 = .ok (.aload_n 0, 1) := dk_42 (dk_at dksX3_command_9 22 rfl rfl)
theorem dX3_command_256 : decode cX3_command 256 = .ok (.iconst 3, 1) := dk_6 (dk_at dksX3_command_9 23 rfl rfl)
theorem dX3_command_257 : decode cX3_command 257 = .ok (.invokevirtual 197, 3) := dk_182 0 197 (dk_at dksX3_command_10 0 rfl rfl)
theorem dX3_command_260 : decode cX3_command 260 = .ok (.iastore, 1) := dk_79 (dk_at dksX3_command_10 3 rfl rfl)
theorem dX3_command_261 : decode cX3_command 261 = .ok (.goto 65, 3) := dk_167 0 65 (dk_at dksX3_command_10 4 rfl rfl)
theorem dX3_command_264 : decode cX3_command 264 = .ok (.aload_n 0, 1) := dk_42 (dk_at dksX3_command_10 7 rfl rfl)
theorem dX3_command_265 : decode cX3_command 265 = .ok (.getfield 27, 3) := dk_180 0 27 (dk_at dksX3_command_10 8 rfl rfl)
theorem dX3_command_268 : decode cX3_command 268 = .ok (.iload_n 1, 1) := dk_27 (dk_at dksX3_command_10 11 rfl rfl)
theorem dX3_command_269 : decode cX3_command 269 = .ok (.iconst 1, 1) := dk_4 (dk_at dksX3_command_10 12 rfl rfl)
theorem dX3_command_270 : decode cX3_command 270 = .ok (.iadd, 1) := dk_96 (dk_at dksX3_command_10 13 rfl rfl)
theorem dX3_command_271 : decode cX3_command 271 = .ok (.aload_n 0, 1) := dk_42 (dk_at dksX3_command_10 14 rfl rfl)
theorem dX3_command_272 : decode cX3_command 272 = .ok (.getfield 176, 3) := dk_180 0 176 (dk_at dksX3_command_10 15 rfl rfl)
theorem dX3_command_275 : decode cX3_command 275 = .ok (.ifCond .ge 20, 3) := dk_156 0 20 (dk_at dksX3_command_10 18 rfl rfl)
theorem dX3_command_278 : decode cX3_command 278 = .ok (.aload_n 0, 1) := dk_42 (dk_at dksX3_command_10 21 rfl rfl)
theorem dX3_command_279 : decode cX3_command 279 = .ok (.invokevirtual 179, 3) := dk_182 0 179 (dk_at dksX3_command_11 0 rfl rfl)
theorem dX3_command_282 : decode cX3_command 282 = .ok (.bipush 32, 2) := dk_16 32 (dk_at dksX3_command_11 3 rfl rfl)
theorem dX3_command_284 : decode cX3_command 284 = .ok (.if_icmp .ne 11, 3) := dk_160 0 11 (dk_at dksX3_command_11 5 rfl rfl)
theorem dX3_command_287 : decode cX3_command 287 = .ok (.aload_n 0, 1) := dk_42 (dk_at dksX3_command_11 8 rfl rfl)
theorem dX3_command_288 : decode cX3_command 288 = .ok (.iconst 3, 1) := dk_6 (dk_at dksX3_command_11 9 rfl rfl)
theorem dX3_command_289 : decode cX3_command 289 = .ok (.invokevirtual 197, 3) := dk_182 0 197 (dk_at dksX3_command_11 10 rfl rfl)
theorem dX3_command_292 : decode cX3_command 292 = .ok (.goto 4, 3) := dk_167 0 4 (dk_at dksX3_command_11 13 rfl rfl)
theorem dX3_command_295 : decode cX3_command 295 = .ok (.iconst 1, 1) := dk_4 (dk_at dksX3_command_11 16 rfl rfl)
theorem dX3_command_296 : decode cX3_command 296 = .ok (.iastore, 1) := dk_79 (dk_at dksX3_command_11 17 rfl rfl)
theorem dX3_command_297 : decode cX3_command 297 = .ok (.goto 29, 3) := dk_167 0 29 (dk_at dksX3_command_11 18 rfl rfl)
theorem dX3_command_300 : decode cX3_command 300 = .ok (.aload_n 0, 1) := dk_42 (dk_at dksX3_command_11 21 rfl rfl)
theorem dX3_command_301 : decode cX3_command 301 = .ok (.getfield 27, 3) := dk_180 0 27 (dk_at dksX3_command_12 0 rfl rfl)
theorem dX3_command_304 : decode cX3_command 304 = .ok (.iload_n 1, 1) := dk_27 (dk_at dksX3_command_12 3 rfl rfl)
theorem dX3_command_305 : decode cX3_command 305 = .ok (.iconst 1, 1) := dk_4 (dk_at dksX3_command_12 4 rfl rfl)
theorem dX3_command_306 : decode cX3_command 306 = .ok (.iadd, 1) := dk_96 (dk_at dksX3_command_12 5 rfl rfl)
theorem dX3_command_307 : decode cX3_command 307 = .ok (.aload_n 0, 1) := dk_42 (dk_at dksX3_command_12 6 rfl rfl)
theorem dX3_command_308 : decode cX3_command 308 = .ok (.iconst 1, 1) := dk_4 (dk_at dksX3_command_12 7 rfl rfl)
theorem dX3_command_309 : decode cX3_command 309 = .ok (.invokevirtual 197, 3) := dk_182 0 197 (dk_at dksX3_command_12 8 rfl rfl)
theorem dX3_command_312 : decode cX3_command 312 = .ok (.iastore, 1) := dk_79 (dk_at dksX3_command_12 11 rfl rfl)
theorem dX3_command_313 : decode cX3_command 313 = .ok (.aload_n 0, 1) := dk_42 (dk_at dksX3_command_12 12 rfl rfl)
theorem dX3_command_314 : decode cX3_command 314 = .ok (.getfield 27, 3) := dk_180 0 27 (dk_at dksX3_command_12 13 rfl rfl)
theorem dX3_command_317 : decode cX3_command 317 = .ok (.iload_n 1, 1) := dk_27 (dk_at dksX3_command_12 16 rfl rfl)
theorem dX3_command_318 : decode cX3_command 318 = .ok (.iconst 2, 1) := dk_5 (dk_at dksX3_command_12 17 rfl rfl)
theorem dX3_command_319 : decode cX3_command 319 = .ok (.iadd, 1) := dk_96 (dk_at dksX3_command_12 18 rfl rfl)
theorem dX3_command_320 : decode cX3_command 320 = .ok (.aload_n 0, 1) := dk_42 (dk_at dksX3_command_12 19 rfl rfl)
theorem dX3_command_321 : decode cX3_command 321 = .ok (.iconst 3, 1) := dk_6 (dk_at dksX3_command_12 20 rfl rfl)
theorem dX3_command_322 : decode cX3_command 322 = .ok (.invokevirtual 197, 3) := dk_182 0 197 (dk_at dksX3_command_12 21 rfl rfl)
theorem dX3_command_325 : decode cX3_command 325 = .ok (.iastore, 1) := dk_79 (dk_at dksX3_command_13 0 rfl rfl)
theorem dX3_command_326 : decode cX3_command 326 = .ok (.return_, 1) := dk_177 (dk_at dksX3_command_13 1 rfl rfl)
abbrev cX3_next : ByteArray := prog_9_method_98_code
def yX3_next : MethodName := ⟨RX3, "next", "()I"⟩
def dkwX3_next_1 : List UInt8 := [172]
abbrev dktX3_next_1 : List UInt8 := dkwX3_next_1 ++ []
def dkwX3_next_0 : List UInt8 := [42, 180, 0, 173, 42, 180, 0, 170, 162, 0, 15, 42, 180, 0, 17, 42, 180, 0, 173, 52, 167, 0, 4, 2]
abbrev dktX3_next_0 : List UInt8 := dkwX3_next_0 ++ dktX3_next_1
theorem dksX3_next_0 : cX3_next.data.toList.drop 0 = dktX3_next_0 := by decide +kernel
theorem dksX3_next_1 : cX3_next.data.toList.drop 24 = dktX3_next_1 := dk_seg dksX3_next_0 24 rfl rfl
theorem dX3_next_0 : decode cX3_next 0 = .ok (.aload_n 0, 1) := dk_42 (dk_at dksX3_next_0 0 rfl rfl)
theorem dX3_next_1 : decode cX3_next 1 = .ok (.getfield 173, 3) := dk_180 0 173 (dk_at dksX3_next_0 1 rfl rfl)
theorem dX3_next_4 : decode cX3_next 4 = .ok (.aload_n 0, 1) := dk_42 (dk_at dksX3_next_0 4 rfl rfl)
theorem dX3_next_5 : decode cX3_next 5 = .ok (.getfield 170, 3) := dk_180 0 170 (dk_at dksX3_next_0 5 rfl rfl)
theorem dX3_next_8 : decode cX3_next 8 = .ok (.if_icmp .ge 15, 3) := dk_162 0 15 (dk_at dksX3_next_0 8 rfl rfl)
theorem dX3_next_11 : decode cX3_next 11 = .ok (.aload_n 0, 1) := dk_42 (dk_at dksX3_next_0 11 rfl rfl)
theorem dX3_next_12 : decode cX3_next 12 = .ok (.getfield 17, 3) := dk_180 0 17 (dk_at dksX3_next_0 12 rfl rfl)
theorem dX3_next_15 : decode cX3_next 15 = .ok (.aload_n 0, 1) := dk_42 (dk_at dksX3_next_0 15 rfl rfl)
theorem dX3_next_16 : decode cX3_next 16 = .ok (.getfield 173, 3) := dk_180 0 173 (dk_at dksX3_next_0 16 rfl rfl)
theorem dX3_next_19 : decode cX3_next 19 = .ok (.caload, 1) := dk_52 (dk_at dksX3_next_0 19 rfl rfl)
theorem dX3_next_20 : decode cX3_next 20 = .ok (.goto 4, 3) := dk_167 0 4 (dk_at dksX3_next_0 20 rfl rfl)
theorem dX3_next_23 : decode cX3_next 23 = .ok (.iconst (-1), 1) := dk_2 (dk_at dksX3_next_0 23 rfl rfl)
theorem dX3_next_24 : decode cX3_next 24 = .ok (.ireturn, 1) := dk_172 (dk_at dksX3_next_1 0 rfl rfl)
abbrev cX3_word : ByteArray := prog_9_method_103_code
def yX3_word : MethodName := ⟨RX3, "word", "(I)I"⟩
def dkwX3_word_8 : List UInt8 := [16, 105, 16, 103, 16, 110, 182, 0, 188, 16, 115, 172]
abbrev dktX3_word_8 : List UInt8 := dkwX3_word_8 ++ []
def dkwX3_word_7 : List UInt8 := [16, 116, 16, 116, 182, 0, 188, 42, 16, 108, 182, 0, 182, 42, 16, 101, 182, 0, 182, 16, 101, 172, 42]
abbrev dktX3_word_7 : List UInt8 := dkwX3_word_7 ++ dktX3_word_8
def dkwX3_word_6 : List UInt8 := [16, 100, 182, 0, 182, 42, 16, 100, 182, 0, 182, 16, 97, 172, 28, 16, 101, 160, 0, 28, 42, 16, 101]
abbrev dktX3_word_6 : List UInt8 := dkwX3_word_6 ++ dktX3_word_7
def dkwX3_word_5 : List UInt8 := [160, 0, 22, 42, 16, 117, 16, 100, 16, 105, 182, 0, 188, 42, 16, 116, 182, 0, 182, 16, 117, 172, 42]
abbrev dktX3_word_5 : List UInt8 := dkwX3_word_5 ++ dktX3_word_6
def dkwX3_word_4 : List UInt8 := [182, 0, 188, 16, 116, 172, 42, 16, 97, 16, 116, 16, 101, 182, 0, 188, 16, 114, 172, 28, 16, 117]
abbrev dktX3_word_4 : List UInt8 := dkwX3_word_4 ++ dktX3_word_5
def dkwX3_word_3 : List UInt8 := [16, 105, 16, 103, 182, 0, 188, 42, 16, 110, 182, 0, 182, 16, 99, 172, 42, 16, 105, 16, 99, 16, 107]
abbrev dktX3_word_3 : List UInt8 := dkwX3_word_3 ++ dktX3_word_4
def dkwX3_word_2 : List UInt8 := [42, 16, 111, 16, 117, 16, 110, 182, 0, 188, 42, 16, 116, 16, 101, 16, 114, 182, 0, 188, 42, 16, 115]
abbrev dktX3_word_2 : List UInt8 := dkwX3_word_2 ++ dktX3_word_3
def dkwX3_word_1 : List UInt8 := [171, 0, 0, 0, 0, 147, 0, 0, 0, 4, 0, 0, 0, 97, 0, 0, 0, 107, 0, 0, 0, 99, 0, 0, 0, 42, 0, 0, 0, 114, 0, 0, 0, 94, 0, 0, 0, 116, 0, 0, 0, 81]
abbrev dktX3_word_1 : List UInt8 := dkwX3_word_1 ++ dktX3_word_2
def dkwX3_word_0 : List UInt8 := [42, 182, 0, 179, 61, 27]
abbrev dktX3_word_0 : List UInt8 := dkwX3_word_0 ++ dktX3_word_1
theorem dksX3_word_0 : cX3_word.data.toList.drop 0 = dktX3_word_0 := by decide +kernel
theorem dksX3_word_1 : cX3_word.data.toList.drop 6 = dktX3_word_1 := dk_seg dksX3_word_0 6 rfl rfl
theorem dksX3_word_2 : cX3_word.data.toList.drop 48 = dktX3_word_2 := dk_seg dksX3_word_1 42 rfl rfl
theorem dksX3_word_3 : cX3_word.data.toList.drop 71 = dktX3_word_3 := dk_seg dksX3_word_2 23 rfl rfl
theorem dksX3_word_4 : cX3_word.data.toList.drop 94 = dktX3_word_4 := dk_seg dksX3_word_3 23 rfl rfl
theorem dksX3_word_5 : cX3_word.data.toList.drop 116 = dktX3_word_5 := dk_seg dksX3_word_4 22 rfl rfl
theorem dksX3_word_6 : cX3_word.data.toList.drop 139 = dktX3_word_6 := dk_seg dksX3_word_5 23 rfl rfl
theorem dksX3_word_7 : cX3_word.data.toList.drop 162 = dktX3_word_7 := dk_seg dksX3_word_6 23 rfl rfl
theorem dksX3_word_8 : cX3_word.data.toList.drop 185 = dktX3_word_8 := dk_seg dksX3_word_7 23 rfl rfl
theorem dX3_word_0 : decode cX3_word 0 = .ok (.aload_n 0, 1) := dk_42 (dk_at dksX3_word_0 0 rfl rfl)
theorem dX3_word_1 : decode cX3_word 1 = .ok (.invokevirtual 179, 3) := dk_182 0 179 (dk_at dksX3_word_0 1 rfl rfl)
theorem dX3_word_4 : decode cX3_word 4 = .ok (.istore_n 2, 1) := dk_61 (dk_at dksX3_word_0 4 rfl rfl)
theorem dX3_word_5 : decode cX3_word 5 = .ok (.iload_n 1, 1) := dk_27 (dk_at dksX3_word_0 5 rfl rfl)
theorem dX3_word_6 : decode cX3_word 6 = .ok (.lookupswitch 147 #[(97, 107), (99, 42), (114, 94), (116, 81)], 42) := by decide +kernel
theorem dX3_word_48 : decode cX3_word 48 = .ok (.aload_n 0, 1) := dk_42 (dk_at dksX3_word_2 0 rfl rfl)
theorem dX3_word_49 : decode cX3_word 49 = .ok (.bipush 111, 2) := dk_16 111 (dk_at dksX3_word_2 1 rfl rfl)
theorem dX3_word_51 : decode cX3_word 51 = .ok (.bipush 117, 2) := dk_16 117 (dk_at dksX3_word_2 3 rfl rfl)
theorem dX3_word_53 : decode cX3_word 53 = .ok (.bipush 110, 2) := dk_16 110 (dk_at dksX3_word_2 5 rfl rfl)
theorem dX3_word_55 : decode cX3_word 55 = .ok (.invokevirtual 188, 3) := dk_182 0 188 (dk_at dksX3_word_2 7 rfl rfl)
theorem dX3_word_58 : decode cX3_word 58 = .ok (.aload_n 0, 1) := dk_42 (dk_at dksX3_word_2 10 rfl rfl)
theorem dX3_word_59 : decode cX3_word 59 = .ok (.bipush 116, 2) := dk_16 116 (dk_at dksX3_word_2 11 rfl rfl)
theorem dX3_word_61 : decode cX3_word 61 = .ok (.bipush 101, 2) := dk_16 101 (dk_at dksX3_word_2 13 rfl rfl)
theorem dX3_word_63 : decode cX3_word 63 = .ok (.bipush 114, 2) := dk_16 114 (dk_at dksX3_word_2 15 rfl rfl)
theorem dX3_word_65 : decode cX3_word 65 = .ok (.invokevirtual 188, 3) := dk_182 0 188 (dk_at dksX3_word_2 17 rfl rfl)
theorem dX3_word_68 : decode cX3_word 68 = .ok (.aload_n 0, 1) := dk_42 (dk_at dksX3_word_2 20 rfl rfl)
theorem dX3_word_69 : decode cX3_word 69 = .ok (.bipush 115, 2) := dk_16 115 (dk_at dksX3_word_2 21 rfl rfl)
theorem dX3_word_71 : decode cX3_word 71 = .ok (.bipush 105, 2) := dk_16 105 (dk_at dksX3_word_3 0 rfl rfl)
theorem dX3_word_73 : decode cX3_word 73 = .ok (.bipush 103, 2) := dk_16 103 (dk_at dksX3_word_3 2 rfl rfl)
theorem dX3_word_75 : decode cX3_word 75 = .ok (.invokevirtual 188, 3) := dk_182 0 188 (dk_at dksX3_word_3 4 rfl rfl)
theorem dX3_word_78 : decode cX3_word 78 = .ok (.aload_n 0, 1) := dk_42 (dk_at dksX3_word_3 7 rfl rfl)
theorem dX3_word_79 : decode cX3_word 79 = .ok (.bipush 110, 2) := dk_16 110 (dk_at dksX3_word_3 8 rfl rfl)
theorem dX3_word_81 : decode cX3_word 81 = .ok (.invokevirtual 182, 3) := dk_182 0 182 (dk_at dksX3_word_3 10 rfl rfl)
theorem dX3_word_84 : decode cX3_word 84 = .ok (.bipush 99, 2) := dk_16 99 (dk_at dksX3_word_3 13 rfl rfl)
theorem dX3_word_86 : decode cX3_word 86 = .ok (.ireturn, 1) := dk_172 (dk_at dksX3_word_3 15 rfl rfl)
theorem dX3_word_87 : decode cX3_word 87 = .ok (.aload_n 0, 1) := dk_42 (dk_at dksX3_word_3 16 rfl rfl)
theorem dX3_word_88 : decode cX3_word 88 = .ok (.bipush 105, 2) := dk_16 105 (dk_at dksX3_word_3 17 rfl rfl)
theorem dX3_word_90 : decode cX3_word 90 = .ok (.bipush 99, 2) := dk_16 99 (dk_at dksX3_word_3 19 rfl rfl)
theorem dX3_word_92 : decode cX3_word 92 = .ok (.bipush 107, 2) := dk_16 107 (dk_at dksX3_word_3 21 rfl rfl)
theorem dX3_word_94 : decode cX3_word 94 = .ok (.invokevirtual 188, 3) := dk_182 0 188 (dk_at dksX3_word_4 0 rfl rfl)
theorem dX3_word_97 : decode cX3_word 97 = .ok (.bipush 116, 2) := dk_16 116 (dk_at dksX3_word_4 3 rfl rfl)
theorem dX3_word_99 : decode cX3_word 99 = .ok (.ireturn, 1) := dk_172 (dk_at dksX3_word_4 5 rfl rfl)
theorem dX3_word_100 : decode cX3_word 100 = .ok (.aload_n 0, 1) := dk_42 (dk_at dksX3_word_4 6 rfl rfl)
theorem dX3_word_101 : decode cX3_word 101 = .ok (.bipush 97, 2) := dk_16 97 (dk_at dksX3_word_4 7 rfl rfl)
theorem dX3_word_103 : decode cX3_word 103 = .ok (.bipush 116, 2) := dk_16 116 (dk_at dksX3_word_4 9 rfl rfl)
theorem dX3_word_105 : decode cX3_word 105 = .ok (.bipush 101, 2) := dk_16 101 (dk_at dksX3_word_4 11 rfl rfl)
theorem dX3_word_107 : decode cX3_word 107 = .ok (.invokevirtual 188, 3) := dk_182 0 188 (dk_at dksX3_word_4 13 rfl rfl)
theorem dX3_word_110 : decode cX3_word 110 = .ok (.bipush 114, 2) := dk_16 114 (dk_at dksX3_word_4 16 rfl rfl)
theorem dX3_word_112 : decode cX3_word 112 = .ok (.ireturn, 1) := dk_172 (dk_at dksX3_word_4 18 rfl rfl)
theorem dX3_word_113 : decode cX3_word 113 = .ok (.iload_n 2, 1) := dk_28 (dk_at dksX3_word_4 19 rfl rfl)
theorem dX3_word_114 : decode cX3_word 114 = .ok (.bipush 117, 2) := dk_16 117 (dk_at dksX3_word_4 20 rfl rfl)
theorem dX3_word_116 : decode cX3_word 116 = .ok (.if_icmp .ne 22, 3) := dk_160 0 22 (dk_at dksX3_word_5 0 rfl rfl)
theorem dX3_word_119 : decode cX3_word 119 = .ok (.aload_n 0, 1) := dk_42 (dk_at dksX3_word_5 3 rfl rfl)
theorem dX3_word_120 : decode cX3_word 120 = .ok (.bipush 117, 2) := dk_16 117 (dk_at dksX3_word_5 4 rfl rfl)
theorem dX3_word_122 : decode cX3_word 122 = .ok (.bipush 100, 2) := dk_16 100 (dk_at dksX3_word_5 6 rfl rfl)
theorem dX3_word_124 : decode cX3_word 124 = .ok (.bipush 105, 2) := dk_16 105 (dk_at dksX3_word_5 8 rfl rfl)
theorem dX3_word_126 : decode cX3_word 126 = .ok (.invokevirtual 188, 3) := dk_182 0 188 (dk_at dksX3_word_5 10 rfl rfl)
theorem dX3_word_129 : decode cX3_word 129 = .ok (.aload_n 0, 1) := dk_42 (dk_at dksX3_word_5 13 rfl rfl)
theorem dX3_word_130 : decode cX3_word 130 = .ok (.bipush 116, 2) := dk_16 116 (dk_at dksX3_word_5 14 rfl rfl)
theorem dX3_word_132 : decode cX3_word 132 = .ok (.invokevirtual 182, 3) := dk_182 0 182 (dk_at dksX3_word_5 16 rfl rfl)
theorem dX3_word_135 : decode cX3_word 135 = .ok (.bipush 117, 2) := dk_16 117 (dk_at dksX3_word_5 19 rfl rfl)
theorem dX3_word_137 : decode cX3_word 137 = .ok (.ireturn, 1) := dk_172 (dk_at dksX3_word_5 21 rfl rfl)
theorem dX3_word_138 : decode cX3_word 138 = .ok (.aload_n 0, 1) := dk_42 (dk_at dksX3_word_5 22 rfl rfl)
theorem dX3_word_139 : decode cX3_word 139 = .ok (.bipush 100, 2) := dk_16 100 (dk_at dksX3_word_6 0 rfl rfl)
theorem dX3_word_141 : decode cX3_word 141 = .ok (.invokevirtual 182, 3) := dk_182 0 182 (dk_at dksX3_word_6 2 rfl rfl)
theorem dX3_word_144 : decode cX3_word 144 = .ok (.aload_n 0, 1) := dk_42 (dk_at dksX3_word_6 5 rfl rfl)
theorem dX3_word_145 : decode cX3_word 145 = .ok (.bipush 100, 2) := dk_16 100 (dk_at dksX3_word_6 6 rfl rfl)
theorem dX3_word_147 : decode cX3_word 147 = .ok (.invokevirtual 182, 3) := dk_182 0 182 (dk_at dksX3_word_6 8 rfl rfl)
theorem dX3_word_150 : decode cX3_word 150 = .ok (.bipush 97, 2) := dk_16 97 (dk_at dksX3_word_6 11 rfl rfl)
theorem dX3_word_152 : decode cX3_word 152 = .ok (.ireturn, 1) := dk_172 (dk_at dksX3_word_6 13 rfl rfl)
theorem dX3_word_153 : decode cX3_word 153 = .ok (.iload_n 2, 1) := dk_28 (dk_at dksX3_word_6 14 rfl rfl)
theorem dX3_word_154 : decode cX3_word 154 = .ok (.bipush 101, 2) := dk_16 101 (dk_at dksX3_word_6 15 rfl rfl)
theorem dX3_word_156 : decode cX3_word 156 = .ok (.if_icmp .ne 28, 3) := dk_160 0 28 (dk_at dksX3_word_6 17 rfl rfl)
theorem dX3_word_159 : decode cX3_word 159 = .ok (.aload_n 0, 1) := dk_42 (dk_at dksX3_word_6 20 rfl rfl)
theorem dX3_word_160 : decode cX3_word 160 = .ok (.bipush 101, 2) := dk_16 101 (dk_at dksX3_word_6 21 rfl rfl)
theorem dX3_word_162 : decode cX3_word 162 = .ok (.bipush 116, 2) := dk_16 116 (dk_at dksX3_word_7 0 rfl rfl)
theorem dX3_word_164 : decode cX3_word 164 = .ok (.bipush 116, 2) := dk_16 116 (dk_at dksX3_word_7 2 rfl rfl)
theorem dX3_word_166 : decode cX3_word 166 = .ok (.invokevirtual 188, 3) := dk_182 0 188 (dk_at dksX3_word_7 4 rfl rfl)
theorem dX3_word_169 : decode cX3_word 169 = .ok (.aload_n 0, 1) := dk_42 (dk_at dksX3_word_7 7 rfl rfl)
theorem dX3_word_170 : decode cX3_word 170 = .ok (.bipush 108, 2) := dk_16 108 (dk_at dksX3_word_7 8 rfl rfl)
theorem dX3_word_172 : decode cX3_word 172 = .ok (.invokevirtual 182, 3) := dk_182 0 182 (dk_at dksX3_word_7 10 rfl rfl)
theorem dX3_word_175 : decode cX3_word 175 = .ok (.aload_n 0, 1) := dk_42 (dk_at dksX3_word_7 13 rfl rfl)
theorem dX3_word_176 : decode cX3_word 176 = .ok (.bipush 101, 2) := dk_16 101 (dk_at dksX3_word_7 14 rfl rfl)
theorem dX3_word_178 : decode cX3_word 178 = .ok (.invokevirtual 182, 3) := dk_182 0 182 (dk_at dksX3_word_7 16 rfl rfl)
theorem dX3_word_181 : decode cX3_word 181 = .ok (.bipush 101, 2) := dk_16 101 (dk_at dksX3_word_7 19 rfl rfl)
theorem dX3_word_183 : decode cX3_word 183 = .ok (.ireturn, 1) := dk_172 (dk_at dksX3_word_7 21 rfl rfl)
theorem dX3_word_184 : decode cX3_word 184 = .ok (.aload_n 0, 1) := dk_42 (dk_at dksX3_word_7 22 rfl rfl)
theorem dX3_word_185 : decode cX3_word 185 = .ok (.bipush 105, 2) := dk_16 105 (dk_at dksX3_word_8 0 rfl rfl)
theorem dX3_word_187 : decode cX3_word 187 = .ok (.bipush 103, 2) := dk_16 103 (dk_at dksX3_word_8 2 rfl rfl)
theorem dX3_word_189 : decode cX3_word 189 = .ok (.bipush 110, 2) := dk_16 110 (dk_at dksX3_word_8 4 rfl rfl)
theorem dX3_word_191 : decode cX3_word 191 = .ok (.invokevirtual 188, 3) := dk_182 0 188 (dk_at dksX3_word_8 6 rfl rfl)
theorem dX3_word_194 : decode cX3_word 194 = .ok (.bipush 115, 2) := dk_16 115 (dk_at dksX3_word_8 9 rfl rfl)
theorem dX3_word_196 : decode cX3_word 196 = .ok (.ireturn, 1) := dk_172 (dk_at dksX3_word_8 11 rfl rfl)
abbrev cX3_three : ByteArray := prog_9_method_100_code
def yX3_three : MethodName := ⟨RX3, "three", "(III)V"⟩
def dkwX3_three_0 : List UInt8 := [42, 27, 182, 0, 182, 42, 28, 182, 0, 182, 42, 29, 182, 0, 182, 177]
abbrev dktX3_three_0 : List UInt8 := dkwX3_three_0 ++ []
theorem dksX3_three_0 : cX3_three.data.toList.drop 0 = dktX3_three_0 := by decide +kernel
theorem dX3_three_0 : decode cX3_three 0 = .ok (.aload_n 0, 1) := dk_42 (dk_at dksX3_three_0 0 rfl rfl)
theorem dX3_three_1 : decode cX3_three 1 = .ok (.iload_n 1, 1) := dk_27 (dk_at dksX3_three_0 1 rfl rfl)
theorem dX3_three_2 : decode cX3_three 2 = .ok (.invokevirtual 182, 3) := dk_182 0 182 (dk_at dksX3_three_0 2 rfl rfl)
theorem dX3_three_5 : decode cX3_three 5 = .ok (.aload_n 0, 1) := dk_42 (dk_at dksX3_three_0 5 rfl rfl)
theorem dX3_three_6 : decode cX3_three 6 = .ok (.iload_n 2, 1) := dk_28 (dk_at dksX3_three_0 6 rfl rfl)
theorem dX3_three_7 : decode cX3_three 7 = .ok (.invokevirtual 182, 3) := dk_182 0 182 (dk_at dksX3_three_0 7 rfl rfl)
theorem dX3_three_10 : decode cX3_three 10 = .ok (.aload_n 0, 1) := dk_42 (dk_at dksX3_three_0 10 rfl rfl)
theorem dX3_three_11 : decode cX3_three 11 = .ok (.iload_n 3, 1) := dk_29 (dk_at dksX3_three_0 11 rfl rfl)
theorem dX3_three_12 : decode cX3_three 12 = .ok (.invokevirtual 182, 3) := dk_182 0 182 (dk_at dksX3_three_0 12 rfl rfl)
theorem dX3_three_15 : decode cX3_three 15 = .ok (.return_, 1) := dk_177 (dk_at dksX3_three_0 15 rfl rfl)
abbrev cX3_needs : ByteArray := prog_9_method_99_code
def yX3_needs : MethodName := ⟨RX3, "needs", "(I)V"⟩
def dkwX3_needs_1 : List UInt8 := [177, 42, 89, 180, 0, 173, 4, 96, 181, 0, 173, 177]
abbrev dktX3_needs_1 : List UInt8 := dkwX3_needs_1 ++ []
def dkwX3_needs_0 : List UInt8 := [42, 180, 0, 176, 155, 0, 4, 177, 42, 182, 0, 179, 27, 159, 0, 12, 42, 42, 180, 0, 173, 181, 0, 176]
abbrev dktX3_needs_0 : List UInt8 := dkwX3_needs_0 ++ dktX3_needs_1
theorem dksX3_needs_0 : cX3_needs.data.toList.drop 0 = dktX3_needs_0 := by decide +kernel
theorem dksX3_needs_1 : cX3_needs.data.toList.drop 24 = dktX3_needs_1 := dk_seg dksX3_needs_0 24 rfl rfl
theorem dX3_needs_0 : decode cX3_needs 0 = .ok (.aload_n 0, 1) := dk_42 (dk_at dksX3_needs_0 0 rfl rfl)
theorem dX3_needs_1 : decode cX3_needs 1 = .ok (.getfield 176, 3) := dk_180 0 176 (dk_at dksX3_needs_0 1 rfl rfl)
theorem dX3_needs_4 : decode cX3_needs 4 = .ok (.ifCond .lt 4, 3) := dk_155 0 4 (dk_at dksX3_needs_0 4 rfl rfl)
theorem dX3_needs_7 : decode cX3_needs 7 = .ok (.return_, 1) := dk_177 (dk_at dksX3_needs_0 7 rfl rfl)
theorem dX3_needs_8 : decode cX3_needs 8 = .ok (.aload_n 0, 1) := dk_42 (dk_at dksX3_needs_0 8 rfl rfl)
theorem dX3_needs_9 : decode cX3_needs 9 = .ok (.invokevirtual 179, 3) := dk_182 0 179 (dk_at dksX3_needs_0 9 rfl rfl)
theorem dX3_needs_12 : decode cX3_needs 12 = .ok (.iload_n 1, 1) := dk_27 (dk_at dksX3_needs_0 12 rfl rfl)
theorem dX3_needs_13 : decode cX3_needs 13 = .ok (.if_icmp .eq 12, 3) := dk_159 0 12 (dk_at dksX3_needs_0 13 rfl rfl)
theorem dX3_needs_16 : decode cX3_needs 16 = .ok (.aload_n 0, 1) := dk_42 (dk_at dksX3_needs_0 16 rfl rfl)
theorem dX3_needs_17 : decode cX3_needs 17 = .ok (.aload_n 0, 1) := dk_42 (dk_at dksX3_needs_0 17 rfl rfl)
theorem dX3_needs_18 : decode cX3_needs 18 = .ok (.getfield 173, 3) := dk_180 0 173 (dk_at dksX3_needs_0 18 rfl rfl)
theorem dX3_needs_21 : decode cX3_needs 21 = .ok (.putfield 176, 3) := dk_181 0 176 (dk_at dksX3_needs_0 21 rfl rfl)
theorem dX3_needs_24 : decode cX3_needs 24 = .ok (.return_, 1) := dk_177 (dk_at dksX3_needs_1 0 rfl rfl)
theorem dX3_needs_25 : decode cX3_needs 25 = .ok (.aload_n 0, 1) := dk_42 (dk_at dksX3_needs_1 1 rfl rfl)
theorem dX3_needs_26 : decode cX3_needs 26 = .ok (.dup, 1) := dk_89 (dk_at dksX3_needs_1 2 rfl rfl)
theorem dX3_needs_27 : decode cX3_needs 27 = .ok (.getfield 173, 3) := dk_180 0 173 (dk_at dksX3_needs_1 3 rfl rfl)
theorem dX3_needs_30 : decode cX3_needs 30 = .ok (.iconst 1, 1) := dk_4 (dk_at dksX3_needs_1 6 rfl rfl)
theorem dX3_needs_31 : decode cX3_needs 31 = .ok (.iadd, 1) := dk_96 (dk_at dksX3_needs_1 7 rfl rfl)
theorem dX3_needs_32 : decode cX3_needs 32 = .ok (.putfield 173, 3) := dk_181 0 173 (dk_at dksX3_needs_1 8 rfl rfl)
theorem dX3_needs_35 : decode cX3_needs 35 = .ok (.return_, 1) := dk_177 (dk_at dksX3_needs_1 11 rfl rfl)
abbrev cX3_behind : ByteArray := prog_9_method_102_code
def yX3_behind : MethodName := ⟨RX3, "behind", "(I)I"⟩
def dkwX3_behind_0 : List UInt8 := [42, 16, 32, 182, 0, 182, 42, 27, 182, 0, 185, 172]
abbrev dktX3_behind_0 : List UInt8 := dkwX3_behind_0 ++ []
theorem dksX3_behind_0 : cX3_behind.data.toList.drop 0 = dktX3_behind_0 := by decide +kernel
theorem dX3_behind_0 : decode cX3_behind 0 = .ok (.aload_n 0, 1) := dk_42 (dk_at dksX3_behind_0 0 rfl rfl)
theorem dX3_behind_1 : decode cX3_behind 1 = .ok (.bipush 32, 2) := dk_16 32 (dk_at dksX3_behind_0 1 rfl rfl)
theorem dX3_behind_3 : decode cX3_behind 3 = .ok (.invokevirtual 182, 3) := dk_182 0 182 (dk_at dksX3_behind_0 3 rfl rfl)
theorem dX3_behind_6 : decode cX3_behind 6 = .ok (.aload_n 0, 1) := dk_42 (dk_at dksX3_behind_0 6 rfl rfl)
theorem dX3_behind_7 : decode cX3_behind 7 = .ok (.iload_n 1, 1) := dk_27 (dk_at dksX3_behind_0 7 rfl rfl)
theorem dX3_behind_8 : decode cX3_behind 8 = .ok (.invokevirtual 185, 3) := dk_182 0 185 (dk_at dksX3_behind_0 8 rfl rfl)
theorem dX3_behind_11 : decode cX3_behind 11 = .ok (.ireturn, 1) := dk_172 (dk_at dksX3_behind_0 11 rfl rfl)
abbrev cX3_number : ByteArray := prog_9_method_101_code
def yX3_number : MethodName := ⟨RX3, "number", "(I)I"⟩
def dkwX3_number_3 : List UInt8 := [180, 0, 173, 4, 96, 181, 0, 173, 132, 3, 1, 167, 255, 211, 28, 172]
abbrev dktX3_number_3 : List UInt8 := dkwX3_number_3 ++ []
def dkwX3_number_2 : List UInt8 := [16, 57, 184, 0, 55, 153, 0, 32, 16, 10, 28, 104, 42, 182, 0, 179, 96, 16, 48, 100, 61, 42, 89]
abbrev dktX3_number_2 : List UInt8 := dkwX3_number_2 ++ dktX3_number_3
def dkwX3_number_1 : List UInt8 := [42, 180, 0, 173, 181, 0, 176, 3, 172, 3, 61, 3, 62, 29, 27, 162, 0, 46, 42, 182, 0, 179, 16, 48]
abbrev dktX3_number_1 : List UInt8 := dkwX3_number_1 ++ dktX3_number_2
def dkwX3_number_0 : List UInt8 := [42, 180, 0, 176, 155, 0, 5, 3, 172, 42, 182, 0, 179, 16, 48, 16, 57, 184, 0, 55, 154, 0, 13, 42]
abbrev dktX3_number_0 : List UInt8 := dkwX3_number_0 ++ dktX3_number_1
theorem dksX3_number_0 : cX3_number.data.toList.drop 0 = dktX3_number_0 := by decide +kernel
theorem dksX3_number_1 : cX3_number.data.toList.drop 24 = dktX3_number_1 := dk_seg dksX3_number_0 24 rfl rfl
theorem dksX3_number_2 : cX3_number.data.toList.drop 48 = dktX3_number_2 := dk_seg dksX3_number_1 24 rfl rfl
theorem dksX3_number_3 : cX3_number.data.toList.drop 71 = dktX3_number_3 := dk_seg dksX3_number_2 23 rfl rfl
theorem dX3_number_0 : decode cX3_number 0 = .ok (.aload_n 0, 1) := dk_42 (dk_at dksX3_number_0 0 rfl rfl)
theorem dX3_number_1 : decode cX3_number 1 = .ok (.getfield 176, 3) := dk_180 0 176 (dk_at dksX3_number_0 1 rfl rfl)
theorem dX3_number_4 : decode cX3_number 4 = .ok (.ifCond .lt 5, 3) := dk_155 0 5 (dk_at dksX3_number_0 4 rfl rfl)
theorem dX3_number_7 : decode cX3_number 7 = .ok (.iconst 0, 1) := dk_3 (dk_at dksX3_number_0 7 rfl rfl)
theorem dX3_number_8 : decode cX3_number 8 = .ok (.ireturn, 1) := dk_172 (dk_at dksX3_number_0 8 rfl rfl)
theorem dX3_number_9 : decode cX3_number 9 = .ok (.aload_n 0, 1) := dk_42 (dk_at dksX3_number_0 9 rfl rfl)
theorem dX3_number_10 : decode cX3_number 10 = .ok (.invokevirtual 179, 3) := dk_182 0 179 (dk_at dksX3_number_0 10 rfl rfl)
theorem dX3_number_13 : decode cX3_number 13 = .ok (.bipush 48, 2) := dk_16 48 (dk_at dksX3_number_0 13 rfl rfl)
theorem dX3_number_15 : decode cX3_number 15 = .ok (.bipush 57, 2) := dk_16 57 (dk_at dksX3_number_0 15 rfl rfl)
theorem dX3_number_17 : decode cX3_number 17 = .ok (.invokestatic 55, 3) := dk_184 0 55 (dk_at dksX3_number_0 17 rfl rfl)
theorem dX3_number_20 : decode cX3_number 20 = .ok (.ifCond .ne 13, 3) := dk_154 0 13 (dk_at dksX3_number_0 20 rfl rfl)
theorem dX3_number_23 : decode cX3_number 23 = .ok (.aload_n 0, 1) := dk_42 (dk_at dksX3_number_0 23 rfl rfl)
theorem dX3_number_24 : decode cX3_number 24 = .ok (.aload_n 0, 1) := dk_42 (dk_at dksX3_number_1 0 rfl rfl)
theorem dX3_number_25 : decode cX3_number 25 = .ok (.getfield 173, 3) := dk_180 0 173 (dk_at dksX3_number_1 1 rfl rfl)
theorem dX3_number_28 : decode cX3_number 28 = .ok (.putfield 176, 3) := dk_181 0 176 (dk_at dksX3_number_1 4 rfl rfl)
theorem dX3_number_31 : decode cX3_number 31 = .ok (.iconst 0, 1) := dk_3 (dk_at dksX3_number_1 7 rfl rfl)
theorem dX3_number_32 : decode cX3_number 32 = .ok (.ireturn, 1) := dk_172 (dk_at dksX3_number_1 8 rfl rfl)
theorem dX3_number_33 : decode cX3_number 33 = .ok (.iconst 0, 1) := dk_3 (dk_at dksX3_number_1 9 rfl rfl)
theorem dX3_number_34 : decode cX3_number 34 = .ok (.istore_n 2, 1) := dk_61 (dk_at dksX3_number_1 10 rfl rfl)
theorem dX3_number_35 : decode cX3_number 35 = .ok (.iconst 0, 1) := dk_3 (dk_at dksX3_number_1 11 rfl rfl)
theorem dX3_number_36 : decode cX3_number 36 = .ok (.istore_n 3, 1) := dk_62 (dk_at dksX3_number_1 12 rfl rfl)
theorem dX3_number_37 : decode cX3_number 37 = .ok (.iload_n 3, 1) := dk_29 (dk_at dksX3_number_1 13 rfl rfl)
theorem dX3_number_38 : decode cX3_number 38 = .ok (.iload_n 1, 1) := dk_27 (dk_at dksX3_number_1 14 rfl rfl)
theorem dX3_number_39 : decode cX3_number 39 = .ok (.if_icmp .ge 46, 3) := dk_162 0 46 (dk_at dksX3_number_1 15 rfl rfl)
theorem dX3_number_42 : decode cX3_number 42 = .ok (.aload_n 0, 1) := dk_42 (dk_at dksX3_number_1 18 rfl rfl)
theorem dX3_number_43 : decode cX3_number 43 = .ok (.invokevirtual 179, 3) := dk_182 0 179 (dk_at dksX3_number_1 19 rfl rfl)
theorem dX3_number_46 : decode cX3_number 46 = .ok (.bipush 48, 2) := dk_16 48 (dk_at dksX3_number_1 22 rfl rfl)
theorem dX3_number_48 : decode cX3_number 48 = .ok (.bipush 57, 2) := dk_16 57 (dk_at dksX3_number_2 0 rfl rfl)
theorem dX3_number_50 : decode cX3_number 50 = .ok (.invokestatic 55, 3) := dk_184 0 55 (dk_at dksX3_number_2 2 rfl rfl)
theorem dX3_number_53 : decode cX3_number 53 = .ok (.ifCond .eq 32, 3) := dk_153 0 32 (dk_at dksX3_number_2 5 rfl rfl)
theorem dX3_number_56 : decode cX3_number 56 = .ok (.bipush 10, 2) := dk_16 10 (dk_at dksX3_number_2 8 rfl rfl)
theorem dX3_number_58 : decode cX3_number 58 = .ok (.iload_n 2, 1) := dk_28 (dk_at dksX3_number_2 10 rfl rfl)
theorem dX3_number_59 : decode cX3_number 59 = .ok (.imul, 1) := dk_104 (dk_at dksX3_number_2 11 rfl rfl)
theorem dX3_number_60 : decode cX3_number 60 = .ok (.aload_n 0, 1) := dk_42 (dk_at dksX3_number_2 12 rfl rfl)
theorem dX3_number_61 : decode cX3_number 61 = .ok (.invokevirtual 179, 3) := dk_182 0 179 (dk_at dksX3_number_2 13 rfl rfl)
theorem dX3_number_64 : decode cX3_number 64 = .ok (.iadd, 1) := dk_96 (dk_at dksX3_number_2 16 rfl rfl)
theorem dX3_number_65 : decode cX3_number 65 = .ok (.bipush 48, 2) := dk_16 48 (dk_at dksX3_number_2 17 rfl rfl)
theorem dX3_number_67 : decode cX3_number 67 = .ok (.isub, 1) := dk_100 (dk_at dksX3_number_2 19 rfl rfl)
theorem dX3_number_68 : decode cX3_number 68 = .ok (.istore_n 2, 1) := dk_61 (dk_at dksX3_number_2 20 rfl rfl)
theorem dX3_number_69 : decode cX3_number 69 = .ok (.aload_n 0, 1) := dk_42 (dk_at dksX3_number_2 21 rfl rfl)
theorem dX3_number_70 : decode cX3_number 70 = .ok (.dup, 1) := dk_89 (dk_at dksX3_number_2 22 rfl rfl)
theorem dX3_number_71 : decode cX3_number 71 = .ok (.getfield 173, 3) := dk_180 0 173 (dk_at dksX3_number_3 0 rfl rfl)
theorem dX3_number_74 : decode cX3_number 74 = .ok (.iconst 1, 1) := dk_4 (dk_at dksX3_number_3 3 rfl rfl)
theorem dX3_number_75 : decode cX3_number 75 = .ok (.iadd, 1) := dk_96 (dk_at dksX3_number_3 4 rfl rfl)
theorem dX3_number_76 : decode cX3_number 76 = .ok (.putfield 173, 3) := dk_181 0 173 (dk_at dksX3_number_3 5 rfl rfl)
theorem dX3_number_79 : decode cX3_number 79 = .ok (.iinc 3 1, 3) := dk_132 3 1 (dk_at dksX3_number_3 8 rfl rfl)
theorem dX3_number_82 : decode cX3_number 82 = .ok (.goto (-45), 3) := dk_167 255 211 (dk_at dksX3_number_3 11 rfl rfl)
theorem dX3_number_85 : decode cX3_number 85 = .ok (.iload_n 2, 1) := dk_28 (dk_at dksX3_number_3 14 rfl rfl)
theorem dX3_number_86 : decode cX3_number 86 = .ok (.ireturn, 1) := dk_172 (dk_at dksX3_number_3 15 rfl rfl)
abbrev cX3_does : ByteArray := prog_9_method_106_code
def yX3_does : MethodName := ⟨RX3, "does", "(I)I"⟩
def dkwX3_does_4 : List UInt8 := [172, 42, 28, 182, 0, 112, 172, 42, 28, 29, 182, 0, 121, 172]
abbrev dktX3_does_4 : List UInt8 := dkwX3_does_4 ++ []
def dkwX3_does_3 : List UInt8 := [28, 29, 182, 0, 83, 172, 42, 28, 29, 182, 0, 89, 172, 42, 28, 182, 0, 96, 172, 42, 28, 182, 0, 118]
abbrev dktX3_does_3 : List UInt8 := dkwX3_does_3 ++ dktX3_does_4
def dkwX3_does_2 : List UInt8 := [42, 28, 29, 42, 180, 0, 27, 27, 6, 96, 46, 42, 180, 0, 27, 27, 7, 96, 46, 182, 0, 66, 172, 42]
abbrev dktX3_does_2 : List UInt8 := dkwX3_does_2 ++ dktX3_does_3
def dkwX3_does_1 : List UInt8 := [171, 0, 0, 0, 0, 0, 0, 115, 0, 0, 0, 6, 0, 0, 0, 97, 0, 0, 0, 60, 0, 0, 0, 99, 0, 0, 0, 90, 0, 0, 0, 101, 0, 0, 0, 97, 0, 0, 0, 115, 0, 0, 0, 83, 0, 0, 0, 116, 0, 0, 0, 109, 0, 0, 0, 117, 0, 0, 0, 103]
abbrev dktX3_does_1 : List UInt8 := dkwX3_does_1 ++ dktX3_does_2
def dkwX3_does_0 : List UInt8 := [42, 180, 0, 27, 27, 4, 96, 46, 61, 42, 180, 0, 27, 27, 5, 96, 46, 62, 42, 180, 0, 27, 27, 46]
abbrev dktX3_does_0 : List UInt8 := dkwX3_does_0 ++ dktX3_does_1
theorem dksX3_does_0 : cX3_does.data.toList.drop 0 = dktX3_does_0 := by decide +kernel
theorem dksX3_does_1 : cX3_does.data.toList.drop 24 = dktX3_does_1 := dk_seg dksX3_does_0 24 rfl rfl
theorem dksX3_does_2 : cX3_does.data.toList.drop 84 = dktX3_does_2 := dk_seg dksX3_does_1 60 rfl rfl
theorem dksX3_does_3 : cX3_does.data.toList.drop 108 = dktX3_does_3 := dk_seg dksX3_does_2 24 rfl rfl
theorem dksX3_does_4 : cX3_does.data.toList.drop 132 = dktX3_does_4 := dk_seg dksX3_does_3 24 rfl rfl
theorem dX3_does_0 : decode cX3_does 0 = .ok (.aload_n 0, 1) := dk_42 (dk_at dksX3_does_0 0 rfl rfl)
theorem dX3_does_1 : decode cX3_does 1 = .ok (.getfield 27, 3) := dk_180 0 27 (dk_at dksX3_does_0 1 rfl rfl)
theorem dX3_does_4 : decode cX3_does 4 = .ok (.iload_n 1, 1) := dk_27 (dk_at dksX3_does_0 4 rfl rfl)
theorem dX3_does_5 : decode cX3_does 5 = .ok (.iconst 1, 1) := dk_4 (dk_at dksX3_does_0 5 rfl rfl)
theorem dX3_does_6 : decode cX3_does 6 = .ok (.iadd, 1) := dk_96 (dk_at dksX3_does_0 6 rfl rfl)
theorem dX3_does_7 : decode cX3_does 7 = .ok (.iaload, 1) := dk_46 (dk_at dksX3_does_0 7 rfl rfl)
theorem dX3_does_8 : decode cX3_does 8 = .ok (.istore_n 2, 1) := dk_61 (dk_at dksX3_does_0 8 rfl rfl)
theorem dX3_does_9 : decode cX3_does 9 = .ok (.aload_n 0, 1) := dk_42 (dk_at dksX3_does_0 9 rfl rfl)
theorem dX3_does_10 : decode cX3_does 10 = .ok (.getfield 27, 3) := dk_180 0 27 (dk_at dksX3_does_0 10 rfl rfl)
theorem dX3_does_13 : decode cX3_does 13 = .ok (.iload_n 1, 1) := dk_27 (dk_at dksX3_does_0 13 rfl rfl)
theorem dX3_does_14 : decode cX3_does 14 = .ok (.iconst 2, 1) := dk_5 (dk_at dksX3_does_0 14 rfl rfl)
theorem dX3_does_15 : decode cX3_does 15 = .ok (.iadd, 1) := dk_96 (dk_at dksX3_does_0 15 rfl rfl)
theorem dX3_does_16 : decode cX3_does 16 = .ok (.iaload, 1) := dk_46 (dk_at dksX3_does_0 16 rfl rfl)
theorem dX3_does_17 : decode cX3_does 17 = .ok (.istore_n 3, 1) := dk_62 (dk_at dksX3_does_0 17 rfl rfl)
theorem dX3_does_18 : decode cX3_does 18 = .ok (.aload_n 0, 1) := dk_42 (dk_at dksX3_does_0 18 rfl rfl)
theorem dX3_does_19 : decode cX3_does 19 = .ok (.getfield 27, 3) := dk_180 0 27 (dk_at dksX3_does_0 19 rfl rfl)
theorem dX3_does_22 : decode cX3_does 22 = .ok (.iload_n 1, 1) := dk_27 (dk_at dksX3_does_0 22 rfl rfl)
theorem dX3_does_23 : decode cX3_does 23 = .ok (.iaload, 1) := dk_46 (dk_at dksX3_does_0 23 rfl rfl)
theorem dX3_does_24 : decode cX3_does 24 = .ok (.lookupswitch 115 #[(97, 60), (99, 90), (101, 97), (115, 83), (116, 109), (117, 103)], 60) := by decide +kernel
theorem dX3_does_84 : decode cX3_does 84 = .ok (.aload_n 0, 1) := dk_42 (dk_at dksX3_does_2 0 rfl rfl)
theorem dX3_does_85 : decode cX3_does 85 = .ok (.iload_n 2, 1) := dk_28 (dk_at dksX3_does_2 1 rfl rfl)
theorem dX3_does_86 : decode cX3_does 86 = .ok (.iload_n 3, 1) := dk_29 (dk_at dksX3_does_2 2 rfl rfl)
theorem dX3_does_87 : decode cX3_does 87 = .ok (.aload_n 0, 1) := dk_42 (dk_at dksX3_does_2 3 rfl rfl)
theorem dX3_does_88 : decode cX3_does 88 = .ok (.getfield 27, 3) := dk_180 0 27 (dk_at dksX3_does_2 4 rfl rfl)
theorem dX3_does_91 : decode cX3_does 91 = .ok (.iload_n 1, 1) := dk_27 (dk_at dksX3_does_2 7 rfl rfl)
theorem dX3_does_92 : decode cX3_does 92 = .ok (.iconst 3, 1) := dk_6 (dk_at dksX3_does_2 8 rfl rfl)
theorem dX3_does_93 : decode cX3_does 93 = .ok (.iadd, 1) := dk_96 (dk_at dksX3_does_2 9 rfl rfl)
theorem dX3_does_94 : decode cX3_does 94 = .ok (.iaload, 1) := dk_46 (dk_at dksX3_does_2 10 rfl rfl)
theorem dX3_does_95 : decode cX3_does 95 = .ok (.aload_n 0, 1) := dk_42 (dk_at dksX3_does_2 11 rfl rfl)
theorem dX3_does_96 : decode cX3_does 96 = .ok (.getfield 27, 3) := dk_180 0 27 (dk_at dksX3_does_2 12 rfl rfl)
theorem dX3_does_99 : decode cX3_does 99 = .ok (.iload_n 1, 1) := dk_27 (dk_at dksX3_does_2 15 rfl rfl)
theorem dX3_does_100 : decode cX3_does 100 = .ok (.iconst 4, 1) := dk_7 (dk_at dksX3_does_2 16 rfl rfl)
theorem dX3_does_101 : decode cX3_does 101 = .ok (.iadd, 1) := dk_96 (dk_at dksX3_does_2 17 rfl rfl)
theorem dX3_does_102 : decode cX3_does 102 = .ok (.iaload, 1) := dk_46 (dk_at dksX3_does_2 18 rfl rfl)
theorem dX3_does_103 : decode cX3_does 103 = .ok (.invokevirtual 66, 3) := dk_182 0 66 (dk_at dksX3_does_2 19 rfl rfl)
theorem dX3_does_106 : decode cX3_does 106 = .ok (.ireturn, 1) := dk_172 (dk_at dksX3_does_2 22 rfl rfl)
theorem dX3_does_107 : decode cX3_does 107 = .ok (.aload_n 0, 1) := dk_42 (dk_at dksX3_does_2 23 rfl rfl)
theorem dX3_does_108 : decode cX3_does 108 = .ok (.iload_n 2, 1) := dk_28 (dk_at dksX3_does_3 0 rfl rfl)
theorem dX3_does_109 : decode cX3_does 109 = .ok (.iload_n 3, 1) := dk_29 (dk_at dksX3_does_3 1 rfl rfl)
theorem dX3_does_110 : decode cX3_does 110 = .ok (.invokevirtual 83, 3) := dk_182 0 83 (dk_at dksX3_does_3 2 rfl rfl)
theorem dX3_does_113 : decode cX3_does 113 = .ok (.ireturn, 1) := dk_172 (dk_at dksX3_does_3 5 rfl rfl)
theorem dX3_does_114 : decode cX3_does 114 = .ok (.aload_n 0, 1) := dk_42 (dk_at dksX3_does_3 6 rfl rfl)
theorem dX3_does_115 : decode cX3_does 115 = .ok (.iload_n 2, 1) := dk_28 (dk_at dksX3_does_3 7 rfl rfl)
theorem dX3_does_116 : decode cX3_does 116 = .ok (.iload_n 3, 1) := dk_29 (dk_at dksX3_does_3 8 rfl rfl)
theorem dX3_does_117 : decode cX3_does 117 = .ok (.invokevirtual 89, 3) := dk_182 0 89 (dk_at dksX3_does_3 9 rfl rfl)
theorem dX3_does_120 : decode cX3_does 120 = .ok (.ireturn, 1) := dk_172 (dk_at dksX3_does_3 12 rfl rfl)
theorem dX3_does_121 : decode cX3_does 121 = .ok (.aload_n 0, 1) := dk_42 (dk_at dksX3_does_3 13 rfl rfl)
theorem dX3_does_122 : decode cX3_does 122 = .ok (.iload_n 2, 1) := dk_28 (dk_at dksX3_does_3 14 rfl rfl)
theorem dX3_does_123 : decode cX3_does 123 = .ok (.invokevirtual 96, 3) := dk_182 0 96 (dk_at dksX3_does_3 15 rfl rfl)
theorem dX3_does_126 : decode cX3_does 126 = .ok (.ireturn, 1) := dk_172 (dk_at dksX3_does_3 18 rfl rfl)
theorem dX3_does_127 : decode cX3_does 127 = .ok (.aload_n 0, 1) := dk_42 (dk_at dksX3_does_3 19 rfl rfl)
theorem dX3_does_128 : decode cX3_does 128 = .ok (.iload_n 2, 1) := dk_28 (dk_at dksX3_does_3 20 rfl rfl)
theorem dX3_does_129 : decode cX3_does 129 = .ok (.invokevirtual 118, 3) := dk_182 0 118 (dk_at dksX3_does_3 21 rfl rfl)
theorem dX3_does_132 : decode cX3_does 132 = .ok (.ireturn, 1) := dk_172 (dk_at dksX3_does_4 0 rfl rfl)
theorem dX3_does_133 : decode cX3_does 133 = .ok (.aload_n 0, 1) := dk_42 (dk_at dksX3_does_4 1 rfl rfl)
theorem dX3_does_134 : decode cX3_does 134 = .ok (.iload_n 2, 1) := dk_28 (dk_at dksX3_does_4 2 rfl rfl)
theorem dX3_does_135 : decode cX3_does 135 = .ok (.invokevirtual 112, 3) := dk_182 0 112 (dk_at dksX3_does_4 3 rfl rfl)
theorem dX3_does_138 : decode cX3_does 138 = .ok (.ireturn, 1) := dk_172 (dk_at dksX3_does_4 6 rfl rfl)
theorem dX3_does_139 : decode cX3_does 139 = .ok (.aload_n 0, 1) := dk_42 (dk_at dksX3_does_4 7 rfl rfl)
theorem dX3_does_140 : decode cX3_does 140 = .ok (.iload_n 2, 1) := dk_28 (dk_at dksX3_does_4 8 rfl rfl)
theorem dX3_does_141 : decode cX3_does 141 = .ok (.iload_n 3, 1) := dk_29 (dk_at dksX3_does_4 9 rfl rfl)
theorem dX3_does_142 : decode cX3_does 142 = .ok (.invokevirtual 121, 3) := dk_182 0 121 (dk_at dksX3_does_4 10 rfl rfl)
theorem dX3_does_145 : decode cX3_does 145 = .ok (.ireturn, 1) := dk_172 (dk_at dksX3_does_4 13 rfl rfl)
abbrev cX3_errorPosition : ByteArray := prog_9_method_108_code
def yX3_errorPosition : MethodName := ⟨RX3, "errorPosition", "()I"⟩
def dkwX3_errorPosition_1 : List UInt8 := [167, 0, 4, 3, 172]
abbrev dktX3_errorPosition_1 : List UInt8 := dkwX3_errorPosition_1 ++ []
def dkwX3_errorPosition_0 : List UInt8 := [42, 42, 180, 0, 20, 2, 159, 0, 7, 4, 167, 0, 4, 3, 182, 0, 124, 153, 0, 10, 42, 180, 0, 20]
abbrev dktX3_errorPosition_0 : List UInt8 := dkwX3_errorPosition_0 ++ dktX3_errorPosition_1
theorem dksX3_errorPosition_0 : cX3_errorPosition.data.toList.drop 0 = dktX3_errorPosition_0 := by decide +kernel
theorem dksX3_errorPosition_1 : cX3_errorPosition.data.toList.drop 24 = dktX3_errorPosition_1 := dk_seg dksX3_errorPosition_0 24 rfl rfl
theorem dX3_errorPosition_0 : decode cX3_errorPosition 0 = .ok (.aload_n 0, 1) := dk_42 (dk_at dksX3_errorPosition_0 0 rfl rfl)
theorem dX3_errorPosition_1 : decode cX3_errorPosition 1 = .ok (.aload_n 0, 1) := dk_42 (dk_at dksX3_errorPosition_0 1 rfl rfl)
theorem dX3_errorPosition_2 : decode cX3_errorPosition 2 = .ok (.getfield 20, 3) := dk_180 0 20 (dk_at dksX3_errorPosition_0 2 rfl rfl)
theorem dX3_errorPosition_5 : decode cX3_errorPosition 5 = .ok (.iconst (-1), 1) := dk_2 (dk_at dksX3_errorPosition_0 5 rfl rfl)
theorem dX3_errorPosition_6 : decode cX3_errorPosition 6 = .ok (.if_icmp .eq 7, 3) := dk_159 0 7 (dk_at dksX3_errorPosition_0 6 rfl rfl)
theorem dX3_errorPosition_9 : decode cX3_errorPosition 9 = .ok (.iconst 1, 1) := dk_4 (dk_at dksX3_errorPosition_0 9 rfl rfl)
theorem dX3_errorPosition_10 : decode cX3_errorPosition 10 = .ok (.goto 4, 3) := dk_167 0 4 (dk_at dksX3_errorPosition_0 10 rfl rfl)
theorem dX3_errorPosition_13 : decode cX3_errorPosition 13 = .ok (.iconst 0, 1) := dk_3 (dk_at dksX3_errorPosition_0 13 rfl rfl)
theorem dX3_errorPosition_14 : decode cX3_errorPosition 14 = .ok (.invokevirtual 124, 3) := dk_182 0 124 (dk_at dksX3_errorPosition_0 14 rfl rfl)
theorem dX3_errorPosition_17 : decode cX3_errorPosition 17 = .ok (.ifCond .eq 10, 3) := dk_153 0 10 (dk_at dksX3_errorPosition_0 17 rfl rfl)
theorem dX3_errorPosition_20 : decode cX3_errorPosition 20 = .ok (.aload_n 0, 1) := dk_42 (dk_at dksX3_errorPosition_0 20 rfl rfl)
theorem dX3_errorPosition_21 : decode cX3_errorPosition 21 = .ok (.getfield 20, 3) := dk_180 0 20 (dk_at dksX3_errorPosition_0 21 rfl rfl)
theorem dX3_errorPosition_24 : decode cX3_errorPosition 24 = .ok (.goto 4, 3) := dk_167 0 4 (dk_at dksX3_errorPosition_1 0 rfl rfl)
theorem dX3_errorPosition_27 : decode cX3_errorPosition 27 = .ok (.iconst 0, 1) := dk_3 (dk_at dksX3_errorPosition_1 3 rfl rfl)
theorem dX3_errorPosition_28 : decode cX3_errorPosition 28 = .ok (.ireturn, 1) := dk_172 (dk_at dksX3_errorPosition_1 4 rfl rfl)
abbrev cX3_failedCommand : ByteArray := prog_9_method_109_code
def yX3_failedCommand : MethodName := ⟨RX3, "failedCommand", "()I"⟩
def dkwX3_failedCommand_1 : List UInt8 := [167, 0, 4, 3, 172]
abbrev dktX3_failedCommand_1 : List UInt8 := dkwX3_failedCommand_1 ++ []
def dkwX3_failedCommand_0 : List UInt8 := [42, 42, 180, 0, 24, 2, 159, 0, 7, 4, 167, 0, 4, 3, 182, 0, 124, 153, 0, 10, 42, 180, 0, 24]
abbrev dktX3_failedCommand_0 : List UInt8 := dkwX3_failedCommand_0 ++ dktX3_failedCommand_1
theorem dksX3_failedCommand_0 : cX3_failedCommand.data.toList.drop 0 = dktX3_failedCommand_0 := by decide +kernel
theorem dksX3_failedCommand_1 : cX3_failedCommand.data.toList.drop 24 = dktX3_failedCommand_1 := dk_seg dksX3_failedCommand_0 24 rfl rfl
theorem dX3_failedCommand_0 : decode cX3_failedCommand 0 = .ok (.aload_n 0, 1) := dk_42 (dk_at dksX3_failedCommand_0 0 rfl rfl)
theorem dX3_failedCommand_1 : decode cX3_failedCommand 1 = .ok (.aload_n 0, 1) := dk_42 (dk_at dksX3_failedCommand_0 1 rfl rfl)
theorem dX3_failedCommand_2 : decode cX3_failedCommand 2 = .ok (.getfield 24, 3) := dk_180 0 24 (dk_at dksX3_failedCommand_0 2 rfl rfl)
theorem dX3_failedCommand_5 : decode cX3_failedCommand 5 = .ok (.iconst (-1), 1) := dk_2 (dk_at dksX3_failedCommand_0 5 rfl rfl)
theorem dX3_failedCommand_6 : decode cX3_failedCommand 6 = .ok (.if_icmp .eq 7, 3) := dk_159 0 7 (dk_at dksX3_failedCommand_0 6 rfl rfl)
theorem dX3_failedCommand_9 : decode cX3_failedCommand 9 = .ok (.iconst 1, 1) := dk_4 (dk_at dksX3_failedCommand_0 9 rfl rfl)
theorem dX3_failedCommand_10 : decode cX3_failedCommand 10 = .ok (.goto 4, 3) := dk_167 0 4 (dk_at dksX3_failedCommand_0 10 rfl rfl)
theorem dX3_failedCommand_13 : decode cX3_failedCommand 13 = .ok (.iconst 0, 1) := dk_3 (dk_at dksX3_failedCommand_0 13 rfl rfl)
theorem dX3_failedCommand_14 : decode cX3_failedCommand 14 = .ok (.invokevirtual 124, 3) := dk_182 0 124 (dk_at dksX3_failedCommand_0 14 rfl rfl)
theorem dX3_failedCommand_17 : decode cX3_failedCommand 17 = .ok (.ifCond .eq 10, 3) := dk_153 0 10 (dk_at dksX3_failedCommand_0 17 rfl rfl)
theorem dX3_failedCommand_20 : decode cX3_failedCommand 20 = .ok (.aload_n 0, 1) := dk_42 (dk_at dksX3_failedCommand_0 20 rfl rfl)
theorem dX3_failedCommand_21 : decode cX3_failedCommand 21 = .ok (.getfield 24, 3) := dk_180 0 24 (dk_at dksX3_failedCommand_0 21 rfl rfl)
theorem dX3_failedCommand_24 : decode cX3_failedCommand 24 = .ok (.goto 4, 3) := dk_167 0 4 (dk_at dksX3_failedCommand_1 0 rfl rfl)
theorem dX3_failedCommand_27 : decode cX3_failedCommand 27 = .ok (.iconst 0, 1) := dk_3 (dk_at dksX3_failedCommand_1 3 rfl rfl)
theorem dX3_failedCommand_28 : decode cX3_failedCommand 28 = .ok (.ireturn, 1) := dk_172 (dk_at dksX3_failedCommand_1 4 rfl rfl)
abbrev cX3_undoableCount : ByteArray := prog_9_method_110_code
def yX3_undoableCount : MethodName := ⟨RX3, "undoableCount", "()I"⟩
def dkwX3_undoableCount_0 : List UInt8 := [42, 3, 181, 0, 30, 42, 180, 0, 37, 172]
abbrev dktX3_undoableCount_0 : List UInt8 := dkwX3_undoableCount_0 ++ []
theorem dksX3_undoableCount_0 : cX3_undoableCount.data.toList.drop 0 = dktX3_undoableCount_0 := by decide +kernel
theorem dX3_undoableCount_0 : decode cX3_undoableCount 0 = .ok (.aload_n 0, 1) := dk_42 (dk_at dksX3_undoableCount_0 0 rfl rfl)
theorem dX3_undoableCount_1 : decode cX3_undoableCount 1 = .ok (.iconst 0, 1) := dk_3 (dk_at dksX3_undoableCount_0 1 rfl rfl)
theorem dX3_undoableCount_2 : decode cX3_undoableCount 2 = .ok (.putfield 30, 3) := dk_181 0 30 (dk_at dksX3_undoableCount_0 2 rfl rfl)
theorem dX3_undoableCount_5 : decode cX3_undoableCount 5 = .ok (.aload_n 0, 1) := dk_42 (dk_at dksX3_undoableCount_0 5 rfl rfl)
theorem dX3_undoableCount_6 : decode cX3_undoableCount 6 = .ok (.getfield 37, 3) := dk_180 0 37 (dk_at dksX3_undoableCount_0 6 rfl rfl)
theorem dX3_undoableCount_9 : decode cX3_undoableCount 9 = .ok (.ireturn, 1) := dk_172 (dk_at dksX3_undoableCount_0 9 rfl rfl)
abbrev cX3_undo : ByteArray := prog_9_method_111_code
def yX3_undo : MethodName := ⟨RX3, "undo", "()I"⟩
def dkwX3_undo_1 : List UInt8 := [180, 0, 37, 3, 182, 0, 33, 42, 89, 180, 0, 37, 4, 100, 181, 0, 37, 42, 180, 0, 37, 172]
abbrev dktX3_undo_1 : List UInt8 := dkwX3_undo_1 ++ []
def dkwX3_undo_0 : List UInt8 := [42, 42, 180, 0, 37, 158, 0, 7, 4, 167, 0, 4, 3, 182, 0, 124, 154, 0, 5, 3, 172, 42, 42]
abbrev dktX3_undo_0 : List UInt8 := dkwX3_undo_0 ++ dktX3_undo_1
theorem dksX3_undo_0 : cX3_undo.data.toList.drop 0 = dktX3_undo_0 := by decide +kernel
theorem dksX3_undo_1 : cX3_undo.data.toList.drop 23 = dktX3_undo_1 := dk_seg dksX3_undo_0 23 rfl rfl
theorem dX3_undo_0 : decode cX3_undo 0 = .ok (.aload_n 0, 1) := dk_42 (dk_at dksX3_undo_0 0 rfl rfl)
theorem dX3_undo_1 : decode cX3_undo 1 = .ok (.aload_n 0, 1) := dk_42 (dk_at dksX3_undo_0 1 rfl rfl)
theorem dX3_undo_2 : decode cX3_undo 2 = .ok (.getfield 37, 3) := dk_180 0 37 (dk_at dksX3_undo_0 2 rfl rfl)
theorem dX3_undo_5 : decode cX3_undo 5 = .ok (.ifCond .le 7, 3) := dk_158 0 7 (dk_at dksX3_undo_0 5 rfl rfl)
theorem dX3_undo_8 : decode cX3_undo 8 = .ok (.iconst 1, 1) := dk_4 (dk_at dksX3_undo_0 8 rfl rfl)
theorem dX3_undo_9 : decode cX3_undo 9 = .ok (.goto 4, 3) := dk_167 0 4 (dk_at dksX3_undo_0 9 rfl rfl)
theorem dX3_undo_12 : decode cX3_undo 12 = .ok (.iconst 0, 1) := dk_3 (dk_at dksX3_undo_0 12 rfl rfl)
theorem dX3_undo_13 : decode cX3_undo 13 = .ok (.invokevirtual 124, 3) := dk_182 0 124 (dk_at dksX3_undo_0 13 rfl rfl)
theorem dX3_undo_16 : decode cX3_undo 16 = .ok (.ifCond .ne 5, 3) := dk_154 0 5 (dk_at dksX3_undo_0 16 rfl rfl)
theorem dX3_undo_19 : decode cX3_undo 19 = .ok (.iconst 0, 1) := dk_3 (dk_at dksX3_undo_0 19 rfl rfl)
theorem dX3_undo_20 : decode cX3_undo 20 = .ok (.ireturn, 1) := dk_172 (dk_at dksX3_undo_0 20 rfl rfl)
theorem dX3_undo_21 : decode cX3_undo 21 = .ok (.aload_n 0, 1) := dk_42 (dk_at dksX3_undo_0 21 rfl rfl)
theorem dX3_undo_22 : decode cX3_undo 22 = .ok (.aload_n 0, 1) := dk_42 (dk_at dksX3_undo_0 22 rfl rfl)
theorem dX3_undo_23 : decode cX3_undo 23 = .ok (.getfield 37, 3) := dk_180 0 37 (dk_at dksX3_undo_1 0 rfl rfl)
theorem dX3_undo_26 : decode cX3_undo 26 = .ok (.iconst 0, 1) := dk_3 (dk_at dksX3_undo_1 3 rfl rfl)
theorem dX3_undo_27 : decode cX3_undo 27 = .ok (.invokevirtual 33, 3) := dk_182 0 33 (dk_at dksX3_undo_1 4 rfl rfl)
theorem dX3_undo_30 : decode cX3_undo 30 = .ok (.aload_n 0, 1) := dk_42 (dk_at dksX3_undo_1 7 rfl rfl)
theorem dX3_undo_31 : decode cX3_undo 31 = .ok (.dup, 1) := dk_89 (dk_at dksX3_undo_1 8 rfl rfl)
theorem dX3_undo_32 : decode cX3_undo 32 = .ok (.getfield 37, 3) := dk_180 0 37 (dk_at dksX3_undo_1 9 rfl rfl)
theorem dX3_undo_35 : decode cX3_undo 35 = .ok (.iconst 1, 1) := dk_4 (dk_at dksX3_undo_1 12 rfl rfl)
theorem dX3_undo_36 : decode cX3_undo 36 = .ok (.isub, 1) := dk_100 (dk_at dksX3_undo_1 13 rfl rfl)
theorem dX3_undo_37 : decode cX3_undo 37 = .ok (.putfield 37, 3) := dk_181 0 37 (dk_at dksX3_undo_1 14 rfl rfl)
theorem dX3_undo_40 : decode cX3_undo 40 = .ok (.aload_n 0, 1) := dk_42 (dk_at dksX3_undo_1 17 rfl rfl)
theorem dX3_undo_41 : decode cX3_undo 41 = .ok (.getfield 37, 3) := dk_180 0 37 (dk_at dksX3_undo_1 18 rfl rfl)
theorem dX3_undo_44 : decode cX3_undo 44 = .ok (.ireturn, 1) := dk_172 (dk_at dksX3_undo_1 21 rfl rfl)
abbrev cX3_save : ByteArray := prog_9_method_112_code
def yX3_save : MethodName := ⟨RX3, "save", "()I"⟩
def dkwX3_save_0 : List UInt8 := [42, 3, 181, 0, 30, 42, 4, 181, 0, 209, 42, 3, 16, 9, 182, 0, 33, 42, 180, 0, 9, 5, 46, 172]
abbrev dktX3_save_0 : List UInt8 := dkwX3_save_0 ++ []
theorem dksX3_save_0 : cX3_save.data.toList.drop 0 = dktX3_save_0 := by decide +kernel
theorem dX3_save_0 : decode cX3_save 0 = .ok (.aload_n 0, 1) := dk_42 (dk_at dksX3_save_0 0 rfl rfl)
theorem dX3_save_1 : decode cX3_save 1 = .ok (.iconst 0, 1) := dk_3 (dk_at dksX3_save_0 1 rfl rfl)
theorem dX3_save_2 : decode cX3_save 2 = .ok (.putfield 30, 3) := dk_181 0 30 (dk_at dksX3_save_0 2 rfl rfl)
theorem dX3_save_5 : decode cX3_save 5 = .ok (.aload_n 0, 1) := dk_42 (dk_at dksX3_save_0 5 rfl rfl)
theorem dX3_save_6 : decode cX3_save 6 = .ok (.iconst 1, 1) := dk_4 (dk_at dksX3_save_0 6 rfl rfl)
theorem dX3_save_7 : decode cX3_save 7 = .ok (.putfield 209, 3) := dk_181 0 209 (dk_at dksX3_save_0 7 rfl rfl)
theorem dX3_save_10 : decode cX3_save 10 = .ok (.aload_n 0, 1) := dk_42 (dk_at dksX3_save_0 10 rfl rfl)
theorem dX3_save_11 : decode cX3_save 11 = .ok (.iconst 0, 1) := dk_3 (dk_at dksX3_save_0 11 rfl rfl)
theorem dX3_save_12 : decode cX3_save 12 = .ok (.bipush 9, 2) := dk_16 9 (dk_at dksX3_save_0 12 rfl rfl)
theorem dX3_save_14 : decode cX3_save 14 = .ok (.invokevirtual 33, 3) := dk_182 0 33 (dk_at dksX3_save_0 14 rfl rfl)
theorem dX3_save_17 : decode cX3_save 17 = .ok (.aload_n 0, 1) := dk_42 (dk_at dksX3_save_0 17 rfl rfl)
theorem dX3_save_18 : decode cX3_save 18 = .ok (.getfield 9, 3) := dk_180 0 9 (dk_at dksX3_save_0 18 rfl rfl)
theorem dX3_save_21 : decode cX3_save 21 = .ok (.iconst 2, 1) := dk_5 (dk_at dksX3_save_0 21 rfl rfl)
theorem dX3_save_22 : decode cX3_save 22 = .ok (.iaload, 1) := dk_46 (dk_at dksX3_save_0 22 rfl rfl)
theorem dX3_save_23 : decode cX3_save 23 = .ok (.ireturn, 1) := dk_172 (dk_at dksX3_save_0 23 rfl rfl)
abbrev cX3_restore : ByteArray := prog_9_method_113_code
def yX3_restore : MethodName := ⟨RX3, "restore", "()I"⟩
def dkwX3_restore_1 : List UInt8 := [181, 0, 37, 42, 180, 0, 9, 5, 46, 172]
abbrev dktX3_restore_1 : List UInt8 := dkwX3_restore_1 ++ []
def dkwX3_restore_0 : List UInt8 := [42, 42, 180, 0, 209, 182, 0, 124, 154, 0, 5, 3, 172, 42, 16, 9, 3, 182, 0, 33, 42, 3]
abbrev dktX3_restore_0 : List UInt8 := dkwX3_restore_0 ++ dktX3_restore_1
theorem dksX3_restore_0 : cX3_restore.data.toList.drop 0 = dktX3_restore_0 := by decide +kernel
theorem dksX3_restore_1 : cX3_restore.data.toList.drop 22 = dktX3_restore_1 := dk_seg dksX3_restore_0 22 rfl rfl
theorem dX3_restore_0 : decode cX3_restore 0 = .ok (.aload_n 0, 1) := dk_42 (dk_at dksX3_restore_0 0 rfl rfl)
theorem dX3_restore_1 : decode cX3_restore 1 = .ok (.aload_n 0, 1) := dk_42 (dk_at dksX3_restore_0 1 rfl rfl)
theorem dX3_restore_2 : decode cX3_restore 2 = .ok (.getfield 209, 3) := dk_180 0 209 (dk_at dksX3_restore_0 2 rfl rfl)
theorem dX3_restore_5 : decode cX3_restore 5 = .ok (.invokevirtual 124, 3) := dk_182 0 124 (dk_at dksX3_restore_0 5 rfl rfl)
theorem dX3_restore_8 : decode cX3_restore 8 = .ok (.ifCond .ne 5, 3) := dk_154 0 5 (dk_at dksX3_restore_0 8 rfl rfl)
theorem dX3_restore_11 : decode cX3_restore 11 = .ok (.iconst 0, 1) := dk_3 (dk_at dksX3_restore_0 11 rfl rfl)
theorem dX3_restore_12 : decode cX3_restore 12 = .ok (.ireturn, 1) := dk_172 (dk_at dksX3_restore_0 12 rfl rfl)
theorem dX3_restore_13 : decode cX3_restore 13 = .ok (.aload_n 0, 1) := dk_42 (dk_at dksX3_restore_0 13 rfl rfl)
theorem dX3_restore_14 : decode cX3_restore 14 = .ok (.bipush 9, 2) := dk_16 9 (dk_at dksX3_restore_0 14 rfl rfl)
theorem dX3_restore_16 : decode cX3_restore 16 = .ok (.iconst 0, 1) := dk_3 (dk_at dksX3_restore_0 16 rfl rfl)
theorem dX3_restore_17 : decode cX3_restore 17 = .ok (.invokevirtual 33, 3) := dk_182 0 33 (dk_at dksX3_restore_0 17 rfl rfl)
theorem dX3_restore_20 : decode cX3_restore 20 = .ok (.aload_n 0, 1) := dk_42 (dk_at dksX3_restore_0 20 rfl rfl)
theorem dX3_restore_21 : decode cX3_restore 21 = .ok (.iconst 0, 1) := dk_3 (dk_at dksX3_restore_0 21 rfl rfl)
theorem dX3_restore_22 : decode cX3_restore 22 = .ok (.putfield 37, 3) := dk_181 0 37 (dk_at dksX3_restore_1 0 rfl rfl)
theorem dX3_restore_25 : decode cX3_restore 25 = .ok (.aload_n 0, 1) := dk_42 (dk_at dksX3_restore_1 3 rfl rfl)
theorem dX3_restore_26 : decode cX3_restore 26 = .ok (.getfield 9, 3) := dk_180 0 9 (dk_at dksX3_restore_1 4 rfl rfl)
theorem dX3_restore_29 : decode cX3_restore 29 = .ok (.iconst 2, 1) := dk_5 (dk_at dksX3_restore_1 7 rfl rfl)
theorem dX3_restore_30 : decode cX3_restore 30 = .ok (.iaload, 1) := dk_46 (dk_at dksX3_restore_1 8 rfl rfl)
theorem dX3_restore_31 : decode cX3_restore 31 = .ok (.ireturn, 1) := dk_172 (dk_at dksX3_restore_1 9 rfl rfl)
theorem q106 : (Jvm.Cond.initialized "ClaimRegistryModel") ∈ lw_all := lw_g (lw_at lw_m1 12 rfl) rfl
theorem q873 : (Jvm.Cond.selects "ClaimRegistryModel" ({ cls := "java/lang/Object", name := "getClass", desc := "()Ljava/lang/Class;" } : Jvm.MethodName) ({ cls := "java/lang/Object", name := "getClass", desc := "()Ljava/lang/Class;" } : Jvm.MethodName)) ∈ lw_all := lw_g (lw_at lw_m4 59 rfl) rfl
theorem q2340 : (Jvm.Cond.selects "ClaimRegistryModel" ({ cls := "java/lang/Object", name := "equals", desc := "(Ljava/lang/Object;)Z" } : Jvm.MethodName) ({ cls := "java/lang/Object", name := "equals", desc := "(Ljava/lang/Object;)Z" } : Jvm.MethodName)) ∈ lw_all := lw_g (lw_at lw_m10 86 rfl) rfl
theorem q2574 : (Jvm.Cond.instantiable "ClaimRegistryModel" (15 : Nat)) ∈ lw_all := lw_g (lw_at lw_m11 80 rfl) rfl
theorem q2576 : (Jvm.Cond.instanceMethod ({ cls := "ClaimRegistryModel", name := "<init>", desc := "()V" } : Jvm.MethodName)) ∈ lw_all := lw_g (lw_at lw_m11 82 rfl) rfl
theorem q2577 : (Jvm.Cond.code ({ cls := "ClaimRegistryModel", name := "<init>", desc := "()V" } : Jvm.MethodName) prog_9_method_1_code (2 : Nat) (Option.none : Option Jvm.ClassFile.FieldType)) ∈ lw_all := lw_g (lw_at lw_m11 83 rfl) rfl
theorem q2578 : (Jvm.Cond.methodLink "ClaimRegistryModel" (1 : Nat) ({ cls := "java/lang/Object", name := "<init>", desc := "()V" } : Jvm.MethodName)) ∈ lw_all := lw_g (lw_at lw_m11 84 rfl) rfl
theorem q2579 : (Jvm.Cond.fieldLink "ClaimRegistryModel" (30 : Nat) "ClaimRegistryModel" "thrown" "I") ∈ lw_all := lw_g (lw_at lw_m11 85 rfl) rfl
theorem q2580 : (Jvm.Cond.fieldLink "ClaimRegistryModel" (9 : Nat) "ClaimRegistryModel" "all" "[I") ∈ lw_all := lw_g (lw_at lw_m11 86 rfl) rfl
theorem q2581 : (Jvm.Cond.fieldLink "ClaimRegistryModel" (37 : Nat) "ClaimRegistryModel" "changes" "I") ∈ lw_all := lw_g (lw_at lw_m11 87 rfl) rfl
theorem q2582 : (Jvm.Cond.fieldLink "ClaimRegistryModel" (209 : Nat) "ClaimRegistryModel" "isSaved" "Z") ∈ lw_all := lw_g (lw_at lw_m11 88 rfl) rfl
theorem q2583 : (Jvm.Cond.fieldLink "ClaimRegistryModel" (40 : Nat) "ClaimRegistryModel" "result" "I") ∈ lw_all := lw_g (lw_at lw_m11 89 rfl) rfl
theorem q2584 : (Jvm.Cond.fieldLink "ClaimRegistryModel" (13 : Nat) "ClaimRegistryModel" "line" "[C") ∈ lw_all := lw_g (lw_at lw_m11 90 rfl) rfl
theorem q2585 : (Jvm.Cond.fieldLink "ClaimRegistryModel" (158 : Nat) "ClaimRegistryModel" "lineSize" "I") ∈ lw_all := lw_g (lw_at lw_m11 91 rfl) rfl
theorem q2586 : (Jvm.Cond.fieldLink "ClaimRegistryModel" (17 : Nat) "ClaimRegistryModel" "input" "[C") ∈ lw_all := lw_g (lw_at lw_m11 92 rfl) rfl
theorem q2587 : (Jvm.Cond.fieldLink "ClaimRegistryModel" (170 : Nat) "ClaimRegistryModel" "typed" "I") ∈ lw_all := lw_g (lw_at lw_m11 93 rfl) rfl
theorem q2588 : (Jvm.Cond.fieldLink "ClaimRegistryModel" (173 : Nat) "ClaimRegistryModel" "here" "I") ∈ lw_all := lw_g (lw_at lw_m11 94 rfl) rfl
theorem q2589 : (Jvm.Cond.fieldLink "ClaimRegistryModel" (176 : Nat) "ClaimRegistryModel" "error" "I") ∈ lw_all := lw_g (lw_at lw_m11 95 rfl) rfl
theorem q2590 : (Jvm.Cond.fieldLink "ClaimRegistryModel" (20 : Nat) "ClaimRegistryModel" "errorAt" "I") ∈ lw_all := lw_g (lw_at lw_m11 96 rfl) rfl
theorem q2591 : (Jvm.Cond.fieldLink "ClaimRegistryModel" (24 : Nat) "ClaimRegistryModel" "failedAt" "I") ∈ lw_all := lw_g (lw_at lw_m11 97 rfl) rfl
theorem q2592 : (Jvm.Cond.fieldLink "ClaimRegistryModel" (27 : Nat) "ClaimRegistryModel" "commands" "[I") ∈ lw_all := lw_g (lw_at lw_m11 98 rfl) rfl
theorem q2593 : (Jvm.Cond.fieldLink "ClaimRegistryModel" (191 : Nat) "ClaimRegistryModel" "commandMany" "I") ∈ lw_all := lw_g (lw_at lw_m11 99 rfl) rfl
theorem q2594 : (Jvm.Cond.lays "ClaimRegistryModel" "ClaimRegistryModel" "thrown" "I") ∈ lw_all := lw_g (lw_at lw_m11 100 rfl) rfl
theorem q2595 : (Jvm.Cond.soleField "ClaimRegistryModel" "thrown") ∈ lw_all := lw_g (lw_at lw_m11 101 rfl) rfl
theorem q2596 : (Jvm.Cond.laysFinal "ClaimRegistryModel" "ClaimRegistryModel" "all" "[I") ∈ lw_all := lw_g (lw_at lw_m11 102 rfl) rfl
theorem q2597 : (Jvm.Cond.soleField "ClaimRegistryModel" "all") ∈ lw_all := lw_g (lw_at lw_m11 103 rfl) rfl
theorem q2598 : (Jvm.Cond.lays "ClaimRegistryModel" "ClaimRegistryModel" "changes" "I") ∈ lw_all := lw_g (lw_at lw_m11 104 rfl) rfl
theorem q2599 : (Jvm.Cond.soleField "ClaimRegistryModel" "changes") ∈ lw_all := lw_g (lw_at lw_m11 105 rfl) rfl
theorem q2600 : (Jvm.Cond.lays "ClaimRegistryModel" "ClaimRegistryModel" "isSaved" "Z") ∈ lw_all := lw_g (lw_at lw_m11 106 rfl) rfl
theorem q2601 : (Jvm.Cond.soleField "ClaimRegistryModel" "isSaved") ∈ lw_all := lw_g (lw_at lw_m11 107 rfl) rfl
theorem q2602 : (Jvm.Cond.lays "ClaimRegistryModel" "ClaimRegistryModel" "result" "I") ∈ lw_all := lw_g (lw_at lw_m11 108 rfl) rfl
theorem q2603 : (Jvm.Cond.soleField "ClaimRegistryModel" "result") ∈ lw_all := lw_g (lw_at lw_m11 109 rfl) rfl
theorem q2604 : (Jvm.Cond.laysFinal "ClaimRegistryModel" "ClaimRegistryModel" "line" "[C") ∈ lw_all := lw_g (lw_at lw_m11 110 rfl) rfl
theorem q2605 : (Jvm.Cond.soleField "ClaimRegistryModel" "line") ∈ lw_all := lw_g (lw_at lw_m11 111 rfl) rfl
theorem q2606 : (Jvm.Cond.lays "ClaimRegistryModel" "ClaimRegistryModel" "lineSize" "I") ∈ lw_all := lw_g (lw_at lw_m11 112 rfl) rfl
theorem q2607 : (Jvm.Cond.soleField "ClaimRegistryModel" "lineSize") ∈ lw_all := lw_g (lw_at lw_m11 113 rfl) rfl
theorem q2608 : (Jvm.Cond.laysFinal "ClaimRegistryModel" "ClaimRegistryModel" "input" "[C") ∈ lw_all := lw_g (lw_at lw_m11 114 rfl) rfl
theorem q2609 : (Jvm.Cond.soleField "ClaimRegistryModel" "input") ∈ lw_all := lw_g (lw_at lw_m11 115 rfl) rfl
theorem q2610 : (Jvm.Cond.lays "ClaimRegistryModel" "ClaimRegistryModel" "typed" "I") ∈ lw_all := lw_g (lw_at lw_m11 116 rfl) rfl
theorem q2611 : (Jvm.Cond.soleField "ClaimRegistryModel" "typed") ∈ lw_all := lw_g (lw_at lw_m11 117 rfl) rfl
theorem q2612 : (Jvm.Cond.lays "ClaimRegistryModel" "ClaimRegistryModel" "here" "I") ∈ lw_all := lw_g (lw_at lw_m11 118 rfl) rfl
theorem q2613 : (Jvm.Cond.soleField "ClaimRegistryModel" "here") ∈ lw_all := lw_g (lw_at lw_m11 119 rfl) rfl
theorem q2614 : (Jvm.Cond.lays "ClaimRegistryModel" "ClaimRegistryModel" "error" "I") ∈ lw_all := lw_g (lw_at lw_m11 120 rfl) rfl
theorem q2615 : (Jvm.Cond.soleField "ClaimRegistryModel" "error") ∈ lw_all := lw_g (lw_at lw_m11 121 rfl) rfl
theorem q2616 : (Jvm.Cond.lays "ClaimRegistryModel" "ClaimRegistryModel" "errorAt" "I") ∈ lw_all := lw_g (lw_at lw_m11 122 rfl) rfl
theorem q2617 : (Jvm.Cond.soleField "ClaimRegistryModel" "errorAt") ∈ lw_all := lw_g (lw_at lw_m11 123 rfl) rfl
theorem q2618 : (Jvm.Cond.lays "ClaimRegistryModel" "ClaimRegistryModel" "failedAt" "I") ∈ lw_all := lw_g (lw_at lw_m11 124 rfl) rfl
theorem q2619 : (Jvm.Cond.soleField "ClaimRegistryModel" "failedAt") ∈ lw_all := lw_g (lw_at lw_m11 125 rfl) rfl
theorem q2620 : (Jvm.Cond.laysFinal "ClaimRegistryModel" "ClaimRegistryModel" "commands" "[I") ∈ lw_all := lw_g (lw_at lw_m11 126 rfl) rfl
theorem q2621 : (Jvm.Cond.soleField "ClaimRegistryModel" "commands") ∈ lw_all := lw_g (lw_at lw_m11 127 rfl) rfl
theorem q2622 : (Jvm.Cond.lays "ClaimRegistryModel" "ClaimRegistryModel" "commandMany" "I") ∈ lw_all := lw_g (lw_at lw_m11 128 rfl) rfl
theorem q2623 : (Jvm.Cond.soleField "ClaimRegistryModel" "commandMany") ∈ lw_all := lw_g (lw_at lw_m11 129 rfl) rfl
theorem q2624 : (Jvm.Cond.superclass "ClaimRegistryModel" "java/lang/Object") ∈ lw_all := lw_g (lw_at lw_m11 130 rfl) rfl
theorem q2627 : (Jvm.Cond.instanceMethod ({ cls := "ClaimRegistryModel", name := "thrown", desc := "()I" } : Jvm.MethodName)) ∈ lw_all := lw_g (lw_at lw_m11 133 rfl) rfl
theorem q2628 : (Jvm.Cond.selects "ClaimRegistryModel" ({ cls := "ClaimRegistryModel", name := "thrown", desc := "()I" } : Jvm.MethodName) ({ cls := "ClaimRegistryModel", name := "thrown", desc := "()I" } : Jvm.MethodName)) ∈ lw_all := lw_g (lw_at lw_m11 134 rfl) rfl
theorem q2629 : (Jvm.Cond.code ({ cls := "ClaimRegistryModel", name := "thrown", desc := "()I" } : Jvm.MethodName) prog_9_method_2_code (1 : Nat) (Option.some Jvm.ClassFile.FieldType.int)) ∈ lw_all := lw_g (lw_at lw_m11 135 rfl) rfl
theorem q2631 : (Jvm.Cond.instanceMethod ({ cls := "ClaimRegistryModel", name := "add", desc := "(IIII)I" } : Jvm.MethodName)) ∈ lw_all := lw_g (lw_at lw_m11 137 rfl) rfl
theorem q2632 : (Jvm.Cond.selects "ClaimRegistryModel" ({ cls := "ClaimRegistryModel", name := "add", desc := "(IIII)I" } : Jvm.MethodName) ({ cls := "ClaimRegistryModel", name := "add", desc := "(IIII)I" } : Jvm.MethodName)) ∈ lw_all := lw_g (lw_at lw_m11 138 rfl) rfl
theorem q2633 : (Jvm.Cond.code ({ cls := "ClaimRegistryModel", name := "add", desc := "(IIII)I" } : Jvm.MethodName) prog_9_method_17_code (5 : Nat) (Option.some Jvm.ClassFile.FieldType.int)) ∈ lw_all := lw_g (lw_at lw_m11 139 rfl) rfl
theorem q2634 : (Jvm.Cond.methodLink "ClaimRegistryModel" (63 : Nat) ({ cls := "ClaimRegistryModel", name := "begins", desc := "()V" } : Jvm.MethodName)) ∈ lw_all := lw_g (lw_at lw_m11 140 rfl) rfl
theorem q2635 : (Jvm.Cond.privateMethod ({ cls := "ClaimRegistryModel", name := "begins", desc := "()V" } : Jvm.MethodName)) ∈ lw_tbl := lw_at lw_m11 141 rfl
theorem q2636 : (Jvm.Cond.instanceMethod ({ cls := "ClaimRegistryModel", name := "begins", desc := "()V" } : Jvm.MethodName)) ∈ lw_all := lw_g (lw_at lw_m11 142 rfl) rfl
theorem q2637 : (Jvm.Cond.code ({ cls := "ClaimRegistryModel", name := "begins", desc := "()V" } : Jvm.MethodName) prog_9_method_5_code (1 : Nat) (Option.none : Option Jvm.ClassFile.FieldType)) ∈ lw_all := lw_g (lw_at lw_m11 143 rfl) rfl
theorem q2638 : (Jvm.Cond.methodLink "ClaimRegistryModel" (33 : Nat) ({ cls := "ClaimRegistryModel", name := "copies", desc := "(II)V" } : Jvm.MethodName)) ∈ lw_all := lw_g (lw_at lw_m11 144 rfl) rfl
theorem q2639 : (Jvm.Cond.privateMethod ({ cls := "ClaimRegistryModel", name := "copies", desc := "(II)V" } : Jvm.MethodName)) ∈ lw_tbl := lw_at lw_m11 145 rfl
theorem q2640 : (Jvm.Cond.instanceMethod ({ cls := "ClaimRegistryModel", name := "copies", desc := "(II)V" } : Jvm.MethodName)) ∈ lw_all := lw_g (lw_at lw_m11 146 rfl) rfl
theorem q2641 : (Jvm.Cond.code ({ cls := "ClaimRegistryModel", name := "copies", desc := "(II)V" } : Jvm.MethodName) prog_9_method_4_code (4 : Nat) (Option.none : Option Jvm.ClassFile.FieldType)) ∈ lw_all := lw_g (lw_at lw_m11 147 rfl) rfl
theorem q2642 : (Jvm.Cond.methodLink "ClaimRegistryModel" (66 : Nat) ({ cls := "ClaimRegistryModel", name := "adds", desc := "(IIII)I" } : Jvm.MethodName)) ∈ lw_all := lw_g (lw_at lw_m11 148 rfl) rfl
theorem q2643 : (Jvm.Cond.privateMethod ({ cls := "ClaimRegistryModel", name := "adds", desc := "(IIII)I" } : Jvm.MethodName)) ∈ lw_tbl := lw_at lw_m11 149 rfl
theorem q2644 : (Jvm.Cond.instanceMethod ({ cls := "ClaimRegistryModel", name := "adds", desc := "(IIII)I" } : Jvm.MethodName)) ∈ lw_all := lw_g (lw_at lw_m11 150 rfl) rfl
theorem q2645 : (Jvm.Cond.code ({ cls := "ClaimRegistryModel", name := "adds", desc := "(IIII)I" } : Jvm.MethodName) prog_9_method_16_code (7 : Nat) (Option.some Jvm.ClassFile.FieldType.int)) ∈ lw_all := lw_g (lw_at lw_m11 151 rfl) rfl
theorem q2646 : (Jvm.Cond.methodLink "ClaimRegistryModel" (59 : Nat) ({ cls := "ClaimRegistryModel", name := "isPerson", desc := "(I)Z" } : Jvm.MethodName)) ∈ lw_all := lw_g (lw_at lw_m11 152 rfl) rfl
theorem q2647 : (Jvm.Cond.static ({ cls := "ClaimRegistryModel", name := "isPerson", desc := "(I)Z" } : Jvm.MethodName)) ∈ lw_all := lw_g (lw_at lw_m11 153 rfl) rfl
theorem q2648 : (Jvm.Cond.code ({ cls := "ClaimRegistryModel", name := "isPerson", desc := "(I)Z" } : Jvm.MethodName) prog_9_method_15_code (1 : Nat) (Option.some Jvm.ClassFile.FieldType.boolean)) ∈ lw_all := lw_g (lw_at lw_m11 154 rfl) rfl
theorem q2649 : (Jvm.Cond.methodLink "ClaimRegistryModel" (55 : Nat) ({ cls := "ClaimRegistryModel", name := "in", desc := "(III)Z" } : Jvm.MethodName)) ∈ lw_all := lw_g (lw_at lw_m11 155 rfl) rfl
theorem q2650 : (Jvm.Cond.static ({ cls := "ClaimRegistryModel", name := "in", desc := "(III)Z" } : Jvm.MethodName)) ∈ lw_all := lw_g (lw_at lw_m11 156 rfl) rfl
theorem q2651 : (Jvm.Cond.code ({ cls := "ClaimRegistryModel", name := "in", desc := "(III)Z" } : Jvm.MethodName) prog_9_method_3_code (3 : Nat) (Option.some Jvm.ClassFile.FieldType.boolean)) ∈ lw_all := lw_g (lw_at lw_m11 157 rfl) rfl
theorem q2652 : (Jvm.Cond.methodLink "ClaimRegistryModel" (51 : Nat) ({ cls := "ClaimRegistryModel", name := "set", desc := "(III)V" } : Jvm.MethodName)) ∈ lw_all := lw_g (lw_at lw_m11 158 rfl) rfl
theorem q2653 : (Jvm.Cond.privateMethod ({ cls := "ClaimRegistryModel", name := "set", desc := "(III)V" } : Jvm.MethodName)) ∈ lw_tbl := lw_at lw_m11 159 rfl
theorem q2654 : (Jvm.Cond.instanceMethod ({ cls := "ClaimRegistryModel", name := "set", desc := "(III)V" } : Jvm.MethodName)) ∈ lw_all := lw_g (lw_at lw_m11 160 rfl) rfl
theorem q2655 : (Jvm.Cond.code ({ cls := "ClaimRegistryModel", name := "set", desc := "(III)V" } : Jvm.MethodName) prog_9_method_9_code (4 : Nat) (Option.none : Option Jvm.ClassFile.FieldType)) ∈ lw_all := lw_g (lw_at lw_m11 161 rfl) rfl
theorem q2656 : (Jvm.Cond.methodLink "ClaimRegistryModel" (70 : Nat) ({ cls := "ClaimRegistryModel", name := "ends", desc := "(IIII)I" } : Jvm.MethodName)) ∈ lw_all := lw_g (lw_at lw_m11 162 rfl) rfl
theorem q2657 : (Jvm.Cond.privateMethod ({ cls := "ClaimRegistryModel", name := "ends", desc := "(IIII)I" } : Jvm.MethodName)) ∈ lw_tbl := lw_at lw_m11 163 rfl
theorem q2658 : (Jvm.Cond.instanceMethod ({ cls := "ClaimRegistryModel", name := "ends", desc := "(IIII)I" } : Jvm.MethodName)) ∈ lw_all := lw_g (lw_at lw_m11 164 rfl) rfl
theorem q2659 : (Jvm.Cond.code ({ cls := "ClaimRegistryModel", name := "ends", desc := "(IIII)I" } : Jvm.MethodName) prog_9_method_6_code (6 : Nat) (Option.some Jvm.ClassFile.FieldType.int)) ∈ lw_all := lw_g (lw_at lw_m11 165 rfl) rfl
theorem q2661 : (Jvm.Cond.instanceMethod ({ cls := "ClaimRegistryModel", name := "sign", desc := "(II)I" } : Jvm.MethodName)) ∈ lw_all := lw_g (lw_at lw_m11 167 rfl) rfl
theorem q2662 : (Jvm.Cond.selects "ClaimRegistryModel" ({ cls := "ClaimRegistryModel", name := "sign", desc := "(II)I" } : Jvm.MethodName) ({ cls := "ClaimRegistryModel", name := "sign", desc := "(II)I" } : Jvm.MethodName)) ∈ lw_all := lw_g (lw_at lw_m11 168 rfl) rfl
theorem q2663 : (Jvm.Cond.code ({ cls := "ClaimRegistryModel", name := "sign", desc := "(II)I" } : Jvm.MethodName) prog_9_method_21_code (3 : Nat) (Option.some Jvm.ClassFile.FieldType.int)) ∈ lw_all := lw_g (lw_at lw_m11 169 rfl) rfl
theorem q2664 : (Jvm.Cond.methodLink "ClaimRegistryModel" (83 : Nat) ({ cls := "ClaimRegistryModel", name := "signs", desc := "(II)I" } : Jvm.MethodName)) ∈ lw_all := lw_g (lw_at lw_m11 170 rfl) rfl
theorem q2665 : (Jvm.Cond.privateMethod ({ cls := "ClaimRegistryModel", name := "signs", desc := "(II)I" } : Jvm.MethodName)) ∈ lw_tbl := lw_at lw_m11 171 rfl
theorem q2666 : (Jvm.Cond.instanceMethod ({ cls := "ClaimRegistryModel", name := "signs", desc := "(II)I" } : Jvm.MethodName)) ∈ lw_all := lw_g (lw_at lw_m11 172 rfl) rfl
theorem q2667 : (Jvm.Cond.code ({ cls := "ClaimRegistryModel", name := "signs", desc := "(II)I" } : Jvm.MethodName) prog_9_method_20_code (4 : Nat) (Option.some Jvm.ClassFile.FieldType.int)) ∈ lw_all := lw_g (lw_at lw_m11 173 rfl) rfl
theorem q2668 : (Jvm.Cond.methodLink "ClaimRegistryModel" (76 : Nat) ({ cls := "ClaimRegistryModel", name := "find", desc := "(I)I" } : Jvm.MethodName)) ∈ lw_all := lw_g (lw_at lw_m11 174 rfl) rfl
theorem q2669 : (Jvm.Cond.privateMethod ({ cls := "ClaimRegistryModel", name := "find", desc := "(I)I" } : Jvm.MethodName)) ∈ lw_tbl := lw_at lw_m11 175 rfl
theorem q2670 : (Jvm.Cond.instanceMethod ({ cls := "ClaimRegistryModel", name := "find", desc := "(I)I" } : Jvm.MethodName)) ∈ lw_all := lw_g (lw_at lw_m11 176 rfl) rfl
theorem q2671 : (Jvm.Cond.code ({ cls := "ClaimRegistryModel", name := "find", desc := "(I)I" } : Jvm.MethodName) prog_9_method_10_code (3 : Nat) (Option.some Jvm.ClassFile.FieldType.int)) ∈ lw_all := lw_g (lw_at lw_m11 177 rfl) rfl
theorem q2672 : (Jvm.Cond.methodLink "ClaimRegistryModel" (43 : Nat) ({ cls := "ClaimRegistryModel", name := "c", desc := "(II)I" } : Jvm.MethodName)) ∈ lw_all := lw_g (lw_at lw_m11 178 rfl) rfl
theorem q2673 : (Jvm.Cond.privateMethod ({ cls := "ClaimRegistryModel", name := "c", desc := "(II)I" } : Jvm.MethodName)) ∈ lw_tbl := lw_at lw_m11 179 rfl
theorem q2674 : (Jvm.Cond.instanceMethod ({ cls := "ClaimRegistryModel", name := "c", desc := "(II)I" } : Jvm.MethodName)) ∈ lw_all := lw_g (lw_at lw_m11 180 rfl) rfl
theorem q2675 : (Jvm.Cond.code ({ cls := "ClaimRegistryModel", name := "c", desc := "(II)I" } : Jvm.MethodName) prog_9_method_8_code (3 : Nat) (Option.some Jvm.ClassFile.FieldType.int)) ∈ lw_all := lw_g (lw_at lw_m11 181 rfl) rfl
theorem q2676 : (Jvm.Cond.methodLink "ClaimRegistryModel" (79 : Nat) ({ cls := "ClaimRegistryModel", name := "maySign", desc := "(II)Z" } : Jvm.MethodName)) ∈ lw_all := lw_g (lw_at lw_m11 182 rfl) rfl
theorem q2677 : (Jvm.Cond.privateMethod ({ cls := "ClaimRegistryModel", name := "maySign", desc := "(II)Z" } : Jvm.MethodName)) ∈ lw_tbl := lw_at lw_m11 183 rfl
theorem q2678 : (Jvm.Cond.instanceMethod ({ cls := "ClaimRegistryModel", name := "maySign", desc := "(II)Z" } : Jvm.MethodName)) ∈ lw_all := lw_g (lw_at lw_m11 184 rfl) rfl
theorem q2679 : (Jvm.Cond.code ({ cls := "ClaimRegistryModel", name := "maySign", desc := "(II)Z" } : Jvm.MethodName) prog_9_method_18_code (3 : Nat) (Option.some Jvm.ClassFile.FieldType.boolean)) ∈ lw_all := lw_g (lw_at lw_m11 185 rfl) rfl
theorem q2680 : (Jvm.Cond.methodLink "ClaimRegistryModel" (73 : Nat) ({ cls := "ClaimRegistryModel", name := "signedBy", desc := "(II)I" } : Jvm.MethodName)) ∈ lw_all := lw_g (lw_at lw_m11 186 rfl) rfl
theorem q2681 : (Jvm.Cond.privateMethod ({ cls := "ClaimRegistryModel", name := "signedBy", desc := "(II)I" } : Jvm.MethodName)) ∈ lw_tbl := lw_at lw_m11 187 rfl
theorem q2682 : (Jvm.Cond.instanceMethod ({ cls := "ClaimRegistryModel", name := "signedBy", desc := "(II)I" } : Jvm.MethodName)) ∈ lw_all := lw_g (lw_at lw_m11 188 rfl) rfl
theorem q2683 : (Jvm.Cond.code ({ cls := "ClaimRegistryModel", name := "signedBy", desc := "(II)I" } : Jvm.MethodName) prog_9_method_12_code (5 : Nat) (Option.some Jvm.ClassFile.FieldType.int)) ∈ lw_all := lw_g (lw_at lw_m11 189 rfl) rfl
theorem q2685 : (Jvm.Cond.instanceMethod ({ cls := "ClaimRegistryModel", name := "countersign", desc := "(II)I" } : Jvm.MethodName)) ∈ lw_all := lw_g (lw_at lw_m11 191 rfl) rfl
theorem q2686 : (Jvm.Cond.selects "ClaimRegistryModel" ({ cls := "ClaimRegistryModel", name := "countersign", desc := "(II)I" } : Jvm.MethodName) ({ cls := "ClaimRegistryModel", name := "countersign", desc := "(II)I" } : Jvm.MethodName)) ∈ lw_all := lw_g (lw_at lw_m11 192 rfl) rfl
theorem q2687 : (Jvm.Cond.code ({ cls := "ClaimRegistryModel", name := "countersign", desc := "(II)I" } : Jvm.MethodName) prog_9_method_23_code (3 : Nat) (Option.some Jvm.ClassFile.FieldType.int)) ∈ lw_all := lw_g (lw_at lw_m11 193 rfl) rfl
theorem q2688 : (Jvm.Cond.methodLink "ClaimRegistryModel" (89 : Nat) ({ cls := "ClaimRegistryModel", name := "countersigns", desc := "(II)I" } : Jvm.MethodName)) ∈ lw_all := lw_g (lw_at lw_m11 194 rfl) rfl
theorem q2689 : (Jvm.Cond.privateMethod ({ cls := "ClaimRegistryModel", name := "countersigns", desc := "(II)I" } : Jvm.MethodName)) ∈ lw_tbl := lw_at lw_m11 195 rfl
theorem q2690 : (Jvm.Cond.instanceMethod ({ cls := "ClaimRegistryModel", name := "countersigns", desc := "(II)I" } : Jvm.MethodName)) ∈ lw_all := lw_g (lw_at lw_m11 196 rfl) rfl
theorem q2691 : (Jvm.Cond.code ({ cls := "ClaimRegistryModel", name := "countersigns", desc := "(II)I" } : Jvm.MethodName) prog_9_method_22_code (4 : Nat) (Option.some Jvm.ClassFile.FieldType.int)) ∈ lw_all := lw_g (lw_at lw_m11 197 rfl) rfl
theorem q2692 : (Jvm.Cond.methodLink "ClaimRegistryModel" (86 : Nat) ({ cls := "ClaimRegistryModel", name := "mayCountersign", desc := "(II)Z" } : Jvm.MethodName)) ∈ lw_all := lw_g (lw_at lw_m11 198 rfl) rfl
theorem q2693 : (Jvm.Cond.privateMethod ({ cls := "ClaimRegistryModel", name := "mayCountersign", desc := "(II)Z" } : Jvm.MethodName)) ∈ lw_tbl := lw_at lw_m11 199 rfl
theorem q2694 : (Jvm.Cond.instanceMethod ({ cls := "ClaimRegistryModel", name := "mayCountersign", desc := "(II)Z" } : Jvm.MethodName)) ∈ lw_all := lw_g (lw_at lw_m11 200 rfl) rfl
theorem q2695 : (Jvm.Cond.code ({ cls := "ClaimRegistryModel", name := "mayCountersign", desc := "(II)Z" } : Jvm.MethodName) prog_9_method_19_code (3 : Nat) (Option.some Jvm.ClassFile.FieldType.boolean)) ∈ lw_all := lw_g (lw_at lw_m11 201 rfl) rfl
theorem q2697 : (Jvm.Cond.instanceMethod ({ cls := "ClaimRegistryModel", name := "settle", desc := "(I)I" } : Jvm.MethodName)) ∈ lw_all := lw_g (lw_at lw_m11 203 rfl) rfl
theorem q2698 : (Jvm.Cond.selects "ClaimRegistryModel" ({ cls := "ClaimRegistryModel", name := "settle", desc := "(I)I" } : Jvm.MethodName) ({ cls := "ClaimRegistryModel", name := "settle", desc := "(I)I" } : Jvm.MethodName)) ∈ lw_all := lw_g (lw_at lw_m11 204 rfl) rfl
theorem q2699 : (Jvm.Cond.code ({ cls := "ClaimRegistryModel", name := "settle", desc := "(I)I" } : Jvm.MethodName) prog_9_method_25_code (2 : Nat) (Option.some Jvm.ClassFile.FieldType.int)) ∈ lw_all := lw_g (lw_at lw_m11 205 rfl) rfl
theorem q2700 : (Jvm.Cond.methodLink "ClaimRegistryModel" (96 : Nat) ({ cls := "ClaimRegistryModel", name := "settles", desc := "(I)I" } : Jvm.MethodName)) ∈ lw_all := lw_g (lw_at lw_m11 206 rfl) rfl
theorem q2701 : (Jvm.Cond.privateMethod ({ cls := "ClaimRegistryModel", name := "settles", desc := "(I)I" } : Jvm.MethodName)) ∈ lw_tbl := lw_at lw_m11 207 rfl
theorem q2702 : (Jvm.Cond.instanceMethod ({ cls := "ClaimRegistryModel", name := "settles", desc := "(I)I" } : Jvm.MethodName)) ∈ lw_all := lw_g (lw_at lw_m11 208 rfl) rfl
theorem q2703 : (Jvm.Cond.code ({ cls := "ClaimRegistryModel", name := "settles", desc := "(I)I" } : Jvm.MethodName) prog_9_method_24_code (3 : Nat) (Option.some Jvm.ClassFile.FieldType.int)) ∈ lw_all := lw_g (lw_at lw_m11 209 rfl) rfl
theorem q2704 : (Jvm.Cond.methodLink "ClaimRegistryModel" (92 : Nat) ({ cls := "ClaimRegistryModel", name := "closes", desc := "(I)V" } : Jvm.MethodName)) ∈ lw_all := lw_g (lw_at lw_m11 210 rfl) rfl
theorem q2705 : (Jvm.Cond.privateMethod ({ cls := "ClaimRegistryModel", name := "closes", desc := "(I)V" } : Jvm.MethodName)) ∈ lw_tbl := lw_at lw_m11 211 rfl
theorem q2706 : (Jvm.Cond.instanceMethod ({ cls := "ClaimRegistryModel", name := "closes", desc := "(I)V" } : Jvm.MethodName)) ∈ lw_all := lw_g (lw_at lw_m11 212 rfl) rfl
theorem q2707 : (Jvm.Cond.code ({ cls := "ClaimRegistryModel", name := "closes", desc := "(I)V" } : Jvm.MethodName) prog_9_method_14_code (5 : Nat) (Option.none : Option Jvm.ClassFile.FieldType)) ∈ lw_all := lw_g (lw_at lw_m11 213 rfl) rfl
theorem q2708 : (Jvm.Cond.methodLink "ClaimRegistryModel" (47 : Nat) ({ cls := "ClaimRegistryModel", name := "placeInQueue", desc := "(I)I" } : Jvm.MethodName)) ∈ lw_all := lw_g (lw_at lw_m11 214 rfl) rfl
theorem q2709 : (Jvm.Cond.privateMethod ({ cls := "ClaimRegistryModel", name := "placeInQueue", desc := "(I)I" } : Jvm.MethodName)) ∈ lw_tbl := lw_at lw_m11 215 rfl
theorem q2710 : (Jvm.Cond.instanceMethod ({ cls := "ClaimRegistryModel", name := "placeInQueue", desc := "(I)I" } : Jvm.MethodName)) ∈ lw_all := lw_g (lw_at lw_m11 216 rfl) rfl
theorem q2711 : (Jvm.Cond.code ({ cls := "ClaimRegistryModel", name := "placeInQueue", desc := "(I)I" } : Jvm.MethodName) prog_9_method_13_code (3 : Nat) (Option.some Jvm.ClassFile.FieldType.int)) ∈ lw_all := lw_g (lw_at lw_m11 217 rfl) rfl
theorem q2713 : (Jvm.Cond.instanceMethod ({ cls := "ClaimRegistryModel", name := "tick", desc := "()I" } : Jvm.MethodName)) ∈ lw_all := lw_g (lw_at lw_m11 219 rfl) rfl
theorem q2714 : (Jvm.Cond.selects "ClaimRegistryModel" ({ cls := "ClaimRegistryModel", name := "tick", desc := "()I" } : Jvm.MethodName) ({ cls := "ClaimRegistryModel", name := "tick", desc := "()I" } : Jvm.MethodName)) ∈ lw_all := lw_g (lw_at lw_m11 220 rfl) rfl
theorem q2715 : (Jvm.Cond.code ({ cls := "ClaimRegistryModel", name := "tick", desc := "()I" } : Jvm.MethodName) prog_9_method_30_code (1 : Nat) (Option.some Jvm.ClassFile.FieldType.int)) ∈ lw_all := lw_g (lw_at lw_m11 221 rfl) rfl
theorem q2716 : (Jvm.Cond.methodLink "ClaimRegistryModel" (112 : Nat) ({ cls := "ClaimRegistryModel", name := "passes", desc := "(I)I" } : Jvm.MethodName)) ∈ lw_all := lw_g (lw_at lw_m11 222 rfl) rfl
theorem q2717 : (Jvm.Cond.privateMethod ({ cls := "ClaimRegistryModel", name := "passes", desc := "(I)I" } : Jvm.MethodName)) ∈ lw_tbl := lw_at lw_m11 223 rfl
theorem q2718 : (Jvm.Cond.instanceMethod ({ cls := "ClaimRegistryModel", name := "passes", desc := "(I)I" } : Jvm.MethodName)) ∈ lw_all := lw_g (lw_at lw_m11 224 rfl) rfl
theorem q2719 : (Jvm.Cond.code ({ cls := "ClaimRegistryModel", name := "passes", desc := "(I)I" } : Jvm.MethodName) prog_9_method_29_code (3 : Nat) (Option.some Jvm.ClassFile.FieldType.int)) ∈ lw_all := lw_g (lw_at lw_m11 225 rfl) rfl
theorem q2720 : (Jvm.Cond.methodLink "ClaimRegistryModel" (108 : Nat) ({ cls := "ClaimRegistryModel", name := "ticksOnce", desc := "()I" } : Jvm.MethodName)) ∈ lw_all := lw_g (lw_at lw_m11 226 rfl) rfl
theorem q2721 : (Jvm.Cond.privateMethod ({ cls := "ClaimRegistryModel", name := "ticksOnce", desc := "()I" } : Jvm.MethodName)) ∈ lw_tbl := lw_at lw_m11 227 rfl
theorem q2722 : (Jvm.Cond.instanceMethod ({ cls := "ClaimRegistryModel", name := "ticksOnce", desc := "()I" } : Jvm.MethodName)) ∈ lw_all := lw_g (lw_at lw_m11 228 rfl) rfl
theorem q2723 : (Jvm.Cond.code ({ cls := "ClaimRegistryModel", name := "ticksOnce", desc := "()I" } : Jvm.MethodName) prog_9_method_28_code (4 : Nat) (Option.some Jvm.ClassFile.FieldType.int)) ∈ lw_all := lw_g (lw_at lw_m11 229 rfl) rfl
theorem q2724 : (Jvm.Cond.methodLink "ClaimRegistryModel" (99 : Nat) ({ cls := "ClaimRegistryModel", name := "phaseAt", desc := "(I)I" } : Jvm.MethodName)) ∈ lw_all := lw_g (lw_at lw_m11 230 rfl) rfl
theorem q2725 : (Jvm.Cond.privateMethod ({ cls := "ClaimRegistryModel", name := "phaseAt", desc := "(I)I" } : Jvm.MethodName)) ∈ lw_tbl := lw_at lw_m11 231 rfl
theorem q2726 : (Jvm.Cond.instanceMethod ({ cls := "ClaimRegistryModel", name := "phaseAt", desc := "(I)I" } : Jvm.MethodName)) ∈ lw_all := lw_g (lw_at lw_m11 232 rfl) rfl
theorem q2727 : (Jvm.Cond.code ({ cls := "ClaimRegistryModel", name := "phaseAt", desc := "(I)I" } : Jvm.MethodName) prog_9_method_11_code (2 : Nat) (Option.some Jvm.ClassFile.FieldType.int)) ∈ lw_all := lw_g (lw_at lw_m11 233 rfl) rfl
theorem q2728 : (Jvm.Cond.methodLink "ClaimRegistryModel" (102 : Nat) ({ cls := "ClaimRegistryModel", name := "grown", desc := "(II)I" } : Jvm.MethodName)) ∈ lw_all := lw_g (lw_at lw_m11 234 rfl) rfl
theorem q2729 : (Jvm.Cond.static ({ cls := "ClaimRegistryModel", name := "grown", desc := "(II)I" } : Jvm.MethodName)) ∈ lw_all := lw_g (lw_at lw_m11 235 rfl) rfl
theorem q2730 : (Jvm.Cond.code ({ cls := "ClaimRegistryModel", name := "grown", desc := "(II)I" } : Jvm.MethodName) prog_9_method_26_code (3 : Nat) (Option.some Jvm.ClassFile.FieldType.int)) ∈ lw_all := lw_g (lw_at lw_m11 236 rfl) rfl
theorem q2731 : (Jvm.Cond.methodLink "ClaimRegistryModel" (105 : Nat) ({ cls := "ClaimRegistryModel", name := "remembers", desc := "(I)V" } : Jvm.MethodName)) ∈ lw_all := lw_g (lw_at lw_m11 237 rfl) rfl
theorem q2732 : (Jvm.Cond.privateMethod ({ cls := "ClaimRegistryModel", name := "remembers", desc := "(I)V" } : Jvm.MethodName)) ∈ lw_tbl := lw_at lw_m11 238 rfl
theorem q2733 : (Jvm.Cond.instanceMethod ({ cls := "ClaimRegistryModel", name := "remembers", desc := "(I)V" } : Jvm.MethodName)) ∈ lw_all := lw_g (lw_at lw_m11 239 rfl) rfl
theorem q2734 : (Jvm.Cond.code ({ cls := "ClaimRegistryModel", name := "remembers", desc := "(I)V" } : Jvm.MethodName) prog_9_method_27_code (3 : Nat) (Option.none : Option Jvm.ClassFile.FieldType)) ∈ lw_all := lw_g (lw_at lw_m12 0 rfl) rfl
theorem q2736 : (Jvm.Cond.instanceMethod ({ cls := "ClaimRegistryModel", name := "advance", desc := "(I)I" } : Jvm.MethodName)) ∈ lw_all := lw_g (lw_at lw_m12 2 rfl) rfl
theorem q2737 : (Jvm.Cond.selects "ClaimRegistryModel" ({ cls := "ClaimRegistryModel", name := "advance", desc := "(I)I" } : Jvm.MethodName) ({ cls := "ClaimRegistryModel", name := "advance", desc := "(I)I" } : Jvm.MethodName)) ∈ lw_all := lw_g (lw_at lw_m12 3 rfl) rfl
theorem q2738 : (Jvm.Cond.code ({ cls := "ClaimRegistryModel", name := "advance", desc := "(I)I" } : Jvm.MethodName) prog_9_method_31_code (2 : Nat) (Option.some Jvm.ClassFile.FieldType.int)) ∈ lw_all := lw_g (lw_at lw_m12 4 rfl) rfl
theorem q2740 : (Jvm.Cond.instanceMethod ({ cls := "ClaimRegistryModel", name := "audit", desc := "(I)I" } : Jvm.MethodName)) ∈ lw_all := lw_g (lw_at lw_m12 6 rfl) rfl
theorem q2741 : (Jvm.Cond.selects "ClaimRegistryModel" ({ cls := "ClaimRegistryModel", name := "audit", desc := "(I)I" } : Jvm.MethodName) ({ cls := "ClaimRegistryModel", name := "audit", desc := "(I)I" } : Jvm.MethodName)) ∈ lw_all := lw_g (lw_at lw_m12 7 rfl) rfl
theorem q2742 : (Jvm.Cond.code ({ cls := "ClaimRegistryModel", name := "audit", desc := "(I)I" } : Jvm.MethodName) prog_9_method_34_code (2 : Nat) (Option.some Jvm.ClassFile.FieldType.int)) ∈ lw_all := lw_g (lw_at lw_m12 8 rfl) rfl
theorem q2743 : (Jvm.Cond.methodLink "ClaimRegistryModel" (118 : Nat) ({ cls := "ClaimRegistryModel", name := "audits", desc := "(I)I" } : Jvm.MethodName)) ∈ lw_all := lw_g (lw_at lw_m12 9 rfl) rfl
theorem q2744 : (Jvm.Cond.privateMethod ({ cls := "ClaimRegistryModel", name := "audits", desc := "(I)I" } : Jvm.MethodName)) ∈ lw_tbl := lw_at lw_m12 10 rfl
theorem q2745 : (Jvm.Cond.instanceMethod ({ cls := "ClaimRegistryModel", name := "audits", desc := "(I)I" } : Jvm.MethodName)) ∈ lw_all := lw_g (lw_at lw_m12 11 rfl) rfl
theorem q2746 : (Jvm.Cond.code ({ cls := "ClaimRegistryModel", name := "audits", desc := "(I)I" } : Jvm.MethodName) prog_9_method_33_code (4 : Nat) (Option.some Jvm.ClassFile.FieldType.int)) ∈ lw_all := lw_g (lw_at lw_m12 12 rfl) rfl
theorem q2747 : (Jvm.Cond.methodLink "ClaimRegistryModel" (115 : Nat) ({ cls := "ClaimRegistryModel", name := "visits", desc := "()I" } : Jvm.MethodName)) ∈ lw_all := lw_g (lw_at lw_m12 13 rfl) rfl
theorem q2748 : (Jvm.Cond.privateMethod ({ cls := "ClaimRegistryModel", name := "visits", desc := "()I" } : Jvm.MethodName)) ∈ lw_tbl := lw_at lw_m12 14 rfl
theorem q2749 : (Jvm.Cond.instanceMethod ({ cls := "ClaimRegistryModel", name := "visits", desc := "()I" } : Jvm.MethodName)) ∈ lw_all := lw_g (lw_at lw_m12 15 rfl) rfl
theorem q2750 : (Jvm.Cond.code ({ cls := "ClaimRegistryModel", name := "visits", desc := "()I" } : Jvm.MethodName) prog_9_method_32_code (5 : Nat) (Option.some Jvm.ClassFile.FieldType.int)) ∈ lw_all := lw_g (lw_at lw_m12 16 rfl) rfl
theorem q2752 : (Jvm.Cond.instanceMethod ({ cls := "ClaimRegistryModel", name := "setRate", desc := "(II)I" } : Jvm.MethodName)) ∈ lw_all := lw_g (lw_at lw_m12 18 rfl) rfl
theorem q2753 : (Jvm.Cond.selects "ClaimRegistryModel" ({ cls := "ClaimRegistryModel", name := "setRate", desc := "(II)I" } : Jvm.MethodName) ({ cls := "ClaimRegistryModel", name := "setRate", desc := "(II)I" } : Jvm.MethodName)) ∈ lw_all := lw_g (lw_at lw_m12 19 rfl) rfl
theorem q2754 : (Jvm.Cond.code ({ cls := "ClaimRegistryModel", name := "setRate", desc := "(II)I" } : Jvm.MethodName) prog_9_method_36_code (3 : Nat) (Option.some Jvm.ClassFile.FieldType.int)) ∈ lw_all := lw_g (lw_at lw_m12 20 rfl) rfl
theorem q2755 : (Jvm.Cond.methodLink "ClaimRegistryModel" (121 : Nat) ({ cls := "ClaimRegistryModel", name := "setsRate", desc := "(II)I" } : Jvm.MethodName)) ∈ lw_all := lw_g (lw_at lw_m12 21 rfl) rfl
theorem q2756 : (Jvm.Cond.privateMethod ({ cls := "ClaimRegistryModel", name := "setsRate", desc := "(II)I" } : Jvm.MethodName)) ∈ lw_tbl := lw_at lw_m12 22 rfl
theorem q2757 : (Jvm.Cond.instanceMethod ({ cls := "ClaimRegistryModel", name := "setsRate", desc := "(II)I" } : Jvm.MethodName)) ∈ lw_all := lw_g (lw_at lw_m12 23 rfl) rfl
theorem q2758 : (Jvm.Cond.code ({ cls := "ClaimRegistryModel", name := "setsRate", desc := "(II)I" } : Jvm.MethodName) prog_9_method_35_code (3 : Nat) (Option.some Jvm.ClassFile.FieldType.int)) ∈ lw_all := lw_g (lw_at lw_m12 24 rfl) rfl
theorem q2760 : (Jvm.Cond.instanceMethod ({ cls := "ClaimRegistryModel", name := "time", desc := "()I" } : Jvm.MethodName)) ∈ lw_all := lw_g (lw_at lw_m12 26 rfl) rfl
theorem q2761 : (Jvm.Cond.selects "ClaimRegistryModel" ({ cls := "ClaimRegistryModel", name := "time", desc := "()I" } : Jvm.MethodName) ({ cls := "ClaimRegistryModel", name := "time", desc := "()I" } : Jvm.MethodName)) ∈ lw_all := lw_g (lw_at lw_m12 27 rfl) rfl
theorem q2762 : (Jvm.Cond.code ({ cls := "ClaimRegistryModel", name := "time", desc := "()I" } : Jvm.MethodName) prog_9_method_37_code (1 : Nat) (Option.some Jvm.ClassFile.FieldType.int)) ∈ lw_all := lw_g (lw_at lw_m12 28 rfl) rfl
theorem q2764 : (Jvm.Cond.instanceMethod ({ cls := "ClaimRegistryModel", name := "phase", desc := "()I" } : Jvm.MethodName)) ∈ lw_all := lw_g (lw_at lw_m12 30 rfl) rfl
theorem q2765 : (Jvm.Cond.selects "ClaimRegistryModel" ({ cls := "ClaimRegistryModel", name := "phase", desc := "()I" } : Jvm.MethodName) ({ cls := "ClaimRegistryModel", name := "phase", desc := "()I" } : Jvm.MethodName)) ∈ lw_all := lw_g (lw_at lw_m12 31 rfl) rfl
theorem q2766 : (Jvm.Cond.code ({ cls := "ClaimRegistryModel", name := "phase", desc := "()I" } : Jvm.MethodName) prog_9_method_38_code (1 : Nat) (Option.some Jvm.ClassFile.FieldType.int)) ∈ lw_all := lw_g (lw_at lw_m12 32 rfl) rfl
theorem q2768 : (Jvm.Cond.instanceMethod ({ cls := "ClaimRegistryModel", name := "rate", desc := "(I)I" } : Jvm.MethodName)) ∈ lw_all := lw_g (lw_at lw_m12 34 rfl) rfl
theorem q2769 : (Jvm.Cond.selects "ClaimRegistryModel" ({ cls := "ClaimRegistryModel", name := "rate", desc := "(I)I" } : Jvm.MethodName) ({ cls := "ClaimRegistryModel", name := "rate", desc := "(I)I" } : Jvm.MethodName)) ∈ lw_all := lw_g (lw_at lw_m12 35 rfl) rfl
theorem q2770 : (Jvm.Cond.code ({ cls := "ClaimRegistryModel", name := "rate", desc := "(I)I" } : Jvm.MethodName) prog_9_method_39_code (2 : Nat) (Option.some Jvm.ClassFile.FieldType.int)) ∈ lw_all := lw_g (lw_at lw_m12 36 rfl) rfl
theorem q2771 : (Jvm.Cond.methodLink "ClaimRegistryModel" (124 : Nat) ({ cls := "ClaimRegistryModel", name := "isFine", desc := "(Z)Z" } : Jvm.MethodName)) ∈ lw_all := lw_g (lw_at lw_m12 37 rfl) rfl
theorem q2772 : (Jvm.Cond.privateMethod ({ cls := "ClaimRegistryModel", name := "isFine", desc := "(Z)Z" } : Jvm.MethodName)) ∈ lw_tbl := lw_at lw_m12 38 rfl
theorem q2773 : (Jvm.Cond.instanceMethod ({ cls := "ClaimRegistryModel", name := "isFine", desc := "(Z)Z" } : Jvm.MethodName)) ∈ lw_all := lw_g (lw_at lw_m12 39 rfl) rfl
theorem q2774 : (Jvm.Cond.code ({ cls := "ClaimRegistryModel", name := "isFine", desc := "(Z)Z" } : Jvm.MethodName) prog_9_method_7_code (2 : Nat) (Option.some Jvm.ClassFile.FieldType.boolean)) ∈ lw_all := lw_g (lw_at lw_m12 40 rfl) rfl
theorem q2776 : (Jvm.Cond.instanceMethod ({ cls := "ClaimRegistryModel", name := "activeCount", desc := "()I" } : Jvm.MethodName)) ∈ lw_all := lw_g (lw_at lw_m12 42 rfl) rfl
theorem q2777 : (Jvm.Cond.selects "ClaimRegistryModel" ({ cls := "ClaimRegistryModel", name := "activeCount", desc := "()I" } : Jvm.MethodName) ({ cls := "ClaimRegistryModel", name := "activeCount", desc := "()I" } : Jvm.MethodName)) ∈ lw_all := lw_g (lw_at lw_m12 43 rfl) rfl
theorem q2778 : (Jvm.Cond.code ({ cls := "ClaimRegistryModel", name := "activeCount", desc := "()I" } : Jvm.MethodName) prog_9_method_40_code (1 : Nat) (Option.some Jvm.ClassFile.FieldType.int)) ∈ lw_all := lw_g (lw_at lw_m12 44 rfl) rfl
theorem q2780 : (Jvm.Cond.instanceMethod ({ cls := "ClaimRegistryModel", name := "isActive", desc := "(I)Z" } : Jvm.MethodName)) ∈ lw_all := lw_g (lw_at lw_m12 46 rfl) rfl
theorem q2781 : (Jvm.Cond.selects "ClaimRegistryModel" ({ cls := "ClaimRegistryModel", name := "isActive", desc := "(I)Z" } : Jvm.MethodName) ({ cls := "ClaimRegistryModel", name := "isActive", desc := "(I)Z" } : Jvm.MethodName)) ∈ lw_all := lw_g (lw_at lw_m12 47 rfl) rfl
theorem q2782 : (Jvm.Cond.code ({ cls := "ClaimRegistryModel", name := "isActive", desc := "(I)Z" } : Jvm.MethodName) prog_9_method_41_code (2 : Nat) (Option.some Jvm.ClassFile.FieldType.boolean)) ∈ lw_all := lw_g (lw_at lw_m12 48 rfl) rfl
theorem q2784 : (Jvm.Cond.instanceMethod ({ cls := "ClaimRegistryModel", name := "idAt", desc := "(I)I" } : Jvm.MethodName)) ∈ lw_all := lw_g (lw_at lw_m12 50 rfl) rfl
theorem q2785 : (Jvm.Cond.selects "ClaimRegistryModel" ({ cls := "ClaimRegistryModel", name := "idAt", desc := "(I)I" } : Jvm.MethodName) ({ cls := "ClaimRegistryModel", name := "idAt", desc := "(I)I" } : Jvm.MethodName)) ∈ lw_all := lw_g (lw_at lw_m12 51 rfl) rfl
theorem q2786 : (Jvm.Cond.code ({ cls := "ClaimRegistryModel", name := "idAt", desc := "(I)I" } : Jvm.MethodName) prog_9_method_42_code (2 : Nat) (Option.some Jvm.ClassFile.FieldType.int)) ∈ lw_all := lw_g (lw_at lw_m12 52 rfl) rfl
theorem q2788 : (Jvm.Cond.instanceMethod ({ cls := "ClaimRegistryModel", name := "debtor", desc := "(I)I" } : Jvm.MethodName)) ∈ lw_all := lw_g (lw_at lw_m12 54 rfl) rfl
theorem q2789 : (Jvm.Cond.selects "ClaimRegistryModel" ({ cls := "ClaimRegistryModel", name := "debtor", desc := "(I)I" } : Jvm.MethodName) ({ cls := "ClaimRegistryModel", name := "debtor", desc := "(I)I" } : Jvm.MethodName)) ∈ lw_all := lw_g (lw_at lw_m12 55 rfl) rfl
theorem q2790 : (Jvm.Cond.code ({ cls := "ClaimRegistryModel", name := "debtor", desc := "(I)I" } : Jvm.MethodName) prog_9_method_44_code (2 : Nat) (Option.some Jvm.ClassFile.FieldType.int)) ∈ lw_all := lw_g (lw_at lw_m12 56 rfl) rfl
theorem q2791 : (Jvm.Cond.methodLink "ClaimRegistryModel" (128 : Nat) ({ cls := "ClaimRegistryModel", name := "ofClaim", desc := "(II)I" } : Jvm.MethodName)) ∈ lw_all := lw_g (lw_at lw_m12 57 rfl) rfl
theorem q2792 : (Jvm.Cond.privateMethod ({ cls := "ClaimRegistryModel", name := "ofClaim", desc := "(II)I" } : Jvm.MethodName)) ∈ lw_tbl := lw_at lw_m12 58 rfl
theorem q2793 : (Jvm.Cond.instanceMethod ({ cls := "ClaimRegistryModel", name := "ofClaim", desc := "(II)I" } : Jvm.MethodName)) ∈ lw_all := lw_g (lw_at lw_m12 59 rfl) rfl
theorem q2794 : (Jvm.Cond.code ({ cls := "ClaimRegistryModel", name := "ofClaim", desc := "(II)I" } : Jvm.MethodName) prog_9_method_43_code (4 : Nat) (Option.some Jvm.ClassFile.FieldType.int)) ∈ lw_all := lw_g (lw_at lw_m12 60 rfl) rfl
theorem q2796 : (Jvm.Cond.instanceMethod ({ cls := "ClaimRegistryModel", name := "creditor", desc := "(I)I" } : Jvm.MethodName)) ∈ lw_all := lw_g (lw_at lw_m12 62 rfl) rfl
theorem q2797 : (Jvm.Cond.selects "ClaimRegistryModel" ({ cls := "ClaimRegistryModel", name := "creditor", desc := "(I)I" } : Jvm.MethodName) ({ cls := "ClaimRegistryModel", name := "creditor", desc := "(I)I" } : Jvm.MethodName)) ∈ lw_all := lw_g (lw_at lw_m12 63 rfl) rfl
theorem q2798 : (Jvm.Cond.code ({ cls := "ClaimRegistryModel", name := "creditor", desc := "(I)I" } : Jvm.MethodName) prog_9_method_45_code (2 : Nat) (Option.some Jvm.ClassFile.FieldType.int)) ∈ lw_all := lw_g (lw_at lw_m12 64 rfl) rfl
theorem q2800 : (Jvm.Cond.instanceMethod ({ cls := "ClaimRegistryModel", name := "weight", desc := "(I)I" } : Jvm.MethodName)) ∈ lw_all := lw_g (lw_at lw_m12 66 rfl) rfl
theorem q2801 : (Jvm.Cond.selects "ClaimRegistryModel" ({ cls := "ClaimRegistryModel", name := "weight", desc := "(I)I" } : Jvm.MethodName) ({ cls := "ClaimRegistryModel", name := "weight", desc := "(I)I" } : Jvm.MethodName)) ∈ lw_all := lw_g (lw_at lw_m12 67 rfl) rfl
theorem q2802 : (Jvm.Cond.code ({ cls := "ClaimRegistryModel", name := "weight", desc := "(I)I" } : Jvm.MethodName) prog_9_method_46_code (2 : Nat) (Option.some Jvm.ClassFile.FieldType.int)) ∈ lw_all := lw_g (lw_at lw_m12 68 rfl) rfl
theorem q2804 : (Jvm.Cond.instanceMethod ({ cls := "ClaimRegistryModel", name := "expiry", desc := "(I)I" } : Jvm.MethodName)) ∈ lw_all := lw_g (lw_at lw_m12 70 rfl) rfl
theorem q2805 : (Jvm.Cond.selects "ClaimRegistryModel" ({ cls := "ClaimRegistryModel", name := "expiry", desc := "(I)I" } : Jvm.MethodName) ({ cls := "ClaimRegistryModel", name := "expiry", desc := "(I)I" } : Jvm.MethodName)) ∈ lw_all := lw_g (lw_at lw_m12 71 rfl) rfl
theorem q2806 : (Jvm.Cond.code ({ cls := "ClaimRegistryModel", name := "expiry", desc := "(I)I" } : Jvm.MethodName) prog_9_method_47_code (2 : Nat) (Option.some Jvm.ClassFile.FieldType.int)) ∈ lw_all := lw_g (lw_at lw_m12 72 rfl) rfl
theorem q2808 : (Jvm.Cond.instanceMethod ({ cls := "ClaimRegistryModel", name := "strikes", desc := "(I)I" } : Jvm.MethodName)) ∈ lw_all := lw_g (lw_at lw_m12 74 rfl) rfl
theorem q2809 : (Jvm.Cond.selects "ClaimRegistryModel" ({ cls := "ClaimRegistryModel", name := "strikes", desc := "(I)I" } : Jvm.MethodName) ({ cls := "ClaimRegistryModel", name := "strikes", desc := "(I)I" } : Jvm.MethodName)) ∈ lw_all := lw_g (lw_at lw_m12 75 rfl) rfl
theorem q2810 : (Jvm.Cond.code ({ cls := "ClaimRegistryModel", name := "strikes", desc := "(I)I" } : Jvm.MethodName) prog_9_method_48_code (2 : Nat) (Option.some Jvm.ClassFile.FieldType.int)) ∈ lw_all := lw_g (lw_at lw_m12 76 rfl) rfl
theorem q2812 : (Jvm.Cond.instanceMethod ({ cls := "ClaimRegistryModel", name := "isSigned", desc := "(I)Z" } : Jvm.MethodName)) ∈ lw_all := lw_g (lw_at lw_m12 78 rfl) rfl
theorem q2813 : (Jvm.Cond.selects "ClaimRegistryModel" ({ cls := "ClaimRegistryModel", name := "isSigned", desc := "(I)Z" } : Jvm.MethodName) ({ cls := "ClaimRegistryModel", name := "isSigned", desc := "(I)Z" } : Jvm.MethodName)) ∈ lw_all := lw_g (lw_at lw_m12 79 rfl) rfl
theorem q2814 : (Jvm.Cond.code ({ cls := "ClaimRegistryModel", name := "isSigned", desc := "(I)Z" } : Jvm.MethodName) prog_9_method_49_code (2 : Nat) (Option.some Jvm.ClassFile.FieldType.boolean)) ∈ lw_all := lw_g (lw_at lw_m12 80 rfl) rfl
theorem q2816 : (Jvm.Cond.instanceMethod ({ cls := "ClaimRegistryModel", name := "isCountersigned", desc := "(I)Z" } : Jvm.MethodName)) ∈ lw_all := lw_g (lw_at lw_m12 82 rfl) rfl
theorem q2817 : (Jvm.Cond.selects "ClaimRegistryModel" ({ cls := "ClaimRegistryModel", name := "isCountersigned", desc := "(I)Z" } : Jvm.MethodName) ({ cls := "ClaimRegistryModel", name := "isCountersigned", desc := "(I)Z" } : Jvm.MethodName)) ∈ lw_all := lw_g (lw_at lw_m12 83 rfl) rfl
theorem q2818 : (Jvm.Cond.code ({ cls := "ClaimRegistryModel", name := "isCountersigned", desc := "(I)Z" } : Jvm.MethodName) prog_9_method_50_code (2 : Nat) (Option.some Jvm.ClassFile.FieldType.boolean)) ∈ lw_all := lw_g (lw_at lw_m12 84 rfl) rfl
theorem q2820 : (Jvm.Cond.instanceMethod ({ cls := "ClaimRegistryModel", name := "signer", desc := "(I)I" } : Jvm.MethodName)) ∈ lw_all := lw_g (lw_at lw_m12 86 rfl) rfl
theorem q2821 : (Jvm.Cond.selects "ClaimRegistryModel" ({ cls := "ClaimRegistryModel", name := "signer", desc := "(I)I" } : Jvm.MethodName) ({ cls := "ClaimRegistryModel", name := "signer", desc := "(I)I" } : Jvm.MethodName)) ∈ lw_all := lw_g (lw_at lw_m12 87 rfl) rfl
theorem q2822 : (Jvm.Cond.code ({ cls := "ClaimRegistryModel", name := "signer", desc := "(I)I" } : Jvm.MethodName) prog_9_method_52_code (2 : Nat) (Option.some Jvm.ClassFile.FieldType.int)) ∈ lw_all := lw_g (lw_at lw_m12 88 rfl) rfl
theorem q2823 : (Jvm.Cond.methodLink "ClaimRegistryModel" (131 : Nat) ({ cls := "ClaimRegistryModel", name := "whoSigned", desc := "(II)I" } : Jvm.MethodName)) ∈ lw_all := lw_g (lw_at lw_m12 89 rfl) rfl
theorem q2824 : (Jvm.Cond.privateMethod ({ cls := "ClaimRegistryModel", name := "whoSigned", desc := "(II)I" } : Jvm.MethodName)) ∈ lw_tbl := lw_at lw_m12 90 rfl
theorem q2825 : (Jvm.Cond.instanceMethod ({ cls := "ClaimRegistryModel", name := "whoSigned", desc := "(II)I" } : Jvm.MethodName)) ∈ lw_all := lw_g (lw_at lw_m12 91 rfl) rfl
theorem q2826 : (Jvm.Cond.code ({ cls := "ClaimRegistryModel", name := "whoSigned", desc := "(II)I" } : Jvm.MethodName) prog_9_method_51_code (4 : Nat) (Option.some Jvm.ClassFile.FieldType.int)) ∈ lw_all := lw_g (lw_at lw_m12 92 rfl) rfl
theorem q2828 : (Jvm.Cond.instanceMethod ({ cls := "ClaimRegistryModel", name := "countersigner", desc := "(I)I" } : Jvm.MethodName)) ∈ lw_all := lw_g (lw_at lw_m12 94 rfl) rfl
theorem q2829 : (Jvm.Cond.selects "ClaimRegistryModel" ({ cls := "ClaimRegistryModel", name := "countersigner", desc := "(I)I" } : Jvm.MethodName) ({ cls := "ClaimRegistryModel", name := "countersigner", desc := "(I)I" } : Jvm.MethodName)) ∈ lw_all := lw_g (lw_at lw_m12 95 rfl) rfl
theorem q2830 : (Jvm.Cond.code ({ cls := "ClaimRegistryModel", name := "countersigner", desc := "(I)I" } : Jvm.MethodName) prog_9_method_53_code (2 : Nat) (Option.some Jvm.ClassFile.FieldType.int)) ∈ lw_all := lw_g (lw_at lw_m12 96 rfl) rfl
theorem q2832 : (Jvm.Cond.instanceMethod ({ cls := "ClaimRegistryModel", name := "signaturesOf", desc := "(I)I" } : Jvm.MethodName)) ∈ lw_all := lw_g (lw_at lw_m12 98 rfl) rfl
theorem q2833 : (Jvm.Cond.selects "ClaimRegistryModel" ({ cls := "ClaimRegistryModel", name := "signaturesOf", desc := "(I)I" } : Jvm.MethodName) ({ cls := "ClaimRegistryModel", name := "signaturesOf", desc := "(I)I" } : Jvm.MethodName)) ∈ lw_all := lw_g (lw_at lw_m12 99 rfl) rfl
theorem q2834 : (Jvm.Cond.code ({ cls := "ClaimRegistryModel", name := "signaturesOf", desc := "(I)I" } : Jvm.MethodName) prog_9_method_54_code (2 : Nat) (Option.some Jvm.ClassFile.FieldType.int)) ∈ lw_all := lw_g (lw_at lw_m12 100 rfl) rfl
theorem q2836 : (Jvm.Cond.instanceMethod ({ cls := "ClaimRegistryModel", name := "countersignaturesOf", desc := "(I)I" } : Jvm.MethodName)) ∈ lw_all := lw_g (lw_at lw_m12 102 rfl) rfl
theorem q2837 : (Jvm.Cond.selects "ClaimRegistryModel" ({ cls := "ClaimRegistryModel", name := "countersignaturesOf", desc := "(I)I" } : Jvm.MethodName) ({ cls := "ClaimRegistryModel", name := "countersignaturesOf", desc := "(I)I" } : Jvm.MethodName)) ∈ lw_all := lw_g (lw_at lw_m12 103 rfl) rfl
theorem q2838 : (Jvm.Cond.code ({ cls := "ClaimRegistryModel", name := "countersignaturesOf", desc := "(I)I" } : Jvm.MethodName) prog_9_method_55_code (2 : Nat) (Option.some Jvm.ClassFile.FieldType.int)) ∈ lw_all := lw_g (lw_at lw_m12 104 rfl) rfl
theorem q2840 : (Jvm.Cond.instanceMethod ({ cls := "ClaimRegistryModel", name := "owedBy", desc := "(I)I" } : Jvm.MethodName)) ∈ lw_all := lw_g (lw_at lw_m12 106 rfl) rfl
theorem q2841 : (Jvm.Cond.selects "ClaimRegistryModel" ({ cls := "ClaimRegistryModel", name := "owedBy", desc := "(I)I" } : Jvm.MethodName) ({ cls := "ClaimRegistryModel", name := "owedBy", desc := "(I)I" } : Jvm.MethodName)) ∈ lw_all := lw_g (lw_at lw_m12 107 rfl) rfl
theorem q2842 : (Jvm.Cond.code ({ cls := "ClaimRegistryModel", name := "owedBy", desc := "(I)I" } : Jvm.MethodName) prog_9_method_57_code (2 : Nat) (Option.some Jvm.ClassFile.FieldType.int)) ∈ lw_all := lw_g (lw_at lw_m12 108 rfl) rfl
theorem q2843 : (Jvm.Cond.methodLink "ClaimRegistryModel" (134 : Nat) ({ cls := "ClaimRegistryModel", name := "sumOf", desc := "(II)I" } : Jvm.MethodName)) ∈ lw_all := lw_g (lw_at lw_m12 109 rfl) rfl
theorem q2844 : (Jvm.Cond.privateMethod ({ cls := "ClaimRegistryModel", name := "sumOf", desc := "(II)I" } : Jvm.MethodName)) ∈ lw_tbl := lw_at lw_m12 110 rfl
theorem q2845 : (Jvm.Cond.instanceMethod ({ cls := "ClaimRegistryModel", name := "sumOf", desc := "(II)I" } : Jvm.MethodName)) ∈ lw_all := lw_g (lw_at lw_m12 111 rfl) rfl
theorem q2846 : (Jvm.Cond.code ({ cls := "ClaimRegistryModel", name := "sumOf", desc := "(II)I" } : Jvm.MethodName) prog_9_method_56_code (5 : Nat) (Option.some Jvm.ClassFile.FieldType.int)) ∈ lw_all := lw_g (lw_at lw_m12 112 rfl) rfl
theorem q2848 : (Jvm.Cond.instanceMethod ({ cls := "ClaimRegistryModel", name := "owedTo", desc := "(I)I" } : Jvm.MethodName)) ∈ lw_all := lw_g (lw_at lw_m12 114 rfl) rfl
theorem q2849 : (Jvm.Cond.selects "ClaimRegistryModel" ({ cls := "ClaimRegistryModel", name := "owedTo", desc := "(I)I" } : Jvm.MethodName) ({ cls := "ClaimRegistryModel", name := "owedTo", desc := "(I)I" } : Jvm.MethodName)) ∈ lw_all := lw_g (lw_at lw_m12 115 rfl) rfl
theorem q2850 : (Jvm.Cond.code ({ cls := "ClaimRegistryModel", name := "owedTo", desc := "(I)I" } : Jvm.MethodName) prog_9_method_58_code (2 : Nat) (Option.some Jvm.ClassFile.FieldType.int)) ∈ lw_all := lw_g (lw_at lw_m12 116 rfl) rfl
theorem q2852 : (Jvm.Cond.instanceMethod ({ cls := "ClaimRegistryModel", name := "balance", desc := "(I)I" } : Jvm.MethodName)) ∈ lw_all := lw_g (lw_at lw_m12 118 rfl) rfl
theorem q2853 : (Jvm.Cond.selects "ClaimRegistryModel" ({ cls := "ClaimRegistryModel", name := "balance", desc := "(I)I" } : Jvm.MethodName) ({ cls := "ClaimRegistryModel", name := "balance", desc := "(I)I" } : Jvm.MethodName)) ∈ lw_all := lw_g (lw_at lw_m12 119 rfl) rfl
theorem q2854 : (Jvm.Cond.code ({ cls := "ClaimRegistryModel", name := "balance", desc := "(I)I" } : Jvm.MethodName) prog_9_method_60_code (2 : Nat) (Option.some Jvm.ClassFile.FieldType.int)) ∈ lw_all := lw_g (lw_at lw_m12 120 rfl) rfl
theorem q2855 : (Jvm.Cond.methodLink "ClaimRegistryModel" (137 : Nat) ({ cls := "ClaimRegistryModel", name := "balanceOf", desc := "(I)I" } : Jvm.MethodName)) ∈ lw_all := lw_g (lw_at lw_m12 121 rfl) rfl
theorem q2856 : (Jvm.Cond.privateMethod ({ cls := "ClaimRegistryModel", name := "balanceOf", desc := "(I)I" } : Jvm.MethodName)) ∈ lw_tbl := lw_at lw_m12 122 rfl
theorem q2857 : (Jvm.Cond.instanceMethod ({ cls := "ClaimRegistryModel", name := "balanceOf", desc := "(I)I" } : Jvm.MethodName)) ∈ lw_all := lw_g (lw_at lw_m12 123 rfl) rfl
theorem q2858 : (Jvm.Cond.code ({ cls := "ClaimRegistryModel", name := "balanceOf", desc := "(I)I" } : Jvm.MethodName) prog_9_method_59_code (2 : Nat) (Option.some Jvm.ClassFile.FieldType.int)) ∈ lw_all := lw_g (lw_at lw_m12 124 rfl) rfl
theorem q2860 : (Jvm.Cond.instanceMethod ({ cls := "ClaimRegistryModel", name := "mostIndebted", desc := "()I" } : Jvm.MethodName)) ∈ lw_all := lw_g (lw_at lw_m12 126 rfl) rfl
theorem q2861 : (Jvm.Cond.selects "ClaimRegistryModel" ({ cls := "ClaimRegistryModel", name := "mostIndebted", desc := "()I" } : Jvm.MethodName) ({ cls := "ClaimRegistryModel", name := "mostIndebted", desc := "()I" } : Jvm.MethodName)) ∈ lw_all := lw_g (lw_at lw_m12 127 rfl) rfl
theorem q2862 : (Jvm.Cond.code ({ cls := "ClaimRegistryModel", name := "mostIndebted", desc := "()I" } : Jvm.MethodName) prog_9_method_61_code (3 : Nat) (Option.some Jvm.ClassFile.FieldType.int)) ∈ lw_all := lw_g (lw_at lw_m12 128 rfl) rfl
theorem q2864 : (Jvm.Cond.instanceMethod ({ cls := "ClaimRegistryModel", name := "heaviest", desc := "()I" } : Jvm.MethodName)) ∈ lw_all := lw_g (lw_at lw_m12 130 rfl) rfl
theorem q2865 : (Jvm.Cond.selects "ClaimRegistryModel" ({ cls := "ClaimRegistryModel", name := "heaviest", desc := "()I" } : Jvm.MethodName) ({ cls := "ClaimRegistryModel", name := "heaviest", desc := "()I" } : Jvm.MethodName)) ∈ lw_all := lw_g (lw_at lw_m12 131 rfl) rfl
theorem q2866 : (Jvm.Cond.code ({ cls := "ClaimRegistryModel", name := "heaviest", desc := "()I" } : Jvm.MethodName) prog_9_method_62_code (3 : Nat) (Option.some Jvm.ClassFile.FieldType.int)) ∈ lw_all := lw_g (lw_at lw_m12 132 rfl) rfl
theorem q2868 : (Jvm.Cond.instanceMethod ({ cls := "ClaimRegistryModel", name := "nextExpiry", desc := "()I" } : Jvm.MethodName)) ∈ lw_all := lw_g (lw_at lw_m12 134 rfl) rfl
theorem q2869 : (Jvm.Cond.selects "ClaimRegistryModel" ({ cls := "ClaimRegistryModel", name := "nextExpiry", desc := "()I" } : Jvm.MethodName) ({ cls := "ClaimRegistryModel", name := "nextExpiry", desc := "()I" } : Jvm.MethodName)) ∈ lw_all := lw_g (lw_at lw_m12 135 rfl) rfl
theorem q2870 : (Jvm.Cond.code ({ cls := "ClaimRegistryModel", name := "nextExpiry", desc := "()I" } : Jvm.MethodName) prog_9_method_63_code (3 : Nat) (Option.some Jvm.ClassFile.FieldType.int)) ∈ lw_all := lw_g (lw_at lw_m12 136 rfl) rfl
theorem q2872 : (Jvm.Cond.instanceMethod ({ cls := "ClaimRegistryModel", name := "nextToAudit", desc := "()I" } : Jvm.MethodName)) ∈ lw_all := lw_g (lw_at lw_m12 138 rfl) rfl
theorem q2873 : (Jvm.Cond.selects "ClaimRegistryModel" ({ cls := "ClaimRegistryModel", name := "nextToAudit", desc := "()I" } : Jvm.MethodName) ({ cls := "ClaimRegistryModel", name := "nextToAudit", desc := "()I" } : Jvm.MethodName)) ∈ lw_all := lw_g (lw_at lw_m12 139 rfl) rfl
theorem q2874 : (Jvm.Cond.code ({ cls := "ClaimRegistryModel", name := "nextToAudit", desc := "()I" } : Jvm.MethodName) prog_9_method_64_code (1 : Nat) (Option.some Jvm.ClassFile.FieldType.int)) ∈ lw_all := lw_g (lw_at lw_m12 140 rfl) rfl
theorem q2876 : (Jvm.Cond.instanceMethod ({ cls := "ClaimRegistryModel", name := "auditPosition", desc := "(I)I" } : Jvm.MethodName)) ∈ lw_all := lw_g (lw_at lw_m12 142 rfl) rfl
theorem q2877 : (Jvm.Cond.selects "ClaimRegistryModel" ({ cls := "ClaimRegistryModel", name := "auditPosition", desc := "(I)I" } : Jvm.MethodName) ({ cls := "ClaimRegistryModel", name := "auditPosition", desc := "(I)I" } : Jvm.MethodName)) ∈ lw_all := lw_g (lw_at lw_m12 143 rfl) rfl
theorem q2878 : (Jvm.Cond.code ({ cls := "ClaimRegistryModel", name := "auditPosition", desc := "(I)I" } : Jvm.MethodName) prog_9_method_65_code (2 : Nat) (Option.some Jvm.ClassFile.FieldType.int)) ∈ lw_all := lw_g (lw_at lw_m12 144 rfl) rfl
theorem q2880 : (Jvm.Cond.instanceMethod ({ cls := "ClaimRegistryModel", name := "owes", desc := "(II)Z" } : Jvm.MethodName)) ∈ lw_all := lw_g (lw_at lw_m12 146 rfl) rfl
theorem q2881 : (Jvm.Cond.selects "ClaimRegistryModel" ({ cls := "ClaimRegistryModel", name := "owes", desc := "(II)Z" } : Jvm.MethodName) ({ cls := "ClaimRegistryModel", name := "owes", desc := "(II)Z" } : Jvm.MethodName)) ∈ lw_all := lw_g (lw_at lw_m12 147 rfl) rfl
theorem q2882 : (Jvm.Cond.code ({ cls := "ClaimRegistryModel", name := "owes", desc := "(II)Z" } : Jvm.MethodName) prog_9_method_67_code (3 : Nat) (Option.some Jvm.ClassFile.FieldType.boolean)) ∈ lw_all := lw_g (lw_at lw_m12 148 rfl) rfl
theorem q2883 : (Jvm.Cond.methodLink "ClaimRegistryModel" (140 : Nat) ({ cls := "ClaimRegistryModel", name := "owesNow", desc := "(II)Z" } : Jvm.MethodName)) ∈ lw_all := lw_g (lw_at lw_m12 149 rfl) rfl
theorem q2884 : (Jvm.Cond.privateMethod ({ cls := "ClaimRegistryModel", name := "owesNow", desc := "(II)Z" } : Jvm.MethodName)) ∈ lw_tbl := lw_at lw_m12 150 rfl
theorem q2885 : (Jvm.Cond.instanceMethod ({ cls := "ClaimRegistryModel", name := "owesNow", desc := "(II)Z" } : Jvm.MethodName)) ∈ lw_all := lw_g (lw_at lw_m12 151 rfl) rfl
theorem q2886 : (Jvm.Cond.code ({ cls := "ClaimRegistryModel", name := "owesNow", desc := "(II)Z" } : Jvm.MethodName) prog_9_method_66_code (4 : Nat) (Option.some Jvm.ClassFile.FieldType.boolean)) ∈ lw_all := lw_g (lw_at lw_m12 152 rfl) rfl
theorem q2888 : (Jvm.Cond.instanceMethod ({ cls := "ClaimRegistryModel", name := "pairBalance", desc := "(II)I" } : Jvm.MethodName)) ∈ lw_all := lw_g (lw_at lw_m12 154 rfl) rfl
theorem q2889 : (Jvm.Cond.selects "ClaimRegistryModel" ({ cls := "ClaimRegistryModel", name := "pairBalance", desc := "(II)I" } : Jvm.MethodName) ({ cls := "ClaimRegistryModel", name := "pairBalance", desc := "(II)I" } : Jvm.MethodName)) ∈ lw_all := lw_g (lw_at lw_m12 155 rfl) rfl
theorem q2890 : (Jvm.Cond.code ({ cls := "ClaimRegistryModel", name := "pairBalance", desc := "(II)I" } : Jvm.MethodName) prog_9_method_69_code (3 : Nat) (Option.some Jvm.ClassFile.FieldType.int)) ∈ lw_all := lw_g (lw_at lw_m12 156 rfl) rfl
theorem q2891 : (Jvm.Cond.methodLink "ClaimRegistryModel" (143 : Nat) ({ cls := "ClaimRegistryModel", name := "owedAmong", desc := "(II)I" } : Jvm.MethodName)) ∈ lw_all := lw_g (lw_at lw_m12 157 rfl) rfl
theorem q2892 : (Jvm.Cond.privateMethod ({ cls := "ClaimRegistryModel", name := "owedAmong", desc := "(II)I" } : Jvm.MethodName)) ∈ lw_tbl := lw_at lw_m12 158 rfl
theorem q2893 : (Jvm.Cond.instanceMethod ({ cls := "ClaimRegistryModel", name := "owedAmong", desc := "(II)I" } : Jvm.MethodName)) ∈ lw_all := lw_g (lw_at lw_m12 159 rfl) rfl
theorem q2894 : (Jvm.Cond.code ({ cls := "ClaimRegistryModel", name := "owedAmong", desc := "(II)I" } : Jvm.MethodName) prog_9_method_68_code (5 : Nat) (Option.some Jvm.ClassFile.FieldType.int)) ∈ lw_all := lw_g (lw_at lw_m12 160 rfl) rfl
theorem q2896 : (Jvm.Cond.instanceMethod ({ cls := "ClaimRegistryModel", name := "chainLength", desc := "(II)I" } : Jvm.MethodName)) ∈ lw_all := lw_g (lw_at lw_m12 162 rfl) rfl
theorem q2897 : (Jvm.Cond.selects "ClaimRegistryModel" ({ cls := "ClaimRegistryModel", name := "chainLength", desc := "(II)I" } : Jvm.MethodName) ({ cls := "ClaimRegistryModel", name := "chainLength", desc := "(II)I" } : Jvm.MethodName)) ∈ lw_all := lw_g (lw_at lw_m12 163 rfl) rfl
theorem q2898 : (Jvm.Cond.code ({ cls := "ClaimRegistryModel", name := "chainLength", desc := "(II)I" } : Jvm.MethodName) prog_9_method_71_code (5 : Nat) (Option.some Jvm.ClassFile.FieldType.int)) ∈ lw_all := lw_g (lw_at lw_m12 164 rfl) rfl
theorem q2899 : (Jvm.Cond.methodLink "ClaimRegistryModel" (146 : Nat) ({ cls := "ClaimRegistryModel", name := "owedBySet", desc := "(I)I" } : Jvm.MethodName)) ∈ lw_all := lw_g (lw_at lw_m12 165 rfl) rfl
theorem q2900 : (Jvm.Cond.privateMethod ({ cls := "ClaimRegistryModel", name := "owedBySet", desc := "(I)I" } : Jvm.MethodName)) ∈ lw_tbl := lw_at lw_m12 166 rfl
theorem q2901 : (Jvm.Cond.instanceMethod ({ cls := "ClaimRegistryModel", name := "owedBySet", desc := "(I)I" } : Jvm.MethodName)) ∈ lw_all := lw_g (lw_at lw_m12 167 rfl) rfl
theorem q2902 : (Jvm.Cond.code ({ cls := "ClaimRegistryModel", name := "owedBySet", desc := "(I)I" } : Jvm.MethodName) prog_9_method_70_code (4 : Nat) (Option.some Jvm.ClassFile.FieldType.int)) ∈ lw_all := lw_g (lw_at lw_m12 168 rfl) rfl
theorem q2904 : (Jvm.Cond.instanceMethod ({ cls := "ClaimRegistryModel", name := "chainLengthByRounds", desc := "(II)I" } : Jvm.MethodName)) ∈ lw_all := lw_g (lw_at lw_m12 170 rfl) rfl
theorem q2905 : (Jvm.Cond.selects "ClaimRegistryModel" ({ cls := "ClaimRegistryModel", name := "chainLengthByRounds", desc := "(II)I" } : Jvm.MethodName) ({ cls := "ClaimRegistryModel", name := "chainLengthByRounds", desc := "(II)I" } : Jvm.MethodName)) ∈ lw_all := lw_g (lw_at lw_m12 171 rfl) rfl
theorem q2906 : (Jvm.Cond.code ({ cls := "ClaimRegistryModel", name := "chainLengthByRounds", desc := "(II)I" } : Jvm.MethodName) prog_9_method_72_code (3 : Nat) (Option.some Jvm.ClassFile.FieldType.int)) ∈ lw_all := lw_g (lw_at lw_m12 172 rfl) rfl
theorem q2907 : (Jvm.Cond.methodLink "ClaimRegistryModel" (149 : Nat) ({ cls := "ClaimRegistryModel", name := "chainLength", desc := "(II)I" } : Jvm.MethodName)) ∈ lw_all := lw_g (lw_at lw_m12 173 rfl) rfl
theorem q2909 : (Jvm.Cond.instanceMethod ({ cls := "ClaimRegistryModel", name := "reachableFrom", desc := "(I)I" } : Jvm.MethodName)) ∈ lw_all := lw_g (lw_at lw_m12 175 rfl) rfl
theorem q2910 : (Jvm.Cond.selects "ClaimRegistryModel" ({ cls := "ClaimRegistryModel", name := "reachableFrom", desc := "(I)I" } : Jvm.MethodName) ({ cls := "ClaimRegistryModel", name := "reachableFrom", desc := "(I)I" } : Jvm.MethodName)) ∈ lw_all := lw_g (lw_at lw_m12 176 rfl) rfl
theorem q2911 : (Jvm.Cond.code ({ cls := "ClaimRegistryModel", name := "reachableFrom", desc := "(I)I" } : Jvm.MethodName) prog_9_method_74_code (2 : Nat) (Option.some Jvm.ClassFile.FieldType.int)) ∈ lw_all := lw_g (lw_at lw_m12 177 rfl) rfl
theorem q2912 : (Jvm.Cond.methodLink "ClaimRegistryModel" (152 : Nat) ({ cls := "ClaimRegistryModel", name := "reached", desc := "(I)I" } : Jvm.MethodName)) ∈ lw_all := lw_g (lw_at lw_m12 178 rfl) rfl
theorem q2913 : (Jvm.Cond.privateMethod ({ cls := "ClaimRegistryModel", name := "reached", desc := "(I)I" } : Jvm.MethodName)) ∈ lw_tbl := lw_at lw_m12 179 rfl
theorem q2914 : (Jvm.Cond.instanceMethod ({ cls := "ClaimRegistryModel", name := "reached", desc := "(I)I" } : Jvm.MethodName)) ∈ lw_all := lw_g (lw_at lw_m12 180 rfl) rfl
theorem q2915 : (Jvm.Cond.code ({ cls := "ClaimRegistryModel", name := "reached", desc := "(I)I" } : Jvm.MethodName) prog_9_method_73_code (5 : Nat) (Option.some Jvm.ClassFile.FieldType.int)) ∈ lw_all := lw_g (lw_at lw_m12 181 rfl) rfl
theorem q2917 : (Jvm.Cond.instanceMethod ({ cls := "ClaimRegistryModel", name := "hasCycle", desc := "()Z" } : Jvm.MethodName)) ∈ lw_all := lw_g (lw_at lw_m12 183 rfl) rfl
theorem q2918 : (Jvm.Cond.selects "ClaimRegistryModel" ({ cls := "ClaimRegistryModel", name := "hasCycle", desc := "()Z" } : Jvm.MethodName) ({ cls := "ClaimRegistryModel", name := "hasCycle", desc := "()Z" } : Jvm.MethodName)) ∈ lw_all := lw_g (lw_at lw_m12 184 rfl) rfl
theorem q2919 : (Jvm.Cond.code ({ cls := "ClaimRegistryModel", name := "hasCycle", desc := "()Z" } : Jvm.MethodName) prog_9_method_75_code (3 : Nat) (Option.some Jvm.ClassFile.FieldType.boolean)) ∈ lw_all := lw_g (lw_at lw_m12 185 rfl) rfl
theorem q2921 : (Jvm.Cond.instanceMethod ({ cls := "ClaimRegistryModel", name := "idByExpiry", desc := "(I)I" } : Jvm.MethodName)) ∈ lw_all := lw_g (lw_at lw_m12 187 rfl) rfl
theorem q2922 : (Jvm.Cond.selects "ClaimRegistryModel" ({ cls := "ClaimRegistryModel", name := "idByExpiry", desc := "(I)I" } : Jvm.MethodName) ({ cls := "ClaimRegistryModel", name := "idByExpiry", desc := "(I)I" } : Jvm.MethodName)) ∈ lw_all := lw_g (lw_at lw_m12 188 rfl) rfl
theorem q2923 : (Jvm.Cond.code ({ cls := "ClaimRegistryModel", name := "idByExpiry", desc := "(I)I" } : Jvm.MethodName) prog_9_method_77_code (3 : Nat) (Option.some Jvm.ClassFile.FieldType.int)) ∈ lw_all := lw_g (lw_at lw_m12 189 rfl) rfl
theorem q2924 : (Jvm.Cond.methodLink "ClaimRegistryModel" (155 : Nat) ({ cls := "ClaimRegistryModel", name := "rankAt", desc := "(I)I" } : Jvm.MethodName)) ∈ lw_all := lw_g (lw_at lw_m12 190 rfl) rfl
theorem q2925 : (Jvm.Cond.privateMethod ({ cls := "ClaimRegistryModel", name := "rankAt", desc := "(I)I" } : Jvm.MethodName)) ∈ lw_tbl := lw_at lw_m12 191 rfl
theorem q2926 : (Jvm.Cond.instanceMethod ({ cls := "ClaimRegistryModel", name := "rankAt", desc := "(I)I" } : Jvm.MethodName)) ∈ lw_all := lw_g (lw_at lw_m12 192 rfl) rfl
theorem q2927 : (Jvm.Cond.code ({ cls := "ClaimRegistryModel", name := "rankAt", desc := "(I)I" } : Jvm.MethodName) prog_9_method_76_code (6 : Nat) (Option.some Jvm.ClassFile.FieldType.int)) ∈ lw_all := lw_g (lw_at lw_m12 193 rfl) rfl
theorem q2929 : (Jvm.Cond.instanceMethod ({ cls := "ClaimRegistryModel", name := "expiryRank", desc := "(I)I" } : Jvm.MethodName)) ∈ lw_all := lw_g (lw_at lw_m12 195 rfl) rfl
theorem q2930 : (Jvm.Cond.selects "ClaimRegistryModel" ({ cls := "ClaimRegistryModel", name := "expiryRank", desc := "(I)I" } : Jvm.MethodName) ({ cls := "ClaimRegistryModel", name := "expiryRank", desc := "(I)I" } : Jvm.MethodName)) ∈ lw_all := lw_g (lw_at lw_m12 196 rfl) rfl
theorem q2931 : (Jvm.Cond.code ({ cls := "ClaimRegistryModel", name := "expiryRank", desc := "(I)I" } : Jvm.MethodName) prog_9_method_78_code (3 : Nat) (Option.some Jvm.ClassFile.FieldType.int)) ∈ lw_all := lw_g (lw_at lw_m12 197 rfl) rfl
theorem q2933 : (Jvm.Cond.instanceMethod ({ cls := "ClaimRegistryModel", name := "expiringWithin", desc := "(I)I" } : Jvm.MethodName)) ∈ lw_all := lw_g (lw_at lw_m12 199 rfl) rfl
theorem q2934 : (Jvm.Cond.selects "ClaimRegistryModel" ({ cls := "ClaimRegistryModel", name := "expiringWithin", desc := "(I)I" } : Jvm.MethodName) ({ cls := "ClaimRegistryModel", name := "expiringWithin", desc := "(I)I" } : Jvm.MethodName)) ∈ lw_all := lw_g (lw_at lw_m12 200 rfl) rfl
theorem q2935 : (Jvm.Cond.code ({ cls := "ClaimRegistryModel", name := "expiringWithin", desc := "(I)I" } : Jvm.MethodName) prog_9_method_79_code (4 : Nat) (Option.some Jvm.ClassFile.FieldType.int)) ∈ lw_all := lw_g (lw_at lw_m12 201 rfl) rfl
theorem q2937 : (Jvm.Cond.instanceMethod ({ cls := "ClaimRegistryModel", name := "expiringBySimulation", desc := "(I)I" } : Jvm.MethodName)) ∈ lw_all := lw_g (lw_at lw_m12 203 rfl) rfl
theorem q2938 : (Jvm.Cond.selects "ClaimRegistryModel" ({ cls := "ClaimRegistryModel", name := "expiringBySimulation", desc := "(I)I" } : Jvm.MethodName) ({ cls := "ClaimRegistryModel", name := "expiringBySimulation", desc := "(I)I" } : Jvm.MethodName)) ∈ lw_all := lw_g (lw_at lw_m12 204 rfl) rfl
theorem q2939 : (Jvm.Cond.code ({ cls := "ClaimRegistryModel", name := "expiringBySimulation", desc := "(I)I" } : Jvm.MethodName) prog_9_method_80_code (4 : Nat) (Option.some Jvm.ClassFile.FieldType.int)) ∈ lw_all := lw_g (lw_at lw_m12 205 rfl) rfl
theorem q2941 : (Jvm.Cond.instanceMethod ({ cls := "ClaimRegistryModel", name := "weightAfter", desc := "(II)I" } : Jvm.MethodName)) ∈ lw_all := lw_g (lw_at lw_m12 207 rfl) rfl
theorem q2942 : (Jvm.Cond.selects "ClaimRegistryModel" ({ cls := "ClaimRegistryModel", name := "weightAfter", desc := "(II)I" } : Jvm.MethodName) ({ cls := "ClaimRegistryModel", name := "weightAfter", desc := "(II)I" } : Jvm.MethodName)) ∈ lw_all := lw_g (lw_at lw_m12 208 rfl) rfl
theorem q2943 : (Jvm.Cond.code ({ cls := "ClaimRegistryModel", name := "weightAfter", desc := "(II)I" } : Jvm.MethodName) prog_9_method_81_code (6 : Nat) (Option.some Jvm.ClassFile.FieldType.int)) ∈ lw_all := lw_g (lw_at lw_m12 209 rfl) rfl
theorem q2945 : (Jvm.Cond.instanceMethod ({ cls := "ClaimRegistryModel", name := "canSign", desc := "(II)Z" } : Jvm.MethodName)) ∈ lw_all := lw_g (lw_at lw_m12 211 rfl) rfl
theorem q2946 : (Jvm.Cond.selects "ClaimRegistryModel" ({ cls := "ClaimRegistryModel", name := "canSign", desc := "(II)Z" } : Jvm.MethodName) ({ cls := "ClaimRegistryModel", name := "canSign", desc := "(II)Z" } : Jvm.MethodName)) ∈ lw_all := lw_g (lw_at lw_m12 212 rfl) rfl
theorem q2947 : (Jvm.Cond.code ({ cls := "ClaimRegistryModel", name := "canSign", desc := "(II)Z" } : Jvm.MethodName) prog_9_method_82_code (4 : Nat) (Option.some Jvm.ClassFile.FieldType.boolean)) ∈ lw_all := lw_g (lw_at lw_m12 213 rfl) rfl
theorem q2949 : (Jvm.Cond.instanceMethod ({ cls := "ClaimRegistryModel", name := "canCountersign", desc := "(II)Z" } : Jvm.MethodName)) ∈ lw_all := lw_g (lw_at lw_m12 215 rfl) rfl
theorem q2950 : (Jvm.Cond.selects "ClaimRegistryModel" ({ cls := "ClaimRegistryModel", name := "canCountersign", desc := "(II)Z" } : Jvm.MethodName) ({ cls := "ClaimRegistryModel", name := "canCountersign", desc := "(II)Z" } : Jvm.MethodName)) ∈ lw_all := lw_g (lw_at lw_m12 216 rfl) rfl
theorem q2951 : (Jvm.Cond.code ({ cls := "ClaimRegistryModel", name := "canCountersign", desc := "(II)Z" } : Jvm.MethodName) prog_9_method_83_code (4 : Nat) (Option.some Jvm.ClassFile.FieldType.boolean)) ∈ lw_all := lw_g (lw_at lw_m12 217 rfl) rfl
theorem q2953 : (Jvm.Cond.instanceMethod ({ cls := "ClaimRegistryModel", name := "recentlyExpired", desc := "(I)I" } : Jvm.MethodName)) ∈ lw_all := lw_g (lw_at lw_m12 219 rfl) rfl
theorem q2954 : (Jvm.Cond.selects "ClaimRegistryModel" ({ cls := "ClaimRegistryModel", name := "recentlyExpired", desc := "(I)I" } : Jvm.MethodName) ({ cls := "ClaimRegistryModel", name := "recentlyExpired", desc := "(I)I" } : Jvm.MethodName)) ∈ lw_all := lw_g (lw_at lw_m12 220 rfl) rfl
theorem q2955 : (Jvm.Cond.code ({ cls := "ClaimRegistryModel", name := "recentlyExpired", desc := "(I)I" } : Jvm.MethodName) prog_9_method_84_code (2 : Nat) (Option.some Jvm.ClassFile.FieldType.int)) ∈ lw_all := lw_g (lw_at lw_m12 221 rfl) rfl
theorem q2957 : (Jvm.Cond.instanceMethod ({ cls := "ClaimRegistryModel", name := "expiredCount", desc := "()I" } : Jvm.MethodName)) ∈ lw_all := lw_g (lw_at lw_m12 223 rfl) rfl
theorem q2958 : (Jvm.Cond.selects "ClaimRegistryModel" ({ cls := "ClaimRegistryModel", name := "expiredCount", desc := "()I" } : Jvm.MethodName) ({ cls := "ClaimRegistryModel", name := "expiredCount", desc := "()I" } : Jvm.MethodName)) ∈ lw_all := lw_g (lw_at lw_m12 224 rfl) rfl
theorem q2959 : (Jvm.Cond.code ({ cls := "ClaimRegistryModel", name := "expiredCount", desc := "()I" } : Jvm.MethodName) prog_9_method_85_code (1 : Nat) (Option.some Jvm.ClassFile.FieldType.int)) ∈ lw_all := lw_g (lw_at lw_m12 225 rfl) rfl
theorem q2961 : (Jvm.Cond.instanceMethod ({ cls := "ClaimRegistryModel", name := "settledCount", desc := "()I" } : Jvm.MethodName)) ∈ lw_all := lw_g (lw_at lw_m12 227 rfl) rfl
theorem q2962 : (Jvm.Cond.selects "ClaimRegistryModel" ({ cls := "ClaimRegistryModel", name := "settledCount", desc := "()I" } : Jvm.MethodName) ({ cls := "ClaimRegistryModel", name := "settledCount", desc := "()I" } : Jvm.MethodName)) ∈ lw_all := lw_g (lw_at lw_m12 228 rfl) rfl
theorem q2963 : (Jvm.Cond.code ({ cls := "ClaimRegistryModel", name := "settledCount", desc := "()I" } : Jvm.MethodName) prog_9_method_86_code (1 : Nat) (Option.some Jvm.ClassFile.FieldType.int)) ∈ lw_all := lw_g (lw_at lw_m12 229 rfl) rfl
theorem q2965 : (Jvm.Cond.instanceMethod ({ cls := "ClaimRegistryModel", name := "voidedCount", desc := "()I" } : Jvm.MethodName)) ∈ lw_all := lw_g (lw_at lw_m12 231 rfl) rfl
theorem q2966 : (Jvm.Cond.selects "ClaimRegistryModel" ({ cls := "ClaimRegistryModel", name := "voidedCount", desc := "()I" } : Jvm.MethodName) ({ cls := "ClaimRegistryModel", name := "voidedCount", desc := "()I" } : Jvm.MethodName)) ∈ lw_all := lw_g (lw_at lw_m12 232 rfl) rfl
theorem q2967 : (Jvm.Cond.code ({ cls := "ClaimRegistryModel", name := "voidedCount", desc := "()I" } : Jvm.MethodName) prog_9_method_87_code (1 : Nat) (Option.some Jvm.ClassFile.FieldType.int)) ∈ lw_all := lw_g (lw_at lw_m12 233 rfl) rfl
theorem q2969 : (Jvm.Cond.instanceMethod ({ cls := "ClaimRegistryModel", name := "interestTotal", desc := "()J" } : Jvm.MethodName)) ∈ lw_all := lw_g (lw_at lw_m12 235 rfl) rfl
theorem q2970 : (Jvm.Cond.selects "ClaimRegistryModel" ({ cls := "ClaimRegistryModel", name := "interestTotal", desc := "()J" } : Jvm.MethodName) ({ cls := "ClaimRegistryModel", name := "interestTotal", desc := "()J" } : Jvm.MethodName)) ∈ lw_all := lw_g (lw_at lw_m12 236 rfl) rfl
theorem q2971 : (Jvm.Cond.code ({ cls := "ClaimRegistryModel", name := "interestTotal", desc := "()J" } : Jvm.MethodName) prog_9_method_88_code (1 : Nat) (Option.some Jvm.ClassFile.FieldType.long)) ∈ lw_all := lw_g (lw_at lw_m12 237 rfl) rfl
theorem q2973 : (Jvm.Cond.instanceMethod ({ cls := "ClaimRegistryModel", name := "activeWeight", desc := "()J" } : Jvm.MethodName)) ∈ lw_all := lw_g (lw_at lw_m12 239 rfl) rfl
theorem q2974 : (Jvm.Cond.selects "ClaimRegistryModel" ({ cls := "ClaimRegistryModel", name := "activeWeight", desc := "()J" } : Jvm.MethodName) ({ cls := "ClaimRegistryModel", name := "activeWeight", desc := "()J" } : Jvm.MethodName)) ∈ lw_all := lw_g (lw_at lw_m13 0 rfl) rfl
theorem q2975 : (Jvm.Cond.code ({ cls := "ClaimRegistryModel", name := "activeWeight", desc := "()J" } : Jvm.MethodName) prog_9_method_89_code (3 : Nat) (Option.some Jvm.ClassFile.FieldType.long)) ∈ lw_all := lw_g (lw_at lw_m13 1 rfl) rfl
theorem q2977 : (Jvm.Cond.instanceMethod ({ cls := "ClaimRegistryModel", name := "closedWeight", desc := "()J" } : Jvm.MethodName)) ∈ lw_all := lw_g (lw_at lw_m13 3 rfl) rfl
theorem q2978 : (Jvm.Cond.selects "ClaimRegistryModel" ({ cls := "ClaimRegistryModel", name := "closedWeight", desc := "()J" } : Jvm.MethodName) ({ cls := "ClaimRegistryModel", name := "closedWeight", desc := "()J" } : Jvm.MethodName)) ∈ lw_all := lw_g (lw_at lw_m13 4 rfl) rfl
theorem q2979 : (Jvm.Cond.code ({ cls := "ClaimRegistryModel", name := "closedWeight", desc := "()J" } : Jvm.MethodName) prog_9_method_90_code (1 : Nat) (Option.some Jvm.ClassFile.FieldType.long)) ∈ lw_all := lw_g (lw_at lw_m13 5 rfl) rfl
theorem q2981 : (Jvm.Cond.instanceMethod ({ cls := "ClaimRegistryModel", name := "isConsistent", desc := "()Z" } : Jvm.MethodName)) ∈ lw_all := lw_g (lw_at lw_m13 7 rfl) rfl
theorem q2982 : (Jvm.Cond.selects "ClaimRegistryModel" ({ cls := "ClaimRegistryModel", name := "isConsistent", desc := "()Z" } : Jvm.MethodName) ({ cls := "ClaimRegistryModel", name := "isConsistent", desc := "()Z" } : Jvm.MethodName)) ∈ lw_all := lw_g (lw_at lw_m13 8 rfl) rfl
theorem q2983 : (Jvm.Cond.code ({ cls := "ClaimRegistryModel", name := "isConsistent", desc := "()Z" } : Jvm.MethodName) prog_9_method_91_code (1 : Nat) (Option.some Jvm.ClassFile.FieldType.boolean)) ∈ lw_all := lw_g (lw_at lw_m13 9 rfl) rfl
theorem q2985 : (Jvm.Cond.instanceMethod ({ cls := "ClaimRegistryModel", name := "format", desc := "(I)I" } : Jvm.MethodName)) ∈ lw_all := lw_g (lw_at lw_m13 11 rfl) rfl
theorem q2986 : (Jvm.Cond.selects "ClaimRegistryModel" ({ cls := "ClaimRegistryModel", name := "format", desc := "(I)I" } : Jvm.MethodName) ({ cls := "ClaimRegistryModel", name := "format", desc := "(I)I" } : Jvm.MethodName)) ∈ lw_all := lw_g (lw_at lw_m13 12 rfl) rfl
theorem q2987 : (Jvm.Cond.code ({ cls := "ClaimRegistryModel", name := "format", desc := "(I)I" } : Jvm.MethodName) prog_9_method_95_code (3 : Nat) (Option.some Jvm.ClassFile.FieldType.int)) ∈ lw_all := lw_g (lw_at lw_m13 13 rfl) rfl
theorem q2988 : (Jvm.Cond.methodLink "ClaimRegistryModel" (164 : Nat) ({ cls := "ClaimRegistryModel", name := "writes", desc := "(I)V" } : Jvm.MethodName)) ∈ lw_all := lw_g (lw_at lw_m13 14 rfl) rfl
theorem q2989 : (Jvm.Cond.privateMethod ({ cls := "ClaimRegistryModel", name := "writes", desc := "(I)V" } : Jvm.MethodName)) ∈ lw_tbl := lw_at lw_m13 15 rfl
theorem q2990 : (Jvm.Cond.instanceMethod ({ cls := "ClaimRegistryModel", name := "writes", desc := "(I)V" } : Jvm.MethodName)) ∈ lw_all := lw_g (lw_at lw_m13 16 rfl) rfl
theorem q2991 : (Jvm.Cond.code ({ cls := "ClaimRegistryModel", name := "writes", desc := "(I)V" } : Jvm.MethodName) prog_9_method_92_code (2 : Nat) (Option.none : Option Jvm.ClassFile.FieldType)) ∈ lw_all := lw_g (lw_at lw_m13 17 rfl) rfl
theorem q2992 : (Jvm.Cond.methodLink "ClaimRegistryModel" (161 : Nat) ({ cls := "ClaimRegistryModel", name := "writesNumber", desc := "(I)V" } : Jvm.MethodName)) ∈ lw_all := lw_g (lw_at lw_m13 18 rfl) rfl
theorem q2993 : (Jvm.Cond.privateMethod ({ cls := "ClaimRegistryModel", name := "writesNumber", desc := "(I)V" } : Jvm.MethodName)) ∈ lw_tbl := lw_at lw_m13 19 rfl
theorem q2994 : (Jvm.Cond.instanceMethod ({ cls := "ClaimRegistryModel", name := "writesNumber", desc := "(I)V" } : Jvm.MethodName)) ∈ lw_all := lw_g (lw_at lw_m13 20 rfl) rfl
theorem q2995 : (Jvm.Cond.code ({ cls := "ClaimRegistryModel", name := "writesNumber", desc := "(I)V" } : Jvm.MethodName) prog_9_method_93_code (2 : Nat) (Option.none : Option Jvm.ClassFile.FieldType)) ∈ lw_all := lw_g (lw_at lw_m13 21 rfl) rfl
theorem q2996 : (Jvm.Cond.methodLink "ClaimRegistryModel" (167 : Nat) ({ cls := "ClaimRegistryModel", name := "writesBehind", desc := "(II)V" } : Jvm.MethodName)) ∈ lw_all := lw_g (lw_at lw_m13 22 rfl) rfl
theorem q2997 : (Jvm.Cond.privateMethod ({ cls := "ClaimRegistryModel", name := "writesBehind", desc := "(II)V" } : Jvm.MethodName)) ∈ lw_tbl := lw_at lw_m13 23 rfl
theorem q2998 : (Jvm.Cond.instanceMethod ({ cls := "ClaimRegistryModel", name := "writesBehind", desc := "(II)V" } : Jvm.MethodName)) ∈ lw_all := lw_g (lw_at lw_m13 24 rfl) rfl
theorem q2999 : (Jvm.Cond.code ({ cls := "ClaimRegistryModel", name := "writesBehind", desc := "(II)V" } : Jvm.MethodName) prog_9_method_94_code (3 : Nat) (Option.none : Option Jvm.ClassFile.FieldType)) ∈ lw_all := lw_g (lw_at lw_m13 25 rfl) rfl
theorem q3001 : (Jvm.Cond.instanceMethod ({ cls := "ClaimRegistryModel", name := "lineChar", desc := "(I)C" } : Jvm.MethodName)) ∈ lw_all := lw_g (lw_at lw_m13 27 rfl) rfl
theorem q3002 : (Jvm.Cond.selects "ClaimRegistryModel" ({ cls := "ClaimRegistryModel", name := "lineChar", desc := "(I)C" } : Jvm.MethodName) ({ cls := "ClaimRegistryModel", name := "lineChar", desc := "(I)C" } : Jvm.MethodName)) ∈ lw_all := lw_g (lw_at lw_m13 28 rfl) rfl
theorem q3003 : (Jvm.Cond.code ({ cls := "ClaimRegistryModel", name := "lineChar", desc := "(I)C" } : Jvm.MethodName) prog_9_method_96_code (2 : Nat) (Option.some Jvm.ClassFile.FieldType.char)) ∈ lw_all := lw_g (lw_at lw_m13 29 rfl) rfl
theorem q3005 : (Jvm.Cond.instanceMethod ({ cls := "ClaimRegistryModel", name := "append", desc := "(C)I" } : Jvm.MethodName)) ∈ lw_all := lw_g (lw_at lw_m13 31 rfl) rfl
theorem q3006 : (Jvm.Cond.selects "ClaimRegistryModel" ({ cls := "ClaimRegistryModel", name := "append", desc := "(C)I" } : Jvm.MethodName) ({ cls := "ClaimRegistryModel", name := "append", desc := "(C)I" } : Jvm.MethodName)) ∈ lw_all := lw_g (lw_at lw_m13 32 rfl) rfl
theorem q3007 : (Jvm.Cond.code ({ cls := "ClaimRegistryModel", name := "append", desc := "(C)I" } : Jvm.MethodName) prog_9_method_97_code (2 : Nat) (Option.some Jvm.ClassFile.FieldType.int)) ∈ lw_all := lw_g (lw_at lw_m13 33 rfl) rfl
theorem q3009 : (Jvm.Cond.instanceMethod ({ cls := "ClaimRegistryModel", name := "run", desc := "()I" } : Jvm.MethodName)) ∈ lw_all := lw_g (lw_at lw_m13 35 rfl) rfl
theorem q3010 : (Jvm.Cond.selects "ClaimRegistryModel" ({ cls := "ClaimRegistryModel", name := "run", desc := "()I" } : Jvm.MethodName) ({ cls := "ClaimRegistryModel", name := "run", desc := "()I" } : Jvm.MethodName)) ∈ lw_all := lw_g (lw_at lw_m13 36 rfl) rfl
theorem q3011 : (Jvm.Cond.code ({ cls := "ClaimRegistryModel", name := "run", desc := "()I" } : Jvm.MethodName) prog_9_method_107_code (3 : Nat) (Option.some Jvm.ClassFile.FieldType.int)) ∈ lw_all := lw_g (lw_at lw_m13 37 rfl) rfl
theorem q3012 : (Jvm.Cond.methodLink "ClaimRegistryModel" (203 : Nat) ({ cls := "ClaimRegistryModel", name := "parse", desc := "()V" } : Jvm.MethodName)) ∈ lw_all := lw_g (lw_at lw_m13 38 rfl) rfl
theorem q3013 : (Jvm.Cond.privateMethod ({ cls := "ClaimRegistryModel", name := "parse", desc := "()V" } : Jvm.MethodName)) ∈ lw_tbl := lw_at lw_m13 39 rfl
theorem q3014 : (Jvm.Cond.instanceMethod ({ cls := "ClaimRegistryModel", name := "parse", desc := "()V" } : Jvm.MethodName)) ∈ lw_all := lw_g (lw_at lw_m13 40 rfl) rfl
theorem q3015 : (Jvm.Cond.code ({ cls := "ClaimRegistryModel", name := "parse", desc := "()V" } : Jvm.MethodName) prog_9_method_105_code (1 : Nat) (Option.none : Option Jvm.ClassFile.FieldType)) ∈ lw_all := lw_g (lw_at lw_m13 41 rfl) rfl
theorem q3016 : (Jvm.Cond.methodLink "ClaimRegistryModel" (200 : Nat) ({ cls := "ClaimRegistryModel", name := "command", desc := "()V" } : Jvm.MethodName)) ∈ lw_all := lw_g (lw_at lw_m13 42 rfl) rfl
theorem q3017 : (Jvm.Cond.privateMethod ({ cls := "ClaimRegistryModel", name := "command", desc := "()V" } : Jvm.MethodName)) ∈ lw_tbl := lw_at lw_m13 43 rfl
theorem q3018 : (Jvm.Cond.instanceMethod ({ cls := "ClaimRegistryModel", name := "command", desc := "()V" } : Jvm.MethodName)) ∈ lw_all := lw_g (lw_at lw_m13 44 rfl) rfl
theorem q3019 : (Jvm.Cond.code ({ cls := "ClaimRegistryModel", name := "command", desc := "()V" } : Jvm.MethodName) prog_9_method_104_code (4 : Nat) (Option.none : Option Jvm.ClassFile.FieldType)) ∈ lw_all := lw_g (lw_at lw_m13 45 rfl) rfl
theorem q3020 : (Jvm.Cond.methodLink "ClaimRegistryModel" (179 : Nat) ({ cls := "ClaimRegistryModel", name := "next", desc := "()I" } : Jvm.MethodName)) ∈ lw_all := lw_g (lw_at lw_m13 46 rfl) rfl
theorem q3021 : (Jvm.Cond.privateMethod ({ cls := "ClaimRegistryModel", name := "next", desc := "()I" } : Jvm.MethodName)) ∈ lw_tbl := lw_at lw_m13 47 rfl
theorem q3022 : (Jvm.Cond.instanceMethod ({ cls := "ClaimRegistryModel", name := "next", desc := "()I" } : Jvm.MethodName)) ∈ lw_all := lw_g (lw_at lw_m13 48 rfl) rfl
theorem q3023 : (Jvm.Cond.code ({ cls := "ClaimRegistryModel", name := "next", desc := "()I" } : Jvm.MethodName) prog_9_method_98_code (1 : Nat) (Option.some Jvm.ClassFile.FieldType.int)) ∈ lw_all := lw_g (lw_at lw_m13 49 rfl) rfl
theorem q3024 : (Jvm.Cond.methodLink "ClaimRegistryModel" (194 : Nat) ({ cls := "ClaimRegistryModel", name := "word", desc := "(I)I" } : Jvm.MethodName)) ∈ lw_all := lw_g (lw_at lw_m13 50 rfl) rfl
theorem q3025 : (Jvm.Cond.privateMethod ({ cls := "ClaimRegistryModel", name := "word", desc := "(I)I" } : Jvm.MethodName)) ∈ lw_tbl := lw_at lw_m13 51 rfl
theorem q3026 : (Jvm.Cond.instanceMethod ({ cls := "ClaimRegistryModel", name := "word", desc := "(I)I" } : Jvm.MethodName)) ∈ lw_all := lw_g (lw_at lw_m13 52 rfl) rfl
theorem q3027 : (Jvm.Cond.code ({ cls := "ClaimRegistryModel", name := "word", desc := "(I)I" } : Jvm.MethodName) prog_9_method_103_code (3 : Nat) (Option.some Jvm.ClassFile.FieldType.int)) ∈ lw_all := lw_g (lw_at lw_m13 53 rfl) rfl
theorem q3028 : (Jvm.Cond.methodLink "ClaimRegistryModel" (188 : Nat) ({ cls := "ClaimRegistryModel", name := "three", desc := "(III)V" } : Jvm.MethodName)) ∈ lw_all := lw_g (lw_at lw_m13 54 rfl) rfl
theorem q3029 : (Jvm.Cond.privateMethod ({ cls := "ClaimRegistryModel", name := "three", desc := "(III)V" } : Jvm.MethodName)) ∈ lw_tbl := lw_at lw_m13 55 rfl
theorem q3030 : (Jvm.Cond.instanceMethod ({ cls := "ClaimRegistryModel", name := "three", desc := "(III)V" } : Jvm.MethodName)) ∈ lw_all := lw_g (lw_at lw_m13 56 rfl) rfl
theorem q3031 : (Jvm.Cond.code ({ cls := "ClaimRegistryModel", name := "three", desc := "(III)V" } : Jvm.MethodName) prog_9_method_100_code (4 : Nat) (Option.none : Option Jvm.ClassFile.FieldType)) ∈ lw_all := lw_g (lw_at lw_m13 57 rfl) rfl
theorem q3032 : (Jvm.Cond.methodLink "ClaimRegistryModel" (182 : Nat) ({ cls := "ClaimRegistryModel", name := "needs", desc := "(I)V" } : Jvm.MethodName)) ∈ lw_all := lw_g (lw_at lw_m13 58 rfl) rfl
theorem q3033 : (Jvm.Cond.privateMethod ({ cls := "ClaimRegistryModel", name := "needs", desc := "(I)V" } : Jvm.MethodName)) ∈ lw_tbl := lw_at lw_m13 59 rfl
theorem q3034 : (Jvm.Cond.instanceMethod ({ cls := "ClaimRegistryModel", name := "needs", desc := "(I)V" } : Jvm.MethodName)) ∈ lw_all := lw_g (lw_at lw_m13 60 rfl) rfl
theorem q3035 : (Jvm.Cond.code ({ cls := "ClaimRegistryModel", name := "needs", desc := "(I)V" } : Jvm.MethodName) prog_9_method_99_code (2 : Nat) (Option.none : Option Jvm.ClassFile.FieldType)) ∈ lw_all := lw_g (lw_at lw_m13 61 rfl) rfl
theorem q3036 : (Jvm.Cond.methodLink "ClaimRegistryModel" (197 : Nat) ({ cls := "ClaimRegistryModel", name := "behind", desc := "(I)I" } : Jvm.MethodName)) ∈ lw_all := lw_g (lw_at lw_m13 62 rfl) rfl
theorem q3037 : (Jvm.Cond.privateMethod ({ cls := "ClaimRegistryModel", name := "behind", desc := "(I)I" } : Jvm.MethodName)) ∈ lw_tbl := lw_at lw_m13 63 rfl
theorem q3038 : (Jvm.Cond.instanceMethod ({ cls := "ClaimRegistryModel", name := "behind", desc := "(I)I" } : Jvm.MethodName)) ∈ lw_all := lw_g (lw_at lw_m13 64 rfl) rfl
theorem q3039 : (Jvm.Cond.code ({ cls := "ClaimRegistryModel", name := "behind", desc := "(I)I" } : Jvm.MethodName) prog_9_method_102_code (2 : Nat) (Option.some Jvm.ClassFile.FieldType.int)) ∈ lw_all := lw_g (lw_at lw_m13 65 rfl) rfl
theorem q3040 : (Jvm.Cond.methodLink "ClaimRegistryModel" (185 : Nat) ({ cls := "ClaimRegistryModel", name := "number", desc := "(I)I" } : Jvm.MethodName)) ∈ lw_all := lw_g (lw_at lw_m13 66 rfl) rfl
theorem q3041 : (Jvm.Cond.privateMethod ({ cls := "ClaimRegistryModel", name := "number", desc := "(I)I" } : Jvm.MethodName)) ∈ lw_tbl := lw_at lw_m13 67 rfl
theorem q3042 : (Jvm.Cond.instanceMethod ({ cls := "ClaimRegistryModel", name := "number", desc := "(I)I" } : Jvm.MethodName)) ∈ lw_all := lw_g (lw_at lw_m13 68 rfl) rfl
theorem q3043 : (Jvm.Cond.code ({ cls := "ClaimRegistryModel", name := "number", desc := "(I)I" } : Jvm.MethodName) prog_9_method_101_code (4 : Nat) (Option.some Jvm.ClassFile.FieldType.int)) ∈ lw_all := lw_g (lw_at lw_m13 69 rfl) rfl
theorem q3044 : (Jvm.Cond.methodLink "ClaimRegistryModel" (206 : Nat) ({ cls := "ClaimRegistryModel", name := "does", desc := "(I)I" } : Jvm.MethodName)) ∈ lw_all := lw_g (lw_at lw_m13 70 rfl) rfl
theorem q3045 : (Jvm.Cond.privateMethod ({ cls := "ClaimRegistryModel", name := "does", desc := "(I)I" } : Jvm.MethodName)) ∈ lw_tbl := lw_at lw_m13 71 rfl
theorem q3046 : (Jvm.Cond.instanceMethod ({ cls := "ClaimRegistryModel", name := "does", desc := "(I)I" } : Jvm.MethodName)) ∈ lw_all := lw_g (lw_at lw_m13 72 rfl) rfl
theorem q3047 : (Jvm.Cond.code ({ cls := "ClaimRegistryModel", name := "does", desc := "(I)I" } : Jvm.MethodName) prog_9_method_106_code (4 : Nat) (Option.some Jvm.ClassFile.FieldType.int)) ∈ lw_all := lw_g (lw_at lw_m13 73 rfl) rfl
theorem q3049 : (Jvm.Cond.instanceMethod ({ cls := "ClaimRegistryModel", name := "errorPosition", desc := "()I" } : Jvm.MethodName)) ∈ lw_all := lw_g (lw_at lw_m13 75 rfl) rfl
theorem q3050 : (Jvm.Cond.selects "ClaimRegistryModel" ({ cls := "ClaimRegistryModel", name := "errorPosition", desc := "()I" } : Jvm.MethodName) ({ cls := "ClaimRegistryModel", name := "errorPosition", desc := "()I" } : Jvm.MethodName)) ∈ lw_all := lw_g (lw_at lw_m13 76 rfl) rfl
theorem q3051 : (Jvm.Cond.code ({ cls := "ClaimRegistryModel", name := "errorPosition", desc := "()I" } : Jvm.MethodName) prog_9_method_108_code (1 : Nat) (Option.some Jvm.ClassFile.FieldType.int)) ∈ lw_all := lw_g (lw_at lw_m13 77 rfl) rfl
theorem q3053 : (Jvm.Cond.instanceMethod ({ cls := "ClaimRegistryModel", name := "failedCommand", desc := "()I" } : Jvm.MethodName)) ∈ lw_all := lw_g (lw_at lw_m13 79 rfl) rfl
theorem q3054 : (Jvm.Cond.selects "ClaimRegistryModel" ({ cls := "ClaimRegistryModel", name := "failedCommand", desc := "()I" } : Jvm.MethodName) ({ cls := "ClaimRegistryModel", name := "failedCommand", desc := "()I" } : Jvm.MethodName)) ∈ lw_all := lw_g (lw_at lw_m13 80 rfl) rfl
theorem q3055 : (Jvm.Cond.code ({ cls := "ClaimRegistryModel", name := "failedCommand", desc := "()I" } : Jvm.MethodName) prog_9_method_109_code (1 : Nat) (Option.some Jvm.ClassFile.FieldType.int)) ∈ lw_all := lw_g (lw_at lw_m13 81 rfl) rfl
theorem q3057 : (Jvm.Cond.instanceMethod ({ cls := "ClaimRegistryModel", name := "undoableCount", desc := "()I" } : Jvm.MethodName)) ∈ lw_all := lw_g (lw_at lw_m13 83 rfl) rfl
theorem q3058 : (Jvm.Cond.selects "ClaimRegistryModel" ({ cls := "ClaimRegistryModel", name := "undoableCount", desc := "()I" } : Jvm.MethodName) ({ cls := "ClaimRegistryModel", name := "undoableCount", desc := "()I" } : Jvm.MethodName)) ∈ lw_all := lw_g (lw_at lw_m13 84 rfl) rfl
theorem q3059 : (Jvm.Cond.code ({ cls := "ClaimRegistryModel", name := "undoableCount", desc := "()I" } : Jvm.MethodName) prog_9_method_110_code (1 : Nat) (Option.some Jvm.ClassFile.FieldType.int)) ∈ lw_all := lw_g (lw_at lw_m13 85 rfl) rfl
theorem q3061 : (Jvm.Cond.instanceMethod ({ cls := "ClaimRegistryModel", name := "undo", desc := "()I" } : Jvm.MethodName)) ∈ lw_all := lw_g (lw_at lw_m13 87 rfl) rfl
theorem q3062 : (Jvm.Cond.selects "ClaimRegistryModel" ({ cls := "ClaimRegistryModel", name := "undo", desc := "()I" } : Jvm.MethodName) ({ cls := "ClaimRegistryModel", name := "undo", desc := "()I" } : Jvm.MethodName)) ∈ lw_all := lw_g (lw_at lw_m13 88 rfl) rfl
theorem q3063 : (Jvm.Cond.code ({ cls := "ClaimRegistryModel", name := "undo", desc := "()I" } : Jvm.MethodName) prog_9_method_111_code (1 : Nat) (Option.some Jvm.ClassFile.FieldType.int)) ∈ lw_all := lw_g (lw_at lw_m13 89 rfl) rfl
theorem q3065 : (Jvm.Cond.instanceMethod ({ cls := "ClaimRegistryModel", name := "save", desc := "()I" } : Jvm.MethodName)) ∈ lw_all := lw_g (lw_at lw_m13 91 rfl) rfl
theorem q3066 : (Jvm.Cond.selects "ClaimRegistryModel" ({ cls := "ClaimRegistryModel", name := "save", desc := "()I" } : Jvm.MethodName) ({ cls := "ClaimRegistryModel", name := "save", desc := "()I" } : Jvm.MethodName)) ∈ lw_all := lw_g (lw_at lw_m13 92 rfl) rfl
theorem q3067 : (Jvm.Cond.code ({ cls := "ClaimRegistryModel", name := "save", desc := "()I" } : Jvm.MethodName) prog_9_method_112_code (1 : Nat) (Option.some Jvm.ClassFile.FieldType.int)) ∈ lw_all := lw_g (lw_at lw_m13 93 rfl) rfl
theorem q3069 : (Jvm.Cond.instanceMethod ({ cls := "ClaimRegistryModel", name := "restore", desc := "()I" } : Jvm.MethodName)) ∈ lw_all := lw_g (lw_at lw_m13 95 rfl) rfl
theorem q3070 : (Jvm.Cond.selects "ClaimRegistryModel" ({ cls := "ClaimRegistryModel", name := "restore", desc := "()I" } : Jvm.MethodName) ({ cls := "ClaimRegistryModel", name := "restore", desc := "()I" } : Jvm.MethodName)) ∈ lw_all := lw_g (lw_at lw_m13 96 rfl) rfl
theorem q3071 : (Jvm.Cond.code ({ cls := "ClaimRegistryModel", name := "restore", desc := "()I" } : Jvm.MethodName) prog_9_method_113_code (1 : Nat) (Option.some Jvm.ClassFile.FieldType.int)) ∈ lw_all := lw_g (lw_at lw_m13 97 rfl) rfl
theorem q3108 : (Jvm.Cond.castable "ClaimRegistryModel" "java/lang/Object") ∈ lw_tbl := lw_at lw_m13 134 rfl
theorem in_X3 : ∀ w ∈ wsX30, w ∈ lw_all := lw_in wsX30 [2594, 2596, 2598, 2600, 2602, 2604, 2606, 2608, 2610, 2612, 2614, 2616, 2618, 2620, 2622] (by decide +kernel) (by decide +kernel)
