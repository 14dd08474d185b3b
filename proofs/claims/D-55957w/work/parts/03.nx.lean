/-! ClaimRegistry$State -/
set_option maxRecDepth 100000
def RX2 : String := "ClaimRegistry$State"
def TX2 : u_T := fun k => match k with
  | 0 => ("ClaimRegistry$State", "claims", "Ljava/util/LinkedList;", true)
  | 1 => ("ClaimRegistry$State", "auditQueue", "Ljava/util/ArrayDeque;", true)
  | 2 => ("ClaimRegistry$State", "recentlyExpired", "Ljava/util/ArrayDeque;", true)
  | 3 => ("ClaimRegistry$State", "rates", "[I", true)
  | 4 => ("ClaimRegistry$State", "nextId", "I", false)
  | 5 => ("ClaimRegistry$State", "time", "I", false)
  | 6 => ("ClaimRegistry$State", "expiredCount", "I", false)
  | 7 => ("ClaimRegistry$State", "settledCount", "I", false)
  | 8 => ("ClaimRegistry$State", "voidedCount", "I", false)
  | 9 => ("ClaimRegistry$State", "addedWeight", "J", false)
  | 10 => ("ClaimRegistry$State", "interest", "J", false)
  | _ => ("ClaimRegistry$State", "closedWeight", "J", false)
def tyX2 : Nat → FieldType := fun k => match k with
  | 0 => .object "java/util/LinkedList"
  | 1 => .object "java/util/ArrayDeque"
  | 2 => .object "java/util/ArrayDeque"
  | 3 => .array .int
  | 4 => .int
  | 5 => .int
  | 6 => .int
  | 7 => .int
  | 8 => .int
  | 9 => .long
  | 10 => .long
  | _ => .long
abbrev wsX20 : List Cond := u_ws RX2 TX2 12
theorem nmX2 : ∀ a, a < 12 → ∀ b, b < 12 → a ≠ b → (TX2 a).2.1 ≠ (TX2 b).2.1 := by decide +kernel
theorem tyX2_ok : ∀ k, k < 12 → parseFieldDescriptor (TX2 k).2.2.1 = some (tyX2 k) := by decide +kernel
abbrev cX2_init : ByteArray := prog_7_method_1_code
def yX2_init : MethodName := ⟨RX2, "<init>", "()V"⟩
def dkwX2_init_2 : List UInt8 := [7, 162, 0, 16, 42, 180, 0, 28, 27, 8, 79, 132, 1, 1, 167, 255, 241, 177]
abbrev dktX2_init_2 : List UInt8 := dkwX2_init_2 ++ []
def dkwX2_init_1 : List UInt8 := [181, 0, 21, 42, 187, 0, 18, 89, 183, 0, 20, 181, 0, 25, 42, 7, 188, 10, 181, 0, 28, 3, 60, 27]
abbrev dktX2_init_1 : List UInt8 := dkwX2_init_1 ++ dktX2_init_2
def dkwX2_init_0 : List UInt8 := [42, 183, 0, 3, 42, 187, 0, 9, 89, 183, 0, 11, 181, 0, 12, 42, 187, 0, 18, 89, 183, 0, 20]
abbrev dktX2_init_0 : List UInt8 := dkwX2_init_0 ++ dktX2_init_1
theorem dksX2_init_0 : cX2_init.data.toList.drop 0 = dktX2_init_0 := by decide +kernel
theorem dksX2_init_1 : cX2_init.data.toList.drop 23 = dktX2_init_1 := dk_seg dksX2_init_0 23 rfl rfl
theorem dksX2_init_2 : cX2_init.data.toList.drop 47 = dktX2_init_2 := dk_seg dksX2_init_1 24 rfl rfl
theorem dX2_init_0 : decode cX2_init 0 = .ok (.aload_n 0, 1) := dk_42 (dk_at dksX2_init_0 0 rfl rfl)
theorem dX2_init_1 : decode cX2_init 1 = .ok (.invokespecial 3, 3) := dk_183 0 3 (dk_at dksX2_init_0 1 rfl rfl)
theorem dX2_init_4 : decode cX2_init 4 = .ok (.aload_n 0, 1) := dk_42 (dk_at dksX2_init_0 4 rfl rfl)
theorem dX2_init_5 : decode cX2_init 5 = .ok (.new 9, 3) := dk_187 0 9 (dk_at dksX2_init_0 5 rfl rfl)
theorem dX2_init_8 : decode cX2_init 8 = .ok (.dup, 1) := dk_89 (dk_at dksX2_init_0 8 rfl rfl)
theorem dX2_init_9 : decode cX2_init 9 = .ok (.invokespecial 11, 3) := dk_183 0 11 (dk_at dksX2_init_0 9 rfl rfl)
theorem dX2_init_12 : decode cX2_init 12 = .ok (.putfield 12, 3) := dk_181 0 12 (dk_at dksX2_init_0 12 rfl rfl)
theorem dX2_init_15 : decode cX2_init 15 = .ok (.aload_n 0, 1) := dk_42 (dk_at dksX2_init_0 15 rfl rfl)
theorem dX2_init_16 : decode cX2_init 16 = .ok (.new 18, 3) := dk_187 0 18 (dk_at dksX2_init_0 16 rfl rfl)
theorem dX2_init_19 : decode cX2_init 19 = .ok (.dup, 1) := dk_89 (dk_at dksX2_init_0 19 rfl rfl)
theorem dX2_init_20 : decode cX2_init 20 = .ok (.invokespecial 20, 3) := dk_183 0 20 (dk_at dksX2_init_0 20 rfl rfl)
theorem dX2_init_23 : decode cX2_init 23 = .ok (.putfield 21, 3) := dk_181 0 21 (dk_at dksX2_init_1 0 rfl rfl)
theorem dX2_init_26 : decode cX2_init 26 = .ok (.aload_n 0, 1) := dk_42 (dk_at dksX2_init_1 3 rfl rfl)
theorem dX2_init_27 : decode cX2_init 27 = .ok (.new 18, 3) := dk_187 0 18 (dk_at dksX2_init_1 4 rfl rfl)
theorem dX2_init_30 : decode cX2_init 30 = .ok (.dup, 1) := dk_89 (dk_at dksX2_init_1 7 rfl rfl)
theorem dX2_init_31 : decode cX2_init 31 = .ok (.invokespecial 20, 3) := dk_183 0 20 (dk_at dksX2_init_1 8 rfl rfl)
theorem dX2_init_34 : decode cX2_init 34 = .ok (.putfield 25, 3) := dk_181 0 25 (dk_at dksX2_init_1 11 rfl rfl)
theorem dX2_init_37 : decode cX2_init 37 = .ok (.aload_n 0, 1) := dk_42 (dk_at dksX2_init_1 14 rfl rfl)
theorem dX2_init_38 : decode cX2_init 38 = .ok (.iconst 4, 1) := dk_7 (dk_at dksX2_init_1 15 rfl rfl)
theorem dX2_init_39 : decode cX2_init 39 = .ok (.newarray .int, 2) := dk_188_10 (dk_at dksX2_init_1 16 rfl rfl)
theorem dX2_init_41 : decode cX2_init 41 = .ok (.putfield 28, 3) := dk_181 0 28 (dk_at dksX2_init_1 18 rfl rfl)
theorem dX2_init_44 : decode cX2_init 44 = .ok (.iconst 0, 1) := dk_3 (dk_at dksX2_init_1 21 rfl rfl)
theorem dX2_init_45 : decode cX2_init 45 = .ok (.istore_n 1, 1) := dk_60 (dk_at dksX2_init_1 22 rfl rfl)
theorem dX2_init_46 : decode cX2_init 46 = .ok (.iload_n 1, 1) := dk_27 (dk_at dksX2_init_1 23 rfl rfl)
theorem dX2_init_47 : decode cX2_init 47 = .ok (.iconst 4, 1) := dk_7 (dk_at dksX2_init_2 0 rfl rfl)
theorem dX2_init_48 : decode cX2_init 48 = .ok (.if_icmp .ge 16, 3) := dk_162 0 16 (dk_at dksX2_init_2 1 rfl rfl)
theorem dX2_init_51 : decode cX2_init 51 = .ok (.aload_n 0, 1) := dk_42 (dk_at dksX2_init_2 4 rfl rfl)
theorem dX2_init_52 : decode cX2_init 52 = .ok (.getfield 28, 3) := dk_180 0 28 (dk_at dksX2_init_2 5 rfl rfl)
theorem dX2_init_55 : decode cX2_init 55 = .ok (.iload_n 1, 1) := dk_27 (dk_at dksX2_init_2 8 rfl rfl)
theorem dX2_init_56 : decode cX2_init 56 = .ok (.iconst 5, 1) := dk_8 (dk_at dksX2_init_2 9 rfl rfl)
theorem dX2_init_57 : decode cX2_init 57 = .ok (.iastore, 1) := dk_79 (dk_at dksX2_init_2 10 rfl rfl)
theorem dX2_init_58 : decode cX2_init 58 = .ok (.iinc 1 1, 3) := dk_132 1 1 (dk_at dksX2_init_2 11 rfl rfl)
theorem dX2_init_61 : decode cX2_init 61 = .ok (.goto (-15), 3) := dk_167 255 241 (dk_at dksX2_init_2 14 rfl rfl)
theorem dX2_init_64 : decode cX2_init 64 = .ok (.return_, 1) := dk_177 (dk_at dksX2_init_2 17 rfl rfl)
abbrev cX2_copy : ByteArray := prog_7_method_2_code
def yX2_copy : MethodName := ⟨RX2, "copy", "()LClaimRegistry$State;"⟩
def dkwX2_copy_9 : List UInt8 := [180, 0, 85, 181, 0, 85, 43, 42, 180, 0, 89, 181, 0, 89, 43, 42, 180, 0, 92, 181, 0, 92, 43, 176]
abbrev dktX2_copy_9 : List UInt8 := dkwX2_copy_9 ++ []
def dkwX2_copy_8 : List UInt8 := [180, 0, 76, 181, 0, 76, 43, 42, 180, 0, 79, 181, 0, 79, 43, 42, 180, 0, 82, 181, 0, 82, 43, 42]
abbrev dktX2_copy_8 : List UInt8 := dkwX2_copy_8 ++ dktX2_copy_9
def dkwX2_copy_7 : List UInt8 := [132, 2, 1, 167, 255, 236, 43, 42, 180, 0, 69, 181, 0, 69, 43, 42, 180, 0, 73, 181, 0, 73, 43, 42]
abbrev dktX2_copy_7 : List UInt8 := dkwX2_copy_7 ++ dktX2_copy_8
def dkwX2_copy_6 : List UInt8 := [167, 255, 223, 3, 61, 28, 7, 162, 0, 21, 43, 180, 0, 28, 28, 42, 180, 0, 28, 28, 46, 79]
abbrev dktX2_copy_6 : List UInt8 := dkwX2_copy_6 ++ dktX2_copy_7
def dkwX2_copy_5 : List UInt8 := [185, 0, 43, 1, 0, 192, 0, 58, 182, 0, 60, 62, 43, 180, 0, 25, 29, 184, 0, 64, 182, 0, 68]
abbrev dktX2_copy_5 : List UInt8 := dkwX2_copy_5 ++ dktX2_copy_6
def dkwX2_copy_4 : List UInt8 := [167, 255, 223, 42, 180, 0, 25, 182, 0, 57, 77, 44, 185, 0, 37, 1, 0, 153, 0, 30, 44]
abbrev dktX2_copy_4 : List UInt8 := dkwX2_copy_4 ++ dktX2_copy_5
def dkwX2_copy_3 : List UInt8 := [185, 0, 43, 1, 0, 192, 0, 58, 182, 0, 60, 62, 43, 180, 0, 21, 29, 184, 0, 64, 182, 0, 68]
abbrev dktX2_copy_3 : List UInt8 := dkwX2_copy_3 ++ dktX2_copy_4
def dkwX2_copy_2 : List UInt8 := [167, 255, 226, 42, 180, 0, 21, 182, 0, 57, 77, 44, 185, 0, 37, 1, 0, 153, 0, 30, 44]
abbrev dktX2_copy_2 : List UInt8 := dkwX2_copy_2 ++ dktX2_copy_3
def dkwX2_copy_1 : List UInt8 := [153, 0, 27, 44, 185, 0, 43, 1, 0, 192, 0, 47, 78, 43, 180, 0, 12, 45, 182, 0, 49, 182, 0, 53]
abbrev dktX2_copy_1 : List UInt8 := dkwX2_copy_1 ++ dktX2_copy_2
def dkwX2_copy_0 : List UInt8 := [187, 0, 13, 89, 183, 0, 32, 76, 42, 180, 0, 12, 182, 0, 33, 77, 44, 185, 0, 37, 1, 0]
abbrev dktX2_copy_0 : List UInt8 := dkwX2_copy_0 ++ dktX2_copy_1
theorem dksX2_copy_0 : cX2_copy.data.toList.drop 0 = dktX2_copy_0 := by decide +kernel
theorem dksX2_copy_1 : cX2_copy.data.toList.drop 22 = dktX2_copy_1 := dk_seg dksX2_copy_0 22 rfl rfl
theorem dksX2_copy_2 : cX2_copy.data.toList.drop 46 = dktX2_copy_2 := dk_seg dksX2_copy_1 24 rfl rfl
theorem dksX2_copy_3 : cX2_copy.data.toList.drop 67 = dktX2_copy_3 := dk_seg dksX2_copy_2 21 rfl rfl
theorem dksX2_copy_4 : cX2_copy.data.toList.drop 90 = dktX2_copy_4 := dk_seg dksX2_copy_3 23 rfl rfl
theorem dksX2_copy_5 : cX2_copy.data.toList.drop 111 = dktX2_copy_5 := dk_seg dksX2_copy_4 21 rfl rfl
theorem dksX2_copy_6 : cX2_copy.data.toList.drop 134 = dktX2_copy_6 := dk_seg dksX2_copy_5 23 rfl rfl
theorem dksX2_copy_7 : cX2_copy.data.toList.drop 156 = dktX2_copy_7 := dk_seg dksX2_copy_6 22 rfl rfl
theorem dksX2_copy_8 : cX2_copy.data.toList.drop 180 = dktX2_copy_8 := dk_seg dksX2_copy_7 24 rfl rfl
theorem dksX2_copy_9 : cX2_copy.data.toList.drop 204 = dktX2_copy_9 := dk_seg dksX2_copy_8 24 rfl rfl
theorem dX2_copy_0 : decode cX2_copy 0 = .ok (.new 13, 3) := dk_187 0 13 (dk_at dksX2_copy_0 0 rfl rfl)
theorem dX2_copy_3 : decode cX2_copy 3 = .ok (.dup, 1) := dk_89 (dk_at dksX2_copy_0 3 rfl rfl)
theorem dX2_copy_4 : decode cX2_copy 4 = .ok (.invokespecial 32, 3) := dk_183 0 32 (dk_at dksX2_copy_0 4 rfl rfl)
theorem dX2_copy_7 : decode cX2_copy 7 = .ok (.astore_n 1, 1) := dk_76 (dk_at dksX2_copy_0 7 rfl rfl)
theorem dX2_copy_8 : decode cX2_copy 8 = .ok (.aload_n 0, 1) := dk_42 (dk_at dksX2_copy_0 8 rfl rfl)
theorem dX2_copy_9 : decode cX2_copy 9 = .ok (.getfield 12, 3) := dk_180 0 12 (dk_at dksX2_copy_0 9 rfl rfl)
theorem dX2_copy_12 : decode cX2_copy 12 = .ok (.invokevirtual 33, 3) := dk_182 0 33 (dk_at dksX2_copy_0 12 rfl rfl)
theorem dX2_copy_15 : decode cX2_copy 15 = .ok (.astore_n 2, 1) := dk_77 (dk_at dksX2_copy_0 15 rfl rfl)
theorem dX2_copy_16 : decode cX2_copy 16 = .ok (.aload_n 2, 1) := dk_44 (dk_at dksX2_copy_0 16 rfl rfl)
theorem dX2_copy_17 : decode cX2_copy 17 = .ok (.invokeinterface 37 1, 5) := by decide +kernel
theorem dX2_copy_22 : decode cX2_copy 22 = .ok (.ifCond .eq 27, 3) := dk_153 0 27 (dk_at dksX2_copy_1 0 rfl rfl)
theorem dX2_copy_25 : decode cX2_copy 25 = .ok (.aload_n 2, 1) := dk_44 (dk_at dksX2_copy_1 3 rfl rfl)
theorem dX2_copy_26 : decode cX2_copy 26 = .ok (.invokeinterface 43 1, 5) := by decide +kernel
theorem dX2_copy_31 : decode cX2_copy 31 = .ok (.checkcast 47, 3) := dk_192 0 47 (dk_at dksX2_copy_1 9 rfl rfl)
theorem dX2_copy_34 : decode cX2_copy 34 = .ok (.astore_n 3, 1) := dk_78 (dk_at dksX2_copy_1 12 rfl rfl)
theorem dX2_copy_35 : decode cX2_copy 35 = .ok (.aload_n 1, 1) := dk_43 (dk_at dksX2_copy_1 13 rfl rfl)
theorem dX2_copy_36 : decode cX2_copy 36 = .ok (.getfield 12, 3) := dk_180 0 12 (dk_at dksX2_copy_1 14 rfl rfl)
theorem dX2_copy_39 : decode cX2_copy 39 = .ok (.aload_n 3, 1) := dk_45 (dk_at dksX2_copy_1 17 rfl rfl)
theorem dX2_copy_40 : decode cX2_copy 40 = .ok (.invokevirtual 49, 3) := dk_182 0 49 (dk_at dksX2_copy_1 18 rfl rfl)
theorem dX2_copy_43 : decode cX2_copy 43 = .ok (.invokevirtual 53, 3) := dk_182 0 53 (dk_at dksX2_copy_1 21 rfl rfl)
theorem dX2_copy_46 : decode cX2_copy 46 = .ok (.goto (-30), 3) := dk_167 255 226 (dk_at dksX2_copy_2 0 rfl rfl)
theorem dX2_copy_49 : decode cX2_copy 49 = .ok (.aload_n 0, 1) := dk_42 (dk_at dksX2_copy_2 3 rfl rfl)
theorem dX2_copy_50 : decode cX2_copy 50 = .ok (.getfield 21, 3) := dk_180 0 21 (dk_at dksX2_copy_2 4 rfl rfl)
theorem dX2_copy_53 : decode cX2_copy 53 = .ok (.invokevirtual 57, 3) := dk_182 0 57 (dk_at dksX2_copy_2 7 rfl rfl)
theorem dX2_copy_56 : decode cX2_copy 56 = .ok (.astore_n 2, 1) := dk_77 (dk_at dksX2_copy_2 10 rfl rfl)
theorem dX2_copy_57 : decode cX2_copy 57 = .ok (.aload_n 2, 1) := dk_44 (dk_at dksX2_copy_2 11 rfl rfl)
theorem dX2_copy_58 : decode cX2_copy 58 = .ok (.invokeinterface 37 1, 5) := by decide +kernel
theorem dX2_copy_63 : decode cX2_copy 63 = .ok (.ifCond .eq 30, 3) := dk_153 0 30 (dk_at dksX2_copy_2 17 rfl rfl)
theorem dX2_copy_66 : decode cX2_copy 66 = .ok (.aload_n 2, 1) := dk_44 (dk_at dksX2_copy_2 20 rfl rfl)
theorem dX2_copy_67 : decode cX2_copy 67 = .ok (.invokeinterface 43 1, 5) := by decide +kernel
theorem dX2_copy_72 : decode cX2_copy 72 = .ok (.checkcast 58, 3) := dk_192 0 58 (dk_at dksX2_copy_3 5 rfl rfl)
theorem dX2_copy_75 : decode cX2_copy 75 = .ok (.invokevirtual 60, 3) := dk_182 0 60 (dk_at dksX2_copy_3 8 rfl rfl)
theorem dX2_copy_78 : decode cX2_copy 78 = .ok (.istore_n 3, 1) := dk_62 (dk_at dksX2_copy_3 11 rfl rfl)
theorem dX2_copy_79 : decode cX2_copy 79 = .ok (.aload_n 1, 1) := dk_43 (dk_at dksX2_copy_3 12 rfl rfl)
theorem dX2_copy_80 : decode cX2_copy 80 = .ok (.getfield 21, 3) := dk_180 0 21 (dk_at dksX2_copy_3 13 rfl rfl)
theorem dX2_copy_83 : decode cX2_copy 83 = .ok (.iload_n 3, 1) := dk_29 (dk_at dksX2_copy_3 16 rfl rfl)
theorem dX2_copy_84 : decode cX2_copy 84 = .ok (.invokestatic 64, 3) := dk_184 0 64 (dk_at dksX2_copy_3 17 rfl rfl)
theorem dX2_copy_87 : decode cX2_copy 87 = .ok (.invokevirtual 68, 3) := dk_182 0 68 (dk_at dksX2_copy_3 20 rfl rfl)
theorem dX2_copy_90 : decode cX2_copy 90 = .ok (.goto (-33), 3) := dk_167 255 223 (dk_at dksX2_copy_4 0 rfl rfl)
theorem dX2_copy_93 : decode cX2_copy 93 = .ok (.aload_n 0, 1) := dk_42 (dk_at dksX2_copy_4 3 rfl rfl)
theorem dX2_copy_94 : decode cX2_copy 94 = .ok (.getfield 25, 3) := dk_180 0 25 (dk_at dksX2_copy_4 4 rfl rfl)
theorem dX2_copy_97 : decode cX2_copy 97 = .ok (.invokevirtual 57, 3) := dk_182 0 57 (dk_at dksX2_copy_4 7 rfl rfl)
theorem dX2_copy_100 : decode cX2_copy 100 = .ok (.astore_n 2, 1) := dk_77 (dk_at dksX2_copy_4 10 rfl rfl)
theorem dX2_copy_101 : decode cX2_copy 101 = .ok (.aload_n 2, 1) := dk_44 (dk_at dksX2_copy_4 11 rfl rfl)
theorem dX2_copy_102 : decode cX2_copy 102 = .ok (.invokeinterface 37 1, 5) := by decide +kernel
theorem dX2_copy_107 : decode cX2_copy 107 = .ok (.ifCond .eq 30, 3) := dk_153 0 30 (dk_at dksX2_copy_4 17 rfl rfl)
theorem dX2_copy_110 : decode cX2_copy 110 = .ok (.aload_n 2, 1) := dk_44 (dk_at dksX2_copy_4 20 rfl rfl)
theorem dX2_copy_111 : decode cX2_copy 111 = .ok (.invokeinterface 43 1, 5) := by decide +kernel
theorem dX2_copy_116 : decode cX2_copy 116 = .ok (.checkcast 58, 3) := dk_192 0 58 (dk_at dksX2_copy_5 5 rfl rfl)
theorem dX2_copy_119 : decode cX2_copy 119 = .ok (.invokevirtual 60, 3) := dk_182 0 60 (dk_at dksX2_copy_5 8 rfl rfl)
theorem dX2_copy_122 : decode cX2_copy 122 = .ok (.istore_n 3, 1) := dk_62 (dk_at dksX2_copy_5 11 rfl rfl)
theorem dX2_copy_123 : decode cX2_copy 123 = .ok (.aload_n 1, 1) := dk_43 (dk_at dksX2_copy_5 12 rfl rfl)
theorem dX2_copy_124 : decode cX2_copy 124 = .ok (.getfield 25, 3) := dk_180 0 25 (dk_at dksX2_copy_5 13 rfl rfl)
theorem dX2_copy_127 : decode cX2_copy 127 = .ok (.iload_n 3, 1) := dk_29 (dk_at dksX2_copy_5 16 rfl rfl)
theorem dX2_copy_128 : decode cX2_copy 128 = .ok (.invokestatic 64, 3) := dk_184 0 64 (dk_at dksX2_copy_5 17 rfl rfl)
theorem dX2_copy_131 : decode cX2_copy 131 = .ok (.invokevirtual 68, 3) := dk_182 0 68 (dk_at dksX2_copy_5 20 rfl rfl)
theorem dX2_copy_134 : decode cX2_copy 134 = .ok (.goto (-33), 3) := dk_167 255 223 (dk_at dksX2_copy_6 0 rfl rfl)
theorem dX2_copy_137 : decode cX2_copy 137 = .ok (.iconst 0, 1) := dk_3 (dk_at dksX2_copy_6 3 rfl rfl)
theorem dX2_copy_138 : decode cX2_copy 138 = .ok (.istore_n 2, 1) := dk_61 (dk_at dksX2_copy_6 4 rfl rfl)
theorem dX2_copy_139 : decode cX2_copy 139 = .ok (.iload_n 2, 1) := dk_28 (dk_at dksX2_copy_6 5 rfl rfl)
theorem dX2_copy_140 : decode cX2_copy 140 = .ok (.iconst 4, 1) := dk_7 (dk_at dksX2_copy_6 6 rfl rfl)
theorem dX2_copy_141 : decode cX2_copy 141 = .ok (.if_icmp .ge 21, 3) := dk_162 0 21 (dk_at dksX2_copy_6 7 rfl rfl)
theorem dX2_copy_144 : decode cX2_copy 144 = .ok (.aload_n 1, 1) := dk_43 (dk_at dksX2_copy_6 10 rfl rfl)
theorem dX2_copy_145 : decode cX2_copy 145 = .ok (.getfield 28, 3) := dk_180 0 28 (dk_at dksX2_copy_6 11 rfl rfl)
theorem dX2_copy_148 : decode cX2_copy 148 = .ok (.iload_n 2, 1) := dk_28 (dk_at dksX2_copy_6 14 rfl rfl)
theorem dX2_copy_149 : decode cX2_copy 149 = .ok (.aload_n 0, 1) := dk_42 (dk_at dksX2_copy_6 15 rfl rfl)
theorem dX2_copy_150 : decode cX2_copy 150 = .ok (.getfield 28, 3) := dk_180 0 28 (dk_at dksX2_copy_6 16 rfl rfl)
theorem dX2_copy_153 : decode cX2_copy 153 = .ok (.iload_n 2, 1) := dk_28 (dk_at dksX2_copy_6 19 rfl rfl)
theorem dX2_copy_154 : decode cX2_copy 154 = .ok (.iaload, 1) := dk_46 (dk_at dksX2_copy_6 20 rfl rfl)
theorem dX2_copy_155 : decode cX2_copy 155 = .ok (.iastore, 1) := dk_79 (dk_at dksX2_copy_6 21 rfl rfl)
theorem dX2_copy_156 : decode cX2_copy 156 = .ok (.iinc 2 1, 3) := dk_132 2 1 (dk_at dksX2_copy_7 0 rfl rfl)
theorem dX2_copy_159 : decode cX2_copy 159 = .ok (.goto (-20), 3) := dk_167 255 236 (dk_at dksX2_copy_7 3 rfl rfl)
theorem dX2_copy_162 : decode cX2_copy 162 = .ok (.aload_n 1, 1) := dk_43 (dk_at dksX2_copy_7 6 rfl rfl)
theorem dX2_copy_163 : decode cX2_copy 163 = .ok (.aload_n 0, 1) := dk_42 (dk_at dksX2_copy_7 7 rfl rfl)
theorem dX2_copy_164 : decode cX2_copy 164 = .ok (.getfield 69, 3) := dk_180 0 69 (dk_at dksX2_copy_7 8 rfl rfl)
theorem dX2_copy_167 : decode cX2_copy 167 = .ok (.putfield 69, 3) := dk_181 0 69 (dk_at dksX2_copy_7 11 rfl rfl)
theorem dX2_copy_170 : decode cX2_copy 170 = .ok (.aload_n 1, 1) := dk_43 (dk_at dksX2_copy_7 14 rfl rfl)
theorem dX2_copy_171 : decode cX2_copy 171 = .ok (.aload_n 0, 1) := dk_42 (dk_at dksX2_copy_7 15 rfl rfl)
theorem dX2_copy_172 : decode cX2_copy 172 = .ok (.getfield 73, 3) := dk_180 0 73 (dk_at dksX2_copy_7 16 rfl rfl)
theorem dX2_copy_175 : decode cX2_copy 175 = .ok (.putfield 73, 3) := dk_181 0 73 (dk_at dksX2_copy_7 19 rfl rfl)
theorem dX2_copy_178 : decode cX2_copy 178 = .ok (.aload_n 1, 1) := dk_43 (dk_at dksX2_copy_7 22 rfl rfl)
theorem dX2_copy_179 : decode cX2_copy 179 = .ok (.aload_n 0, 1) := dk_42 (dk_at dksX2_copy_7 23 rfl rfl)
theorem dX2_copy_180 : decode cX2_copy 180 = .ok (.getfield 76, 3) := dk_180 0 76 (dk_at dksX2_copy_8 0 rfl rfl)
theorem dX2_copy_183 : decode cX2_copy 183 = .ok (.putfield 76, 3) := dk_181 0 76 (dk_at dksX2_copy_8 3 rfl rfl)
theorem dX2_copy_186 : decode cX2_copy 186 = .ok (.aload_n 1, 1) := dk_43 (dk_at dksX2_copy_8 6 rfl rfl)
theorem dX2_copy_187 : decode cX2_copy 187 = .ok (.aload_n 0, 1) := dk_42 (dk_at dksX2_copy_8 7 rfl rfl)
theorem dX2_copy_188 : decode cX2_copy 188 = .ok (.getfield 79, 3) := dk_180 0 79 (dk_at dksX2_copy_8 8 rfl rfl)
theorem dX2_copy_191 : decode cX2_copy 191 = .ok (.putfield 79, 3) := dk_181 0 79 (dk_at dksX2_copy_8 11 rfl rfl)
theorem dX2_copy_194 : decode cX2_copy 194 = .ok (.aload_n 1, 1) := dk_43 (dk_at dksX2_copy_8 14 rfl rfl)
theorem dX2_copy_195 : decode cX2_copy 195 = .ok (.aload_n 0, 1) := dk_42 (dk_at dksX2_copy_8 15 rfl rfl)
theorem dX2_copy_196 : decode cX2_copy 196 = .ok (.getfield 82, 3) := dk_180 0 82 (dk_at dksX2_copy_8 16 rfl rfl)
theorem dX2_copy_199 : decode cX2_copy 199 = .ok (.putfield 82, 3) := dk_181 0 82 (dk_at dksX2_copy_8 19 rfl rfl)
theorem dX2_copy_202 : decode cX2_copy 202 = .ok (.aload_n 1, 1) := dk_43 (dk_at dksX2_copy_8 22 rfl rfl)
theorem dX2_copy_203 : decode cX2_copy 203 = .ok (.aload_n 0, 1) := dk_42 (dk_at dksX2_copy_8 23 rfl rfl)
theorem dX2_copy_204 : decode cX2_copy 204 = .ok (.getfield 85, 3) := dk_180 0 85 (dk_at dksX2_copy_9 0 rfl rfl)
theorem dX2_copy_207 : decode cX2_copy 207 = .ok (.putfield 85, 3) := dk_181 0 85 (dk_at dksX2_copy_9 3 rfl rfl)
theorem dX2_copy_210 : decode cX2_copy 210 = .ok (.aload_n 1, 1) := dk_43 (dk_at dksX2_copy_9 6 rfl rfl)
theorem dX2_copy_211 : decode cX2_copy 211 = .ok (.aload_n 0, 1) := dk_42 (dk_at dksX2_copy_9 7 rfl rfl)
theorem dX2_copy_212 : decode cX2_copy 212 = .ok (.getfield 89, 3) := dk_180 0 89 (dk_at dksX2_copy_9 8 rfl rfl)
theorem dX2_copy_215 : decode cX2_copy 215 = .ok (.putfield 89, 3) := dk_181 0 89 (dk_at dksX2_copy_9 11 rfl rfl)
theorem dX2_copy_218 : decode cX2_copy 218 = .ok (.aload_n 1, 1) := dk_43 (dk_at dksX2_copy_9 14 rfl rfl)
theorem dX2_copy_219 : decode cX2_copy 219 = .ok (.aload_n 0, 1) := dk_42 (dk_at dksX2_copy_9 15 rfl rfl)
theorem dX2_copy_220 : decode cX2_copy 220 = .ok (.getfield 92, 3) := dk_180 0 92 (dk_at dksX2_copy_9 16 rfl rfl)
theorem dX2_copy_223 : decode cX2_copy 223 = .ok (.putfield 92, 3) := dk_181 0 92 (dk_at dksX2_copy_9 19 rfl rfl)
theorem dX2_copy_226 : decode cX2_copy 226 = .ok (.aload_n 1, 1) := dk_43 (dk_at dksX2_copy_9 22 rfl rfl)
theorem dX2_copy_227 : decode cX2_copy 227 = .ok (.areturn, 1) := dk_176 (dk_at dksX2_copy_9 23 rfl rfl)
abbrev cX2_tick : ByteArray := prog_7_method_14_code
def yX2_tick : MethodName := ⟨RX2, "tick", "()I"⟩
def dkwX2_tick_1 : List UInt8 := [27, 96, 181, 0, 76, 27, 172]
abbrev dktX2_tick_1 : List UInt8 := dkwX2_tick_1 ++ []
def dkwX2_tick_0 : List UInt8 := [42, 89, 180, 0, 73, 4, 96, 181, 0, 73, 42, 182, 0, 147, 42, 182, 0, 149, 60, 42, 89, 180, 0, 76]
abbrev dktX2_tick_0 : List UInt8 := dkwX2_tick_0 ++ dktX2_tick_1
theorem dksX2_tick_0 : cX2_tick.data.toList.drop 0 = dktX2_tick_0 := by decide +kernel
theorem dksX2_tick_1 : cX2_tick.data.toList.drop 24 = dktX2_tick_1 := dk_seg dksX2_tick_0 24 rfl rfl
theorem dX2_tick_0 : decode cX2_tick 0 = .ok (.aload_n 0, 1) := dk_42 (dk_at dksX2_tick_0 0 rfl rfl)
theorem dX2_tick_1 : decode cX2_tick 1 = .ok (.dup, 1) := dk_89 (dk_at dksX2_tick_0 1 rfl rfl)
theorem dX2_tick_2 : decode cX2_tick 2 = .ok (.getfield 73, 3) := dk_180 0 73 (dk_at dksX2_tick_0 2 rfl rfl)
theorem dX2_tick_5 : decode cX2_tick 5 = .ok (.iconst 1, 1) := dk_4 (dk_at dksX2_tick_0 5 rfl rfl)
theorem dX2_tick_6 : decode cX2_tick 6 = .ok (.iadd, 1) := dk_96 (dk_at dksX2_tick_0 6 rfl rfl)
theorem dX2_tick_7 : decode cX2_tick 7 = .ok (.putfield 73, 3) := dk_181 0 73 (dk_at dksX2_tick_0 7 rfl rfl)
theorem dX2_tick_10 : decode cX2_tick 10 = .ok (.aload_n 0, 1) := dk_42 (dk_at dksX2_tick_0 10 rfl rfl)
theorem dX2_tick_11 : decode cX2_tick 11 = .ok (.invokevirtual 147, 3) := dk_182 0 147 (dk_at dksX2_tick_0 11 rfl rfl)
theorem dX2_tick_14 : decode cX2_tick 14 = .ok (.aload_n 0, 1) := dk_42 (dk_at dksX2_tick_0 14 rfl rfl)
theorem dX2_tick_15 : decode cX2_tick 15 = .ok (.invokevirtual 149, 3) := dk_182 0 149 (dk_at dksX2_tick_0 15 rfl rfl)
theorem dX2_tick_18 : decode cX2_tick 18 = .ok (.istore_n 1, 1) := dk_60 (dk_at dksX2_tick_0 18 rfl rfl)
theorem dX2_tick_19 : decode cX2_tick 19 = .ok (.aload_n 0, 1) := dk_42 (dk_at dksX2_tick_0 19 rfl rfl)
theorem dX2_tick_20 : decode cX2_tick 20 = .ok (.dup, 1) := dk_89 (dk_at dksX2_tick_0 20 rfl rfl)
theorem dX2_tick_21 : decode cX2_tick 21 = .ok (.getfield 76, 3) := dk_180 0 76 (dk_at dksX2_tick_0 21 rfl rfl)
theorem dX2_tick_24 : decode cX2_tick 24 = .ok (.iload_n 1, 1) := dk_27 (dk_at dksX2_tick_1 0 rfl rfl)
theorem dX2_tick_25 : decode cX2_tick 25 = .ok (.iadd, 1) := dk_96 (dk_at dksX2_tick_1 1 rfl rfl)
theorem dX2_tick_26 : decode cX2_tick 26 = .ok (.putfield 76, 3) := dk_181 0 76 (dk_at dksX2_tick_1 2 rfl rfl)
theorem dX2_tick_29 : decode cX2_tick 29 = .ok (.iload_n 1, 1) := dk_27 (dk_at dksX2_tick_1 5 rfl rfl)
theorem dX2_tick_30 : decode cX2_tick 30 = .ok (.ireturn, 1) := dk_172 (dk_at dksX2_tick_1 6 rfl rfl)
abbrev cX2_addInterest : ByteArray := prog_7_method_12_code
def yX2_addInterest : MethodName := ⟨RX2, "addInterest", "()V"⟩
def dkwX2_addInterest_2 : List UInt8 := [27, 182, 0, 138, 133, 97, 181, 0, 89, 167, 255, 222, 177]
abbrev dktX2_addInterest_2 : List UInt8 := dkwX2_addInterest_2 ++ []
def dkwX2_addInterest_1 : List UInt8 := [185, 0, 37, 1, 0, 153, 0, 31, 44, 185, 0, 43, 1, 0, 192, 0, 47, 78, 42, 89, 180, 0, 89, 45]
abbrev dktX2_addInterest_1 : List UInt8 := dkwX2_addInterest_1 ++ dktX2_addInterest_2
def dkwX2_addInterest_0 : List UInt8 := [42, 180, 0, 28, 42, 180, 0, 73, 184, 0, 134, 46, 60, 42, 180, 0, 12, 182, 0, 33, 77, 44]
abbrev dktX2_addInterest_0 : List UInt8 := dkwX2_addInterest_0 ++ dktX2_addInterest_1
theorem dksX2_addInterest_0 : cX2_addInterest.data.toList.drop 0 = dktX2_addInterest_0 := by decide +kernel
theorem dksX2_addInterest_1 : cX2_addInterest.data.toList.drop 22 = dktX2_addInterest_1 := dk_seg dksX2_addInterest_0 22 rfl rfl
theorem dksX2_addInterest_2 : cX2_addInterest.data.toList.drop 46 = dktX2_addInterest_2 := dk_seg dksX2_addInterest_1 24 rfl rfl
theorem dX2_addInterest_0 : decode cX2_addInterest 0 = .ok (.aload_n 0, 1) := dk_42 (dk_at dksX2_addInterest_0 0 rfl rfl)
theorem dX2_addInterest_1 : decode cX2_addInterest 1 = .ok (.getfield 28, 3) := dk_180 0 28 (dk_at dksX2_addInterest_0 1 rfl rfl)
theorem dX2_addInterest_4 : decode cX2_addInterest 4 = .ok (.aload_n 0, 1) := dk_42 (dk_at dksX2_addInterest_0 4 rfl rfl)
theorem dX2_addInterest_5 : decode cX2_addInterest 5 = .ok (.getfield 73, 3) := dk_180 0 73 (dk_at dksX2_addInterest_0 5 rfl rfl)
theorem dX2_addInterest_8 : decode cX2_addInterest 8 = .ok (.invokestatic 134, 3) := dk_184 0 134 (dk_at dksX2_addInterest_0 8 rfl rfl)
theorem dX2_addInterest_11 : decode cX2_addInterest 11 = .ok (.iaload, 1) := dk_46 (dk_at dksX2_addInterest_0 11 rfl rfl)
theorem dX2_addInterest_12 : decode cX2_addInterest 12 = .ok (.istore_n 1, 1) := dk_60 (dk_at dksX2_addInterest_0 12 rfl rfl)
theorem dX2_addInterest_13 : decode cX2_addInterest 13 = .ok (.aload_n 0, 1) := dk_42 (dk_at dksX2_addInterest_0 13 rfl rfl)
theorem dX2_addInterest_14 : decode cX2_addInterest 14 = .ok (.getfield 12, 3) := dk_180 0 12 (dk_at dksX2_addInterest_0 14 rfl rfl)
theorem dX2_addInterest_17 : decode cX2_addInterest 17 = .ok (.invokevirtual 33, 3) := dk_182 0 33 (dk_at dksX2_addInterest_0 17 rfl rfl)
theorem dX2_addInterest_20 : decode cX2_addInterest 20 = .ok (.astore_n 2, 1) := dk_77 (dk_at dksX2_addInterest_0 20 rfl rfl)
theorem dX2_addInterest_21 : decode cX2_addInterest 21 = .ok (.aload_n 2, 1) := dk_44 (dk_at dksX2_addInterest_0 21 rfl rfl)
theorem dX2_addInterest_22 : decode cX2_addInterest 22 = .ok (.invokeinterface 37 1, 5) := by decide +kernel
theorem dX2_addInterest_27 : decode cX2_addInterest 27 = .ok (.ifCond .eq 31, 3) := dk_153 0 31 (dk_at dksX2_addInterest_1 5 rfl rfl)
theorem dX2_addInterest_30 : decode cX2_addInterest 30 = .ok (.aload_n 2, 1) := dk_44 (dk_at dksX2_addInterest_1 8 rfl rfl)
theorem dX2_addInterest_31 : decode cX2_addInterest 31 = .ok (.invokeinterface 43 1, 5) := by decide +kernel
theorem dX2_addInterest_36 : decode cX2_addInterest 36 = .ok (.checkcast 47, 3) := dk_192 0 47 (dk_at dksX2_addInterest_1 14 rfl rfl)
theorem dX2_addInterest_39 : decode cX2_addInterest 39 = .ok (.astore_n 3, 1) := dk_78 (dk_at dksX2_addInterest_1 17 rfl rfl)
theorem dX2_addInterest_40 : decode cX2_addInterest 40 = .ok (.aload_n 0, 1) := dk_42 (dk_at dksX2_addInterest_1 18 rfl rfl)
theorem dX2_addInterest_41 : decode cX2_addInterest 41 = .ok (.dup, 1) := dk_89 (dk_at dksX2_addInterest_1 19 rfl rfl)
theorem dX2_addInterest_42 : decode cX2_addInterest 42 = .ok (.getfield 89, 3) := dk_180 0 89 (dk_at dksX2_addInterest_1 20 rfl rfl)
theorem dX2_addInterest_45 : decode cX2_addInterest 45 = .ok (.aload_n 3, 1) := dk_45 (dk_at dksX2_addInterest_1 23 rfl rfl)
theorem dX2_addInterest_46 : decode cX2_addInterest 46 = .ok (.iload_n 1, 1) := dk_27 (dk_at dksX2_addInterest_2 0 rfl rfl)
theorem dX2_addInterest_47 : decode cX2_addInterest 47 = .ok (.invokevirtual 138, 3) := dk_182 0 138 (dk_at dksX2_addInterest_2 1 rfl rfl)
theorem dX2_addInterest_50 : decode cX2_addInterest 50 = .ok (.i2l, 1) := dk_133 (dk_at dksX2_addInterest_2 4 rfl rfl)
theorem dX2_addInterest_51 : decode cX2_addInterest 51 = .ok (.ladd, 1) := dk_97 (dk_at dksX2_addInterest_2 5 rfl rfl)
theorem dX2_addInterest_52 : decode cX2_addInterest 52 = .ok (.putfield 89, 3) := dk_181 0 89 (dk_at dksX2_addInterest_2 6 rfl rfl)
theorem dX2_addInterest_55 : decode cX2_addInterest 55 = .ok (.goto (-34), 3) := dk_167 255 222 (dk_at dksX2_addInterest_2 9 rfl rfl)
theorem dX2_addInterest_58 : decode cX2_addInterest 58 = .ok (.return_, 1) := dk_177 (dk_at dksX2_addInterest_2 12 rfl rfl)
abbrev cX2_expire : ByteArray := prog_7_method_13_code
def yX2_expire : MethodName := ⟨RX2, "expire", "()I"⟩
def dkwX2_expire_2 : List UInt8 := [185, 0, 116, 1, 0, 42, 45, 182, 0, 119, 42, 45, 182, 0, 144, 132, 1, 1, 167, 255, 207, 27, 172]
abbrev dktX2_expire_2 : List UInt8 := dkwX2_expire_2 ++ []
def dkwX2_expire_1 : List UInt8 := [185, 0, 43, 1, 0, 192, 0, 47, 78, 45, 180, 0, 141, 42, 180, 0, 73, 163, 0, 22, 44]
abbrev dktX2_expire_1 : List UInt8 := dkwX2_expire_1 ++ dktX2_expire_2
def dkwX2_expire_0 : List UInt8 := [3, 60, 42, 180, 0, 12, 182, 0, 33, 77, 44, 185, 0, 37, 1, 0, 153, 0, 46, 44]
abbrev dktX2_expire_0 : List UInt8 := dkwX2_expire_0 ++ dktX2_expire_1
theorem dksX2_expire_0 : cX2_expire.data.toList.drop 0 = dktX2_expire_0 := by decide +kernel
theorem dksX2_expire_1 : cX2_expire.data.toList.drop 20 = dktX2_expire_1 := dk_seg dksX2_expire_0 20 rfl rfl
theorem dksX2_expire_2 : cX2_expire.data.toList.drop 41 = dktX2_expire_2 := dk_seg dksX2_expire_1 21 rfl rfl
theorem dX2_expire_0 : decode cX2_expire 0 = .ok (.iconst 0, 1) := dk_3 (dk_at dksX2_expire_0 0 rfl rfl)
theorem dX2_expire_1 : decode cX2_expire 1 = .ok (.istore_n 1, 1) := dk_60 (dk_at dksX2_expire_0 1 rfl rfl)
theorem dX2_expire_2 : decode cX2_expire 2 = .ok (.aload_n 0, 1) := dk_42 (dk_at dksX2_expire_0 2 rfl rfl)
theorem dX2_expire_3 : decode cX2_expire 3 = .ok (.getfield 12, 3) := dk_180 0 12 (dk_at dksX2_expire_0 3 rfl rfl)
theorem dX2_expire_6 : decode cX2_expire 6 = .ok (.invokevirtual 33, 3) := dk_182 0 33 (dk_at dksX2_expire_0 6 rfl rfl)
theorem dX2_expire_9 : decode cX2_expire 9 = .ok (.astore_n 2, 1) := dk_77 (dk_at dksX2_expire_0 9 rfl rfl)
theorem dX2_expire_10 : decode cX2_expire 10 = .ok (.aload_n 2, 1) := dk_44 (dk_at dksX2_expire_0 10 rfl rfl)
theorem dX2_expire_11 : decode cX2_expire 11 = .ok (.invokeinterface 37 1, 5) := by decide +kernel
theorem dX2_expire_16 : decode cX2_expire 16 = .ok (.ifCond .eq 46, 3) := dk_153 0 46 (dk_at dksX2_expire_0 16 rfl rfl)
theorem dX2_expire_19 : decode cX2_expire 19 = .ok (.aload_n 2, 1) := dk_44 (dk_at dksX2_expire_0 19 rfl rfl)
theorem dX2_expire_20 : decode cX2_expire 20 = .ok (.invokeinterface 43 1, 5) := by decide +kernel
theorem dX2_expire_25 : decode cX2_expire 25 = .ok (.checkcast 47, 3) := dk_192 0 47 (dk_at dksX2_expire_1 5 rfl rfl)
theorem dX2_expire_28 : decode cX2_expire 28 = .ok (.astore_n 3, 1) := dk_78 (dk_at dksX2_expire_1 8 rfl rfl)
theorem dX2_expire_29 : decode cX2_expire 29 = .ok (.aload_n 3, 1) := dk_45 (dk_at dksX2_expire_1 9 rfl rfl)
theorem dX2_expire_30 : decode cX2_expire 30 = .ok (.getfield 141, 3) := dk_180 0 141 (dk_at dksX2_expire_1 10 rfl rfl)
theorem dX2_expire_33 : decode cX2_expire 33 = .ok (.aload_n 0, 1) := dk_42 (dk_at dksX2_expire_1 13 rfl rfl)
theorem dX2_expire_34 : decode cX2_expire 34 = .ok (.getfield 73, 3) := dk_180 0 73 (dk_at dksX2_expire_1 14 rfl rfl)
theorem dX2_expire_37 : decode cX2_expire 37 = .ok (.if_icmp .gt 22, 3) := dk_163 0 22 (dk_at dksX2_expire_1 17 rfl rfl)
theorem dX2_expire_40 : decode cX2_expire 40 = .ok (.aload_n 2, 1) := dk_44 (dk_at dksX2_expire_1 20 rfl rfl)
theorem dX2_expire_41 : decode cX2_expire 41 = .ok (.invokeinterface 116 1, 5) := by decide +kernel
theorem dX2_expire_46 : decode cX2_expire 46 = .ok (.aload_n 0, 1) := dk_42 (dk_at dksX2_expire_2 5 rfl rfl)
theorem dX2_expire_47 : decode cX2_expire 47 = .ok (.aload_n 3, 1) := dk_45 (dk_at dksX2_expire_2 6 rfl rfl)
theorem dX2_expire_48 : decode cX2_expire 48 = .ok (.invokevirtual 119, 3) := dk_182 0 119 (dk_at dksX2_expire_2 7 rfl rfl)
theorem dX2_expire_51 : decode cX2_expire 51 = .ok (.aload_n 0, 1) := dk_42 (dk_at dksX2_expire_2 10 rfl rfl)
theorem dX2_expire_52 : decode cX2_expire 52 = .ok (.aload_n 3, 1) := dk_45 (dk_at dksX2_expire_2 11 rfl rfl)
theorem dX2_expire_53 : decode cX2_expire 53 = .ok (.invokevirtual 144, 3) := dk_182 0 144 (dk_at dksX2_expire_2 12 rfl rfl)
theorem dX2_expire_56 : decode cX2_expire 56 = .ok (.iinc 1 1, 3) := dk_132 1 1 (dk_at dksX2_expire_2 15 rfl rfl)
theorem dX2_expire_59 : decode cX2_expire 59 = .ok (.goto (-49), 3) := dk_167 255 207 (dk_at dksX2_expire_2 18 rfl rfl)
theorem dX2_expire_62 : decode cX2_expire 62 = .ok (.iload_n 1, 1) := dk_27 (dk_at dksX2_expire_2 21 rfl rfl)
theorem dX2_expire_63 : decode cX2_expire 63 = .ok (.ireturn, 1) := dk_172 (dk_at dksX2_expire_2 22 rfl rfl)
abbrev cX2_close : ByteArray := prog_7_method_8_code
def yX2_close : MethodName := ⟨RX2, "close", "(LClaimRegistry$Claim;)V"⟩
def dkwX2_close_2 : List UInt8 := [160, 255, 231, 44, 185, 0, 116, 1, 0, 167, 255, 222, 177]
abbrev dktX2_close_2 : List UInt8 := dkwX2_close_2 ++ []
def dkwX2_close_1 : List UInt8 := [185, 0, 37, 1, 0, 153, 0, 31, 44, 185, 0, 43, 1, 0, 192, 0, 58, 182, 0, 60, 43, 180, 0, 95]
abbrev dktX2_close_1 : List UInt8 := dkwX2_close_1 ++ dktX2_close_2
def dkwX2_close_0 : List UInt8 := [42, 89, 180, 0, 92, 43, 180, 0, 113, 133, 97, 181, 0, 92, 42, 180, 0, 21, 182, 0, 57, 77, 44]
abbrev dktX2_close_0 : List UInt8 := dkwX2_close_0 ++ dktX2_close_1
theorem dksX2_close_0 : cX2_close.data.toList.drop 0 = dktX2_close_0 := by decide +kernel
theorem dksX2_close_1 : cX2_close.data.toList.drop 23 = dktX2_close_1 := dk_seg dksX2_close_0 23 rfl rfl
theorem dksX2_close_2 : cX2_close.data.toList.drop 47 = dktX2_close_2 := dk_seg dksX2_close_1 24 rfl rfl
theorem dX2_close_0 : decode cX2_close 0 = .ok (.aload_n 0, 1) := dk_42 (dk_at dksX2_close_0 0 rfl rfl)
theorem dX2_close_1 : decode cX2_close 1 = .ok (.dup, 1) := dk_89 (dk_at dksX2_close_0 1 rfl rfl)
theorem dX2_close_2 : decode cX2_close 2 = .ok (.getfield 92, 3) := dk_180 0 92 (dk_at dksX2_close_0 2 rfl rfl)
theorem dX2_close_5 : decode cX2_close 5 = .ok (.aload_n 1, 1) := dk_43 (dk_at dksX2_close_0 5 rfl rfl)
theorem dX2_close_6 : decode cX2_close 6 = .ok (.getfield 113, 3) := dk_180 0 113 (dk_at dksX2_close_0 6 rfl rfl)
theorem dX2_close_9 : decode cX2_close 9 = .ok (.i2l, 1) := dk_133 (dk_at dksX2_close_0 9 rfl rfl)
theorem dX2_close_10 : decode cX2_close 10 = .ok (.ladd, 1) := dk_97 (dk_at dksX2_close_0 10 rfl rfl)
theorem dX2_close_11 : decode cX2_close 11 = .ok (.putfield 92, 3) := dk_181 0 92 (dk_at dksX2_close_0 11 rfl rfl)
theorem dX2_close_14 : decode cX2_close 14 = .ok (.aload_n 0, 1) := dk_42 (dk_at dksX2_close_0 14 rfl rfl)
theorem dX2_close_15 : decode cX2_close 15 = .ok (.getfield 21, 3) := dk_180 0 21 (dk_at dksX2_close_0 15 rfl rfl)
theorem dX2_close_18 : decode cX2_close 18 = .ok (.invokevirtual 57, 3) := dk_182 0 57 (dk_at dksX2_close_0 18 rfl rfl)
theorem dX2_close_21 : decode cX2_close 21 = .ok (.astore_n 2, 1) := dk_77 (dk_at dksX2_close_0 21 rfl rfl)
theorem dX2_close_22 : decode cX2_close 22 = .ok (.aload_n 2, 1) := dk_44 (dk_at dksX2_close_0 22 rfl rfl)
theorem dX2_close_23 : decode cX2_close 23 = .ok (.invokeinterface 37 1, 5) := by decide +kernel
theorem dX2_close_28 : decode cX2_close 28 = .ok (.ifCond .eq 31, 3) := dk_153 0 31 (dk_at dksX2_close_1 5 rfl rfl)
theorem dX2_close_31 : decode cX2_close 31 = .ok (.aload_n 2, 1) := dk_44 (dk_at dksX2_close_1 8 rfl rfl)
theorem dX2_close_32 : decode cX2_close 32 = .ok (.invokeinterface 43 1, 5) := by decide +kernel
theorem dX2_close_37 : decode cX2_close 37 = .ok (.checkcast 58, 3) := dk_192 0 58 (dk_at dksX2_close_1 14 rfl rfl)
theorem dX2_close_40 : decode cX2_close 40 = .ok (.invokevirtual 60, 3) := dk_182 0 60 (dk_at dksX2_close_1 17 rfl rfl)
theorem dX2_close_43 : decode cX2_close 43 = .ok (.aload_n 1, 1) := dk_43 (dk_at dksX2_close_1 20 rfl rfl)
theorem dX2_close_44 : decode cX2_close 44 = .ok (.getfield 95, 3) := dk_180 0 95 (dk_at dksX2_close_1 21 rfl rfl)
theorem dX2_close_47 : decode cX2_close 47 = .ok (.if_icmp .ne (-25), 3) := dk_160 255 231 (dk_at dksX2_close_2 0 rfl rfl)
theorem dX2_close_50 : decode cX2_close 50 = .ok (.aload_n 2, 1) := dk_44 (dk_at dksX2_close_2 3 rfl rfl)
theorem dX2_close_51 : decode cX2_close 51 = .ok (.invokeinterface 116 1, 5) := by decide +kernel
theorem dX2_close_56 : decode cX2_close 56 = .ok (.goto (-34), 3) := dk_167 255 222 (dk_at dksX2_close_2 9 rfl rfl)
theorem dX2_close_59 : decode cX2_close 59 = .ok (.return_, 1) := dk_177 (dk_at dksX2_close_2 12 rfl rfl)
abbrev cX2_remember : ByteArray := prog_7_method_11_code
def yX2_remember : MethodName := ⟨RX2, "remember", "(LClaimRegistry$Claim;)V"⟩
def dkwX2_remember_1 : List UInt8 := [164, 0, 11, 42, 180, 0, 25, 182, 0, 131, 87, 177]
abbrev dktX2_remember_1 : List UInt8 := dkwX2_remember_1 ++ []
def dkwX2_remember_0 : List UInt8 := [42, 180, 0, 25, 43, 180, 0, 95, 184, 0, 64, 182, 0, 125, 42, 180, 0, 25, 182, 0, 128, 16, 8]
abbrev dktX2_remember_0 : List UInt8 := dkwX2_remember_0 ++ dktX2_remember_1
theorem dksX2_remember_0 : cX2_remember.data.toList.drop 0 = dktX2_remember_0 := by decide +kernel
theorem dksX2_remember_1 : cX2_remember.data.toList.drop 23 = dktX2_remember_1 := dk_seg dksX2_remember_0 23 rfl rfl
theorem dX2_remember_0 : decode cX2_remember 0 = .ok (.aload_n 0, 1) := dk_42 (dk_at dksX2_remember_0 0 rfl rfl)
theorem dX2_remember_1 : decode cX2_remember 1 = .ok (.getfield 25, 3) := dk_180 0 25 (dk_at dksX2_remember_0 1 rfl rfl)
theorem dX2_remember_4 : decode cX2_remember 4 = .ok (.aload_n 1, 1) := dk_43 (dk_at dksX2_remember_0 4 rfl rfl)
theorem dX2_remember_5 : decode cX2_remember 5 = .ok (.getfield 95, 3) := dk_180 0 95 (dk_at dksX2_remember_0 5 rfl rfl)
theorem dX2_remember_8 : decode cX2_remember 8 = .ok (.invokestatic 64, 3) := dk_184 0 64 (dk_at dksX2_remember_0 8 rfl rfl)
theorem dX2_remember_11 : decode cX2_remember 11 = .ok (.invokevirtual 125, 3) := dk_182 0 125 (dk_at dksX2_remember_0 11 rfl rfl)
theorem dX2_remember_14 : decode cX2_remember 14 = .ok (.aload_n 0, 1) := dk_42 (dk_at dksX2_remember_0 14 rfl rfl)
theorem dX2_remember_15 : decode cX2_remember 15 = .ok (.getfield 25, 3) := dk_180 0 25 (dk_at dksX2_remember_0 15 rfl rfl)
theorem dX2_remember_18 : decode cX2_remember 18 = .ok (.invokevirtual 128, 3) := dk_182 0 128 (dk_at dksX2_remember_0 18 rfl rfl)
theorem dX2_remember_21 : decode cX2_remember 21 = .ok (.bipush 8, 2) := dk_16 8 (dk_at dksX2_remember_0 21 rfl rfl)
theorem dX2_remember_23 : decode cX2_remember 23 = .ok (.if_icmp .le 11, 3) := dk_164 0 11 (dk_at dksX2_remember_1 0 rfl rfl)
theorem dX2_remember_26 : decode cX2_remember 26 = .ok (.aload_n 0, 1) := dk_42 (dk_at dksX2_remember_1 3 rfl rfl)
theorem dX2_remember_27 : decode cX2_remember 27 = .ok (.getfield 25, 3) := dk_180 0 25 (dk_at dksX2_remember_1 4 rfl rfl)
theorem dX2_remember_30 : decode cX2_remember 30 = .ok (.invokevirtual 131, 3) := dk_182 0 131 (dk_at dksX2_remember_1 7 rfl rfl)
theorem dX2_remember_33 : decode cX2_remember 33 = .ok (.pop, 1) := dk_87 (dk_at dksX2_remember_1 10 rfl rfl)
theorem dX2_remember_34 : decode cX2_remember 34 = .ok (.return_, 1) := dk_177 (dk_at dksX2_remember_1 11 rfl rfl)
abbrev cX2_find : ByteArray := prog_7_method_3_code
def yX2_find : MethodName := ⟨RX2, "find", "(I)LClaimRegistry$Claim;"⟩
def dkwX2_find_1 : List UInt8 := [192, 0, 47, 78, 45, 180, 0, 95, 27, 160, 0, 5, 45, 176, 167, 255, 227, 1, 176]
abbrev dktX2_find_1 : List UInt8 := dkwX2_find_1 ++ []
def dkwX2_find_0 : List UInt8 := [42, 180, 0, 12, 182, 0, 33, 77, 44, 185, 0, 37, 1, 0, 153, 0, 26, 44, 185, 0, 43, 1, 0]
abbrev dktX2_find_0 : List UInt8 := dkwX2_find_0 ++ dktX2_find_1
theorem dksX2_find_0 : cX2_find.data.toList.drop 0 = dktX2_find_0 := by decide +kernel
theorem dksX2_find_1 : cX2_find.data.toList.drop 23 = dktX2_find_1 := dk_seg dksX2_find_0 23 rfl rfl
theorem dX2_find_0 : decode cX2_find 0 = .ok (.aload_n 0, 1) := dk_42 (dk_at dksX2_find_0 0 rfl rfl)
theorem dX2_find_1 : decode cX2_find 1 = .ok (.getfield 12, 3) := dk_180 0 12 (dk_at dksX2_find_0 1 rfl rfl)
theorem dX2_find_4 : decode cX2_find 4 = .ok (.invokevirtual 33, 3) := dk_182 0 33 (dk_at dksX2_find_0 4 rfl rfl)
theorem dX2_find_7 : decode cX2_find 7 = .ok (.astore_n 2, 1) := dk_77 (dk_at dksX2_find_0 7 rfl rfl)
theorem dX2_find_8 : decode cX2_find 8 = .ok (.aload_n 2, 1) := dk_44 (dk_at dksX2_find_0 8 rfl rfl)
theorem dX2_find_9 : decode cX2_find 9 = .ok (.invokeinterface 37 1, 5) := by decide +kernel
theorem dX2_find_14 : decode cX2_find 14 = .ok (.ifCond .eq 26, 3) := dk_153 0 26 (dk_at dksX2_find_0 14 rfl rfl)
theorem dX2_find_17 : decode cX2_find 17 = .ok (.aload_n 2, 1) := dk_44 (dk_at dksX2_find_0 17 rfl rfl)
theorem dX2_find_18 : decode cX2_find 18 = .ok (.invokeinterface 43 1, 5) := by decide +kernel
theorem dX2_find_23 : decode cX2_find 23 = .ok (.checkcast 47, 3) := dk_192 0 47 (dk_at dksX2_find_1 0 rfl rfl)
theorem dX2_find_26 : decode cX2_find 26 = .ok (.astore_n 3, 1) := dk_78 (dk_at dksX2_find_1 3 rfl rfl)
theorem dX2_find_27 : decode cX2_find 27 = .ok (.aload_n 3, 1) := dk_45 (dk_at dksX2_find_1 4 rfl rfl)
theorem dX2_find_28 : decode cX2_find 28 = .ok (.getfield 95, 3) := dk_180 0 95 (dk_at dksX2_find_1 5 rfl rfl)
theorem dX2_find_31 : decode cX2_find 31 = .ok (.iload_n 1, 1) := dk_27 (dk_at dksX2_find_1 8 rfl rfl)
theorem dX2_find_32 : decode cX2_find 32 = .ok (.if_icmp .ne 5, 3) := dk_160 0 5 (dk_at dksX2_find_1 9 rfl rfl)
theorem dX2_find_35 : decode cX2_find 35 = .ok (.aload_n 3, 1) := dk_45 (dk_at dksX2_find_1 12 rfl rfl)
theorem dX2_find_36 : decode cX2_find 36 = .ok (.areturn, 1) := dk_176 (dk_at dksX2_find_1 13 rfl rfl)
theorem dX2_find_37 : decode cX2_find 37 = .ok (.goto (-29), 3) := dk_167 255 227 (dk_at dksX2_find_1 14 rfl rfl)
theorem dX2_find_40 : decode cX2_find 40 = .ok (.aconst_null, 1) := dk_1 (dk_at dksX2_find_1 17 rfl rfl)
theorem dX2_find_41 : decode cX2_find 41 = .ok (.areturn, 1) := dk_176 (dk_at dksX2_find_1 18 rfl rfl)
abbrev cX2_activeWeight : ByteArray := prog_7_method_17_code
def yX2_activeWeight : MethodName := ⟨RX2, "activeWeight", "()J"⟩
def dkwX2_activeWeight_0 : List UInt8 := [42, 186, 0, 175, 0, 0, 182, 0, 178, 133, 173]
abbrev dktX2_activeWeight_0 : List UInt8 := dkwX2_activeWeight_0 ++ []
theorem dksX2_activeWeight_0 : cX2_activeWeight.data.toList.drop 0 = dktX2_activeWeight_0 := by decide +kernel
theorem dX2_activeWeight_0 : decode cX2_activeWeight 0 = .ok (.aload_n 0, 1) := dk_42 (dk_at dksX2_activeWeight_0 0 rfl rfl)
theorem dX2_activeWeight_1 : decode cX2_activeWeight 1 = .ok (.invokedynamic 175, 5) := by decide +kernel
theorem dX2_activeWeight_6 : decode cX2_activeWeight 6 = .ok (.invokevirtual 178, 3) := dk_182 0 178 (dk_at dksX2_activeWeight_0 6 rfl rfl)
theorem dX2_activeWeight_9 : decode cX2_activeWeight 9 = .ok (.i2l, 1) := dk_133 (dk_at dksX2_activeWeight_0 9 rfl rfl)
theorem dX2_activeWeight_10 : decode cX2_activeWeight 10 = .ok (.lreturn, 1) := dk_173 (dk_at dksX2_activeWeight_0 10 rfl rfl)
abbrev cX2_lambda_activeWeight_0 : ByteArray := prog_7_method_18_code
def yX2_lambda_activeWeight_0 : MethodName := ⟨RX2, "lambda$activeWeight$0", "(LClaimRegistry$Claim;)I"⟩
theorem dX2_lambda_activeWeight_0_0 : decode cX2_lambda_activeWeight_0 0 = .ok (.aload_n 0, 1) := by decide +kernel
theorem dX2_lambda_activeWeight_0_1 : decode cX2_lambda_activeWeight_0 1 = .ok (.getfield 113, 3) := by decide +kernel
theorem dX2_lambda_activeWeight_0_4 : decode cX2_lambda_activeWeight_0 4 = .ok (.ireturn, 1) := by decide +kernel
abbrev cX2_sum : ByteArray := prog_7_method_5_code
def yX2_sum : MethodName := ⟨RX2, "sum", "(LClaimRegistry$ClaimValue;)I"⟩
def dkwX2_sum_2 : List UInt8 := [28, 172]
abbrev dktX2_sum_2 : List UInt8 := dkwX2_sum_2 ++ []
def dkwX2_sum_1 : List UInt8 := [185, 0, 43, 1, 0, 192, 0, 47, 58, 4, 28, 43, 25, 4, 185, 0, 104, 2, 0, 96, 61, 167, 255, 225]
abbrev dktX2_sum_1 : List UInt8 := dkwX2_sum_1 ++ dktX2_sum_2
def dkwX2_sum_0 : List UInt8 := [3, 61, 42, 180, 0, 12, 182, 0, 33, 78, 45, 185, 0, 37, 1, 0, 153, 0, 28, 45]
abbrev dktX2_sum_0 : List UInt8 := dkwX2_sum_0 ++ dktX2_sum_1
theorem dksX2_sum_0 : cX2_sum.data.toList.drop 0 = dktX2_sum_0 := by decide +kernel
theorem dksX2_sum_1 : cX2_sum.data.toList.drop 20 = dktX2_sum_1 := dk_seg dksX2_sum_0 20 rfl rfl
theorem dksX2_sum_2 : cX2_sum.data.toList.drop 44 = dktX2_sum_2 := dk_seg dksX2_sum_1 24 rfl rfl
theorem dX2_sum_0 : decode cX2_sum 0 = .ok (.iconst 0, 1) := dk_3 (dk_at dksX2_sum_0 0 rfl rfl)
theorem dX2_sum_1 : decode cX2_sum 1 = .ok (.istore_n 2, 1) := dk_61 (dk_at dksX2_sum_0 1 rfl rfl)
theorem dX2_sum_2 : decode cX2_sum 2 = .ok (.aload_n 0, 1) := dk_42 (dk_at dksX2_sum_0 2 rfl rfl)
theorem dX2_sum_3 : decode cX2_sum 3 = .ok (.getfield 12, 3) := dk_180 0 12 (dk_at dksX2_sum_0 3 rfl rfl)
theorem dX2_sum_6 : decode cX2_sum 6 = .ok (.invokevirtual 33, 3) := dk_182 0 33 (dk_at dksX2_sum_0 6 rfl rfl)
theorem dX2_sum_9 : decode cX2_sum 9 = .ok (.astore_n 3, 1) := dk_78 (dk_at dksX2_sum_0 9 rfl rfl)
theorem dX2_sum_10 : decode cX2_sum 10 = .ok (.aload_n 3, 1) := dk_45 (dk_at dksX2_sum_0 10 rfl rfl)
theorem dX2_sum_11 : decode cX2_sum 11 = .ok (.invokeinterface 37 1, 5) := by decide +kernel
theorem dX2_sum_16 : decode cX2_sum 16 = .ok (.ifCond .eq 28, 3) := dk_153 0 28 (dk_at dksX2_sum_0 16 rfl rfl)
theorem dX2_sum_19 : decode cX2_sum 19 = .ok (.aload_n 3, 1) := dk_45 (dk_at dksX2_sum_0 19 rfl rfl)
theorem dX2_sum_20 : decode cX2_sum 20 = .ok (.invokeinterface 43 1, 5) := by decide +kernel
theorem dX2_sum_25 : decode cX2_sum 25 = .ok (.checkcast 47, 3) := dk_192 0 47 (dk_at dksX2_sum_1 5 rfl rfl)
theorem dX2_sum_28 : decode cX2_sum 28 = .ok (.astore 4, 2) := dk_58 4 (dk_at dksX2_sum_1 8 rfl rfl)
theorem dX2_sum_30 : decode cX2_sum 30 = .ok (.iload_n 2, 1) := dk_28 (dk_at dksX2_sum_1 10 rfl rfl)
theorem dX2_sum_31 : decode cX2_sum 31 = .ok (.aload_n 1, 1) := dk_43 (dk_at dksX2_sum_1 11 rfl rfl)
theorem dX2_sum_32 : decode cX2_sum 32 = .ok (.aload 4, 2) := dk_25 4 (dk_at dksX2_sum_1 12 rfl rfl)
theorem dX2_sum_34 : decode cX2_sum 34 = .ok (.invokeinterface 104 2, 5) := by decide +kernel
theorem dX2_sum_39 : decode cX2_sum 39 = .ok (.iadd, 1) := dk_96 (dk_at dksX2_sum_1 19 rfl rfl)
theorem dX2_sum_40 : decode cX2_sum 40 = .ok (.istore_n 2, 1) := dk_61 (dk_at dksX2_sum_1 20 rfl rfl)
theorem dX2_sum_41 : decode cX2_sum 41 = .ok (.goto (-31), 3) := dk_167 255 225 (dk_at dksX2_sum_1 21 rfl rfl)
theorem dX2_sum_44 : decode cX2_sum 44 = .ok (.iload_n 2, 1) := dk_28 (dk_at dksX2_sum_2 0 rfl rfl)
theorem dX2_sum_45 : decode cX2_sum 45 = .ok (.ireturn, 1) := dk_172 (dk_at dksX2_sum_2 1 rfl rfl)
abbrev cX2_count : ByteArray := prog_7_method_4_code
def yX2_count : MethodName := ⟨RX2, "count", "(LClaimRegistry$ClaimTest;)I"⟩
def dkwX2_count_2 : List UInt8 := [167, 255, 222, 28, 172]
abbrev dktX2_count_2 : List UInt8 := dkwX2_count_2 ++ []
def dkwX2_count_1 : List UInt8 := [185, 0, 43, 1, 0, 192, 0, 47, 58, 4, 43, 25, 4, 185, 0, 98, 2, 0, 153, 0, 6, 132, 2, 1]
abbrev dktX2_count_1 : List UInt8 := dkwX2_count_1 ++ dktX2_count_2
def dkwX2_count_0 : List UInt8 := [3, 61, 42, 180, 0, 12, 182, 0, 33, 78, 45, 185, 0, 37, 1, 0, 153, 0, 31, 45]
abbrev dktX2_count_0 : List UInt8 := dkwX2_count_0 ++ dktX2_count_1
theorem dksX2_count_0 : cX2_count.data.toList.drop 0 = dktX2_count_0 := by decide +kernel
theorem dksX2_count_1 : cX2_count.data.toList.drop 20 = dktX2_count_1 := dk_seg dksX2_count_0 20 rfl rfl
theorem dksX2_count_2 : cX2_count.data.toList.drop 44 = dktX2_count_2 := dk_seg dksX2_count_1 24 rfl rfl
theorem dX2_count_0 : decode cX2_count 0 = .ok (.iconst 0, 1) := dk_3 (dk_at dksX2_count_0 0 rfl rfl)
theorem dX2_count_1 : decode cX2_count 1 = .ok (.istore_n 2, 1) := dk_61 (dk_at dksX2_count_0 1 rfl rfl)
theorem dX2_count_2 : decode cX2_count 2 = .ok (.aload_n 0, 1) := dk_42 (dk_at dksX2_count_0 2 rfl rfl)
theorem dX2_count_3 : decode cX2_count 3 = .ok (.getfield 12, 3) := dk_180 0 12 (dk_at dksX2_count_0 3 rfl rfl)
theorem dX2_count_6 : decode cX2_count 6 = .ok (.invokevirtual 33, 3) := dk_182 0 33 (dk_at dksX2_count_0 6 rfl rfl)
theorem dX2_count_9 : decode cX2_count 9 = .ok (.astore_n 3, 1) := dk_78 (dk_at dksX2_count_0 9 rfl rfl)
theorem dX2_count_10 : decode cX2_count 10 = .ok (.aload_n 3, 1) := dk_45 (dk_at dksX2_count_0 10 rfl rfl)
theorem dX2_count_11 : decode cX2_count 11 = .ok (.invokeinterface 37 1, 5) := by decide +kernel
theorem dX2_count_16 : decode cX2_count 16 = .ok (.ifCond .eq 31, 3) := dk_153 0 31 (dk_at dksX2_count_0 16 rfl rfl)
theorem dX2_count_19 : decode cX2_count 19 = .ok (.aload_n 3, 1) := dk_45 (dk_at dksX2_count_0 19 rfl rfl)
theorem dX2_count_20 : decode cX2_count 20 = .ok (.invokeinterface 43 1, 5) := by decide +kernel
theorem dX2_count_25 : decode cX2_count 25 = .ok (.checkcast 47, 3) := dk_192 0 47 (dk_at dksX2_count_1 5 rfl rfl)
theorem dX2_count_28 : decode cX2_count 28 = .ok (.astore 4, 2) := dk_58 4 (dk_at dksX2_count_1 8 rfl rfl)
theorem dX2_count_30 : decode cX2_count 30 = .ok (.aload_n 1, 1) := dk_43 (dk_at dksX2_count_1 10 rfl rfl)
theorem dX2_count_31 : decode cX2_count 31 = .ok (.aload 4, 2) := dk_25 4 (dk_at dksX2_count_1 11 rfl rfl)
theorem dX2_count_33 : decode cX2_count 33 = .ok (.invokeinterface 98 2, 5) := by decide +kernel
theorem dX2_count_38 : decode cX2_count 38 = .ok (.ifCond .eq 6, 3) := dk_153 0 6 (dk_at dksX2_count_1 18 rfl rfl)
theorem dX2_count_41 : decode cX2_count 41 = .ok (.iinc 2 1, 3) := dk_132 2 1 (dk_at dksX2_count_1 21 rfl rfl)
theorem dX2_count_44 : decode cX2_count 44 = .ok (.goto (-34), 3) := dk_167 255 222 (dk_at dksX2_count_2 0 rfl rfl)
theorem dX2_count_47 : decode cX2_count 47 = .ok (.iload_n 2, 1) := dk_28 (dk_at dksX2_count_2 3 rfl rfl)
theorem dX2_count_48 : decode cX2_count 48 = .ok (.ireturn, 1) := dk_172 (dk_at dksX2_count_2 4 rfl rfl)
abbrev cX2_advance : ByteArray := prog_7_method_15_code
def yX2_advance : MethodName := ⟨RX2, "advance", "(I)I"⟩
def dkwX2_advance_0 : List UInt8 := [3, 61, 3, 62, 29, 27, 162, 0, 16, 28, 42, 182, 0, 152, 96, 61, 132, 3, 1, 167, 255, 241, 28, 172]
abbrev dktX2_advance_0 : List UInt8 := dkwX2_advance_0 ++ []
theorem dksX2_advance_0 : cX2_advance.data.toList.drop 0 = dktX2_advance_0 := by decide +kernel
theorem dX2_advance_0 : decode cX2_advance 0 = .ok (.iconst 0, 1) := dk_3 (dk_at dksX2_advance_0 0 rfl rfl)
theorem dX2_advance_1 : decode cX2_advance 1 = .ok (.istore_n 2, 1) := dk_61 (dk_at dksX2_advance_0 1 rfl rfl)
theorem dX2_advance_2 : decode cX2_advance 2 = .ok (.iconst 0, 1) := dk_3 (dk_at dksX2_advance_0 2 rfl rfl)
theorem dX2_advance_3 : decode cX2_advance 3 = .ok (.istore_n 3, 1) := dk_62 (dk_at dksX2_advance_0 3 rfl rfl)
theorem dX2_advance_4 : decode cX2_advance 4 = .ok (.iload_n 3, 1) := dk_29 (dk_at dksX2_advance_0 4 rfl rfl)
theorem dX2_advance_5 : decode cX2_advance 5 = .ok (.iload_n 1, 1) := dk_27 (dk_at dksX2_advance_0 5 rfl rfl)
theorem dX2_advance_6 : decode cX2_advance 6 = .ok (.if_icmp .ge 16, 3) := dk_162 0 16 (dk_at dksX2_advance_0 6 rfl rfl)
theorem dX2_advance_9 : decode cX2_advance 9 = .ok (.iload_n 2, 1) := dk_28 (dk_at dksX2_advance_0 9 rfl rfl)
theorem dX2_advance_10 : decode cX2_advance 10 = .ok (.aload_n 0, 1) := dk_42 (dk_at dksX2_advance_0 10 rfl rfl)
theorem dX2_advance_11 : decode cX2_advance 11 = .ok (.invokevirtual 152, 3) := dk_182 0 152 (dk_at dksX2_advance_0 11 rfl rfl)
theorem dX2_advance_14 : decode cX2_advance 14 = .ok (.iadd, 1) := dk_96 (dk_at dksX2_advance_0 14 rfl rfl)
theorem dX2_advance_15 : decode cX2_advance 15 = .ok (.istore_n 2, 1) := dk_61 (dk_at dksX2_advance_0 15 rfl rfl)
theorem dX2_advance_16 : decode cX2_advance 16 = .ok (.iinc 3 1, 3) := dk_132 3 1 (dk_at dksX2_advance_0 16 rfl rfl)
theorem dX2_advance_19 : decode cX2_advance 19 = .ok (.goto (-15), 3) := dk_167 255 241 (dk_at dksX2_advance_0 19 rfl rfl)
theorem dX2_advance_22 : decode cX2_advance 22 = .ok (.iload_n 2, 1) := dk_28 (dk_at dksX2_advance_0 22 rfl rfl)
theorem dX2_advance_23 : decode cX2_advance 23 = .ok (.ireturn, 1) := dk_172 (dk_at dksX2_advance_0 23 rfl rfl)
abbrev cX2_add : ByteArray := prog_7_method_7_code
def yX2_add : MethodName := ⟨RX2, "add", "(IIII)I"⟩
def dkwX2_add_3 : List UInt8 := [180, 0, 95, 172]
abbrev dktX2_add_3 : List UInt8 := dkwX2_add_3 ++ []
def dkwX2_add_2 : List UInt8 := [89, 180, 0, 85, 29, 133, 97, 181, 0, 85, 42, 89, 180, 0, 69, 4, 96, 181, 0, 69, 25, 5]
abbrev dktX2_add_2 : List UInt8 := dkwX2_add_2 ++ dktX2_add_3
def dkwX2_add_1 : List UInt8 := [180, 0, 12, 25, 5, 182, 0, 53, 42, 180, 0, 21, 25, 5, 180, 0, 95, 184, 0, 64, 182, 0, 68, 42]
abbrev dktX2_add_1 : List UInt8 := dkwX2_add_1 ++ dktX2_add_2
def dkwX2_add_0 : List UInt8 := [187, 0, 47, 89, 42, 180, 0, 69, 27, 28, 29, 42, 180, 0, 73, 21, 4, 96, 183, 0, 110, 58, 5, 42]
abbrev dktX2_add_0 : List UInt8 := dkwX2_add_0 ++ dktX2_add_1
theorem dksX2_add_0 : cX2_add.data.toList.drop 0 = dktX2_add_0 := by decide +kernel
theorem dksX2_add_1 : cX2_add.data.toList.drop 24 = dktX2_add_1 := dk_seg dksX2_add_0 24 rfl rfl
theorem dksX2_add_2 : cX2_add.data.toList.drop 48 = dktX2_add_2 := dk_seg dksX2_add_1 24 rfl rfl
theorem dksX2_add_3 : cX2_add.data.toList.drop 70 = dktX2_add_3 := dk_seg dksX2_add_2 22 rfl rfl
theorem dX2_add_0 : decode cX2_add 0 = .ok (.new 47, 3) := dk_187 0 47 (dk_at dksX2_add_0 0 rfl rfl)
theorem dX2_add_3 : decode cX2_add 3 = .ok (.dup, 1) := dk_89 (dk_at dksX2_add_0 3 rfl rfl)
theorem dX2_add_4 : decode cX2_add 4 = .ok (.aload_n 0, 1) := dk_42 (dk_at dksX2_add_0 4 rfl rfl)
theorem dX2_add_5 : decode cX2_add 5 = .ok (.getfield 69, 3) := dk_180 0 69 (dk_at dksX2_add_0 5 rfl rfl)
theorem dX2_add_8 : decode cX2_add 8 = .ok (.iload_n 1, 1) := dk_27 (dk_at dksX2_add_0 8 rfl rfl)
theorem dX2_add_9 : decode cX2_add 9 = .ok (.iload_n 2, 1) := dk_28 (dk_at dksX2_add_0 9 rfl rfl)
theorem dX2_add_10 : decode cX2_add 10 = .ok (.iload_n 3, 1) := dk_29 (dk_at dksX2_add_0 10 rfl rfl)
theorem dX2_add_11 : decode cX2_add 11 = .ok (.aload_n 0, 1) := dk_42 (dk_at dksX2_add_0 11 rfl rfl)
theorem dX2_add_12 : decode cX2_add 12 = .ok (.getfield 73, 3) := dk_180 0 73 (dk_at dksX2_add_0 12 rfl rfl)
theorem dX2_add_15 : decode cX2_add 15 = .ok (.iload 4, 2) := dk_21 4 (dk_at dksX2_add_0 15 rfl rfl)
theorem dX2_add_17 : decode cX2_add 17 = .ok (.iadd, 1) := dk_96 (dk_at dksX2_add_0 17 rfl rfl)
theorem dX2_add_18 : decode cX2_add 18 = .ok (.invokespecial 110, 3) := dk_183 0 110 (dk_at dksX2_add_0 18 rfl rfl)
theorem dX2_add_21 : decode cX2_add 21 = .ok (.astore 5, 2) := dk_58 5 (dk_at dksX2_add_0 21 rfl rfl)
theorem dX2_add_23 : decode cX2_add 23 = .ok (.aload_n 0, 1) := dk_42 (dk_at dksX2_add_0 23 rfl rfl)
theorem dX2_add_24 : decode cX2_add 24 = .ok (.getfield 12, 3) := dk_180 0 12 (dk_at dksX2_add_1 0 rfl rfl)
theorem dX2_add_27 : decode cX2_add 27 = .ok (.aload 5, 2) := dk_25 5 (dk_at dksX2_add_1 3 rfl rfl)
theorem dX2_add_29 : decode cX2_add 29 = .ok (.invokevirtual 53, 3) := dk_182 0 53 (dk_at dksX2_add_1 5 rfl rfl)
theorem dX2_add_32 : decode cX2_add 32 = .ok (.aload_n 0, 1) := dk_42 (dk_at dksX2_add_1 8 rfl rfl)
theorem dX2_add_33 : decode cX2_add 33 = .ok (.getfield 21, 3) := dk_180 0 21 (dk_at dksX2_add_1 9 rfl rfl)
theorem dX2_add_36 : decode cX2_add 36 = .ok (.aload 5, 2) := dk_25 5 (dk_at dksX2_add_1 12 rfl rfl)
theorem dX2_add_38 : decode cX2_add 38 = .ok (.getfield 95, 3) := dk_180 0 95 (dk_at dksX2_add_1 14 rfl rfl)
theorem dX2_add_41 : decode cX2_add 41 = .ok (.invokestatic 64, 3) := dk_184 0 64 (dk_at dksX2_add_1 17 rfl rfl)
theorem dX2_add_44 : decode cX2_add 44 = .ok (.invokevirtual 68, 3) := dk_182 0 68 (dk_at dksX2_add_1 20 rfl rfl)
theorem dX2_add_47 : decode cX2_add 47 = .ok (.aload_n 0, 1) := dk_42 (dk_at dksX2_add_1 23 rfl rfl)
theorem dX2_add_48 : decode cX2_add 48 = .ok (.dup, 1) := dk_89 (dk_at dksX2_add_2 0 rfl rfl)
theorem dX2_add_49 : decode cX2_add 49 = .ok (.getfield 85, 3) := dk_180 0 85 (dk_at dksX2_add_2 1 rfl rfl)
theorem dX2_add_52 : decode cX2_add 52 = .ok (.iload_n 3, 1) := dk_29 (dk_at dksX2_add_2 4 rfl rfl)
theorem dX2_add_53 : decode cX2_add 53 = .ok (.i2l, 1) := dk_133 (dk_at dksX2_add_2 5 rfl rfl)
theorem dX2_add_54 : decode cX2_add 54 = .ok (.ladd, 1) := dk_97 (dk_at dksX2_add_2 6 rfl rfl)
theorem dX2_add_55 : decode cX2_add 55 = .ok (.putfield 85, 3) := dk_181 0 85 (dk_at dksX2_add_2 7 rfl rfl)
theorem dX2_add_58 : decode cX2_add 58 = .ok (.aload_n 0, 1) := dk_42 (dk_at dksX2_add_2 10 rfl rfl)
theorem dX2_add_59 : decode cX2_add 59 = .ok (.dup, 1) := dk_89 (dk_at dksX2_add_2 11 rfl rfl)
theorem dX2_add_60 : decode cX2_add 60 = .ok (.getfield 69, 3) := dk_180 0 69 (dk_at dksX2_add_2 12 rfl rfl)
theorem dX2_add_63 : decode cX2_add 63 = .ok (.iconst 1, 1) := dk_4 (dk_at dksX2_add_2 15 rfl rfl)
theorem dX2_add_64 : decode cX2_add 64 = .ok (.iadd, 1) := dk_96 (dk_at dksX2_add_2 16 rfl rfl)
theorem dX2_add_65 : decode cX2_add 65 = .ok (.putfield 69, 3) := dk_181 0 69 (dk_at dksX2_add_2 17 rfl rfl)
theorem dX2_add_68 : decode cX2_add 68 = .ok (.aload 5, 2) := dk_25 5 (dk_at dksX2_add_2 20 rfl rfl)
theorem dX2_add_70 : decode cX2_add 70 = .ok (.getfield 95, 3) := dk_180 0 95 (dk_at dksX2_add_3 0 rfl rfl)
theorem dX2_add_73 : decode cX2_add 73 = .ok (.ireturn, 1) := dk_172 (dk_at dksX2_add_3 3 rfl rfl)
abbrev cX2_settle : ByteArray := prog_7_method_10_code
def yX2_settle : MethodName := ⟨RX2, "settle", "(LClaimRegistry$Claim;)V"⟩
def dkwX2_settle_0 : List UInt8 := [42, 43, 182, 0, 123, 42, 89, 180, 0, 79, 4, 96, 181, 0, 79, 177]
abbrev dktX2_settle_0 : List UInt8 := dkwX2_settle_0 ++ []
theorem dksX2_settle_0 : cX2_settle.data.toList.drop 0 = dktX2_settle_0 := by decide +kernel
theorem dX2_settle_0 : decode cX2_settle 0 = .ok (.aload_n 0, 1) := dk_42 (dk_at dksX2_settle_0 0 rfl rfl)
theorem dX2_settle_1 : decode cX2_settle 1 = .ok (.aload_n 1, 1) := dk_43 (dk_at dksX2_settle_0 1 rfl rfl)
theorem dX2_settle_2 : decode cX2_settle 2 = .ok (.invokevirtual 123, 3) := dk_182 0 123 (dk_at dksX2_settle_0 2 rfl rfl)
theorem dX2_settle_5 : decode cX2_settle 5 = .ok (.aload_n 0, 1) := dk_42 (dk_at dksX2_settle_0 5 rfl rfl)
theorem dX2_settle_6 : decode cX2_settle 6 = .ok (.dup, 1) := dk_89 (dk_at dksX2_settle_0 6 rfl rfl)
theorem dX2_settle_7 : decode cX2_settle 7 = .ok (.getfield 79, 3) := dk_180 0 79 (dk_at dksX2_settle_0 7 rfl rfl)
theorem dX2_settle_10 : decode cX2_settle 10 = .ok (.iconst 1, 1) := dk_4 (dk_at dksX2_settle_0 10 rfl rfl)
theorem dX2_settle_11 : decode cX2_settle 11 = .ok (.iadd, 1) := dk_96 (dk_at dksX2_settle_0 11 rfl rfl)
theorem dX2_settle_12 : decode cX2_settle 12 = .ok (.putfield 79, 3) := dk_181 0 79 (dk_at dksX2_settle_0 12 rfl rfl)
theorem dX2_settle_15 : decode cX2_settle 15 = .ok (.return_, 1) := dk_177 (dk_at dksX2_settle_0 15 rfl rfl)
abbrev cX2_remove : ByteArray := prog_7_method_9_code
def yX2_remove : MethodName := ⟨RX2, "remove", "(LClaimRegistry$Claim;)V"⟩
def dkwX2_remove_1 : List UInt8 := [166, 255, 240, 44, 185, 0, 116, 1, 0, 167, 255, 231, 42, 43, 182, 0, 119, 177]
abbrev dktX2_remove_1 : List UInt8 := dkwX2_remove_1 ++ []
def dkwX2_remove_0 : List UInt8 := [42, 180, 0, 12, 182, 0, 33, 77, 44, 185, 0, 37, 1, 0, 153, 0, 22, 44, 185, 0, 43, 1, 0, 43]
abbrev dktX2_remove_0 : List UInt8 := dkwX2_remove_0 ++ dktX2_remove_1
theorem dksX2_remove_0 : cX2_remove.data.toList.drop 0 = dktX2_remove_0 := by decide +kernel
theorem dksX2_remove_1 : cX2_remove.data.toList.drop 24 = dktX2_remove_1 := dk_seg dksX2_remove_0 24 rfl rfl
theorem dX2_remove_0 : decode cX2_remove 0 = .ok (.aload_n 0, 1) := dk_42 (dk_at dksX2_remove_0 0 rfl rfl)
theorem dX2_remove_1 : decode cX2_remove 1 = .ok (.getfield 12, 3) := dk_180 0 12 (dk_at dksX2_remove_0 1 rfl rfl)
theorem dX2_remove_4 : decode cX2_remove 4 = .ok (.invokevirtual 33, 3) := dk_182 0 33 (dk_at dksX2_remove_0 4 rfl rfl)
theorem dX2_remove_7 : decode cX2_remove 7 = .ok (.astore_n 2, 1) := dk_77 (dk_at dksX2_remove_0 7 rfl rfl)
theorem dX2_remove_8 : decode cX2_remove 8 = .ok (.aload_n 2, 1) := dk_44 (dk_at dksX2_remove_0 8 rfl rfl)
theorem dX2_remove_9 : decode cX2_remove 9 = .ok (.invokeinterface 37 1, 5) := by decide +kernel
theorem dX2_remove_14 : decode cX2_remove 14 = .ok (.ifCond .eq 22, 3) := dk_153 0 22 (dk_at dksX2_remove_0 14 rfl rfl)
theorem dX2_remove_17 : decode cX2_remove 17 = .ok (.aload_n 2, 1) := dk_44 (dk_at dksX2_remove_0 17 rfl rfl)
theorem dX2_remove_18 : decode cX2_remove 18 = .ok (.invokeinterface 43 1, 5) := by decide +kernel
theorem dX2_remove_23 : decode cX2_remove 23 = .ok (.aload_n 1, 1) := dk_43 (dk_at dksX2_remove_0 23 rfl rfl)
theorem dX2_remove_24 : decode cX2_remove 24 = .ok (.if_acmp .ne (-16), 3) := dk_166 255 240 (dk_at dksX2_remove_1 0 rfl rfl)
theorem dX2_remove_27 : decode cX2_remove 27 = .ok (.aload_n 2, 1) := dk_44 (dk_at dksX2_remove_1 3 rfl rfl)
theorem dX2_remove_28 : decode cX2_remove 28 = .ok (.invokeinterface 116 1, 5) := by decide +kernel
theorem dX2_remove_33 : decode cX2_remove 33 = .ok (.goto (-25), 3) := dk_167 255 231 (dk_at dksX2_remove_1 9 rfl rfl)
theorem dX2_remove_36 : decode cX2_remove 36 = .ok (.aload_n 0, 1) := dk_42 (dk_at dksX2_remove_1 12 rfl rfl)
theorem dX2_remove_37 : decode cX2_remove 37 = .ok (.aload_n 1, 1) := dk_43 (dk_at dksX2_remove_1 13 rfl rfl)
theorem dX2_remove_38 : decode cX2_remove 38 = .ok (.invokevirtual 119, 3) := dk_182 0 119 (dk_at dksX2_remove_1 14 rfl rfl)
theorem dX2_remove_41 : decode cX2_remove 41 = .ok (.return_, 1) := dk_177 (dk_at dksX2_remove_1 17 rfl rfl)
abbrev cX2_audit : ByteArray := prog_7_method_16_code
def yX2_audit : MethodName := ⟨RX2, "audit", "(I)I"⟩
def dkwX2_audit_4 : List UInt8 := [181, 0, 82, 29, 172]
abbrev dktX2_audit_4 : List UInt8 := dkwX2_audit_4 ++ []
def dkwX2_audit_3 : List UInt8 := [182, 0, 172, 192, 0, 58, 182, 0, 68, 132, 4, 1, 167, 255, 191, 42, 89, 180, 0, 82, 29, 96]
abbrev dktX2_audit_3 : List UInt8 := dkwX2_audit_3 ++ dktX2_audit_4
def dkwX2_audit_2 : List UInt8 := [153, 0, 15, 42, 25, 5, 182, 0, 123, 132, 3, 1, 167, 0, 20, 42, 180, 0, 21, 42, 180, 0, 21]
abbrev dktX2_audit_2 : List UInt8 := dkwX2_audit_2 ++ dktX2_audit_3
def dkwX2_audit_1 : List UInt8 := [42, 180, 0, 21, 182, 0, 162, 192, 0, 58, 182, 0, 60, 182, 0, 165, 58, 5, 25, 5, 182, 0, 169]
abbrev dktX2_audit_1 : List UInt8 := dkwX2_audit_1 ++ dktX2_audit_2
def dkwX2_audit_0 : List UInt8 := [27, 42, 180, 0, 12, 182, 0, 155, 184, 0, 156, 61, 3, 62, 3, 54, 4, 21, 4, 28, 162, 0, 65, 42]
abbrev dktX2_audit_0 : List UInt8 := dkwX2_audit_0 ++ dktX2_audit_1
theorem dksX2_audit_0 : cX2_audit.data.toList.drop 0 = dktX2_audit_0 := by decide +kernel
theorem dksX2_audit_1 : cX2_audit.data.toList.drop 24 = dktX2_audit_1 := dk_seg dksX2_audit_0 24 rfl rfl
theorem dksX2_audit_2 : cX2_audit.data.toList.drop 47 = dktX2_audit_2 := dk_seg dksX2_audit_1 23 rfl rfl
theorem dksX2_audit_3 : cX2_audit.data.toList.drop 70 = dktX2_audit_3 := dk_seg dksX2_audit_2 23 rfl rfl
theorem dksX2_audit_4 : cX2_audit.data.toList.drop 92 = dktX2_audit_4 := dk_seg dksX2_audit_3 22 rfl rfl
theorem dX2_audit_0 : decode cX2_audit 0 = .ok (.iload_n 1, 1) := dk_27 (dk_at dksX2_audit_0 0 rfl rfl)
theorem dX2_audit_1 : decode cX2_audit 1 = .ok (.aload_n 0, 1) := dk_42 (dk_at dksX2_audit_0 1 rfl rfl)
theorem dX2_audit_2 : decode cX2_audit 2 = .ok (.getfield 12, 3) := dk_180 0 12 (dk_at dksX2_audit_0 2 rfl rfl)
theorem dX2_audit_5 : decode cX2_audit 5 = .ok (.invokevirtual 155, 3) := dk_182 0 155 (dk_at dksX2_audit_0 5 rfl rfl)
theorem dX2_audit_8 : decode cX2_audit 8 = .ok (.invokestatic 156, 3) := dk_184 0 156 (dk_at dksX2_audit_0 8 rfl rfl)
theorem dX2_audit_11 : decode cX2_audit 11 = .ok (.istore_n 2, 1) := dk_61 (dk_at dksX2_audit_0 11 rfl rfl)
theorem dX2_audit_12 : decode cX2_audit 12 = .ok (.iconst 0, 1) := dk_3 (dk_at dksX2_audit_0 12 rfl rfl)
theorem dX2_audit_13 : decode cX2_audit 13 = .ok (.istore_n 3, 1) := dk_62 (dk_at dksX2_audit_0 13 rfl rfl)
theorem dX2_audit_14 : decode cX2_audit 14 = .ok (.iconst 0, 1) := dk_3 (dk_at dksX2_audit_0 14 rfl rfl)
theorem dX2_audit_15 : decode cX2_audit 15 = .ok (.istore 4, 2) := dk_54 4 (dk_at dksX2_audit_0 15 rfl rfl)
theorem dX2_audit_17 : decode cX2_audit 17 = .ok (.iload 4, 2) := dk_21 4 (dk_at dksX2_audit_0 17 rfl rfl)
theorem dX2_audit_19 : decode cX2_audit 19 = .ok (.iload_n 2, 1) := dk_28 (dk_at dksX2_audit_0 19 rfl rfl)
theorem dX2_audit_20 : decode cX2_audit 20 = .ok (.if_icmp .ge 65, 3) := dk_162 0 65 (dk_at dksX2_audit_0 20 rfl rfl)
theorem dX2_audit_23 : decode cX2_audit 23 = .ok (.aload_n 0, 1) := dk_42 (dk_at dksX2_audit_0 23 rfl rfl)
theorem dX2_audit_24 : decode cX2_audit 24 = .ok (.aload_n 0, 1) := dk_42 (dk_at dksX2_audit_1 0 rfl rfl)
theorem dX2_audit_25 : decode cX2_audit 25 = .ok (.getfield 21, 3) := dk_180 0 21 (dk_at dksX2_audit_1 1 rfl rfl)
theorem dX2_audit_28 : decode cX2_audit 28 = .ok (.invokevirtual 162, 3) := dk_182 0 162 (dk_at dksX2_audit_1 4 rfl rfl)
theorem dX2_audit_31 : decode cX2_audit 31 = .ok (.checkcast 58, 3) := dk_192 0 58 (dk_at dksX2_audit_1 7 rfl rfl)
theorem dX2_audit_34 : decode cX2_audit 34 = .ok (.invokevirtual 60, 3) := dk_182 0 60 (dk_at dksX2_audit_1 10 rfl rfl)
theorem dX2_audit_37 : decode cX2_audit 37 = .ok (.invokevirtual 165, 3) := dk_182 0 165 (dk_at dksX2_audit_1 13 rfl rfl)
theorem dX2_audit_40 : decode cX2_audit 40 = .ok (.astore 5, 2) := dk_58 5 (dk_at dksX2_audit_1 16 rfl rfl)
theorem dX2_audit_42 : decode cX2_audit 42 = .ok (.aload 5, 2) := dk_25 5 (dk_at dksX2_audit_1 18 rfl rfl)
theorem dX2_audit_44 : decode cX2_audit 44 = .ok (.invokevirtual 169, 3) := dk_182 0 169 (dk_at dksX2_audit_1 20 rfl rfl)
theorem dX2_audit_47 : decode cX2_audit 47 = .ok (.ifCond .eq 15, 3) := dk_153 0 15 (dk_at dksX2_audit_2 0 rfl rfl)
theorem dX2_audit_50 : decode cX2_audit 50 = .ok (.aload_n 0, 1) := dk_42 (dk_at dksX2_audit_2 3 rfl rfl)
theorem dX2_audit_51 : decode cX2_audit 51 = .ok (.aload 5, 2) := dk_25 5 (dk_at dksX2_audit_2 4 rfl rfl)
theorem dX2_audit_53 : decode cX2_audit 53 = .ok (.invokevirtual 123, 3) := dk_182 0 123 (dk_at dksX2_audit_2 6 rfl rfl)
theorem dX2_audit_56 : decode cX2_audit 56 = .ok (.iinc 3 1, 3) := dk_132 3 1 (dk_at dksX2_audit_2 9 rfl rfl)
theorem dX2_audit_59 : decode cX2_audit 59 = .ok (.goto 20, 3) := dk_167 0 20 (dk_at dksX2_audit_2 12 rfl rfl)
theorem dX2_audit_62 : decode cX2_audit 62 = .ok (.aload_n 0, 1) := dk_42 (dk_at dksX2_audit_2 15 rfl rfl)
theorem dX2_audit_63 : decode cX2_audit 63 = .ok (.getfield 21, 3) := dk_180 0 21 (dk_at dksX2_audit_2 16 rfl rfl)
theorem dX2_audit_66 : decode cX2_audit 66 = .ok (.aload_n 0, 1) := dk_42 (dk_at dksX2_audit_2 19 rfl rfl)
theorem dX2_audit_67 : decode cX2_audit 67 = .ok (.getfield 21, 3) := dk_180 0 21 (dk_at dksX2_audit_2 20 rfl rfl)
theorem dX2_audit_70 : decode cX2_audit 70 = .ok (.invokevirtual 172, 3) := dk_182 0 172 (dk_at dksX2_audit_3 0 rfl rfl)
theorem dX2_audit_73 : decode cX2_audit 73 = .ok (.checkcast 58, 3) := dk_192 0 58 (dk_at dksX2_audit_3 3 rfl rfl)
theorem dX2_audit_76 : decode cX2_audit 76 = .ok (.invokevirtual 68, 3) := dk_182 0 68 (dk_at dksX2_audit_3 6 rfl rfl)
theorem dX2_audit_79 : decode cX2_audit 79 = .ok (.iinc 4 1, 3) := dk_132 4 1 (dk_at dksX2_audit_3 9 rfl rfl)
theorem dX2_audit_82 : decode cX2_audit 82 = .ok (.goto (-65), 3) := dk_167 255 191 (dk_at dksX2_audit_3 12 rfl rfl)
theorem dX2_audit_85 : decode cX2_audit 85 = .ok (.aload_n 0, 1) := dk_42 (dk_at dksX2_audit_3 15 rfl rfl)
theorem dX2_audit_86 : decode cX2_audit 86 = .ok (.dup, 1) := dk_89 (dk_at dksX2_audit_3 16 rfl rfl)
theorem dX2_audit_87 : decode cX2_audit 87 = .ok (.getfield 82, 3) := dk_180 0 82 (dk_at dksX2_audit_3 17 rfl rfl)
theorem dX2_audit_90 : decode cX2_audit 90 = .ok (.iload_n 3, 1) := dk_29 (dk_at dksX2_audit_3 20 rfl rfl)
theorem dX2_audit_91 : decode cX2_audit 91 = .ok (.iadd, 1) := dk_96 (dk_at dksX2_audit_3 21 rfl rfl)
theorem dX2_audit_92 : decode cX2_audit 92 = .ok (.putfield 82, 3) := dk_181 0 82 (dk_at dksX2_audit_4 0 rfl rfl)
theorem dX2_audit_95 : decode cX2_audit 95 = .ok (.iload_n 3, 1) := dk_29 (dk_at dksX2_audit_4 3 rfl rfl)
theorem dX2_audit_96 : decode cX2_audit 96 = .ok (.ireturn, 1) := dk_172 (dk_at dksX2_audit_4 4 rfl rfl)
abbrev cX2_lowest : ByteArray := prog_7_method_6_code
def yX2_lowest : MethodName := ⟨RX2, "lowest", "(LClaimRegistry$ClaimValue;)LClaimRegistry$Claim;"⟩
def dkwX2_lowest_2 : List UInt8 := [185, 0, 104, 2, 0, 162, 0, 6, 25, 4, 77, 167, 255, 211, 44, 176]
abbrev dktX2_lowest_2 : List UInt8 := dkwX2_lowest_2 ++ []
def dkwX2_lowest_1 : List UInt8 := [185, 0, 43, 1, 0, 192, 0, 47, 58, 4, 44, 198, 0, 21, 43, 25, 4, 185, 0, 104, 2, 0, 43, 44]
abbrev dktX2_lowest_1 : List UInt8 := dkwX2_lowest_1 ++ dktX2_lowest_2
def dkwX2_lowest_0 : List UInt8 := [1, 77, 42, 180, 0, 12, 182, 0, 33, 78, 45, 185, 0, 37, 1, 0, 153, 0, 42, 45]
abbrev dktX2_lowest_0 : List UInt8 := dkwX2_lowest_0 ++ dktX2_lowest_1
theorem dksX2_lowest_0 : cX2_lowest.data.toList.drop 0 = dktX2_lowest_0 := by decide +kernel
theorem dksX2_lowest_1 : cX2_lowest.data.toList.drop 20 = dktX2_lowest_1 := dk_seg dksX2_lowest_0 20 rfl rfl
theorem dksX2_lowest_2 : cX2_lowest.data.toList.drop 44 = dktX2_lowest_2 := dk_seg dksX2_lowest_1 24 rfl rfl
theorem dX2_lowest_0 : decode cX2_lowest 0 = .ok (.aconst_null, 1) := dk_1 (dk_at dksX2_lowest_0 0 rfl rfl)
theorem dX2_lowest_1 : decode cX2_lowest 1 = .ok (.astore_n 2, 1) := dk_77 (dk_at dksX2_lowest_0 1 rfl rfl)
theorem dX2_lowest_2 : decode cX2_lowest 2 = .ok (.aload_n 0, 1) := dk_42 (dk_at dksX2_lowest_0 2 rfl rfl)
theorem dX2_lowest_3 : decode cX2_lowest 3 = .ok (.getfield 12, 3) := dk_180 0 12 (dk_at dksX2_lowest_0 3 rfl rfl)
theorem dX2_lowest_6 : decode cX2_lowest 6 = .ok (.invokevirtual 33, 3) := dk_182 0 33 (dk_at dksX2_lowest_0 6 rfl rfl)
theorem dX2_lowest_9 : decode cX2_lowest 9 = .ok (.astore_n 3, 1) := dk_78 (dk_at dksX2_lowest_0 9 rfl rfl)
theorem dX2_lowest_10 : decode cX2_lowest 10 = .ok (.aload_n 3, 1) := dk_45 (dk_at dksX2_lowest_0 10 rfl rfl)
theorem dX2_lowest_11 : decode cX2_lowest 11 = .ok (.invokeinterface 37 1, 5) := by decide +kernel
theorem dX2_lowest_16 : decode cX2_lowest 16 = .ok (.ifCond .eq 42, 3) := dk_153 0 42 (dk_at dksX2_lowest_0 16 rfl rfl)
theorem dX2_lowest_19 : decode cX2_lowest 19 = .ok (.aload_n 3, 1) := dk_45 (dk_at dksX2_lowest_0 19 rfl rfl)
theorem dX2_lowest_20 : decode cX2_lowest 20 = .ok (.invokeinterface 43 1, 5) := by decide +kernel
theorem dX2_lowest_25 : decode cX2_lowest 25 = .ok (.checkcast 47, 3) := dk_192 0 47 (dk_at dksX2_lowest_1 5 rfl rfl)
theorem dX2_lowest_28 : decode cX2_lowest 28 = .ok (.astore 4, 2) := dk_58 4 (dk_at dksX2_lowest_1 8 rfl rfl)
theorem dX2_lowest_30 : decode cX2_lowest 30 = .ok (.aload_n 2, 1) := dk_44 (dk_at dksX2_lowest_1 10 rfl rfl)
theorem dX2_lowest_31 : decode cX2_lowest 31 = .ok (.ifnull 21, 3) := dk_198 0 21 (dk_at dksX2_lowest_1 11 rfl rfl)
theorem dX2_lowest_34 : decode cX2_lowest 34 = .ok (.aload_n 1, 1) := dk_43 (dk_at dksX2_lowest_1 14 rfl rfl)
theorem dX2_lowest_35 : decode cX2_lowest 35 = .ok (.aload 4, 2) := dk_25 4 (dk_at dksX2_lowest_1 15 rfl rfl)
theorem dX2_lowest_37 : decode cX2_lowest 37 = .ok (.invokeinterface 104 2, 5) := by decide +kernel
theorem dX2_lowest_42 : decode cX2_lowest 42 = .ok (.aload_n 1, 1) := dk_43 (dk_at dksX2_lowest_1 22 rfl rfl)
theorem dX2_lowest_43 : decode cX2_lowest 43 = .ok (.aload_n 2, 1) := dk_44 (dk_at dksX2_lowest_1 23 rfl rfl)
theorem dX2_lowest_44 : decode cX2_lowest 44 = .ok (.invokeinterface 104 2, 5) := by decide +kernel
theorem dX2_lowest_49 : decode cX2_lowest 49 = .ok (.if_icmp .ge 6, 3) := dk_162 0 6 (dk_at dksX2_lowest_2 5 rfl rfl)
theorem dX2_lowest_52 : decode cX2_lowest 52 = .ok (.aload 4, 2) := dk_25 4 (dk_at dksX2_lowest_2 8 rfl rfl)
theorem dX2_lowest_54 : decode cX2_lowest 54 = .ok (.astore_n 2, 1) := dk_77 (dk_at dksX2_lowest_2 10 rfl rfl)
theorem dX2_lowest_55 : decode cX2_lowest 55 = .ok (.goto (-45), 3) := dk_167 255 211 (dk_at dksX2_lowest_2 11 rfl rfl)
theorem dX2_lowest_58 : decode cX2_lowest 58 = .ok (.aload_n 2, 1) := dk_44 (dk_at dksX2_lowest_2 14 rfl rfl)
theorem dX2_lowest_59 : decode cX2_lowest 59 = .ok (.areturn, 1) := dk_176 (dk_at dksX2_lowest_2 15 rfl rfl)
theorem q96 : (Jvm.Cond.initialized "ClaimRegistry$State") ∈ lw_all := lw_g (lw_at lw_m1 2 rfl) rfl
theorem q154 : (Jvm.Cond.instantiable "ClaimRegistry$State" (12 : Nat)) ∈ lw_all := lw_g (lw_at lw_m1 60 rfl) rfl
theorem q156 : (Jvm.Cond.instanceMethod ({ cls := "ClaimRegistry$State", name := "<init>", desc := "()V" } : Jvm.MethodName)) ∈ lw_all := lw_g (lw_at lw_m1 62 rfl) rfl
theorem q157 : (Jvm.Cond.code ({ cls := "ClaimRegistry$State", name := "<init>", desc := "()V" } : Jvm.MethodName) prog_7_method_1_code (2 : Nat) (Option.none : Option Jvm.ClassFile.FieldType)) ∈ lw_all := lw_g (lw_at lw_m1 63 rfl) rfl
theorem q158 : (Jvm.Cond.methodLink "ClaimRegistry$State" (3 : Nat) ({ cls := "java/lang/Object", name := "<init>", desc := "()V" } : Jvm.MethodName)) ∈ lw_all := lw_g (lw_at lw_m1 64 rfl) rfl
theorem q159 : (Jvm.Cond.classLink "ClaimRegistry$State" (9 : Nat) "java/util/LinkedList") ∈ lw_all := lw_g (lw_at lw_m1 65 rfl) rfl
theorem q161 : (Jvm.Cond.methodLink "ClaimRegistry$State" (11 : Nat) ({ cls := "java/util/LinkedList", name := "<init>", desc := "()V" } : Jvm.MethodName)) ∈ lw_all := lw_g (lw_at lw_m1 67 rfl) rfl
theorem q195 : (Jvm.Cond.classLink "ClaimRegistry$State" (18 : Nat) "java/util/ArrayDeque") ∈ lw_all := lw_g (lw_at lw_m1 101 rfl) rfl
theorem q197 : (Jvm.Cond.methodLink "ClaimRegistry$State" (20 : Nat) ({ cls := "java/util/ArrayDeque", name := "<init>", desc := "()V" } : Jvm.MethodName)) ∈ lw_all := lw_g (lw_at lw_m1 103 rfl) rfl
theorem q215 : (Jvm.Cond.fieldLink "ClaimRegistry$State" (12 : Nat) "ClaimRegistry$State" "claims" "Ljava/util/LinkedList;") ∈ lw_all := lw_g (lw_at lw_m1 121 rfl) rfl
theorem q217 : (Jvm.Cond.fieldLink "ClaimRegistry$State" (21 : Nat) "ClaimRegistry$State" "auditQueue" "Ljava/util/ArrayDeque;") ∈ lw_all := lw_g (lw_at lw_m1 123 rfl) rfl
theorem q219 : (Jvm.Cond.fieldLink "ClaimRegistry$State" (25 : Nat) "ClaimRegistry$State" "recentlyExpired" "Ljava/util/ArrayDeque;") ∈ lw_all := lw_g (lw_at lw_m1 125 rfl) rfl
theorem q221 : (Jvm.Cond.fieldLink "ClaimRegistry$State" (28 : Nat) "ClaimRegistry$State" "rates" "[I") ∈ lw_all := lw_g (lw_at lw_m1 127 rfl) rfl
theorem q223 : (Jvm.Cond.fieldLink "ClaimRegistry$State" (69 : Nat) "ClaimRegistry$State" "nextId" "I") ∈ lw_all := lw_g (lw_at lw_m1 129 rfl) rfl
theorem q224 : (Jvm.Cond.fieldLink "ClaimRegistry$State" (73 : Nat) "ClaimRegistry$State" "time" "I") ∈ lw_all := lw_g (lw_at lw_m1 130 rfl) rfl
theorem q226 : (Jvm.Cond.fieldLink "ClaimRegistry$State" (76 : Nat) "ClaimRegistry$State" "expiredCount" "I") ∈ lw_all := lw_g (lw_at lw_m1 132 rfl) rfl
theorem q228 : (Jvm.Cond.fieldLink "ClaimRegistry$State" (79 : Nat) "ClaimRegistry$State" "settledCount" "I") ∈ lw_all := lw_g (lw_at lw_m1 134 rfl) rfl
theorem q230 : (Jvm.Cond.fieldLink "ClaimRegistry$State" (82 : Nat) "ClaimRegistry$State" "voidedCount" "I") ∈ lw_all := lw_g (lw_at lw_m1 136 rfl) rfl
theorem q232 : (Jvm.Cond.fieldLink "ClaimRegistry$State" (85 : Nat) "ClaimRegistry$State" "addedWeight" "J") ∈ lw_all := lw_g (lw_at lw_m1 138 rfl) rfl
theorem q234 : (Jvm.Cond.fieldLink "ClaimRegistry$State" (89 : Nat) "ClaimRegistry$State" "interest" "J") ∈ lw_all := lw_g (lw_at lw_m1 140 rfl) rfl
theorem q236 : (Jvm.Cond.fieldLink "ClaimRegistry$State" (92 : Nat) "ClaimRegistry$State" "closedWeight" "J") ∈ lw_all := lw_g (lw_at lw_m1 142 rfl) rfl
theorem q238 : (Jvm.Cond.laysFinal "ClaimRegistry$State" "ClaimRegistry$State" "claims" "Ljava/util/LinkedList;") ∈ lw_all := lw_g (lw_at lw_m1 144 rfl) rfl
theorem q239 : (Jvm.Cond.soleField "ClaimRegistry$State" "claims") ∈ lw_all := lw_g (lw_at lw_m1 145 rfl) rfl
theorem q240 : (Jvm.Cond.laysFinal "ClaimRegistry$State" "ClaimRegistry$State" "auditQueue" "Ljava/util/ArrayDeque;") ∈ lw_all := lw_g (lw_at lw_m1 146 rfl) rfl
theorem q241 : (Jvm.Cond.soleField "ClaimRegistry$State" "auditQueue") ∈ lw_all := lw_g (lw_at lw_m1 147 rfl) rfl
theorem q242 : (Jvm.Cond.laysFinal "ClaimRegistry$State" "ClaimRegistry$State" "recentlyExpired" "Ljava/util/ArrayDeque;") ∈ lw_all := lw_g (lw_at lw_m1 148 rfl) rfl
theorem q243 : (Jvm.Cond.soleField "ClaimRegistry$State" "recentlyExpired") ∈ lw_all := lw_g (lw_at lw_m1 149 rfl) rfl
theorem q244 : (Jvm.Cond.laysFinal "ClaimRegistry$State" "ClaimRegistry$State" "rates" "[I") ∈ lw_all := lw_g (lw_at lw_m1 150 rfl) rfl
theorem q245 : (Jvm.Cond.soleField "ClaimRegistry$State" "rates") ∈ lw_all := lw_g (lw_at lw_m1 151 rfl) rfl
theorem q246 : (Jvm.Cond.lays "ClaimRegistry$State" "ClaimRegistry$State" "nextId" "I") ∈ lw_all := lw_g (lw_at lw_m1 152 rfl) rfl
theorem q247 : (Jvm.Cond.soleField "ClaimRegistry$State" "nextId") ∈ lw_all := lw_g (lw_at lw_m1 153 rfl) rfl
theorem q248 : (Jvm.Cond.lays "ClaimRegistry$State" "ClaimRegistry$State" "time" "I") ∈ lw_all := lw_g (lw_at lw_m1 154 rfl) rfl
theorem q249 : (Jvm.Cond.soleField "ClaimRegistry$State" "time") ∈ lw_all := lw_g (lw_at lw_m1 155 rfl) rfl
theorem q250 : (Jvm.Cond.lays "ClaimRegistry$State" "ClaimRegistry$State" "expiredCount" "I") ∈ lw_all := lw_g (lw_at lw_m1 156 rfl) rfl
theorem q251 : (Jvm.Cond.soleField "ClaimRegistry$State" "expiredCount") ∈ lw_all := lw_g (lw_at lw_m1 157 rfl) rfl
theorem q252 : (Jvm.Cond.lays "ClaimRegistry$State" "ClaimRegistry$State" "settledCount" "I") ∈ lw_all := lw_g (lw_at lw_m1 158 rfl) rfl
theorem q253 : (Jvm.Cond.soleField "ClaimRegistry$State" "settledCount") ∈ lw_all := lw_g (lw_at lw_m1 159 rfl) rfl
theorem q254 : (Jvm.Cond.lays "ClaimRegistry$State" "ClaimRegistry$State" "voidedCount" "I") ∈ lw_all := lw_g (lw_at lw_m1 160 rfl) rfl
theorem q255 : (Jvm.Cond.soleField "ClaimRegistry$State" "voidedCount") ∈ lw_all := lw_g (lw_at lw_m1 161 rfl) rfl
theorem q256 : (Jvm.Cond.lays "ClaimRegistry$State" "ClaimRegistry$State" "addedWeight" "J") ∈ lw_all := lw_g (lw_at lw_m1 162 rfl) rfl
theorem q257 : (Jvm.Cond.soleField "ClaimRegistry$State" "addedWeight") ∈ lw_all := lw_g (lw_at lw_m1 163 rfl) rfl
theorem q258 : (Jvm.Cond.lays "ClaimRegistry$State" "ClaimRegistry$State" "interest" "J") ∈ lw_all := lw_g (lw_at lw_m1 164 rfl) rfl
theorem q259 : (Jvm.Cond.soleField "ClaimRegistry$State" "interest") ∈ lw_all := lw_g (lw_at lw_m1 165 rfl) rfl
theorem q260 : (Jvm.Cond.lays "ClaimRegistry$State" "ClaimRegistry$State" "closedWeight" "J") ∈ lw_all := lw_g (lw_at lw_m1 166 rfl) rfl
theorem q261 : (Jvm.Cond.soleField "ClaimRegistry$State" "closedWeight") ∈ lw_all := lw_g (lw_at lw_m1 167 rfl) rfl
theorem q262 : (Jvm.Cond.superclass "ClaimRegistry$State" "java/lang/Object") ∈ lw_all := lw_g (lw_at lw_m1 168 rfl) rfl
theorem q333 : (Jvm.Cond.instanceMethod ({ cls := "ClaimRegistry$State", name := "copy", desc := "()LClaimRegistry$State;" } : Jvm.MethodName)) ∈ lw_all := lw_g (lw_at lw_m1 239 rfl) rfl
theorem q334 : (Jvm.Cond.selects "ClaimRegistry$State" ({ cls := "ClaimRegistry$State", name := "copy", desc := "()LClaimRegistry$State;" } : Jvm.MethodName) ({ cls := "ClaimRegistry$State", name := "copy", desc := "()LClaimRegistry$State;" } : Jvm.MethodName)) ∈ lw_all := lw_g (lw_at lw_m2 0 rfl) rfl
theorem q335 : (Jvm.Cond.code ({ cls := "ClaimRegistry$State", name := "copy", desc := "()LClaimRegistry$State;" } : Jvm.MethodName) prog_7_method_2_code (4 : Nat) (Option.some (Jvm.ClassFile.FieldType.object "ClaimRegistry$State"))) ∈ lw_all := lw_g (lw_at lw_m2 1 rfl) rfl
theorem q336 : (Jvm.Cond.classLink "ClaimRegistry$State" (13 : Nat) "ClaimRegistry$State") ∈ lw_all := lw_g (lw_at lw_m2 2 rfl) rfl
theorem q337 : (Jvm.Cond.methodLink "ClaimRegistry$State" (32 : Nat) ({ cls := "ClaimRegistry$State", name := "<init>", desc := "()V" } : Jvm.MethodName)) ∈ lw_all := lw_g (lw_at lw_m2 3 rfl) rfl
theorem q338 : (Jvm.Cond.methodLink "ClaimRegistry$State" (33 : Nat) ({ cls := "java/util/LinkedList", name := "iterator", desc := "()Ljava/util/Iterator;" } : Jvm.MethodName)) ∈ lw_all := lw_g (lw_at lw_m2 4 rfl) rfl
theorem q745 : (Jvm.Cond.interfaceEntry "ClaimRegistry$State" (37 : Nat)) ∈ lw_tbl := lw_at lw_m3 171 rfl
theorem q746 : (Jvm.Cond.methodLink "ClaimRegistry$State" (37 : Nat) ({ cls := "java/util/Iterator", name := "hasNext", desc := "()Z" } : Jvm.MethodName)) ∈ lw_all := lw_g (lw_at lw_m3 172 rfl) rfl
theorem q791 : (Jvm.Cond.interfaceEntry "ClaimRegistry$State" (43 : Nat)) ∈ lw_tbl := lw_at lw_m3 217 rfl
theorem q792 : (Jvm.Cond.methodLink "ClaimRegistry$State" (43 : Nat) ({ cls := "java/util/Iterator", name := "next", desc := "()Ljava/lang/Object;" } : Jvm.MethodName)) ∈ lw_all := lw_g (lw_at lw_m3 218 rfl) rfl
theorem q872 : (Jvm.Cond.selects "ClaimRegistry$State" ({ cls := "java/lang/Object", name := "getClass", desc := "()Ljava/lang/Class;" } : Jvm.MethodName) ({ cls := "java/lang/Object", name := "getClass", desc := "()Ljava/lang/Class;" } : Jvm.MethodName)) ∈ lw_all := lw_g (lw_at lw_m4 58 rfl) rfl
theorem q1032 : (Jvm.Cond.classLink "ClaimRegistry$State" (47 : Nat) "ClaimRegistry$Claim") ∈ lw_all := lw_g (lw_at lw_m4 218 rfl) rfl
theorem q1033 : (Jvm.Cond.methodLink "ClaimRegistry$State" (49 : Nat) ({ cls := "ClaimRegistry$Claim", name := "copy", desc := "()LClaimRegistry$Claim;" } : Jvm.MethodName)) ∈ lw_all := lw_g (lw_at lw_m4 219 rfl) rfl
theorem q1044 : (Jvm.Cond.fieldLinkNest "ClaimRegistry$State" (95 : Nat) "ClaimRegistry$Claim" "id" "I" "ClaimRegistry") ∈ lw_tbl := lw_at lw_m4 230 rfl
theorem q1051 : (Jvm.Cond.fieldLinkNest "ClaimRegistry$State" (113 : Nat) "ClaimRegistry$Claim" "weight" "I" "ClaimRegistry") ∈ lw_tbl := lw_at lw_m4 237 rfl
theorem q1054 : (Jvm.Cond.fieldLinkNest "ClaimRegistry$State" (141 : Nat) "ClaimRegistry$Claim" "expiry" "I" "ClaimRegistry") ∈ lw_tbl := lw_at lw_m5 0 rfl
theorem q1079 : (Jvm.Cond.methodLink "ClaimRegistry$State" (53 : Nat) ({ cls := "java/util/LinkedList", name := "addLast", desc := "(Ljava/lang/Object;)V" } : Jvm.MethodName)) ∈ lw_all := lw_g (lw_at lw_m5 25 rfl) rfl
theorem q1108 : (Jvm.Cond.methodLink "ClaimRegistry$State" (57 : Nat) ({ cls := "java/util/ArrayDeque", name := "iterator", desc := "()Ljava/util/Iterator;" } : Jvm.MethodName)) ∈ lw_all := lw_g (lw_at lw_m5 54 rfl) rfl
theorem q1138 : (Jvm.Cond.classLink "ClaimRegistry$State" (58 : Nat) "java/lang/Integer") ∈ lw_all := lw_g (lw_at lw_m5 84 rfl) rfl
theorem q1139 : (Jvm.Cond.methodLink "ClaimRegistry$State" (60 : Nat) ({ cls := "java/lang/Integer", name := "intValue", desc := "()I" } : Jvm.MethodName)) ∈ lw_all := lw_g (lw_at lw_m5 85 rfl) rfl
theorem q1143 : (Jvm.Cond.methodLink "ClaimRegistry$State" (64 : Nat) ({ cls := "java/lang/Integer", name := "valueOf", desc := "(I)Ljava/lang/Integer;" } : Jvm.MethodName)) ∈ lw_all := lw_g (lw_at lw_m5 89 rfl) rfl
theorem q1163 : (Jvm.Cond.methodLink "ClaimRegistry$State" (68 : Nat) ({ cls := "java/util/ArrayDeque", name := "addLast", desc := "(Ljava/lang/Object;)V" } : Jvm.MethodName)) ∈ lw_all := lw_g (lw_at lw_m5 109 rfl) rfl
theorem q1220 : (Jvm.Cond.instanceMethod ({ cls := "ClaimRegistry$State", name := "tick", desc := "()I" } : Jvm.MethodName)) ∈ lw_all := lw_g (lw_at lw_m5 166 rfl) rfl
theorem q1221 : (Jvm.Cond.selects "ClaimRegistry$State" ({ cls := "ClaimRegistry$State", name := "tick", desc := "()I" } : Jvm.MethodName) ({ cls := "ClaimRegistry$State", name := "tick", desc := "()I" } : Jvm.MethodName)) ∈ lw_all := lw_g (lw_at lw_m5 167 rfl) rfl
theorem q1222 : (Jvm.Cond.code ({ cls := "ClaimRegistry$State", name := "tick", desc := "()I" } : Jvm.MethodName) prog_7_method_14_code (2 : Nat) (Option.some Jvm.ClassFile.FieldType.int)) ∈ lw_all := lw_g (lw_at lw_m5 168 rfl) rfl
theorem q1223 : (Jvm.Cond.methodLink "ClaimRegistry$State" (147 : Nat) ({ cls := "ClaimRegistry$State", name := "addInterest", desc := "()V" } : Jvm.MethodName)) ∈ lw_all := lw_g (lw_at lw_m5 169 rfl) rfl
theorem q1224 : (Jvm.Cond.privateMethod ({ cls := "ClaimRegistry$State", name := "addInterest", desc := "()V" } : Jvm.MethodName)) ∈ lw_tbl := lw_at lw_m5 170 rfl
theorem q1225 : (Jvm.Cond.instanceMethod ({ cls := "ClaimRegistry$State", name := "addInterest", desc := "()V" } : Jvm.MethodName)) ∈ lw_all := lw_g (lw_at lw_m5 171 rfl) rfl
theorem q1226 : (Jvm.Cond.code ({ cls := "ClaimRegistry$State", name := "addInterest", desc := "()V" } : Jvm.MethodName) prog_7_method_12_code (4 : Nat) (Option.none : Option Jvm.ClassFile.FieldType)) ∈ lw_all := lw_g (lw_at lw_m5 172 rfl) rfl
theorem q1227 : (Jvm.Cond.methodLinkNest "ClaimRegistry$State" (134 : Nat) ({ cls := "ClaimRegistry", name := "phaseAt", desc := "(I)I" } : Jvm.MethodName) "ClaimRegistry") ∈ lw_tbl := lw_at lw_m5 173 rfl
theorem q1230 : (Jvm.Cond.methodLink "ClaimRegistry$State" (138 : Nat) ({ cls := "ClaimRegistry$Claim", name := "addInterest", desc := "(I)I" } : Jvm.MethodName)) ∈ lw_all := lw_g (lw_at lw_m5 176 rfl) rfl
theorem q1239 : (Jvm.Cond.methodLink "ClaimRegistry$State" (149 : Nat) ({ cls := "ClaimRegistry$State", name := "expire", desc := "()I" } : Jvm.MethodName)) ∈ lw_all := lw_g (lw_at lw_m5 185 rfl) rfl
theorem q1240 : (Jvm.Cond.privateMethod ({ cls := "ClaimRegistry$State", name := "expire", desc := "()I" } : Jvm.MethodName)) ∈ lw_tbl := lw_at lw_m5 186 rfl
theorem q1241 : (Jvm.Cond.instanceMethod ({ cls := "ClaimRegistry$State", name := "expire", desc := "()I" } : Jvm.MethodName)) ∈ lw_all := lw_g (lw_at lw_m5 187 rfl) rfl
theorem q1242 : (Jvm.Cond.code ({ cls := "ClaimRegistry$State", name := "expire", desc := "()I" } : Jvm.MethodName) prog_7_method_13_code (4 : Nat) (Option.some Jvm.ClassFile.FieldType.int)) ∈ lw_all := lw_g (lw_at lw_m5 188 rfl) rfl
theorem q1243 : (Jvm.Cond.interfaceEntry "ClaimRegistry$State" (116 : Nat)) ∈ lw_tbl := lw_at lw_m5 189 rfl
theorem q1244 : (Jvm.Cond.methodLink "ClaimRegistry$State" (116 : Nat) ({ cls := "java/util/Iterator", name := "remove", desc := "()V" } : Jvm.MethodName)) ∈ lw_all := lw_g (lw_at lw_m5 190 rfl) rfl
theorem q1335 : (Jvm.Cond.methodLink "ClaimRegistry$State" (119 : Nat) ({ cls := "ClaimRegistry$State", name := "close", desc := "(LClaimRegistry$Claim;)V" } : Jvm.MethodName)) ∈ lw_all := lw_g (lw_at lw_m6 41 rfl) rfl
theorem q1336 : (Jvm.Cond.privateMethod ({ cls := "ClaimRegistry$State", name := "close", desc := "(LClaimRegistry$Claim;)V" } : Jvm.MethodName)) ∈ lw_tbl := lw_at lw_m6 42 rfl
theorem q1337 : (Jvm.Cond.instanceMethod ({ cls := "ClaimRegistry$State", name := "close", desc := "(LClaimRegistry$Claim;)V" } : Jvm.MethodName)) ∈ lw_all := lw_g (lw_at lw_m6 43 rfl) rfl
theorem q1338 : (Jvm.Cond.code ({ cls := "ClaimRegistry$State", name := "close", desc := "(LClaimRegistry$Claim;)V" } : Jvm.MethodName) prog_7_method_8_code (3 : Nat) (Option.none : Option Jvm.ClassFile.FieldType)) ∈ lw_all := lw_g (lw_at lw_m6 44 rfl) rfl
theorem q1339 : (Jvm.Cond.methodLink "ClaimRegistry$State" (144 : Nat) ({ cls := "ClaimRegistry$State", name := "remember", desc := "(LClaimRegistry$Claim;)V" } : Jvm.MethodName)) ∈ lw_all := lw_g (lw_at lw_m6 45 rfl) rfl
theorem q1340 : (Jvm.Cond.privateMethod ({ cls := "ClaimRegistry$State", name := "remember", desc := "(LClaimRegistry$Claim;)V" } : Jvm.MethodName)) ∈ lw_tbl := lw_at lw_m6 46 rfl
theorem q1341 : (Jvm.Cond.instanceMethod ({ cls := "ClaimRegistry$State", name := "remember", desc := "(LClaimRegistry$Claim;)V" } : Jvm.MethodName)) ∈ lw_all := lw_g (lw_at lw_m6 47 rfl) rfl
theorem q1342 : (Jvm.Cond.code ({ cls := "ClaimRegistry$State", name := "remember", desc := "(LClaimRegistry$Claim;)V" } : Jvm.MethodName) prog_7_method_11_code (2 : Nat) (Option.none : Option Jvm.ClassFile.FieldType)) ∈ lw_all := lw_g (lw_at lw_m6 48 rfl) rfl
theorem q1343 : (Jvm.Cond.methodLink "ClaimRegistry$State" (125 : Nat) ({ cls := "java/util/ArrayDeque", name := "addFirst", desc := "(Ljava/lang/Object;)V" } : Jvm.MethodName)) ∈ lw_all := lw_g (lw_at lw_m6 49 rfl) rfl
theorem q1347 : (Jvm.Cond.methodLink "ClaimRegistry$State" (128 : Nat) ({ cls := "java/util/ArrayDeque", name := "size", desc := "()I" } : Jvm.MethodName)) ∈ lw_all := lw_g (lw_at lw_m6 53 rfl) rfl
theorem q1348 : (Jvm.Cond.methodLink "ClaimRegistry$State" (131 : Nat) ({ cls := "java/util/ArrayDeque", name := "removeLast", desc := "()Ljava/lang/Object;" } : Jvm.MethodName)) ∈ lw_all := lw_g (lw_at lw_m6 54 rfl) rfl
theorem q1375 : (Jvm.Cond.instanceMethod ({ cls := "ClaimRegistry$State", name := "find", desc := "(I)LClaimRegistry$Claim;" } : Jvm.MethodName)) ∈ lw_all := lw_g (lw_at lw_m6 81 rfl) rfl
theorem q1376 : (Jvm.Cond.selects "ClaimRegistry$State" ({ cls := "ClaimRegistry$State", name := "find", desc := "(I)LClaimRegistry$Claim;" } : Jvm.MethodName) ({ cls := "ClaimRegistry$State", name := "find", desc := "(I)LClaimRegistry$Claim;" } : Jvm.MethodName)) ∈ lw_all := lw_g (lw_at lw_m6 82 rfl) rfl
theorem q1377 : (Jvm.Cond.code ({ cls := "ClaimRegistry$State", name := "find", desc := "(I)LClaimRegistry$Claim;" } : Jvm.MethodName) prog_7_method_3_code (4 : Nat) (Option.some (Jvm.ClassFile.FieldType.object "ClaimRegistry$Claim"))) ∈ lw_all := lw_g (lw_at lw_m6 83 rfl) rfl
theorem q1420 : (Jvm.Cond.instanceMethod ({ cls := "ClaimRegistry$State", name := "activeWeight", desc := "()J" } : Jvm.MethodName)) ∈ lw_all := lw_g (lw_at lw_m6 126 rfl) rfl
theorem q1421 : (Jvm.Cond.selects "ClaimRegistry$State" ({ cls := "ClaimRegistry$State", name := "activeWeight", desc := "()J" } : Jvm.MethodName) ({ cls := "ClaimRegistry$State", name := "activeWeight", desc := "()J" } : Jvm.MethodName)) ∈ lw_all := lw_g (lw_at lw_m6 127 rfl) rfl
theorem q1422 : (Jvm.Cond.code ({ cls := "ClaimRegistry$State", name := "activeWeight", desc := "()J" } : Jvm.MethodName) prog_7_method_17_code (1 : Nat) (Option.some Jvm.ClassFile.FieldType.long)) ∈ lw_all := lw_g (lw_at lw_m6 128 rfl) rfl
theorem q1423 : (Jvm.Cond.static ({ cls := "ClaimRegistry$State", name := "lambda$activeWeight$0", desc := "(LClaimRegistry$Claim;)I" } : Jvm.MethodName)) ∈ lw_all := lw_g (lw_at lw_m6 129 rfl) rfl
theorem q1424 : (Jvm.Cond.code ({ cls := "ClaimRegistry$State", name := "lambda$activeWeight$0", desc := "(LClaimRegistry$Claim;)I" } : Jvm.MethodName) prog_7_method_18_code (1 : Nat) (Option.some Jvm.ClassFile.FieldType.int)) ∈ lw_all := lw_g (lw_at lw_m6 130 rfl) rfl
theorem q1425 : (Jvm.Cond.methodLink "ClaimRegistry$State" (178 : Nat) ({ cls := "ClaimRegistry$State", name := "sum", desc := "(LClaimRegistry$ClaimValue;)I" } : Jvm.MethodName)) ∈ lw_all := lw_g (lw_at lw_m6 131 rfl) rfl
theorem q1426 : (Jvm.Cond.instanceMethod ({ cls := "ClaimRegistry$State", name := "sum", desc := "(LClaimRegistry$ClaimValue;)I" } : Jvm.MethodName)) ∈ lw_all := lw_g (lw_at lw_m6 132 rfl) rfl
theorem q1427 : (Jvm.Cond.selects "ClaimRegistry$State" ({ cls := "ClaimRegistry$State", name := "sum", desc := "(LClaimRegistry$ClaimValue;)I" } : Jvm.MethodName) ({ cls := "ClaimRegistry$State", name := "sum", desc := "(LClaimRegistry$ClaimValue;)I" } : Jvm.MethodName)) ∈ lw_all := lw_g (lw_at lw_m6 133 rfl) rfl
theorem q1428 : (Jvm.Cond.code ({ cls := "ClaimRegistry$State", name := "sum", desc := "(LClaimRegistry$ClaimValue;)I" } : Jvm.MethodName) prog_7_method_5_code (5 : Nat) (Option.some Jvm.ClassFile.FieldType.int)) ∈ lw_all := lw_g (lw_at lw_m6 134 rfl) rfl
theorem q1429 : (Jvm.Cond.interfaceEntry "ClaimRegistry$State" (104 : Nat)) ∈ lw_tbl := lw_at lw_m6 135 rfl
theorem q1430 : (Jvm.Cond.methodLink "ClaimRegistry$State" (104 : Nat) ({ cls := "ClaimRegistry$ClaimValue", name := "of", desc := "(LClaimRegistry$Claim;)I" } : Jvm.MethodName)) ∈ lw_all := lw_g (lw_at lw_m6 136 rfl) rfl
theorem q1452 : (Jvm.Cond.instanceMethod ({ cls := "ClaimRegistry$State", name := "count", desc := "(LClaimRegistry$ClaimTest;)I" } : Jvm.MethodName)) ∈ lw_all := lw_g (lw_at lw_m6 158 rfl) rfl
theorem q1453 : (Jvm.Cond.selects "ClaimRegistry$State" ({ cls := "ClaimRegistry$State", name := "count", desc := "(LClaimRegistry$ClaimTest;)I" } : Jvm.MethodName) ({ cls := "ClaimRegistry$State", name := "count", desc := "(LClaimRegistry$ClaimTest;)I" } : Jvm.MethodName)) ∈ lw_all := lw_g (lw_at lw_m6 159 rfl) rfl
theorem q1454 : (Jvm.Cond.code ({ cls := "ClaimRegistry$State", name := "count", desc := "(LClaimRegistry$ClaimTest;)I" } : Jvm.MethodName) prog_7_method_4_code (5 : Nat) (Option.some Jvm.ClassFile.FieldType.int)) ∈ lw_all := lw_g (lw_at lw_m6 160 rfl) rfl
theorem q1455 : (Jvm.Cond.interfaceEntry "ClaimRegistry$State" (98 : Nat)) ∈ lw_tbl := lw_at lw_m6 161 rfl
theorem q1456 : (Jvm.Cond.methodLink "ClaimRegistry$State" (98 : Nat) ({ cls := "ClaimRegistry$ClaimTest", name := "matches", desc := "(LClaimRegistry$Claim;)Z" } : Jvm.MethodName)) ∈ lw_all := lw_g (lw_at lw_m6 162 rfl) rfl
theorem q1464 : (Jvm.Cond.instanceMethod ({ cls := "ClaimRegistry$State", name := "advance", desc := "(I)I" } : Jvm.MethodName)) ∈ lw_all := lw_g (lw_at lw_m6 170 rfl) rfl
theorem q1465 : (Jvm.Cond.selects "ClaimRegistry$State" ({ cls := "ClaimRegistry$State", name := "advance", desc := "(I)I" } : Jvm.MethodName) ({ cls := "ClaimRegistry$State", name := "advance", desc := "(I)I" } : Jvm.MethodName)) ∈ lw_all := lw_g (lw_at lw_m6 171 rfl) rfl
theorem q1466 : (Jvm.Cond.code ({ cls := "ClaimRegistry$State", name := "advance", desc := "(I)I" } : Jvm.MethodName) prog_7_method_15_code (4 : Nat) (Option.some Jvm.ClassFile.FieldType.int)) ∈ lw_all := lw_g (lw_at lw_m6 172 rfl) rfl
theorem q1467 : (Jvm.Cond.methodLink "ClaimRegistry$State" (152 : Nat) ({ cls := "ClaimRegistry$State", name := "tick", desc := "()I" } : Jvm.MethodName)) ∈ lw_all := lw_g (lw_at lw_m6 173 rfl) rfl
theorem q1531 : (Jvm.Cond.instanceMethod ({ cls := "ClaimRegistry$State", name := "add", desc := "(IIII)I" } : Jvm.MethodName)) ∈ lw_all := lw_g (lw_at lw_m6 237 rfl) rfl
theorem q1532 : (Jvm.Cond.selects "ClaimRegistry$State" ({ cls := "ClaimRegistry$State", name := "add", desc := "(IIII)I" } : Jvm.MethodName) ({ cls := "ClaimRegistry$State", name := "add", desc := "(IIII)I" } : Jvm.MethodName)) ∈ lw_all := lw_g (lw_at lw_m6 238 rfl) rfl
theorem q1533 : (Jvm.Cond.code ({ cls := "ClaimRegistry$State", name := "add", desc := "(IIII)I" } : Jvm.MethodName) prog_7_method_7_code (6 : Nat) (Option.some Jvm.ClassFile.FieldType.int)) ∈ lw_all := lw_g (lw_at lw_m6 239 rfl) rfl
theorem q1534 : (Jvm.Cond.methodLink "ClaimRegistry$State" (110 : Nat) ({ cls := "ClaimRegistry$Claim", name := "<init>", desc := "(IIIII)V" } : Jvm.MethodName)) ∈ lw_all := lw_g (lw_at lw_m7 0 rfl) rfl
theorem q1598 : (Jvm.Cond.instanceMethod ({ cls := "ClaimRegistry$State", name := "settle", desc := "(LClaimRegistry$Claim;)V" } : Jvm.MethodName)) ∈ lw_all := lw_g (lw_at lw_m7 64 rfl) rfl
theorem q1599 : (Jvm.Cond.selects "ClaimRegistry$State" ({ cls := "ClaimRegistry$State", name := "settle", desc := "(LClaimRegistry$Claim;)V" } : Jvm.MethodName) ({ cls := "ClaimRegistry$State", name := "settle", desc := "(LClaimRegistry$Claim;)V" } : Jvm.MethodName)) ∈ lw_all := lw_g (lw_at lw_m7 65 rfl) rfl
theorem q1600 : (Jvm.Cond.code ({ cls := "ClaimRegistry$State", name := "settle", desc := "(LClaimRegistry$Claim;)V" } : Jvm.MethodName) prog_7_method_10_code (2 : Nat) (Option.none : Option Jvm.ClassFile.FieldType)) ∈ lw_all := lw_g (lw_at lw_m7 66 rfl) rfl
theorem q1601 : (Jvm.Cond.methodLink "ClaimRegistry$State" (123 : Nat) ({ cls := "ClaimRegistry$State", name := "remove", desc := "(LClaimRegistry$Claim;)V" } : Jvm.MethodName)) ∈ lw_all := lw_g (lw_at lw_m7 67 rfl) rfl
theorem q1602 : (Jvm.Cond.privateMethod ({ cls := "ClaimRegistry$State", name := "remove", desc := "(LClaimRegistry$Claim;)V" } : Jvm.MethodName)) ∈ lw_tbl := lw_at lw_m7 68 rfl
theorem q1603 : (Jvm.Cond.instanceMethod ({ cls := "ClaimRegistry$State", name := "remove", desc := "(LClaimRegistry$Claim;)V" } : Jvm.MethodName)) ∈ lw_all := lw_g (lw_at lw_m7 69 rfl) rfl
theorem q1604 : (Jvm.Cond.code ({ cls := "ClaimRegistry$State", name := "remove", desc := "(LClaimRegistry$Claim;)V" } : Jvm.MethodName) prog_7_method_9_code (3 : Nat) (Option.none : Option Jvm.ClassFile.FieldType)) ∈ lw_all := lw_g (lw_at lw_m7 70 rfl) rfl
theorem q1620 : (Jvm.Cond.instanceMethod ({ cls := "ClaimRegistry$State", name := "audit", desc := "(I)I" } : Jvm.MethodName)) ∈ lw_all := lw_g (lw_at lw_m7 86 rfl) rfl
theorem q1621 : (Jvm.Cond.selects "ClaimRegistry$State" ({ cls := "ClaimRegistry$State", name := "audit", desc := "(I)I" } : Jvm.MethodName) ({ cls := "ClaimRegistry$State", name := "audit", desc := "(I)I" } : Jvm.MethodName)) ∈ lw_all := lw_g (lw_at lw_m7 87 rfl) rfl
theorem q1622 : (Jvm.Cond.code ({ cls := "ClaimRegistry$State", name := "audit", desc := "(I)I" } : Jvm.MethodName) prog_7_method_16_code (6 : Nat) (Option.some Jvm.ClassFile.FieldType.int)) ∈ lw_all := lw_g (lw_at lw_m7 88 rfl) rfl
theorem q1623 : (Jvm.Cond.methodLink "ClaimRegistry$State" (155 : Nat) ({ cls := "java/util/LinkedList", name := "size", desc := "()I" } : Jvm.MethodName)) ∈ lw_all := lw_g (lw_at lw_m7 89 rfl) rfl
theorem q1624 : (Jvm.Cond.methodLink "ClaimRegistry$State" (156 : Nat) ({ cls := "java/lang/Math", name := "min", desc := "(II)I" } : Jvm.MethodName)) ∈ lw_all := lw_g (lw_at lw_m7 90 rfl) rfl
theorem q1625 : (Jvm.Cond.methodLink "ClaimRegistry$State" (162 : Nat) ({ cls := "java/util/ArrayDeque", name := "getFirst", desc := "()Ljava/lang/Object;" } : Jvm.MethodName)) ∈ lw_all := lw_g (lw_at lw_m7 91 rfl) rfl
theorem q1629 : (Jvm.Cond.methodLink "ClaimRegistry$State" (165 : Nat) ({ cls := "ClaimRegistry$State", name := "find", desc := "(I)LClaimRegistry$Claim;" } : Jvm.MethodName)) ∈ lw_all := lw_g (lw_at lw_m7 95 rfl) rfl
theorem q1630 : (Jvm.Cond.methodLink "ClaimRegistry$State" (169 : Nat) ({ cls := "ClaimRegistry$Claim", name := "isVoidedByAudit", desc := "()Z" } : Jvm.MethodName)) ∈ lw_all := lw_g (lw_at lw_m7 96 rfl) rfl
theorem q1635 : (Jvm.Cond.methodLink "ClaimRegistry$State" (172 : Nat) ({ cls := "java/util/ArrayDeque", name := "removeFirst", desc := "()Ljava/lang/Object;" } : Jvm.MethodName)) ∈ lw_all := lw_g (lw_at lw_m7 101 rfl) rfl
theorem q1815 : (Jvm.Cond.instanceMethod ({ cls := "ClaimRegistry$State", name := "lowest", desc := "(LClaimRegistry$ClaimValue;)LClaimRegistry$Claim;" } : Jvm.MethodName)) ∈ lw_all := lw_g (lw_at lw_m8 41 rfl) rfl
theorem q1816 : (Jvm.Cond.selects "ClaimRegistry$State" ({ cls := "ClaimRegistry$State", name := "lowest", desc := "(LClaimRegistry$ClaimValue;)LClaimRegistry$Claim;" } : Jvm.MethodName) ({ cls := "ClaimRegistry$State", name := "lowest", desc := "(LClaimRegistry$ClaimValue;)LClaimRegistry$Claim;" } : Jvm.MethodName)) ∈ lw_all := lw_g (lw_at lw_m8 42 rfl) rfl
theorem q1817 : (Jvm.Cond.code ({ cls := "ClaimRegistry$State", name := "lowest", desc := "(LClaimRegistry$ClaimValue;)LClaimRegistry$Claim;" } : Jvm.MethodName) prog_7_method_6_code (5 : Nat) (Option.some (Jvm.ClassFile.FieldType.object "ClaimRegistry$Claim"))) ∈ lw_all := lw_g (lw_at lw_m8 43 rfl) rfl
theorem q2339 : (Jvm.Cond.selects "ClaimRegistry$State" ({ cls := "java/lang/Object", name := "equals", desc := "(Ljava/lang/Object;)Z" } : Jvm.MethodName) ({ cls := "java/lang/Object", name := "equals", desc := "(Ljava/lang/Object;)Z" } : Jvm.MethodName)) ∈ lw_all := lw_g (lw_at lw_m10 85 rfl) rfl
theorem q3104 : (Jvm.Cond.castable "ClaimRegistry$State" "java/lang/Object") ∈ lw_tbl := lw_at lw_m13 130 rfl
theorem in_X2 : ∀ w ∈ wsX20, w ∈ lw_all := lw_in wsX20 [238, 240, 242, 244, 246, 248, 250, 252, 254, 256, 258, 260] (by decide +kernel) (by decide +kernel)

/-! ClaimRegistry$Claim -/
set_option maxRecDepth 100000
def RX4 : String := "ClaimRegistry$Claim"
def TX4 : u_T := fun k => match k with
  | 0 => ("ClaimRegistry$Claim", "id", "I", true)
  | 1 => ("ClaimRegistry$Claim", "debtor", "I", true)
  | 2 => ("ClaimRegistry$Claim", "creditor", "I", true)
  | 3 => ("ClaimRegistry$Claim", "weight", "I", false)
  | 4 => ("ClaimRegistry$Claim", "expiry", "I", false)
  | 5 => ("ClaimRegistry$Claim", "wave", "I", false)
  | 6 => ("ClaimRegistry$Claim", "rock", "I", false)
  | _ => ("ClaimRegistry$Claim", "strikes", "I", false)
def tyX4 : Nat → FieldType := fun k => match k with
  | 0 => .int
  | 1 => .int
  | 2 => .int
  | 3 => .int
  | 4 => .int
  | 5 => .int
  | 6 => .int
  | _ => .int
abbrev wsX40 : List Cond := u_ws RX4 TX4 8
theorem nmX4 : ∀ a, a < 8 → ∀ b, b < 8 → a ≠ b → (TX4 a).2.1 ≠ (TX4 b).2.1 := by decide +kernel
theorem tyX4_ok : ∀ k, k < 8 → parseFieldDescriptor (TX4 k).2.2.1 = some (tyX4 k) := by decide +kernel
abbrev cX4_copy : ByteArray := prog_2_method_2_code
def yX4_copy : MethodName := ⟨RX4, "copy", "()LClaimRegistry$Claim;"⟩
def dkwX4_copy_2 : List UInt8 := [180, 0, 36, 181, 0, 36, 43, 176]
abbrev dktX4_copy_2 : List UInt8 := dkwX4_copy_2 ++ []
def dkwX4_copy_1 : List UInt8 := [183, 0, 33, 76, 43, 42, 180, 0, 9, 181, 0, 9, 43, 42, 180, 0, 15, 181, 0, 15, 43, 42]
abbrev dktX4_copy_1 : List UInt8 := dkwX4_copy_1 ++ dktX4_copy_2
def dkwX4_copy_0 : List UInt8 := [187, 0, 10, 89, 42, 180, 0, 18, 42, 180, 0, 21, 42, 180, 0, 24, 42, 180, 0, 27, 42, 180, 0, 30]
abbrev dktX4_copy_0 : List UInt8 := dkwX4_copy_0 ++ dktX4_copy_1
theorem dksX4_copy_0 : cX4_copy.data.toList.drop 0 = dktX4_copy_0 := by decide +kernel
theorem dksX4_copy_1 : cX4_copy.data.toList.drop 24 = dktX4_copy_1 := dk_seg dksX4_copy_0 24 rfl rfl
theorem dksX4_copy_2 : cX4_copy.data.toList.drop 46 = dktX4_copy_2 := dk_seg dksX4_copy_1 22 rfl rfl
theorem dX4_copy_0 : decode cX4_copy 0 = .ok (.new 10, 3) := dk_187 0 10 (dk_at dksX4_copy_0 0 rfl rfl)
theorem dX4_copy_3 : decode cX4_copy 3 = .ok (.dup, 1) := dk_89 (dk_at dksX4_copy_0 3 rfl rfl)
theorem dX4_copy_4 : decode cX4_copy 4 = .ok (.aload_n 0, 1) := dk_42 (dk_at dksX4_copy_0 4 rfl rfl)
theorem dX4_copy_5 : decode cX4_copy 5 = .ok (.getfield 18, 3) := dk_180 0 18 (dk_at dksX4_copy_0 5 rfl rfl)
theorem dX4_copy_8 : decode cX4_copy 8 = .ok (.aload_n 0, 1) := dk_42 (dk_at dksX4_copy_0 8 rfl rfl)
theorem dX4_copy_9 : decode cX4_copy 9 = .ok (.getfield 21, 3) := dk_180 0 21 (dk_at dksX4_copy_0 9 rfl rfl)
theorem dX4_copy_12 : decode cX4_copy 12 = .ok (.aload_n 0, 1) := dk_42 (dk_at dksX4_copy_0 12 rfl rfl)
theorem dX4_copy_13 : decode cX4_copy 13 = .ok (.getfield 24, 3) := dk_180 0 24 (dk_at dksX4_copy_0 13 rfl rfl)
theorem dX4_copy_16 : decode cX4_copy 16 = .ok (.aload_n 0, 1) := dk_42 (dk_at dksX4_copy_0 16 rfl rfl)
theorem dX4_copy_17 : decode cX4_copy 17 = .ok (.getfield 27, 3) := dk_180 0 27 (dk_at dksX4_copy_0 17 rfl rfl)
theorem dX4_copy_20 : decode cX4_copy 20 = .ok (.aload_n 0, 1) := dk_42 (dk_at dksX4_copy_0 20 rfl rfl)
theorem dX4_copy_21 : decode cX4_copy 21 = .ok (.getfield 30, 3) := dk_180 0 30 (dk_at dksX4_copy_0 21 rfl rfl)
theorem dX4_copy_24 : decode cX4_copy 24 = .ok (.invokespecial 33, 3) := dk_183 0 33 (dk_at dksX4_copy_1 0 rfl rfl)
theorem dX4_copy_27 : decode cX4_copy 27 = .ok (.astore_n 1, 1) := dk_76 (dk_at dksX4_copy_1 3 rfl rfl)
theorem dX4_copy_28 : decode cX4_copy 28 = .ok (.aload_n 1, 1) := dk_43 (dk_at dksX4_copy_1 4 rfl rfl)
theorem dX4_copy_29 : decode cX4_copy 29 = .ok (.aload_n 0, 1) := dk_42 (dk_at dksX4_copy_1 5 rfl rfl)
theorem dX4_copy_30 : decode cX4_copy 30 = .ok (.getfield 9, 3) := dk_180 0 9 (dk_at dksX4_copy_1 6 rfl rfl)
theorem dX4_copy_33 : decode cX4_copy 33 = .ok (.putfield 9, 3) := dk_181 0 9 (dk_at dksX4_copy_1 9 rfl rfl)
theorem dX4_copy_36 : decode cX4_copy 36 = .ok (.aload_n 1, 1) := dk_43 (dk_at dksX4_copy_1 12 rfl rfl)
theorem dX4_copy_37 : decode cX4_copy 37 = .ok (.aload_n 0, 1) := dk_42 (dk_at dksX4_copy_1 13 rfl rfl)
theorem dX4_copy_38 : decode cX4_copy 38 = .ok (.getfield 15, 3) := dk_180 0 15 (dk_at dksX4_copy_1 14 rfl rfl)
theorem dX4_copy_41 : decode cX4_copy 41 = .ok (.putfield 15, 3) := dk_181 0 15 (dk_at dksX4_copy_1 17 rfl rfl)
theorem dX4_copy_44 : decode cX4_copy 44 = .ok (.aload_n 1, 1) := dk_43 (dk_at dksX4_copy_1 20 rfl rfl)
theorem dX4_copy_45 : decode cX4_copy 45 = .ok (.aload_n 0, 1) := dk_42 (dk_at dksX4_copy_1 21 rfl rfl)
theorem dX4_copy_46 : decode cX4_copy 46 = .ok (.getfield 36, 3) := dk_180 0 36 (dk_at dksX4_copy_2 0 rfl rfl)
theorem dX4_copy_49 : decode cX4_copy 49 = .ok (.putfield 36, 3) := dk_181 0 36 (dk_at dksX4_copy_2 3 rfl rfl)
theorem dX4_copy_52 : decode cX4_copy 52 = .ok (.aload_n 1, 1) := dk_43 (dk_at dksX4_copy_2 6 rfl rfl)
theorem dX4_copy_53 : decode cX4_copy 53 = .ok (.areturn, 1) := dk_176 (dk_at dksX4_copy_2 7 rfl rfl)
abbrev cX4_init : ByteArray := prog_2_method_1_code
def yX4_init : MethodName := ⟨RX4, "<init>", "(IIIII)V"⟩
def dkwX4_init_1 : List UInt8 := [42, 29, 181, 0, 24, 42, 21, 4, 181, 0, 27, 42, 21, 5, 181, 0, 30, 177]
abbrev dktX4_init_1 : List UInt8 := dkwX4_init_1 ++ []
def dkwX4_init_0 : List UInt8 := [42, 183, 0, 3, 42, 2, 181, 0, 9, 42, 2, 181, 0, 15, 42, 27, 181, 0, 18, 42, 28, 181, 0, 21]
abbrev dktX4_init_0 : List UInt8 := dkwX4_init_0 ++ dktX4_init_1
theorem dksX4_init_0 : cX4_init.data.toList.drop 0 = dktX4_init_0 := by decide +kernel
theorem dksX4_init_1 : cX4_init.data.toList.drop 24 = dktX4_init_1 := dk_seg dksX4_init_0 24 rfl rfl
theorem dX4_init_0 : decode cX4_init 0 = .ok (.aload_n 0, 1) := dk_42 (dk_at dksX4_init_0 0 rfl rfl)
theorem dX4_init_1 : decode cX4_init 1 = .ok (.invokespecial 3, 3) := dk_183 0 3 (dk_at dksX4_init_0 1 rfl rfl)
theorem dX4_init_4 : decode cX4_init 4 = .ok (.aload_n 0, 1) := dk_42 (dk_at dksX4_init_0 4 rfl rfl)
theorem dX4_init_5 : decode cX4_init 5 = .ok (.iconst (-1), 1) := dk_2 (dk_at dksX4_init_0 5 rfl rfl)
theorem dX4_init_6 : decode cX4_init 6 = .ok (.putfield 9, 3) := dk_181 0 9 (dk_at dksX4_init_0 6 rfl rfl)
theorem dX4_init_9 : decode cX4_init 9 = .ok (.aload_n 0, 1) := dk_42 (dk_at dksX4_init_0 9 rfl rfl)
theorem dX4_init_10 : decode cX4_init 10 = .ok (.iconst (-1), 1) := dk_2 (dk_at dksX4_init_0 10 rfl rfl)
theorem dX4_init_11 : decode cX4_init 11 = .ok (.putfield 15, 3) := dk_181 0 15 (dk_at dksX4_init_0 11 rfl rfl)
theorem dX4_init_14 : decode cX4_init 14 = .ok (.aload_n 0, 1) := dk_42 (dk_at dksX4_init_0 14 rfl rfl)
theorem dX4_init_15 : decode cX4_init 15 = .ok (.iload_n 1, 1) := dk_27 (dk_at dksX4_init_0 15 rfl rfl)
theorem dX4_init_16 : decode cX4_init 16 = .ok (.putfield 18, 3) := dk_181 0 18 (dk_at dksX4_init_0 16 rfl rfl)
theorem dX4_init_19 : decode cX4_init 19 = .ok (.aload_n 0, 1) := dk_42 (dk_at dksX4_init_0 19 rfl rfl)
theorem dX4_init_20 : decode cX4_init 20 = .ok (.iload_n 2, 1) := dk_28 (dk_at dksX4_init_0 20 rfl rfl)
theorem dX4_init_21 : decode cX4_init 21 = .ok (.putfield 21, 3) := dk_181 0 21 (dk_at dksX4_init_0 21 rfl rfl)
theorem dX4_init_24 : decode cX4_init 24 = .ok (.aload_n 0, 1) := dk_42 (dk_at dksX4_init_1 0 rfl rfl)
theorem dX4_init_25 : decode cX4_init 25 = .ok (.iload_n 3, 1) := dk_29 (dk_at dksX4_init_1 1 rfl rfl)
theorem dX4_init_26 : decode cX4_init 26 = .ok (.putfield 24, 3) := dk_181 0 24 (dk_at dksX4_init_1 2 rfl rfl)
theorem dX4_init_29 : decode cX4_init 29 = .ok (.aload_n 0, 1) := dk_42 (dk_at dksX4_init_1 5 rfl rfl)
theorem dX4_init_30 : decode cX4_init 30 = .ok (.iload 4, 2) := dk_21 4 (dk_at dksX4_init_1 6 rfl rfl)
theorem dX4_init_32 : decode cX4_init 32 = .ok (.putfield 27, 3) := dk_181 0 27 (dk_at dksX4_init_1 8 rfl rfl)
theorem dX4_init_35 : decode cX4_init 35 = .ok (.aload_n 0, 1) := dk_42 (dk_at dksX4_init_1 11 rfl rfl)
theorem dX4_init_36 : decode cX4_init 36 = .ok (.iload 5, 2) := dk_21 5 (dk_at dksX4_init_1 12 rfl rfl)
theorem dX4_init_38 : decode cX4_init 38 = .ok (.putfield 30, 3) := dk_181 0 30 (dk_at dksX4_init_1 14 rfl rfl)
theorem dX4_init_41 : decode cX4_init 41 = .ok (.return_, 1) := dk_177 (dk_at dksX4_init_1 17 rfl rfl)
abbrev cX4_addInterest : ByteArray := prog_2_method_5_code
def yX4_addInterest : MethodName := ⟨RX4, "addInterest", "(I)I"⟩
def dkwX4_addInterest_1 : List UInt8 := [180, 0, 27, 27, 104, 16, 100, 108, 96, 184, 0, 43, 181, 0, 27, 42, 180, 0, 27, 28, 100, 172]
abbrev dktX4_addInterest_1 : List UInt8 := dkwX4_addInterest_1 ++ []
def dkwX4_addInterest_0 : List UInt8 := [42, 182, 0, 39, 153, 0, 5, 3, 172, 42, 180, 0, 27, 61, 42, 17, 39, 15, 42, 180, 0, 27, 42]
abbrev dktX4_addInterest_0 : List UInt8 := dkwX4_addInterest_0 ++ dktX4_addInterest_1
theorem dksX4_addInterest_0 : cX4_addInterest.data.toList.drop 0 = dktX4_addInterest_0 := by decide +kernel
theorem dksX4_addInterest_1 : cX4_addInterest.data.toList.drop 23 = dktX4_addInterest_1 := dk_seg dksX4_addInterest_0 23 rfl rfl
theorem dX4_addInterest_0 : decode cX4_addInterest 0 = .ok (.aload_n 0, 1) := dk_42 (dk_at dksX4_addInterest_0 0 rfl rfl)
theorem dX4_addInterest_1 : decode cX4_addInterest 1 = .ok (.invokevirtual 39, 3) := dk_182 0 39 (dk_at dksX4_addInterest_0 1 rfl rfl)
theorem dX4_addInterest_4 : decode cX4_addInterest 4 = .ok (.ifCond .eq 5, 3) := dk_153 0 5 (dk_at dksX4_addInterest_0 4 rfl rfl)
theorem dX4_addInterest_7 : decode cX4_addInterest 7 = .ok (.iconst 0, 1) := dk_3 (dk_at dksX4_addInterest_0 7 rfl rfl)
theorem dX4_addInterest_8 : decode cX4_addInterest 8 = .ok (.ireturn, 1) := dk_172 (dk_at dksX4_addInterest_0 8 rfl rfl)
theorem dX4_addInterest_9 : decode cX4_addInterest 9 = .ok (.aload_n 0, 1) := dk_42 (dk_at dksX4_addInterest_0 9 rfl rfl)
theorem dX4_addInterest_10 : decode cX4_addInterest 10 = .ok (.getfield 27, 3) := dk_180 0 27 (dk_at dksX4_addInterest_0 10 rfl rfl)
theorem dX4_addInterest_13 : decode cX4_addInterest 13 = .ok (.istore_n 2, 1) := dk_61 (dk_at dksX4_addInterest_0 13 rfl rfl)
theorem dX4_addInterest_14 : decode cX4_addInterest 14 = .ok (.aload_n 0, 1) := dk_42 (dk_at dksX4_addInterest_0 14 rfl rfl)
theorem dX4_addInterest_15 : decode cX4_addInterest 15 = .ok (.sipush 9999, 3) := dk_17 39 15 (dk_at dksX4_addInterest_0 15 rfl rfl)
theorem dX4_addInterest_18 : decode cX4_addInterest 18 = .ok (.aload_n 0, 1) := dk_42 (dk_at dksX4_addInterest_0 18 rfl rfl)
theorem dX4_addInterest_19 : decode cX4_addInterest 19 = .ok (.getfield 27, 3) := dk_180 0 27 (dk_at dksX4_addInterest_0 19 rfl rfl)
theorem dX4_addInterest_22 : decode cX4_addInterest 22 = .ok (.aload_n 0, 1) := dk_42 (dk_at dksX4_addInterest_0 22 rfl rfl)
theorem dX4_addInterest_23 : decode cX4_addInterest 23 = .ok (.getfield 27, 3) := dk_180 0 27 (dk_at dksX4_addInterest_1 0 rfl rfl)
theorem dX4_addInterest_26 : decode cX4_addInterest 26 = .ok (.iload_n 1, 1) := dk_27 (dk_at dksX4_addInterest_1 3 rfl rfl)
theorem dX4_addInterest_27 : decode cX4_addInterest 27 = .ok (.imul, 1) := dk_104 (dk_at dksX4_addInterest_1 4 rfl rfl)
theorem dX4_addInterest_28 : decode cX4_addInterest 28 = .ok (.bipush 100, 2) := dk_16 100 (dk_at dksX4_addInterest_1 5 rfl rfl)
theorem dX4_addInterest_30 : decode cX4_addInterest 30 = .ok (.idiv, 1) := dk_108 (dk_at dksX4_addInterest_1 7 rfl rfl)
theorem dX4_addInterest_31 : decode cX4_addInterest 31 = .ok (.iadd, 1) := dk_96 (dk_at dksX4_addInterest_1 8 rfl rfl)
theorem dX4_addInterest_32 : decode cX4_addInterest 32 = .ok (.invokestatic 43, 3) := dk_184 0 43 (dk_at dksX4_addInterest_1 9 rfl rfl)
theorem dX4_addInterest_35 : decode cX4_addInterest 35 = .ok (.putfield 27, 3) := dk_181 0 27 (dk_at dksX4_addInterest_1 12 rfl rfl)
theorem dX4_addInterest_38 : decode cX4_addInterest 38 = .ok (.aload_n 0, 1) := dk_42 (dk_at dksX4_addInterest_1 15 rfl rfl)
theorem dX4_addInterest_39 : decode cX4_addInterest 39 = .ok (.getfield 27, 3) := dk_180 0 27 (dk_at dksX4_addInterest_1 16 rfl rfl)
theorem dX4_addInterest_42 : decode cX4_addInterest 42 = .ok (.iload_n 2, 1) := dk_28 (dk_at dksX4_addInterest_1 19 rfl rfl)
theorem dX4_addInterest_43 : decode cX4_addInterest 43 = .ok (.isub, 1) := dk_100 (dk_at dksX4_addInterest_1 20 rfl rfl)
theorem dX4_addInterest_44 : decode cX4_addInterest 44 = .ok (.ireturn, 1) := dk_172 (dk_at dksX4_addInterest_1 21 rfl rfl)
abbrev cX4_isSigned : ByteArray := prog_2_method_3_code
def yX4_isSigned : MethodName := ⟨RX4, "isSigned", "()Z"⟩
def dkwX4_isSigned_0 : List UInt8 := [42, 180, 0, 9, 2, 159, 0, 7, 4, 167, 0, 4, 3, 172]
abbrev dktX4_isSigned_0 : List UInt8 := dkwX4_isSigned_0 ++ []
theorem dksX4_isSigned_0 : cX4_isSigned.data.toList.drop 0 = dktX4_isSigned_0 := by decide +kernel
theorem dX4_isSigned_0 : decode cX4_isSigned 0 = .ok (.aload_n 0, 1) := dk_42 (dk_at dksX4_isSigned_0 0 rfl rfl)
theorem dX4_isSigned_1 : decode cX4_isSigned 1 = .ok (.getfield 9, 3) := dk_180 0 9 (dk_at dksX4_isSigned_0 1 rfl rfl)
theorem dX4_isSigned_4 : decode cX4_isSigned 4 = .ok (.iconst (-1), 1) := dk_2 (dk_at dksX4_isSigned_0 4 rfl rfl)
theorem dX4_isSigned_5 : decode cX4_isSigned 5 = .ok (.if_icmp .eq 7, 3) := dk_159 0 7 (dk_at dksX4_isSigned_0 5 rfl rfl)
theorem dX4_isSigned_8 : decode cX4_isSigned 8 = .ok (.iconst 1, 1) := dk_4 (dk_at dksX4_isSigned_0 8 rfl rfl)
theorem dX4_isSigned_9 : decode cX4_isSigned 9 = .ok (.goto 4, 3) := dk_167 0 4 (dk_at dksX4_isSigned_0 9 rfl rfl)
theorem dX4_isSigned_12 : decode cX4_isSigned 12 = .ok (.iconst 0, 1) := dk_3 (dk_at dksX4_isSigned_0 12 rfl rfl)
theorem dX4_isSigned_13 : decode cX4_isSigned 13 = .ok (.ireturn, 1) := dk_172 (dk_at dksX4_isSigned_0 13 rfl rfl)
abbrev cX4_isCountersigned : ByteArray := prog_2_method_4_code
def yX4_isCountersigned : MethodName := ⟨RX4, "isCountersigned", "()Z"⟩
def dkwX4_isCountersigned_0 : List UInt8 := [42, 180, 0, 15, 2, 159, 0, 7, 4, 167, 0, 4, 3, 172]
abbrev dktX4_isCountersigned_0 : List UInt8 := dkwX4_isCountersigned_0 ++ []
theorem dksX4_isCountersigned_0 : cX4_isCountersigned.data.toList.drop 0 = dktX4_isCountersigned_0 := by decide +kernel
theorem dX4_isCountersigned_0 : decode cX4_isCountersigned 0 = .ok (.aload_n 0, 1) := dk_42 (dk_at dksX4_isCountersigned_0 0 rfl rfl)
theorem dX4_isCountersigned_1 : decode cX4_isCountersigned 1 = .ok (.getfield 15, 3) := dk_180 0 15 (dk_at dksX4_isCountersigned_0 1 rfl rfl)
theorem dX4_isCountersigned_4 : decode cX4_isCountersigned 4 = .ok (.iconst (-1), 1) := dk_2 (dk_at dksX4_isCountersigned_0 4 rfl rfl)
theorem dX4_isCountersigned_5 : decode cX4_isCountersigned 5 = .ok (.if_icmp .eq 7, 3) := dk_159 0 7 (dk_at dksX4_isCountersigned_0 5 rfl rfl)
theorem dX4_isCountersigned_8 : decode cX4_isCountersigned 8 = .ok (.iconst 1, 1) := dk_4 (dk_at dksX4_isCountersigned_0 8 rfl rfl)
theorem dX4_isCountersigned_9 : decode cX4_isCountersigned 9 = .ok (.goto 4, 3) := dk_167 0 4 (dk_at dksX4_isCountersigned_0 9 rfl rfl)
theorem dX4_isCountersigned_12 : decode cX4_isCountersigned 12 = .ok (.iconst 0, 1) := dk_3 (dk_at dksX4_isCountersigned_0 12 rfl rfl)
theorem dX4_isCountersigned_13 : decode cX4_isCountersigned 13 = .ok (.ireturn, 1) := dk_172 (dk_at dksX4_isCountersigned_0 13 rfl rfl)
abbrev cX4_isVoidedByAudit : ByteArray := prog_2_method_6_code
def yX4_isVoidedByAudit : MethodName := ⟨RX4, "isVoidedByAudit", "()Z"⟩
def dkwX4_isVoidedByAudit_1 : List UInt8 := [42, 3, 181, 0, 36, 42, 180, 0, 36, 6, 160, 0, 7, 4, 167, 0, 4, 3, 172]
abbrev dktX4_isVoidedByAudit_1 : List UInt8 := dkwX4_isVoidedByAudit_1 ++ []
def dkwX4_isVoidedByAudit_0 : List UInt8 := [42, 182, 0, 39, 154, 0, 13, 42, 89, 180, 0, 36, 4, 96, 181, 0, 36, 42, 182, 0, 49, 153, 0, 8]
abbrev dktX4_isVoidedByAudit_0 : List UInt8 := dkwX4_isVoidedByAudit_0 ++ dktX4_isVoidedByAudit_1
theorem dksX4_isVoidedByAudit_0 : cX4_isVoidedByAudit.data.toList.drop 0 = dktX4_isVoidedByAudit_0 := by decide +kernel
theorem dksX4_isVoidedByAudit_1 : cX4_isVoidedByAudit.data.toList.drop 24 = dktX4_isVoidedByAudit_1 := dk_seg dksX4_isVoidedByAudit_0 24 rfl rfl
theorem dX4_isVoidedByAudit_0 : decode cX4_isVoidedByAudit 0 = .ok (.aload_n 0, 1) := dk_42 (dk_at dksX4_isVoidedByAudit_0 0 rfl rfl)
theorem dX4_isVoidedByAudit_1 : decode cX4_isVoidedByAudit 1 = .ok (.invokevirtual 39, 3) := dk_182 0 39 (dk_at dksX4_isVoidedByAudit_0 1 rfl rfl)
theorem dX4_isVoidedByAudit_4 : decode cX4_isVoidedByAudit 4 = .ok (.ifCond .ne 13, 3) := dk_154 0 13 (dk_at dksX4_isVoidedByAudit_0 4 rfl rfl)
theorem dX4_isVoidedByAudit_7 : decode cX4_isVoidedByAudit 7 = .ok (.aload_n 0, 1) := dk_42 (dk_at dksX4_isVoidedByAudit_0 7 rfl rfl)
theorem dX4_isVoidedByAudit_8 : decode cX4_isVoidedByAudit 8 = .ok (.dup, 1) := dk_89 (dk_at dksX4_isVoidedByAudit_0 8 rfl rfl)
theorem dX4_isVoidedByAudit_9 : decode cX4_isVoidedByAudit 9 = .ok (.getfield 36, 3) := dk_180 0 36 (dk_at dksX4_isVoidedByAudit_0 9 rfl rfl)
theorem dX4_isVoidedByAudit_12 : decode cX4_isVoidedByAudit 12 = .ok (.iconst 1, 1) := dk_4 (dk_at dksX4_isVoidedByAudit_0 12 rfl rfl)
theorem dX4_isVoidedByAudit_13 : decode cX4_isVoidedByAudit 13 = .ok (.iadd, 1) := dk_96 (dk_at dksX4_isVoidedByAudit_0 13 rfl rfl)
theorem dX4_isVoidedByAudit_14 : decode cX4_isVoidedByAudit 14 = .ok (.putfield 36, 3) := dk_181 0 36 (dk_at dksX4_isVoidedByAudit_0 14 rfl rfl)
theorem dX4_isVoidedByAudit_17 : decode cX4_isVoidedByAudit 17 = .ok (.aload_n 0, 1) := dk_42 (dk_at dksX4_isVoidedByAudit_0 17 rfl rfl)
theorem dX4_isVoidedByAudit_18 : decode cX4_isVoidedByAudit 18 = .ok (.invokevirtual 49, 3) := dk_182 0 49 (dk_at dksX4_isVoidedByAudit_0 18 rfl rfl)
theorem dX4_isVoidedByAudit_21 : decode cX4_isVoidedByAudit 21 = .ok (.ifCond .eq 8, 3) := dk_153 0 8 (dk_at dksX4_isVoidedByAudit_0 21 rfl rfl)
theorem dX4_isVoidedByAudit_24 : decode cX4_isVoidedByAudit 24 = .ok (.aload_n 0, 1) := dk_42 (dk_at dksX4_isVoidedByAudit_1 0 rfl rfl)
theorem dX4_isVoidedByAudit_25 : decode cX4_isVoidedByAudit 25 = .ok (.iconst 0, 1) := dk_3 (dk_at dksX4_isVoidedByAudit_1 1 rfl rfl)
theorem dX4_isVoidedByAudit_26 : decode cX4_isVoidedByAudit 26 = .ok (.putfield 36, 3) := dk_181 0 36 (dk_at dksX4_isVoidedByAudit_1 2 rfl rfl)
theorem dX4_isVoidedByAudit_29 : decode cX4_isVoidedByAudit 29 = .ok (.aload_n 0, 1) := dk_42 (dk_at dksX4_isVoidedByAudit_1 5 rfl rfl)
theorem dX4_isVoidedByAudit_30 : decode cX4_isVoidedByAudit 30 = .ok (.getfield 36, 3) := dk_180 0 36 (dk_at dksX4_isVoidedByAudit_1 6 rfl rfl)
theorem dX4_isVoidedByAudit_33 : decode cX4_isVoidedByAudit 33 = .ok (.iconst 3, 1) := dk_6 (dk_at dksX4_isVoidedByAudit_1 9 rfl rfl)
theorem dX4_isVoidedByAudit_34 : decode cX4_isVoidedByAudit 34 = .ok (.if_icmp .ne 7, 3) := dk_160 0 7 (dk_at dksX4_isVoidedByAudit_1 10 rfl rfl)
theorem dX4_isVoidedByAudit_37 : decode cX4_isVoidedByAudit 37 = .ok (.iconst 1, 1) := dk_4 (dk_at dksX4_isVoidedByAudit_1 13 rfl rfl)
theorem dX4_isVoidedByAudit_38 : decode cX4_isVoidedByAudit 38 = .ok (.goto 4, 3) := dk_167 0 4 (dk_at dksX4_isVoidedByAudit_1 14 rfl rfl)
theorem dX4_isVoidedByAudit_41 : decode cX4_isVoidedByAudit 41 = .ok (.iconst 0, 1) := dk_3 (dk_at dksX4_isVoidedByAudit_1 17 rfl rfl)
theorem dX4_isVoidedByAudit_42 : decode cX4_isVoidedByAudit 42 = .ok (.ireturn, 1) := dk_172 (dk_at dksX4_isVoidedByAudit_1 18 rfl rfl)
theorem q129 : (Jvm.Cond.initialized "ClaimRegistry$Claim") ∈ lw_all := lw_g (lw_at lw_m1 35 rfl) rfl
theorem q869 : (Jvm.Cond.selects "ClaimRegistry$Claim" ({ cls := "java/lang/Object", name := "getClass", desc := "()Ljava/lang/Class;" } : Jvm.MethodName) ({ cls := "java/lang/Object", name := "getClass", desc := "()Ljava/lang/Class;" } : Jvm.MethodName)) ∈ lw_all := lw_g (lw_at lw_m4 55 rfl) rfl
theorem q1034 : (Jvm.Cond.instanceMethod ({ cls := "ClaimRegistry$Claim", name := "copy", desc := "()LClaimRegistry$Claim;" } : Jvm.MethodName)) ∈ lw_all := lw_g (lw_at lw_m4 220 rfl) rfl
theorem q1035 : (Jvm.Cond.selects "ClaimRegistry$Claim" ({ cls := "ClaimRegistry$Claim", name := "copy", desc := "()LClaimRegistry$Claim;" } : Jvm.MethodName) ({ cls := "ClaimRegistry$Claim", name := "copy", desc := "()LClaimRegistry$Claim;" } : Jvm.MethodName)) ∈ lw_all := lw_g (lw_at lw_m4 221 rfl) rfl
theorem q1036 : (Jvm.Cond.code ({ cls := "ClaimRegistry$Claim", name := "copy", desc := "()LClaimRegistry$Claim;" } : Jvm.MethodName) prog_2_method_2_code (2 : Nat) (Option.some (Jvm.ClassFile.FieldType.object "ClaimRegistry$Claim"))) ∈ lw_all := lw_g (lw_at lw_m4 222 rfl) rfl
theorem q1037 : (Jvm.Cond.classLink "ClaimRegistry$Claim" (10 : Nat) "ClaimRegistry$Claim") ∈ lw_all := lw_g (lw_at lw_m4 223 rfl) rfl
theorem q1038 : (Jvm.Cond.instantiable "ClaimRegistry$Claim" (8 : Nat)) ∈ lw_all := lw_g (lw_at lw_m4 224 rfl) rfl
theorem q1039 : (Jvm.Cond.methodLink "ClaimRegistry$Claim" (33 : Nat) ({ cls := "ClaimRegistry$Claim", name := "<init>", desc := "(IIIII)V" } : Jvm.MethodName)) ∈ lw_all := lw_g (lw_at lw_m4 225 rfl) rfl
theorem q1040 : (Jvm.Cond.instanceMethod ({ cls := "ClaimRegistry$Claim", name := "<init>", desc := "(IIIII)V" } : Jvm.MethodName)) ∈ lw_all := lw_g (lw_at lw_m4 226 rfl) rfl
theorem q1041 : (Jvm.Cond.code ({ cls := "ClaimRegistry$Claim", name := "<init>", desc := "(IIIII)V" } : Jvm.MethodName) prog_2_method_1_code (6 : Nat) (Option.none : Option Jvm.ClassFile.FieldType)) ∈ lw_all := lw_g (lw_at lw_m4 227 rfl) rfl
theorem q1042 : (Jvm.Cond.methodLink "ClaimRegistry$Claim" (3 : Nat) ({ cls := "java/lang/Object", name := "<init>", desc := "()V" } : Jvm.MethodName)) ∈ lw_all := lw_g (lw_at lw_m4 228 rfl) rfl
theorem q1043 : (Jvm.Cond.fieldLink "ClaimRegistry$Claim" (18 : Nat) "ClaimRegistry$Claim" "id" "I") ∈ lw_all := lw_g (lw_at lw_m4 229 rfl) rfl
theorem q1046 : (Jvm.Cond.fieldLink "ClaimRegistry$Claim" (21 : Nat) "ClaimRegistry$Claim" "debtor" "I") ∈ lw_all := lw_g (lw_at lw_m4 232 rfl) rfl
theorem q1048 : (Jvm.Cond.fieldLink "ClaimRegistry$Claim" (24 : Nat) "ClaimRegistry$Claim" "creditor" "I") ∈ lw_all := lw_g (lw_at lw_m4 234 rfl) rfl
theorem q1050 : (Jvm.Cond.fieldLink "ClaimRegistry$Claim" (27 : Nat) "ClaimRegistry$Claim" "weight" "I") ∈ lw_all := lw_g (lw_at lw_m4 236 rfl) rfl
theorem q1053 : (Jvm.Cond.fieldLink "ClaimRegistry$Claim" (30 : Nat) "ClaimRegistry$Claim" "expiry" "I") ∈ lw_all := lw_g (lw_at lw_m4 239 rfl) rfl
theorem q1056 : (Jvm.Cond.fieldLink "ClaimRegistry$Claim" (9 : Nat) "ClaimRegistry$Claim" "wave" "I") ∈ lw_all := lw_g (lw_at lw_m5 2 rfl) rfl
theorem q1058 : (Jvm.Cond.fieldLink "ClaimRegistry$Claim" (15 : Nat) "ClaimRegistry$Claim" "rock" "I") ∈ lw_all := lw_g (lw_at lw_m5 4 rfl) rfl
theorem q1060 : (Jvm.Cond.fieldLink "ClaimRegistry$Claim" (36 : Nat) "ClaimRegistry$Claim" "strikes" "I") ∈ lw_all := lw_g (lw_at lw_m5 6 rfl) rfl
theorem q1062 : (Jvm.Cond.laysFinal "ClaimRegistry$Claim" "ClaimRegistry$Claim" "id" "I") ∈ lw_all := lw_g (lw_at lw_m5 8 rfl) rfl
theorem q1063 : (Jvm.Cond.soleField "ClaimRegistry$Claim" "id") ∈ lw_all := lw_g (lw_at lw_m5 9 rfl) rfl
theorem q1064 : (Jvm.Cond.laysFinal "ClaimRegistry$Claim" "ClaimRegistry$Claim" "debtor" "I") ∈ lw_all := lw_g (lw_at lw_m5 10 rfl) rfl
theorem q1065 : (Jvm.Cond.soleField "ClaimRegistry$Claim" "debtor") ∈ lw_all := lw_g (lw_at lw_m5 11 rfl) rfl
theorem q1066 : (Jvm.Cond.laysFinal "ClaimRegistry$Claim" "ClaimRegistry$Claim" "creditor" "I") ∈ lw_all := lw_g (lw_at lw_m5 12 rfl) rfl
theorem q1067 : (Jvm.Cond.soleField "ClaimRegistry$Claim" "creditor") ∈ lw_all := lw_g (lw_at lw_m5 13 rfl) rfl
theorem q1068 : (Jvm.Cond.lays "ClaimRegistry$Claim" "ClaimRegistry$Claim" "weight" "I") ∈ lw_all := lw_g (lw_at lw_m5 14 rfl) rfl
theorem q1069 : (Jvm.Cond.soleField "ClaimRegistry$Claim" "weight") ∈ lw_all := lw_g (lw_at lw_m5 15 rfl) rfl
theorem q1070 : (Jvm.Cond.lays "ClaimRegistry$Claim" "ClaimRegistry$Claim" "expiry" "I") ∈ lw_all := lw_g (lw_at lw_m5 16 rfl) rfl
theorem q1071 : (Jvm.Cond.soleField "ClaimRegistry$Claim" "expiry") ∈ lw_all := lw_g (lw_at lw_m5 17 rfl) rfl
theorem q1072 : (Jvm.Cond.lays "ClaimRegistry$Claim" "ClaimRegistry$Claim" "wave" "I") ∈ lw_all := lw_g (lw_at lw_m5 18 rfl) rfl
theorem q1073 : (Jvm.Cond.soleField "ClaimRegistry$Claim" "wave") ∈ lw_all := lw_g (lw_at lw_m5 19 rfl) rfl
theorem q1074 : (Jvm.Cond.lays "ClaimRegistry$Claim" "ClaimRegistry$Claim" "rock" "I") ∈ lw_all := lw_g (lw_at lw_m5 20 rfl) rfl
theorem q1075 : (Jvm.Cond.soleField "ClaimRegistry$Claim" "rock") ∈ lw_all := lw_g (lw_at lw_m5 21 rfl) rfl
theorem q1076 : (Jvm.Cond.lays "ClaimRegistry$Claim" "ClaimRegistry$Claim" "strikes" "I") ∈ lw_all := lw_g (lw_at lw_m5 22 rfl) rfl
theorem q1077 : (Jvm.Cond.soleField "ClaimRegistry$Claim" "strikes") ∈ lw_all := lw_g (lw_at lw_m5 23 rfl) rfl
theorem q1078 : (Jvm.Cond.superclass "ClaimRegistry$Claim" "java/lang/Object") ∈ lw_all := lw_g (lw_at lw_m5 24 rfl) rfl
theorem q1231 : (Jvm.Cond.instanceMethod ({ cls := "ClaimRegistry$Claim", name := "addInterest", desc := "(I)I" } : Jvm.MethodName)) ∈ lw_all := lw_g (lw_at lw_m5 177 rfl) rfl
theorem q1232 : (Jvm.Cond.selects "ClaimRegistry$Claim" ({ cls := "ClaimRegistry$Claim", name := "addInterest", desc := "(I)I" } : Jvm.MethodName) ({ cls := "ClaimRegistry$Claim", name := "addInterest", desc := "(I)I" } : Jvm.MethodName)) ∈ lw_all := lw_g (lw_at lw_m5 178 rfl) rfl
theorem q1233 : (Jvm.Cond.code ({ cls := "ClaimRegistry$Claim", name := "addInterest", desc := "(I)I" } : Jvm.MethodName) prog_2_method_5_code (3 : Nat) (Option.some Jvm.ClassFile.FieldType.int)) ∈ lw_all := lw_g (lw_at lw_m5 179 rfl) rfl
theorem q1234 : (Jvm.Cond.methodLink "ClaimRegistry$Claim" (39 : Nat) ({ cls := "ClaimRegistry$Claim", name := "isSigned", desc := "()Z" } : Jvm.MethodName)) ∈ lw_all := lw_g (lw_at lw_m5 180 rfl) rfl
theorem q1235 : (Jvm.Cond.instanceMethod ({ cls := "ClaimRegistry$Claim", name := "isSigned", desc := "()Z" } : Jvm.MethodName)) ∈ lw_all := lw_g (lw_at lw_m5 181 rfl) rfl
theorem q1236 : (Jvm.Cond.selects "ClaimRegistry$Claim" ({ cls := "ClaimRegistry$Claim", name := "isSigned", desc := "()Z" } : Jvm.MethodName) ({ cls := "ClaimRegistry$Claim", name := "isSigned", desc := "()Z" } : Jvm.MethodName)) ∈ lw_all := lw_g (lw_at lw_m5 182 rfl) rfl
theorem q1237 : (Jvm.Cond.code ({ cls := "ClaimRegistry$Claim", name := "isSigned", desc := "()Z" } : Jvm.MethodName) prog_2_method_3_code (1 : Nat) (Option.some Jvm.ClassFile.FieldType.boolean)) ∈ lw_all := lw_g (lw_at lw_m5 183 rfl) rfl
theorem q1238 : (Jvm.Cond.methodLink "ClaimRegistry$Claim" (43 : Nat) ({ cls := "java/lang/Math", name := "min", desc := "(II)I" } : Jvm.MethodName)) ∈ lw_all := lw_g (lw_at lw_m5 184 rfl) rfl
theorem q1581 : (Jvm.Cond.instanceMethod ({ cls := "ClaimRegistry$Claim", name := "isCountersigned", desc := "()Z" } : Jvm.MethodName)) ∈ lw_all := lw_g (lw_at lw_m7 47 rfl) rfl
theorem q1582 : (Jvm.Cond.selects "ClaimRegistry$Claim" ({ cls := "ClaimRegistry$Claim", name := "isCountersigned", desc := "()Z" } : Jvm.MethodName) ({ cls := "ClaimRegistry$Claim", name := "isCountersigned", desc := "()Z" } : Jvm.MethodName)) ∈ lw_all := lw_g (lw_at lw_m7 48 rfl) rfl
theorem q1583 : (Jvm.Cond.code ({ cls := "ClaimRegistry$Claim", name := "isCountersigned", desc := "()Z" } : Jvm.MethodName) prog_2_method_4_code (1 : Nat) (Option.some Jvm.ClassFile.FieldType.boolean)) ∈ lw_all := lw_g (lw_at lw_m7 49 rfl) rfl
theorem q1631 : (Jvm.Cond.instanceMethod ({ cls := "ClaimRegistry$Claim", name := "isVoidedByAudit", desc := "()Z" } : Jvm.MethodName)) ∈ lw_all := lw_g (lw_at lw_m7 97 rfl) rfl
theorem q1632 : (Jvm.Cond.selects "ClaimRegistry$Claim" ({ cls := "ClaimRegistry$Claim", name := "isVoidedByAudit", desc := "()Z" } : Jvm.MethodName) ({ cls := "ClaimRegistry$Claim", name := "isVoidedByAudit", desc := "()Z" } : Jvm.MethodName)) ∈ lw_all := lw_g (lw_at lw_m7 98 rfl) rfl
theorem q1633 : (Jvm.Cond.code ({ cls := "ClaimRegistry$Claim", name := "isVoidedByAudit", desc := "()Z" } : Jvm.MethodName) prog_2_method_6_code (1 : Nat) (Option.some Jvm.ClassFile.FieldType.boolean)) ∈ lw_all := lw_g (lw_at lw_m7 99 rfl) rfl
theorem q1634 : (Jvm.Cond.methodLink "ClaimRegistry$Claim" (49 : Nat) ({ cls := "ClaimRegistry$Claim", name := "isCountersigned", desc := "()Z" } : Jvm.MethodName)) ∈ lw_all := lw_g (lw_at lw_m7 100 rfl) rfl
theorem q2336 : (Jvm.Cond.selects "ClaimRegistry$Claim" ({ cls := "java/lang/Object", name := "equals", desc := "(Ljava/lang/Object;)Z" } : Jvm.MethodName) ({ cls := "java/lang/Object", name := "equals", desc := "(Ljava/lang/Object;)Z" } : Jvm.MethodName)) ∈ lw_all := lw_g (lw_at lw_m10 82 rfl) rfl
theorem q3116 : (Jvm.Cond.castable "ClaimRegistry$Claim" "java/lang/Object") ∈ lw_tbl := lw_at lw_m13 142 rfl
theorem in_X4 : ∀ w ∈ wsX40, w ∈ lw_all := lw_in wsX40 [1062, 1064, 1066, 1068, 1070, 1072, 1074, 1076] (by decide +kernel) (by decide +kernel)

/-! ClaimRegistry$Parser -/
set_option maxRecDepth 100000
def RX5 : String := "ClaimRegistry$Parser"
def TX5 : u_T := fun k => match k with
  | 0 => ("ClaimRegistry$Parser", "keywords", "Ljava/util/List;", true)
  | 1 => ("ClaimRegistry$Parser", "program", "Ljava/lang/String;", true)
  | 2 => ("ClaimRegistry$Parser", "commands", "Ljava/util/ArrayList;", true)
  | 3 => ("ClaimRegistry$Parser", "position", "I", false)
  | _ => ("ClaimRegistry$Parser", "hasFailed", "Z", false)
def tyX5 : Nat → FieldType := fun k => match k with
  | 0 => .object "java/util/List"
  | 1 => .object "java/lang/String"
  | 2 => .object "java/util/ArrayList"
  | 3 => .int
  | _ => .boolean
abbrev wsX50 : List Cond := u_ws RX5 TX5 5
theorem nmX5 : ∀ a, a < 5 → ∀ b, b < 5 → a ≠ b → (TX5 a).2.1 ≠ (TX5 b).2.1 := by decide +kernel
theorem tyX5_ok : ∀ k, k < 5 → parseFieldDescriptor (TX5 k).2.2.1 = some (tyX5 k) := by decide +kernel
abbrev cX5_init : ByteArray := prog_6_method_1_code
def yX5_init : MethodName := ⟨RX5, "<init>", "(Ljava/lang/String;)V"⟩
def dkwX5_init_1 : List UInt8 := [181, 0, 27, 42, 187, 0, 33, 89, 183, 0, 35, 181, 0, 36, 42, 43, 181, 0, 40, 177]
abbrev dktX5_init_1 : List UInt8 := dkwX5_init_1 ++ []
def dkwX5_init_0 : List UInt8 := [42, 183, 0, 1, 42, 18, 7, 18, 9, 18, 11, 18, 13, 18, 15, 18, 17, 18, 19, 184, 0, 21]
abbrev dktX5_init_0 : List UInt8 := dkwX5_init_0 ++ dktX5_init_1
theorem dksX5_init_0 : cX5_init.data.toList.drop 0 = dktX5_init_0 := by decide +kernel
theorem dksX5_init_1 : cX5_init.data.toList.drop 22 = dktX5_init_1 := dk_seg dksX5_init_0 22 rfl rfl
theorem dX5_init_0 : decode cX5_init 0 = .ok (.aload_n 0, 1) := dk_42 (dk_at dksX5_init_0 0 rfl rfl)
theorem dX5_init_1 : decode cX5_init 1 = .ok (.invokespecial 1, 3) := dk_183 0 1 (dk_at dksX5_init_0 1 rfl rfl)
theorem dX5_init_4 : decode cX5_init 4 = .ok (.aload_n 0, 1) := dk_42 (dk_at dksX5_init_0 4 rfl rfl)
theorem dX5_init_5 : decode cX5_init 5 = .ok (.ldc 7, 2) := dk_18 7 (dk_at dksX5_init_0 5 rfl rfl)
theorem dX5_init_7 : decode cX5_init 7 = .ok (.ldc 9, 2) := dk_18 9 (dk_at dksX5_init_0 7 rfl rfl)
theorem dX5_init_9 : decode cX5_init 9 = .ok (.ldc 11, 2) := dk_18 11 (dk_at dksX5_init_0 9 rfl rfl)
theorem dX5_init_11 : decode cX5_init 11 = .ok (.ldc 13, 2) := dk_18 13 (dk_at dksX5_init_0 11 rfl rfl)
theorem dX5_init_13 : decode cX5_init 13 = .ok (.ldc 15, 2) := dk_18 15 (dk_at dksX5_init_0 13 rfl rfl)
theorem dX5_init_15 : decode cX5_init 15 = .ok (.ldc 17, 2) := dk_18 17 (dk_at dksX5_init_0 15 rfl rfl)
theorem dX5_init_17 : decode cX5_init 17 = .ok (.ldc 19, 2) := dk_18 19 (dk_at dksX5_init_0 17 rfl rfl)
theorem dX5_init_19 : decode cX5_init 19 = .ok (.invokestatic 21, 3) := dk_184 0 21 (dk_at dksX5_init_0 19 rfl rfl)
theorem dX5_init_22 : decode cX5_init 22 = .ok (.putfield 27, 3) := dk_181 0 27 (dk_at dksX5_init_1 0 rfl rfl)
theorem dX5_init_25 : decode cX5_init 25 = .ok (.aload_n 0, 1) := dk_42 (dk_at dksX5_init_1 3 rfl rfl)
theorem dX5_init_26 : decode cX5_init 26 = .ok (.new 33, 3) := dk_187 0 33 (dk_at dksX5_init_1 4 rfl rfl)
theorem dX5_init_29 : decode cX5_init 29 = .ok (.dup, 1) := dk_89 (dk_at dksX5_init_1 7 rfl rfl)
theorem dX5_init_30 : decode cX5_init 30 = .ok (.invokespecial 35, 3) := dk_183 0 35 (dk_at dksX5_init_1 8 rfl rfl)
theorem dX5_init_33 : decode cX5_init 33 = .ok (.putfield 36, 3) := dk_181 0 36 (dk_at dksX5_init_1 11 rfl rfl)
theorem dX5_init_36 : decode cX5_init 36 = .ok (.aload_n 0, 1) := dk_42 (dk_at dksX5_init_1 14 rfl rfl)
theorem dX5_init_37 : decode cX5_init 37 = .ok (.aload_n 1, 1) := dk_43 (dk_at dksX5_init_1 15 rfl rfl)
theorem dX5_init_38 : decode cX5_init 38 = .ok (.putfield 40, 3) := dk_181 0 40 (dk_at dksX5_init_1 16 rfl rfl)
theorem dX5_init_41 : decode cX5_init 41 = .ok (.return_, 1) := dk_177 (dk_at dksX5_init_1 19 rfl rfl)
abbrev cX5_parse : ByteArray := prog_6_method_14_code
def yX5_parse : MethodName := ⟨RX5, "parse", "()Z"⟩
def dkwX5_parse_3 : List UInt8 := [172]
abbrev dktX5_parse_3 : List UInt8 := dkwX5_parse_3 ++ []
def dkwX5_parse_2 : List UInt8 := [154, 0, 7, 4, 167, 0, 4, 3, 128, 181, 0, 62, 42, 180, 0, 62, 154, 0, 7, 4, 167, 0, 4, 3]
abbrev dktX5_parse_2 : List UInt8 := dkwX5_parse_2 ++ dktX5_parse_3
def dkwX5_parse_1 : List UInt8 := [180, 0, 44, 4, 96, 181, 0, 44, 42, 182, 0, 144, 167, 255, 226, 42, 89, 180, 0, 62, 42, 182, 0, 54]
abbrev dktX5_parse_1 : List UInt8 := dkwX5_parse_1 ++ dktX5_parse_2
def dkwX5_parse_0 : List UInt8 := [42, 182, 0, 144, 42, 180, 0, 62, 154, 0, 29, 42, 16, 59, 182, 0, 66, 153, 0, 20, 42, 89]
abbrev dktX5_parse_0 : List UInt8 := dkwX5_parse_0 ++ dktX5_parse_1
theorem dksX5_parse_0 : cX5_parse.data.toList.drop 0 = dktX5_parse_0 := by decide +kernel
theorem dksX5_parse_1 : cX5_parse.data.toList.drop 22 = dktX5_parse_1 := dk_seg dksX5_parse_0 22 rfl rfl
theorem dksX5_parse_2 : cX5_parse.data.toList.drop 46 = dktX5_parse_2 := dk_seg dksX5_parse_1 24 rfl rfl
theorem dksX5_parse_3 : cX5_parse.data.toList.drop 70 = dktX5_parse_3 := dk_seg dksX5_parse_2 24 rfl rfl
theorem dX5_parse_0 : decode cX5_parse 0 = .ok (.aload_n 0, 1) := dk_42 (dk_at dksX5_parse_0 0 rfl rfl)
theorem dX5_parse_1 : decode cX5_parse 1 = .ok (.invokevirtual 144, 3) := dk_182 0 144 (dk_at dksX5_parse_0 1 rfl rfl)
theorem dX5_parse_4 : decode cX5_parse 4 = .ok (.aload_n 0, 1) := dk_42 (dk_at dksX5_parse_0 4 rfl rfl)
theorem dX5_parse_5 : decode cX5_parse 5 = .ok (.getfield 62, 3) := dk_180 0 62 (dk_at dksX5_parse_0 5 rfl rfl)
theorem dX5_parse_8 : decode cX5_parse 8 = .ok (.ifCond .ne 29, 3) := dk_154 0 29 (dk_at dksX5_parse_0 8 rfl rfl)
theorem dX5_parse_11 : decode cX5_parse 11 = .ok (.aload_n 0, 1) := dk_42 (dk_at dksX5_parse_0 11 rfl rfl)
theorem dX5_parse_12 : decode cX5_parse 12 = .ok (.bipush 59, 2) := dk_16 59 (dk_at dksX5_parse_0 12 rfl rfl)
theorem dX5_parse_14 : decode cX5_parse 14 = .ok (.invokevirtual 66, 3) := dk_182 0 66 (dk_at dksX5_parse_0 14 rfl rfl)
theorem dX5_parse_17 : decode cX5_parse 17 = .ok (.ifCond .eq 20, 3) := dk_153 0 20 (dk_at dksX5_parse_0 17 rfl rfl)
theorem dX5_parse_20 : decode cX5_parse 20 = .ok (.aload_n 0, 1) := dk_42 (dk_at dksX5_parse_0 20 rfl rfl)
theorem dX5_parse_21 : decode cX5_parse 21 = .ok (.dup, 1) := dk_89 (dk_at dksX5_parse_0 21 rfl rfl)
theorem dX5_parse_22 : decode cX5_parse 22 = .ok (.getfield 44, 3) := dk_180 0 44 (dk_at dksX5_parse_1 0 rfl rfl)
theorem dX5_parse_25 : decode cX5_parse 25 = .ok (.iconst 1, 1) := dk_4 (dk_at dksX5_parse_1 3 rfl rfl)
theorem dX5_parse_26 : decode cX5_parse 26 = .ok (.iadd, 1) := dk_96 (dk_at dksX5_parse_1 4 rfl rfl)
theorem dX5_parse_27 : decode cX5_parse 27 = .ok (.putfield 44, 3) := dk_181 0 44 (dk_at dksX5_parse_1 5 rfl rfl)
theorem dX5_parse_30 : decode cX5_parse 30 = .ok (.aload_n 0, 1) := dk_42 (dk_at dksX5_parse_1 8 rfl rfl)
theorem dX5_parse_31 : decode cX5_parse 31 = .ok (.invokevirtual 144, 3) := dk_182 0 144 (dk_at dksX5_parse_1 9 rfl rfl)
theorem dX5_parse_34 : decode cX5_parse 34 = .ok (.goto (-30), 3) := dk_167 255 226 (dk_at dksX5_parse_1 12 rfl rfl)
theorem dX5_parse_37 : decode cX5_parse 37 = .ok (.aload_n 0, 1) := dk_42 (dk_at dksX5_parse_1 15 rfl rfl)
theorem dX5_parse_38 : decode cX5_parse 38 = .ok (.dup, 1) := dk_89 (dk_at dksX5_parse_1 16 rfl rfl)
theorem dX5_parse_39 : decode cX5_parse 39 = .ok (.getfield 62, 3) := dk_180 0 62 (dk_at dksX5_parse_1 17 rfl rfl)
theorem dX5_parse_42 : decode cX5_parse 42 = .ok (.aload_n 0, 1) := dk_42 (dk_at dksX5_parse_1 20 rfl rfl)
theorem dX5_parse_43 : decode cX5_parse 43 = .ok (.invokevirtual 54, 3) := dk_182 0 54 (dk_at dksX5_parse_1 21 rfl rfl)
theorem dX5_parse_46 : decode cX5_parse 46 = .ok (.ifCond .ne 7, 3) := dk_154 0 7 (dk_at dksX5_parse_2 0 rfl rfl)
theorem dX5_parse_49 : decode cX5_parse 49 = .ok (.iconst 1, 1) := dk_4 (dk_at dksX5_parse_2 3 rfl rfl)
theorem dX5_parse_50 : decode cX5_parse 50 = .ok (.goto 4, 3) := dk_167 0 4 (dk_at dksX5_parse_2 4 rfl rfl)
theorem dX5_parse_53 : decode cX5_parse 53 = .ok (.iconst 0, 1) := dk_3 (dk_at dksX5_parse_2 7 rfl rfl)
theorem dX5_parse_54 : decode cX5_parse 54 = .ok (.ior, 1) := dk_128 (dk_at dksX5_parse_2 8 rfl rfl)
theorem dX5_parse_55 : decode cX5_parse 55 = .ok (.putfield 62, 3) := dk_181 0 62 (dk_at dksX5_parse_2 9 rfl rfl)
theorem dX5_parse_58 : decode cX5_parse 58 = .ok (.aload_n 0, 1) := dk_42 (dk_at dksX5_parse_2 12 rfl rfl)
theorem dX5_parse_59 : decode cX5_parse 59 = .ok (.getfield 62, 3) := dk_180 0 62 (dk_at dksX5_parse_2 13 rfl rfl)
theorem dX5_parse_62 : decode cX5_parse 62 = .ok (.ifCond .ne 7, 3) := dk_154 0 7 (dk_at dksX5_parse_2 16 rfl rfl)
theorem dX5_parse_65 : decode cX5_parse 65 = .ok (.iconst 1, 1) := dk_4 (dk_at dksX5_parse_2 19 rfl rfl)
theorem dX5_parse_66 : decode cX5_parse 66 = .ok (.goto 4, 3) := dk_167 0 4 (dk_at dksX5_parse_2 20 rfl rfl)
theorem dX5_parse_69 : decode cX5_parse 69 = .ok (.iconst 0, 1) := dk_3 (dk_at dksX5_parse_2 23 rfl rfl)
theorem dX5_parse_70 : decode cX5_parse 70 = .ok (.ireturn, 1) := dk_172 (dk_at dksX5_parse_3 0 rfl rfl)
abbrev cX5_parseCommand : ByteArray := prog_6_method_13_code
def yX5_parseCommand : MethodName := ⟨RX5, "parseCommand", "()V"⟩
def dkwX5_parseCommand_1 : List UInt8 := [180, 0, 62, 154, 0, 8, 42, 43, 182, 0, 140, 177]
abbrev dktX5_parseCommand_1 : List UInt8 := dkwX5_parseCommand_1 ++ []
def dkwX5_parseCommand_0 : List UInt8 := [187, 0, 111, 89, 42, 182, 0, 131, 183, 0, 135, 76, 42, 180, 0, 36, 43, 182, 0, 138, 87, 42]
abbrev dktX5_parseCommand_0 : List UInt8 := dkwX5_parseCommand_0 ++ dktX5_parseCommand_1
theorem dksX5_parseCommand_0 : cX5_parseCommand.data.toList.drop 0 = dktX5_parseCommand_0 := by decide +kernel
theorem dksX5_parseCommand_1 : cX5_parseCommand.data.toList.drop 22 = dktX5_parseCommand_1 := dk_seg dksX5_parseCommand_0 22 rfl rfl
theorem dX5_parseCommand_0 : decode cX5_parseCommand 0 = .ok (.new 111, 3) := dk_187 0 111 (dk_at dksX5_parseCommand_0 0 rfl rfl)
theorem dX5_parseCommand_3 : decode cX5_parseCommand 3 = .ok (.dup, 1) := dk_89 (dk_at dksX5_parseCommand_0 3 rfl rfl)
theorem dX5_parseCommand_4 : decode cX5_parseCommand 4 = .ok (.aload_n 0, 1) := dk_42 (dk_at dksX5_parseCommand_0 4 rfl rfl)
theorem dX5_parseCommand_5 : decode cX5_parseCommand 5 = .ok (.invokevirtual 131, 3) := dk_182 0 131 (dk_at dksX5_parseCommand_0 5 rfl rfl)
theorem dX5_parseCommand_8 : decode cX5_parseCommand 8 = .ok (.invokespecial 135, 3) := dk_183 0 135 (dk_at dksX5_parseCommand_0 8 rfl rfl)
theorem dX5_parseCommand_11 : decode cX5_parseCommand 11 = .ok (.astore_n 1, 1) := dk_76 (dk_at dksX5_parseCommand_0 11 rfl rfl)
theorem dX5_parseCommand_12 : decode cX5_parseCommand 12 = .ok (.aload_n 0, 1) := dk_42 (dk_at dksX5_parseCommand_0 12 rfl rfl)
theorem dX5_parseCommand_13 : decode cX5_parseCommand 13 = .ok (.getfield 36, 3) := dk_180 0 36 (dk_at dksX5_parseCommand_0 13 rfl rfl)
theorem dX5_parseCommand_16 : decode cX5_parseCommand 16 = .ok (.aload_n 1, 1) := dk_43 (dk_at dksX5_parseCommand_0 16 rfl rfl)
theorem dX5_parseCommand_17 : decode cX5_parseCommand 17 = .ok (.invokevirtual 138, 3) := dk_182 0 138 (dk_at dksX5_parseCommand_0 17 rfl rfl)
theorem dX5_parseCommand_20 : decode cX5_parseCommand 20 = .ok (.pop, 1) := dk_87 (dk_at dksX5_parseCommand_0 20 rfl rfl)
theorem dX5_parseCommand_21 : decode cX5_parseCommand 21 = .ok (.aload_n 0, 1) := dk_42 (dk_at dksX5_parseCommand_0 21 rfl rfl)
theorem dX5_parseCommand_22 : decode cX5_parseCommand 22 = .ok (.getfield 62, 3) := dk_180 0 62 (dk_at dksX5_parseCommand_1 0 rfl rfl)
theorem dX5_parseCommand_25 : decode cX5_parseCommand 25 = .ok (.ifCond .ne 8, 3) := dk_154 0 8 (dk_at dksX5_parseCommand_1 3 rfl rfl)
theorem dX5_parseCommand_28 : decode cX5_parseCommand 28 = .ok (.aload_n 0, 1) := dk_42 (dk_at dksX5_parseCommand_1 6 rfl rfl)
theorem dX5_parseCommand_29 : decode cX5_parseCommand 29 = .ok (.aload_n 1, 1) := dk_43 (dk_at dksX5_parseCommand_1 7 rfl rfl)
theorem dX5_parseCommand_30 : decode cX5_parseCommand 30 = .ok (.invokevirtual 140, 3) := dk_182 0 140 (dk_at dksX5_parseCommand_1 8 rfl rfl)
theorem dX5_parseCommand_33 : decode cX5_parseCommand 33 = .ok (.return_, 1) := dk_177 (dk_at dksX5_parseCommand_1 11 rfl rfl)
abbrev cX5_parseKeyword : ByteArray := prog_6_method_8_code
def yX5_parseKeyword : MethodName := ⟨RX5, "parseKeyword", "()Ljava/lang/String;"⟩
def dkwX5_parseKeyword_3 : List UInt8 := [154, 0, 7, 4, 167, 0, 4, 3, 181, 0, 62, 44, 176]
abbrev dktX5_parseKeyword_3 : List UInt8 := dkwX5_parseKeyword_3 ++ []
def dkwX5_parseKeyword_2 : List UInt8 := [180, 0, 40, 27, 42, 180, 0, 44, 182, 0, 87, 77, 42, 42, 180, 0, 27, 44, 185, 0, 95, 2, 0]
abbrev dktX5_parseKeyword_2 : List UInt8 := dkwX5_parseKeyword_2 ++ dktX5_parseKeyword_3
def dkwX5_parseKeyword_1 : List UInt8 := [182, 0, 87, 182, 0, 91, 153, 0, 16, 42, 89, 180, 0, 44, 4, 96, 181, 0, 44, 167, 255, 218, 42]
abbrev dktX5_parseKeyword_1 : List UInt8 := dkwX5_parseKeyword_1 ++ dktX5_parseKeyword_2
def dkwX5_parseKeyword_0 : List UInt8 := [42, 180, 0, 44, 60, 42, 182, 0, 54, 154, 0, 37, 42, 42, 180, 0, 40, 27, 42, 180, 0, 44, 4, 96]
abbrev dktX5_parseKeyword_0 : List UInt8 := dkwX5_parseKeyword_0 ++ dktX5_parseKeyword_1
theorem dksX5_parseKeyword_0 : cX5_parseKeyword.data.toList.drop 0 = dktX5_parseKeyword_0 := by decide +kernel
theorem dksX5_parseKeyword_1 : cX5_parseKeyword.data.toList.drop 24 = dktX5_parseKeyword_1 := dk_seg dksX5_parseKeyword_0 24 rfl rfl
theorem dksX5_parseKeyword_2 : cX5_parseKeyword.data.toList.drop 47 = dktX5_parseKeyword_2 := dk_seg dksX5_parseKeyword_1 23 rfl rfl
theorem dksX5_parseKeyword_3 : cX5_parseKeyword.data.toList.drop 70 = dktX5_parseKeyword_3 := dk_seg dksX5_parseKeyword_2 23 rfl rfl
theorem dX5_parseKeyword_0 : decode cX5_parseKeyword 0 = .ok (.aload_n 0, 1) := dk_42 (dk_at dksX5_parseKeyword_0 0 rfl rfl)
theorem dX5_parseKeyword_1 : decode cX5_parseKeyword 1 = .ok (.getfield 44, 3) := dk_180 0 44 (dk_at dksX5_parseKeyword_0 1 rfl rfl)
theorem dX5_parseKeyword_4 : decode cX5_parseKeyword 4 = .ok (.istore_n 1, 1) := dk_60 (dk_at dksX5_parseKeyword_0 4 rfl rfl)
theorem dX5_parseKeyword_5 : decode cX5_parseKeyword 5 = .ok (.aload_n 0, 1) := dk_42 (dk_at dksX5_parseKeyword_0 5 rfl rfl)
theorem dX5_parseKeyword_6 : decode cX5_parseKeyword 6 = .ok (.invokevirtual 54, 3) := dk_182 0 54 (dk_at dksX5_parseKeyword_0 6 rfl rfl)
theorem dX5_parseKeyword_9 : decode cX5_parseKeyword 9 = .ok (.ifCond .ne 37, 3) := dk_154 0 37 (dk_at dksX5_parseKeyword_0 9 rfl rfl)
theorem dX5_parseKeyword_12 : decode cX5_parseKeyword 12 = .ok (.aload_n 0, 1) := dk_42 (dk_at dksX5_parseKeyword_0 12 rfl rfl)
theorem dX5_parseKeyword_13 : decode cX5_parseKeyword 13 = .ok (.aload_n 0, 1) := dk_42 (dk_at dksX5_parseKeyword_0 13 rfl rfl)
theorem dX5_parseKeyword_14 : decode cX5_parseKeyword 14 = .ok (.getfield 40, 3) := dk_180 0 40 (dk_at dksX5_parseKeyword_0 14 rfl rfl)
theorem dX5_parseKeyword_17 : decode cX5_parseKeyword 17 = .ok (.iload_n 1, 1) := dk_27 (dk_at dksX5_parseKeyword_0 17 rfl rfl)
theorem dX5_parseKeyword_18 : decode cX5_parseKeyword 18 = .ok (.aload_n 0, 1) := dk_42 (dk_at dksX5_parseKeyword_0 18 rfl rfl)
theorem dX5_parseKeyword_19 : decode cX5_parseKeyword 19 = .ok (.getfield 44, 3) := dk_180 0 44 (dk_at dksX5_parseKeyword_0 19 rfl rfl)
theorem dX5_parseKeyword_22 : decode cX5_parseKeyword 22 = .ok (.iconst 1, 1) := dk_4 (dk_at dksX5_parseKeyword_0 22 rfl rfl)
theorem dX5_parseKeyword_23 : decode cX5_parseKeyword 23 = .ok (.iadd, 1) := dk_96 (dk_at dksX5_parseKeyword_0 23 rfl rfl)
theorem dX5_parseKeyword_24 : decode cX5_parseKeyword 24 = .ok (.invokevirtual 87, 3) := dk_182 0 87 (dk_at dksX5_parseKeyword_1 0 rfl rfl)
theorem dX5_parseKeyword_27 : decode cX5_parseKeyword 27 = .ok (.invokevirtual 91, 3) := dk_182 0 91 (dk_at dksX5_parseKeyword_1 3 rfl rfl)
theorem dX5_parseKeyword_30 : decode cX5_parseKeyword 30 = .ok (.ifCond .eq 16, 3) := dk_153 0 16 (dk_at dksX5_parseKeyword_1 6 rfl rfl)
theorem dX5_parseKeyword_33 : decode cX5_parseKeyword 33 = .ok (.aload_n 0, 1) := dk_42 (dk_at dksX5_parseKeyword_1 9 rfl rfl)
theorem dX5_parseKeyword_34 : decode cX5_parseKeyword 34 = .ok (.dup, 1) := dk_89 (dk_at dksX5_parseKeyword_1 10 rfl rfl)
theorem dX5_parseKeyword_35 : decode cX5_parseKeyword 35 = .ok (.getfield 44, 3) := dk_180 0 44 (dk_at dksX5_parseKeyword_1 11 rfl rfl)
theorem dX5_parseKeyword_38 : decode cX5_parseKeyword 38 = .ok (.iconst 1, 1) := dk_4 (dk_at dksX5_parseKeyword_1 14 rfl rfl)
theorem dX5_parseKeyword_39 : decode cX5_parseKeyword 39 = .ok (.iadd, 1) := dk_96 (dk_at dksX5_parseKeyword_1 15 rfl rfl)
theorem dX5_parseKeyword_40 : decode cX5_parseKeyword 40 = .ok (.putfield 44, 3) := dk_181 0 44 (dk_at dksX5_parseKeyword_1 16 rfl rfl)
theorem dX5_parseKeyword_43 : decode cX5_parseKeyword 43 = .ok (.goto (-38), 3) := dk_167 255 218 (dk_at dksX5_parseKeyword_1 19 rfl rfl)
theorem dX5_parseKeyword_46 : decode cX5_parseKeyword 46 = .ok (.aload_n 0, 1) := dk_42 (dk_at dksX5_parseKeyword_1 22 rfl rfl)
theorem dX5_parseKeyword_47 : decode cX5_parseKeyword 47 = .ok (.getfield 40, 3) := dk_180 0 40 (dk_at dksX5_parseKeyword_2 0 rfl rfl)
theorem dX5_parseKeyword_50 : decode cX5_parseKeyword 50 = .ok (.iload_n 1, 1) := dk_27 (dk_at dksX5_parseKeyword_2 3 rfl rfl)
theorem dX5_parseKeyword_51 : decode cX5_parseKeyword 51 = .ok (.aload_n 0, 1) := dk_42 (dk_at dksX5_parseKeyword_2 4 rfl rfl)
theorem dX5_parseKeyword_52 : decode cX5_parseKeyword 52 = .ok (.getfield 44, 3) := dk_180 0 44 (dk_at dksX5_parseKeyword_2 5 rfl rfl)
theorem dX5_parseKeyword_55 : decode cX5_parseKeyword 55 = .ok (.invokevirtual 87, 3) := dk_182 0 87 (dk_at dksX5_parseKeyword_2 8 rfl rfl)
theorem dX5_parseKeyword_58 : decode cX5_parseKeyword 58 = .ok (.astore_n 2, 1) := dk_77 (dk_at dksX5_parseKeyword_2 11 rfl rfl)
theorem dX5_parseKeyword_59 : decode cX5_parseKeyword 59 = .ok (.aload_n 0, 1) := dk_42 (dk_at dksX5_parseKeyword_2 12 rfl rfl)
theorem dX5_parseKeyword_60 : decode cX5_parseKeyword 60 = .ok (.aload_n 0, 1) := dk_42 (dk_at dksX5_parseKeyword_2 13 rfl rfl)
theorem dX5_parseKeyword_61 : decode cX5_parseKeyword 61 = .ok (.getfield 27, 3) := dk_180 0 27 (dk_at dksX5_parseKeyword_2 14 rfl rfl)
theorem dX5_parseKeyword_64 : decode cX5_parseKeyword 64 = .ok (.aload_n 2, 1) := dk_44 (dk_at dksX5_parseKeyword_2 17 rfl rfl)
theorem dX5_parseKeyword_65 : decode cX5_parseKeyword 65 = .ok (.invokeinterface 95 2, 5) := by decide +kernel
theorem dX5_parseKeyword_70 : decode cX5_parseKeyword 70 = .ok (.ifCond .ne 7, 3) := dk_154 0 7 (dk_at dksX5_parseKeyword_3 0 rfl rfl)
theorem dX5_parseKeyword_73 : decode cX5_parseKeyword 73 = .ok (.iconst 1, 1) := dk_4 (dk_at dksX5_parseKeyword_3 3 rfl rfl)
theorem dX5_parseKeyword_74 : decode cX5_parseKeyword 74 = .ok (.goto 4, 3) := dk_167 0 4 (dk_at dksX5_parseKeyword_3 4 rfl rfl)
theorem dX5_parseKeyword_77 : decode cX5_parseKeyword 77 = .ok (.iconst 0, 1) := dk_3 (dk_at dksX5_parseKeyword_3 7 rfl rfl)
theorem dX5_parseKeyword_78 : decode cX5_parseKeyword 78 = .ok (.putfield 62, 3) := dk_181 0 62 (dk_at dksX5_parseKeyword_3 8 rfl rfl)
theorem dX5_parseKeyword_81 : decode cX5_parseKeyword 81 = .ok (.aload_n 2, 1) := dk_44 (dk_at dksX5_parseKeyword_3 11 rfl rfl)
theorem dX5_parseKeyword_82 : decode cX5_parseKeyword 82 = .ok (.areturn, 1) := dk_176 (dk_at dksX5_parseKeyword_3 12 rfl rfl)
abbrev cX5_isAtEnd : ByteArray := prog_6_method_2_code
def yX5_isAtEnd : MethodName := ⟨RX5, "isAtEnd", "()Z"⟩
def dkwX5_isAtEnd_0 : List UInt8 := [42, 180, 0, 44, 42, 180, 0, 40, 182, 0, 48, 160, 0, 7, 4, 167, 0, 4, 3, 172]
abbrev dktX5_isAtEnd_0 : List UInt8 := dkwX5_isAtEnd_0 ++ []
theorem dksX5_isAtEnd_0 : cX5_isAtEnd.data.toList.drop 0 = dktX5_isAtEnd_0 := by decide +kernel
theorem dX5_isAtEnd_0 : decode cX5_isAtEnd 0 = .ok (.aload_n 0, 1) := dk_42 (dk_at dksX5_isAtEnd_0 0 rfl rfl)
theorem dX5_isAtEnd_1 : decode cX5_isAtEnd 1 = .ok (.getfield 44, 3) := dk_180 0 44 (dk_at dksX5_isAtEnd_0 1 rfl rfl)
theorem dX5_isAtEnd_4 : decode cX5_isAtEnd 4 = .ok (.aload_n 0, 1) := dk_42 (dk_at dksX5_isAtEnd_0 4 rfl rfl)
theorem dX5_isAtEnd_5 : decode cX5_isAtEnd 5 = .ok (.getfield 40, 3) := dk_180 0 40 (dk_at dksX5_isAtEnd_0 5 rfl rfl)
theorem dX5_isAtEnd_8 : decode cX5_isAtEnd 8 = .ok (.invokevirtual 48, 3) := dk_182 0 48 (dk_at dksX5_isAtEnd_0 8 rfl rfl)
theorem dX5_isAtEnd_11 : decode cX5_isAtEnd 11 = .ok (.if_icmp .ne 7, 3) := dk_160 0 7 (dk_at dksX5_isAtEnd_0 11 rfl rfl)
theorem dX5_isAtEnd_14 : decode cX5_isAtEnd 14 = .ok (.iconst 1, 1) := dk_4 (dk_at dksX5_isAtEnd_0 14 rfl rfl)
theorem dX5_isAtEnd_15 : decode cX5_isAtEnd 15 = .ok (.goto 4, 3) := dk_167 0 4 (dk_at dksX5_isAtEnd_0 15 rfl rfl)
theorem dX5_isAtEnd_18 : decode cX5_isAtEnd 18 = .ok (.iconst 0, 1) := dk_3 (dk_at dksX5_isAtEnd_0 18 rfl rfl)
theorem dX5_isAtEnd_19 : decode cX5_isAtEnd 19 = .ok (.ireturn, 1) := dk_172 (dk_at dksX5_isAtEnd_0 19 rfl rfl)
abbrev cX5_isKeywordPrefix : ByteArray := prog_6_method_7_code
def yX5_isKeywordPrefix : MethodName := ⟨RX5, "isKeywordPrefix", "(Ljava/lang/String;)Z"⟩
def dkwX5_isKeywordPrefix_1 : List UInt8 := [185, 0, 79, 1, 0, 192, 0, 49, 78, 45, 43, 184, 0, 83, 153, 0, 5, 4, 172, 167, 255, 227, 3, 172]
abbrev dktX5_isKeywordPrefix_1 : List UInt8 := dkwX5_isKeywordPrefix_1 ++ []
def dkwX5_isKeywordPrefix_0 : List UInt8 := [42, 180, 0, 27, 185, 0, 70, 1, 0, 77, 44, 185, 0, 74, 1, 0, 153, 0, 26, 44]
abbrev dktX5_isKeywordPrefix_0 : List UInt8 := dkwX5_isKeywordPrefix_0 ++ dktX5_isKeywordPrefix_1
theorem dksX5_isKeywordPrefix_0 : cX5_isKeywordPrefix.data.toList.drop 0 = dktX5_isKeywordPrefix_0 := by decide +kernel
theorem dksX5_isKeywordPrefix_1 : cX5_isKeywordPrefix.data.toList.drop 20 = dktX5_isKeywordPrefix_1 := dk_seg dksX5_isKeywordPrefix_0 20 rfl rfl
theorem dX5_isKeywordPrefix_0 : decode cX5_isKeywordPrefix 0 = .ok (.aload_n 0, 1) := dk_42 (dk_at dksX5_isKeywordPrefix_0 0 rfl rfl)
theorem dX5_isKeywordPrefix_1 : decode cX5_isKeywordPrefix 1 = .ok (.getfield 27, 3) := dk_180 0 27 (dk_at dksX5_isKeywordPrefix_0 1 rfl rfl)
theorem dX5_isKeywordPrefix_4 : decode cX5_isKeywordPrefix 4 = .ok (.invokeinterface 70 1, 5) := by decide +kernel
theorem dX5_isKeywordPrefix_9 : decode cX5_isKeywordPrefix 9 = .ok (.astore_n 2, 1) := dk_77 (dk_at dksX5_isKeywordPrefix_0 9 rfl rfl)
theorem dX5_isKeywordPrefix_10 : decode cX5_isKeywordPrefix 10 = .ok (.aload_n 2, 1) := dk_44 (dk_at dksX5_isKeywordPrefix_0 10 rfl rfl)
theorem dX5_isKeywordPrefix_11 : decode cX5_isKeywordPrefix 11 = .ok (.invokeinterface 74 1, 5) := by decide +kernel
theorem dX5_isKeywordPrefix_16 : decode cX5_isKeywordPrefix 16 = .ok (.ifCond .eq 26, 3) := dk_153 0 26 (dk_at dksX5_isKeywordPrefix_0 16 rfl rfl)
theorem dX5_isKeywordPrefix_19 : decode cX5_isKeywordPrefix 19 = .ok (.aload_n 2, 1) := dk_44 (dk_at dksX5_isKeywordPrefix_0 19 rfl rfl)
theorem dX5_isKeywordPrefix_20 : decode cX5_isKeywordPrefix 20 = .ok (.invokeinterface 79 1, 5) := by decide +kernel
theorem dX5_isKeywordPrefix_25 : decode cX5_isKeywordPrefix 25 = .ok (.checkcast 49, 3) := dk_192 0 49 (dk_at dksX5_isKeywordPrefix_1 5 rfl rfl)
theorem dX5_isKeywordPrefix_28 : decode cX5_isKeywordPrefix 28 = .ok (.astore_n 3, 1) := dk_78 (dk_at dksX5_isKeywordPrefix_1 8 rfl rfl)
theorem dX5_isKeywordPrefix_29 : decode cX5_isKeywordPrefix 29 = .ok (.aload_n 3, 1) := dk_45 (dk_at dksX5_isKeywordPrefix_1 9 rfl rfl)
theorem dX5_isKeywordPrefix_30 : decode cX5_isKeywordPrefix 30 = .ok (.aload_n 1, 1) := dk_43 (dk_at dksX5_isKeywordPrefix_1 10 rfl rfl)
theorem dX5_isKeywordPrefix_31 : decode cX5_isKeywordPrefix 31 = .ok (.invokestatic 83, 3) := dk_184 0 83 (dk_at dksX5_isKeywordPrefix_1 11 rfl rfl)
theorem dX5_isKeywordPrefix_34 : decode cX5_isKeywordPrefix 34 = .ok (.ifCond .eq 5, 3) := dk_153 0 5 (dk_at dksX5_isKeywordPrefix_1 14 rfl rfl)
theorem dX5_isKeywordPrefix_37 : decode cX5_isKeywordPrefix 37 = .ok (.iconst 1, 1) := dk_4 (dk_at dksX5_isKeywordPrefix_1 17 rfl rfl)
theorem dX5_isKeywordPrefix_38 : decode cX5_isKeywordPrefix 38 = .ok (.ireturn, 1) := dk_172 (dk_at dksX5_isKeywordPrefix_1 18 rfl rfl)
theorem dX5_isKeywordPrefix_39 : decode cX5_isKeywordPrefix 39 = .ok (.goto (-29), 3) := dk_167 255 227 (dk_at dksX5_isKeywordPrefix_1 19 rfl rfl)
theorem dX5_isKeywordPrefix_42 : decode cX5_isKeywordPrefix 42 = .ok (.iconst 0, 1) := dk_3 (dk_at dksX5_isKeywordPrefix_1 22 rfl rfl)
theorem dX5_isKeywordPrefix_43 : decode cX5_isKeywordPrefix 43 = .ok (.ireturn, 1) := dk_172 (dk_at dksX5_isKeywordPrefix_1 23 rfl rfl)
abbrev cX5_hasPrefix : ByteArray := prog_6_method_6_code
def yX5_hasPrefix : MethodName := ⟨RX5, "hasPrefix", "(Ljava/lang/String;Ljava/lang/String;)Z"⟩
def dkwX5_hasPrefix_1 : List UInt8 := [28, 182, 0, 58, 43, 28, 182, 0, 58, 159, 0, 5, 3, 172, 132, 2, 1, 167, 255, 230, 4, 172]
abbrev dktX5_hasPrefix_1 : List UInt8 := dkwX5_hasPrefix_1 ++ []
def dkwX5_hasPrefix_0 : List UInt8 := [42, 182, 0, 48, 43, 182, 0, 48, 162, 0, 5, 3, 172, 3, 61, 28, 43, 182, 0, 48, 162, 0, 24, 42]
abbrev dktX5_hasPrefix_0 : List UInt8 := dkwX5_hasPrefix_0 ++ dktX5_hasPrefix_1
theorem dksX5_hasPrefix_0 : cX5_hasPrefix.data.toList.drop 0 = dktX5_hasPrefix_0 := by decide +kernel
theorem dksX5_hasPrefix_1 : cX5_hasPrefix.data.toList.drop 24 = dktX5_hasPrefix_1 := dk_seg dksX5_hasPrefix_0 24 rfl rfl
theorem dX5_hasPrefix_0 : decode cX5_hasPrefix 0 = .ok (.aload_n 0, 1) := dk_42 (dk_at dksX5_hasPrefix_0 0 rfl rfl)
theorem dX5_hasPrefix_1 : decode cX5_hasPrefix 1 = .ok (.invokevirtual 48, 3) := dk_182 0 48 (dk_at dksX5_hasPrefix_0 1 rfl rfl)
theorem dX5_hasPrefix_4 : decode cX5_hasPrefix 4 = .ok (.aload_n 1, 1) := dk_43 (dk_at dksX5_hasPrefix_0 4 rfl rfl)
theorem dX5_hasPrefix_5 : decode cX5_hasPrefix 5 = .ok (.invokevirtual 48, 3) := dk_182 0 48 (dk_at dksX5_hasPrefix_0 5 rfl rfl)
theorem dX5_hasPrefix_8 : decode cX5_hasPrefix 8 = .ok (.if_icmp .ge 5, 3) := dk_162 0 5 (dk_at dksX5_hasPrefix_0 8 rfl rfl)
theorem dX5_hasPrefix_11 : decode cX5_hasPrefix 11 = .ok (.iconst 0, 1) := dk_3 (dk_at dksX5_hasPrefix_0 11 rfl rfl)
theorem dX5_hasPrefix_12 : decode cX5_hasPrefix 12 = .ok (.ireturn, 1) := dk_172 (dk_at dksX5_hasPrefix_0 12 rfl rfl)
theorem dX5_hasPrefix_13 : decode cX5_hasPrefix 13 = .ok (.iconst 0, 1) := dk_3 (dk_at dksX5_hasPrefix_0 13 rfl rfl)
theorem dX5_hasPrefix_14 : decode cX5_hasPrefix 14 = .ok (.istore_n 2, 1) := dk_61 (dk_at dksX5_hasPrefix_0 14 rfl rfl)
theorem dX5_hasPrefix_15 : decode cX5_hasPrefix 15 = .ok (.iload_n 2, 1) := dk_28 (dk_at dksX5_hasPrefix_0 15 rfl rfl)
theorem dX5_hasPrefix_16 : decode cX5_hasPrefix 16 = .ok (.aload_n 1, 1) := dk_43 (dk_at dksX5_hasPrefix_0 16 rfl rfl)
theorem dX5_hasPrefix_17 : decode cX5_hasPrefix 17 = .ok (.invokevirtual 48, 3) := dk_182 0 48 (dk_at dksX5_hasPrefix_0 17 rfl rfl)
theorem dX5_hasPrefix_20 : decode cX5_hasPrefix 20 = .ok (.if_icmp .ge 24, 3) := dk_162 0 24 (dk_at dksX5_hasPrefix_0 20 rfl rfl)
theorem dX5_hasPrefix_23 : decode cX5_hasPrefix 23 = .ok (.aload_n 0, 1) := dk_42 (dk_at dksX5_hasPrefix_0 23 rfl rfl)
theorem dX5_hasPrefix_24 : decode cX5_hasPrefix 24 = .ok (.iload_n 2, 1) := dk_28 (dk_at dksX5_hasPrefix_1 0 rfl rfl)
theorem dX5_hasPrefix_25 : decode cX5_hasPrefix 25 = .ok (.invokevirtual 58, 3) := dk_182 0 58 (dk_at dksX5_hasPrefix_1 1 rfl rfl)
theorem dX5_hasPrefix_28 : decode cX5_hasPrefix 28 = .ok (.aload_n 1, 1) := dk_43 (dk_at dksX5_hasPrefix_1 4 rfl rfl)
theorem dX5_hasPrefix_29 : decode cX5_hasPrefix 29 = .ok (.iload_n 2, 1) := dk_28 (dk_at dksX5_hasPrefix_1 5 rfl rfl)
theorem dX5_hasPrefix_30 : decode cX5_hasPrefix 30 = .ok (.invokevirtual 58, 3) := dk_182 0 58 (dk_at dksX5_hasPrefix_1 6 rfl rfl)
theorem dX5_hasPrefix_33 : decode cX5_hasPrefix 33 = .ok (.if_icmp .eq 5, 3) := dk_159 0 5 (dk_at dksX5_hasPrefix_1 9 rfl rfl)
theorem dX5_hasPrefix_36 : decode cX5_hasPrefix 36 = .ok (.iconst 0, 1) := dk_3 (dk_at dksX5_hasPrefix_1 12 rfl rfl)
theorem dX5_hasPrefix_37 : decode cX5_hasPrefix 37 = .ok (.ireturn, 1) := dk_172 (dk_at dksX5_hasPrefix_1 13 rfl rfl)
theorem dX5_hasPrefix_38 : decode cX5_hasPrefix 38 = .ok (.iinc 2 1, 3) := dk_132 2 1 (dk_at dksX5_hasPrefix_1 14 rfl rfl)
theorem dX5_hasPrefix_41 : decode cX5_hasPrefix 41 = .ok (.goto (-26), 3) := dk_167 255 230 (dk_at dksX5_hasPrefix_1 17 rfl rfl)
theorem dX5_hasPrefix_44 : decode cX5_hasPrefix 44 = .ok (.iconst 1, 1) := dk_4 (dk_at dksX5_hasPrefix_1 20 rfl rfl)
theorem dX5_hasPrefix_45 : decode cX5_hasPrefix 45 = .ok (.ireturn, 1) := dk_172 (dk_at dksX5_hasPrefix_1 21 rfl rfl)
abbrev cX5_parseArguments : ByteArray := prog_6_method_12_code
def yX5_parseArguments : MethodName := ⟨RX5, "parseArguments", "(LClaimRegistry$Command;)V"⟩
def dkwX5_parseArguments_11 : List UInt8 := [153, 0, 10, 42, 182, 0, 128, 167, 0, 4, 4, 79, 167, 0, 10, 44, 3, 42, 182, 0, 128, 79, 177]
abbrev dktX5_parseArguments_11 : List UInt8 := dkwX5_parseArguments_11 ++ []
def dkwX5_parseArguments_10 : List UInt8 := [16, 32, 182, 0, 66, 153, 0, 7, 4, 167, 0, 4, 3, 79, 44, 3, 42, 16, 32, 182, 0, 66]
abbrev dktX5_parseArguments_10 : List UInt8 := dkwX5_parseArguments_10 ++ dktX5_parseArguments_11
def dkwX5_parseArguments_9 : List UInt8 := [167, 0, 67, 44, 3, 42, 182, 0, 125, 79, 44, 4, 42, 182, 0, 128, 79, 167, 0, 50, 44, 4, 42]
abbrev dktX5_parseArguments_9 : List UInt8 := dkwX5_parseArguments_9 ++ dktX5_parseArguments_10
def dkwX5_parseArguments_8 : List UInt8 := [42, 182, 0, 128, 79, 167, 0, 84, 44, 3, 42, 182, 0, 128, 79, 44, 4, 42, 182, 0, 125, 79]
abbrev dktX5_parseArguments_8 : List UInt8 := dkwX5_parseArguments_8 ++ dktX5_parseArguments_9
def dkwX5_parseArguments_7 : List UInt8 := [44, 3, 42, 182, 0, 125, 79, 44, 4, 42, 4, 182, 0, 106, 79, 44, 5, 42, 182, 0, 128, 79, 44, 6]
abbrev dktX5_parseArguments_7 : List UInt8 := dkwX5_parseArguments_7 ++ dktX5_parseArguments_8
def dkwX5_parseArguments_6 : List UInt8 := [170, 0, 0, 0, 0, 140, 0, 0, 0, 0, 0, 0, 0, 4, 0, 0, 0, 34, 0, 0, 0, 66, 0, 0, 0, 66, 0, 0, 0, 83, 0, 0, 0, 100]
abbrev dktX5_parseArguments_6 : List UInt8 := dkwX5_parseArguments_6 ++ dktX5_parseArguments_7
def dkwX5_parseArguments_5 : List UInt8 := [21, 4]
abbrev dktX5_parseArguments_5 : List UInt8 := dkwX5_parseArguments_5 ++ dktX5_parseArguments_6
def dkwX5_parseArguments_4 : List UInt8 := [182, 0, 122, 153, 0, 21, 6, 54, 4, 167, 0, 15, 45, 18, 15, 182, 0, 122, 153, 0, 6, 7, 54, 4]
abbrev dktX5_parseArguments_4 : List UInt8 := dkwX5_parseArguments_4 ++ dktX5_parseArguments_5
def dkwX5_parseArguments_3 : List UInt8 := [4, 54, 4, 167, 0, 45, 45, 18, 11, 182, 0, 122, 153, 0, 36, 5, 54, 4, 167, 0, 30, 45, 18, 19]
abbrev dktX5_parseArguments_3 : List UInt8 := dkwX5_parseArguments_3 ++ dktX5_parseArguments_4
def dkwX5_parseArguments_2 : List UInt8 := [45, 18, 7, 182, 0, 122, 153, 0, 66, 3, 54, 4, 167, 0, 60, 45, 18, 9, 182, 0, 122, 153, 0, 51]
abbrev dktX5_parseArguments_2 : List UInt8 := dkwX5_parseArguments_2 ++ dktX5_parseArguments_3
def dkwX5_parseArguments_1 : List UInt8 := [171, 0, 0, 0, 0, 0, 123, 0, 0, 0, 5, 145, 121, 213, 185, 0, 0, 0, 81, 0, 1, 120, 161, 0, 0, 0, 51, 0, 53, 76, 224, 0, 0, 0, 96, 0, 53, 221, 189, 0, 0, 0, 66, 0, 54, 81, 157, 0, 0, 0, 111]
abbrev dktX5_parseArguments_1 : List UInt8 := dkwX5_parseArguments_1 ++ dktX5_parseArguments_2
def dkwX5_parseArguments_0 : List UInt8 := [43, 180, 0, 110, 77, 43, 180, 0, 116, 78, 2, 54, 4, 45, 182, 0, 119]
abbrev dktX5_parseArguments_0 : List UInt8 := dkwX5_parseArguments_0 ++ dktX5_parseArguments_1
theorem dksX5_parseArguments_0 : cX5_parseArguments.data.toList.drop 0 = dktX5_parseArguments_0 := by decide +kernel
theorem dksX5_parseArguments_1 : cX5_parseArguments.data.toList.drop 17 = dktX5_parseArguments_1 := dk_seg dksX5_parseArguments_0 17 rfl rfl
theorem dksX5_parseArguments_2 : cX5_parseArguments.data.toList.drop 68 = dktX5_parseArguments_2 := dk_seg dksX5_parseArguments_1 51 rfl rfl
theorem dksX5_parseArguments_3 : cX5_parseArguments.data.toList.drop 92 = dktX5_parseArguments_3 := dk_seg dksX5_parseArguments_2 24 rfl rfl
theorem dksX5_parseArguments_4 : cX5_parseArguments.data.toList.drop 116 = dktX5_parseArguments_4 := dk_seg dksX5_parseArguments_3 24 rfl rfl
theorem dksX5_parseArguments_5 : cX5_parseArguments.data.toList.drop 140 = dktX5_parseArguments_5 := dk_seg dksX5_parseArguments_4 24 rfl rfl
theorem dksX5_parseArguments_6 : cX5_parseArguments.data.toList.drop 142 = dktX5_parseArguments_6 := dk_seg dksX5_parseArguments_5 2 rfl rfl
theorem dksX5_parseArguments_7 : cX5_parseArguments.data.toList.drop 176 = dktX5_parseArguments_7 := dk_seg dksX5_parseArguments_6 34 rfl rfl
theorem dksX5_parseArguments_8 : cX5_parseArguments.data.toList.drop 200 = dktX5_parseArguments_8 := dk_seg dksX5_parseArguments_7 24 rfl rfl
theorem dksX5_parseArguments_9 : cX5_parseArguments.data.toList.drop 222 = dktX5_parseArguments_9 := dk_seg dksX5_parseArguments_8 22 rfl rfl
theorem dksX5_parseArguments_10 : cX5_parseArguments.data.toList.drop 245 = dktX5_parseArguments_10 := dk_seg dksX5_parseArguments_9 23 rfl rfl
theorem dksX5_parseArguments_11 : cX5_parseArguments.data.toList.drop 267 = dktX5_parseArguments_11 := dk_seg dksX5_parseArguments_10 22 rfl rfl
theorem dX5_parseArguments_0 : decode cX5_parseArguments 0 = .ok (.aload_n 1, 1) := dk_43 (dk_at dksX5_parseArguments_0 0 rfl rfl)
theorem dX5_parseArguments_1 : decode cX5_parseArguments 1 = .ok (.getfield 110, 3) := dk_180 0 110 (dk_at dksX5_parseArguments_0 1 rfl rfl)
theorem dX5_parseArguments_4 : decode cX5_parseArguments 4 = .ok (.astore_n 2, 1) := dk_77 (dk_at dksX5_parseArguments_0 4 rfl rfl)
theorem dX5_parseArguments_5 : decode cX5_parseArguments 5 = .ok (.aload_n 1, 1) := dk_43 (dk_at dksX5_parseArguments_0 5 rfl rfl)
theorem dX5_parseArguments_6 : decode cX5_parseArguments 6 = .ok (.getfield 116, 3) := dk_180 0 116 (dk_at dksX5_parseArguments_0 6 rfl rfl)
theorem dX5_parseArguments_9 : decode cX5_parseArguments 9 = .ok (.astore_n 3, 1) := dk_78 (dk_at dksX5_parseArguments_0 9 rfl rfl)
theorem dX5_parseArguments_10 : decode cX5_parseArguments 10 = .ok (.iconst (-1), 1) := dk_2 (dk_at dksX5_parseArguments_0 10 rfl rfl)
theorem dX5_parseArguments_11 : decode cX5_parseArguments 11 = .ok (.istore 4, 2) := dk_54 4 (dk_at dksX5_parseArguments_0 11 rfl rfl)
theorem dX5_parseArguments_13 : decode cX5_parseArguments 13 = .ok (.aload_n 3, 1) := dk_45 (dk_at dksX5_parseArguments_0 13 rfl rfl)
theorem dX5_parseArguments_14 : decode cX5_parseArguments 14 = .ok (.invokevirtual 119, 3) := dk_182 0 119 (dk_at dksX5_parseArguments_0 14 rfl rfl)
theorem dX5_parseArguments_17 : decode cX5_parseArguments 17 = .ok (.lookupswitch 123 #[(-1854286407, 81), (96417, 51), (3493088, 96), (3530173, 66), (3559837, 111)], 51) := by decide +kernel
theorem dX5_parseArguments_68 : decode cX5_parseArguments 68 = .ok (.aload_n 3, 1) := dk_45 (dk_at dksX5_parseArguments_2 0 rfl rfl)
theorem dX5_parseArguments_69 : decode cX5_parseArguments 69 = .ok (.ldc 7, 2) := dk_18 7 (dk_at dksX5_parseArguments_2 1 rfl rfl)
theorem dX5_parseArguments_71 : decode cX5_parseArguments 71 = .ok (.invokevirtual 122, 3) := dk_182 0 122 (dk_at dksX5_parseArguments_2 3 rfl rfl)
theorem dX5_parseArguments_74 : decode cX5_parseArguments 74 = .ok (.ifCond .eq 66, 3) := dk_153 0 66 (dk_at dksX5_parseArguments_2 6 rfl rfl)
theorem dX5_parseArguments_77 : decode cX5_parseArguments 77 = .ok (.iconst 0, 1) := dk_3 (dk_at dksX5_parseArguments_2 9 rfl rfl)
theorem dX5_parseArguments_78 : decode cX5_parseArguments 78 = .ok (.istore 4, 2) := dk_54 4 (dk_at dksX5_parseArguments_2 10 rfl rfl)
theorem dX5_parseArguments_80 : decode cX5_parseArguments 80 = .ok (.goto 60, 3) := dk_167 0 60 (dk_at dksX5_parseArguments_2 12 rfl rfl)
theorem dX5_parseArguments_83 : decode cX5_parseArguments 83 = .ok (.aload_n 3, 1) := dk_45 (dk_at dksX5_parseArguments_2 15 rfl rfl)
theorem dX5_parseArguments_84 : decode cX5_parseArguments 84 = .ok (.ldc 9, 2) := dk_18 9 (dk_at dksX5_parseArguments_2 16 rfl rfl)
theorem dX5_parseArguments_86 : decode cX5_parseArguments 86 = .ok (.invokevirtual 122, 3) := dk_182 0 122 (dk_at dksX5_parseArguments_2 18 rfl rfl)
theorem dX5_parseArguments_89 : decode cX5_parseArguments 89 = .ok (.ifCond .eq 51, 3) := dk_153 0 51 (dk_at dksX5_parseArguments_2 21 rfl rfl)
theorem dX5_parseArguments_92 : decode cX5_parseArguments 92 = .ok (.iconst 1, 1) := dk_4 (dk_at dksX5_parseArguments_3 0 rfl rfl)
theorem dX5_parseArguments_93 : decode cX5_parseArguments 93 = .ok (.istore 4, 2) := dk_54 4 (dk_at dksX5_parseArguments_3 1 rfl rfl)
theorem dX5_parseArguments_95 : decode cX5_parseArguments 95 = .ok (.goto 45, 3) := dk_167 0 45 (dk_at dksX5_parseArguments_3 3 rfl rfl)
theorem dX5_parseArguments_98 : decode cX5_parseArguments 98 = .ok (.aload_n 3, 1) := dk_45 (dk_at dksX5_parseArguments_3 6 rfl rfl)
theorem dX5_parseArguments_99 : decode cX5_parseArguments 99 = .ok (.ldc 11, 2) := dk_18 11 (dk_at dksX5_parseArguments_3 7 rfl rfl)
theorem dX5_parseArguments_101 : decode cX5_parseArguments 101 = .ok (.invokevirtual 122, 3) := dk_182 0 122 (dk_at dksX5_parseArguments_3 9 rfl rfl)
theorem dX5_parseArguments_104 : decode cX5_parseArguments 104 = .ok (.ifCond .eq 36, 3) := dk_153 0 36 (dk_at dksX5_parseArguments_3 12 rfl rfl)
theorem dX5_parseArguments_107 : decode cX5_parseArguments 107 = .ok (.iconst 2, 1) := dk_5 (dk_at dksX5_parseArguments_3 15 rfl rfl)
theorem dX5_parseArguments_108 : decode cX5_parseArguments 108 = .ok (.istore 4, 2) := dk_54 4 (dk_at dksX5_parseArguments_3 16 rfl rfl)
theorem dX5_parseArguments_110 : decode cX5_parseArguments 110 = .ok (.goto 30, 3) := dk_167 0 30 (dk_at dksX5_parseArguments_3 18 rfl rfl)
theorem dX5_parseArguments_113 : decode cX5_parseArguments 113 = .ok (.aload_n 3, 1) := dk_45 (dk_at dksX5_parseArguments_3 21 rfl rfl)
theorem dX5_parseArguments_114 : decode cX5_parseArguments 114 = .ok (.ldc 19, 2) := dk_18 19 (dk_at dksX5_parseArguments_3 22 rfl rfl)
theorem dX5_parseArguments_116 : decode cX5_parseArguments 116 = .ok (.invokevirtual 122, 3) := dk_182 0 122 (dk_at dksX5_parseArguments_4 0 rfl rfl)
theorem dX5_parseArguments_119 : decode cX5_parseArguments 119 = .ok (.ifCond .eq 21, 3) := dk_153 0 21 (dk_at dksX5_parseArguments_4 3 rfl rfl)
theorem dX5_parseArguments_122 : decode cX5_parseArguments 122 = .ok (.iconst 3, 1) := dk_6 (dk_at dksX5_parseArguments_4 6 rfl rfl)
theorem dX5_parseArguments_123 : decode cX5_parseArguments 123 = .ok (.istore 4, 2) := dk_54 4 (dk_at dksX5_parseArguments_4 7 rfl rfl)
theorem dX5_parseArguments_125 : decode cX5_parseArguments 125 = .ok (.goto 15, 3) := dk_167 0 15 (dk_at dksX5_parseArguments_4 9 rfl rfl)
theorem dX5_parseArguments_128 : decode cX5_parseArguments 128 = .ok (.aload_n 3, 1) := dk_45 (dk_at dksX5_parseArguments_4 12 rfl rfl)
theorem dX5_parseArguments_129 : decode cX5_parseArguments 129 = .ok (.ldc 15, 2) := dk_18 15 (dk_at dksX5_parseArguments_4 13 rfl rfl)
theorem dX5_parseArguments_131 : decode cX5_parseArguments 131 = .ok (.invokevirtual 122, 3) := dk_182 0 122 (dk_at dksX5_parseArguments_4 15 rfl rfl)
theorem dX5_parseArguments_134 : decode cX5_parseArguments 134 = .ok (.ifCond .eq 6, 3) := dk_153 0 6 (dk_at dksX5_parseArguments_4 18 rfl rfl)
theorem dX5_parseArguments_137 : decode cX5_parseArguments 137 = .ok (.iconst 4, 1) := dk_7 (dk_at dksX5_parseArguments_4 21 rfl rfl)
theorem dX5_parseArguments_138 : decode cX5_parseArguments 138 = .ok (.istore 4, 2) := dk_54 4 (dk_at dksX5_parseArguments_4 22 rfl rfl)
theorem dX5_parseArguments_140 : decode cX5_parseArguments 140 = .ok (.iload 4, 2) := dk_21 4 (dk_at dksX5_parseArguments_5 0 rfl rfl)
theorem dX5_parseArguments_142 : decode cX5_parseArguments 142 = .ok (.tableswitch 140 0 4 #[34, 66, 66, 83, 100], 34) := by decide +kernel
theorem dX5_parseArguments_176 : decode cX5_parseArguments 176 = .ok (.aload_n 2, 1) := dk_44 (dk_at dksX5_parseArguments_7 0 rfl rfl)
theorem dX5_parseArguments_177 : decode cX5_parseArguments 177 = .ok (.iconst 0, 1) := dk_3 (dk_at dksX5_parseArguments_7 1 rfl rfl)
theorem dX5_parseArguments_178 : decode cX5_parseArguments 178 = .ok (.aload_n 0, 1) := dk_42 (dk_at dksX5_parseArguments_7 2 rfl rfl)
theorem dX5_parseArguments_179 : decode cX5_parseArguments 179 = .ok (.invokevirtual 125, 3) := dk_182 0 125 (dk_at dksX5_parseArguments_7 3 rfl rfl)
theorem dX5_parseArguments_182 : decode cX5_parseArguments 182 = .ok (.iastore, 1) := dk_79 (dk_at dksX5_parseArguments_7 6 rfl rfl)
theorem dX5_parseArguments_183 : decode cX5_parseArguments 183 = .ok (.aload_n 2, 1) := dk_44 (dk_at dksX5_parseArguments_7 7 rfl rfl)
theorem dX5_parseArguments_184 : decode cX5_parseArguments 184 = .ok (.iconst 1, 1) := dk_4 (dk_at dksX5_parseArguments_7 8 rfl rfl)
theorem dX5_parseArguments_185 : decode cX5_parseArguments 185 = .ok (.aload_n 0, 1) := dk_42 (dk_at dksX5_parseArguments_7 9 rfl rfl)
theorem dX5_parseArguments_186 : decode cX5_parseArguments 186 = .ok (.iconst 1, 1) := dk_4 (dk_at dksX5_parseArguments_7 10 rfl rfl)
theorem dX5_parseArguments_187 : decode cX5_parseArguments 187 = .ok (.invokevirtual 106, 3) := dk_182 0 106 (dk_at dksX5_parseArguments_7 11 rfl rfl)
theorem dX5_parseArguments_190 : decode cX5_parseArguments 190 = .ok (.iastore, 1) := dk_79 (dk_at dksX5_parseArguments_7 14 rfl rfl)
theorem dX5_parseArguments_191 : decode cX5_parseArguments 191 = .ok (.aload_n 2, 1) := dk_44 (dk_at dksX5_parseArguments_7 15 rfl rfl)
theorem dX5_parseArguments_192 : decode cX5_parseArguments 192 = .ok (.iconst 2, 1) := dk_5 (dk_at dksX5_parseArguments_7 16 rfl rfl)
theorem dX5_parseArguments_193 : decode cX5_parseArguments 193 = .ok (.aload_n 0, 1) := dk_42 (dk_at dksX5_parseArguments_7 17 rfl rfl)
theorem dX5_parseArguments_194 : decode cX5_parseArguments 194 = .ok (.invokevirtual 128, 3) := dk_182 0 128 (dk_at dksX5_parseArguments_7 18 rfl rfl)
theorem dX5_parseArguments_197 : decode cX5_parseArguments 197 = .ok (.iastore, 1) := dk_79 (dk_at dksX5_parseArguments_7 21 rfl rfl)
theorem dX5_parseArguments_198 : decode cX5_parseArguments 198 = .ok (.aload_n 2, 1) := dk_44 (dk_at dksX5_parseArguments_7 22 rfl rfl)
theorem dX5_parseArguments_199 : decode cX5_parseArguments 199 = .ok (.iconst 3, 1) := dk_6 (dk_at dksX5_parseArguments_7 23 rfl rfl)
theorem dX5_parseArguments_200 : decode cX5_parseArguments 200 = .ok (.aload_n 0, 1) := dk_42 (dk_at dksX5_parseArguments_8 0 rfl rfl)
theorem dX5_parseArguments_201 : decode cX5_parseArguments 201 = .ok (.invokevirtual 128, 3) := dk_182 0 128 (dk_at dksX5_parseArguments_8 1 rfl rfl)
theorem dX5_parseArguments_204 : decode cX5_parseArguments 204 = .ok (.iastore, 1) := dk_79 (dk_at dksX5_parseArguments_8 4 rfl rfl)
theorem dX5_parseArguments_205 : decode cX5_parseArguments 205 = .ok (.goto 84, 3) := dk_167 0 84 (dk_at dksX5_parseArguments_8 5 rfl rfl)
theorem dX5_parseArguments_208 : decode cX5_parseArguments 208 = .ok (.aload_n 2, 1) := dk_44 (dk_at dksX5_parseArguments_8 8 rfl rfl)
theorem dX5_parseArguments_209 : decode cX5_parseArguments 209 = .ok (.iconst 0, 1) := dk_3 (dk_at dksX5_parseArguments_8 9 rfl rfl)
theorem dX5_parseArguments_210 : decode cX5_parseArguments 210 = .ok (.aload_n 0, 1) := dk_42 (dk_at dksX5_parseArguments_8 10 rfl rfl)
theorem dX5_parseArguments_211 : decode cX5_parseArguments 211 = .ok (.invokevirtual 128, 3) := dk_182 0 128 (dk_at dksX5_parseArguments_8 11 rfl rfl)
theorem dX5_parseArguments_214 : decode cX5_parseArguments 214 = .ok (.iastore, 1) := dk_79 (dk_at dksX5_parseArguments_8 14 rfl rfl)
theorem dX5_parseArguments_215 : decode cX5_parseArguments 215 = .ok (.aload_n 2, 1) := dk_44 (dk_at dksX5_parseArguments_8 15 rfl rfl)
theorem dX5_parseArguments_216 : decode cX5_parseArguments 216 = .ok (.iconst 1, 1) := dk_4 (dk_at dksX5_parseArguments_8 16 rfl rfl)
theorem dX5_parseArguments_217 : decode cX5_parseArguments 217 = .ok (.aload_n 0, 1) := dk_42 (dk_at dksX5_parseArguments_8 17 rfl rfl)
theorem dX5_parseArguments_218 : decode cX5_parseArguments 218 = .ok (.invokevirtual 125, 3) := dk_182 0 125 (dk_at dksX5_parseArguments_8 18 rfl rfl)
theorem dX5_parseArguments_221 : decode cX5_parseArguments 221 = .ok (.iastore, 1) := dk_79 (dk_at dksX5_parseArguments_8 21 rfl rfl)
theorem dX5_parseArguments_222 : decode cX5_parseArguments 222 = .ok (.goto 67, 3) := dk_167 0 67 (dk_at dksX5_parseArguments_9 0 rfl rfl)
theorem dX5_parseArguments_225 : decode cX5_parseArguments 225 = .ok (.aload_n 2, 1) := dk_44 (dk_at dksX5_parseArguments_9 3 rfl rfl)
theorem dX5_parseArguments_226 : decode cX5_parseArguments 226 = .ok (.iconst 0, 1) := dk_3 (dk_at dksX5_parseArguments_9 4 rfl rfl)
theorem dX5_parseArguments_227 : decode cX5_parseArguments 227 = .ok (.aload_n 0, 1) := dk_42 (dk_at dksX5_parseArguments_9 5 rfl rfl)
theorem dX5_parseArguments_228 : decode cX5_parseArguments 228 = .ok (.invokevirtual 125, 3) := dk_182 0 125 (dk_at dksX5_parseArguments_9 6 rfl rfl)
theorem dX5_parseArguments_231 : decode cX5_parseArguments 231 = .ok (.iastore, 1) := dk_79 (dk_at dksX5_parseArguments_9 9 rfl rfl)
theorem dX5_parseArguments_232 : decode cX5_parseArguments 232 = .ok (.aload_n 2, 1) := dk_44 (dk_at dksX5_parseArguments_9 10 rfl rfl)
theorem dX5_parseArguments_233 : decode cX5_parseArguments 233 = .ok (.iconst 1, 1) := dk_4 (dk_at dksX5_parseArguments_9 11 rfl rfl)
theorem dX5_parseArguments_234 : decode cX5_parseArguments 234 = .ok (.aload_n 0, 1) := dk_42 (dk_at dksX5_parseArguments_9 12 rfl rfl)
theorem dX5_parseArguments_235 : decode cX5_parseArguments 235 = .ok (.invokevirtual 128, 3) := dk_182 0 128 (dk_at dksX5_parseArguments_9 13 rfl rfl)
theorem dX5_parseArguments_238 : decode cX5_parseArguments 238 = .ok (.iastore, 1) := dk_79 (dk_at dksX5_parseArguments_9 16 rfl rfl)
theorem dX5_parseArguments_239 : decode cX5_parseArguments 239 = .ok (.goto 50, 3) := dk_167 0 50 (dk_at dksX5_parseArguments_9 17 rfl rfl)
theorem dX5_parseArguments_242 : decode cX5_parseArguments 242 = .ok (.aload_n 2, 1) := dk_44 (dk_at dksX5_parseArguments_9 20 rfl rfl)
theorem dX5_parseArguments_243 : decode cX5_parseArguments 243 = .ok (.iconst 1, 1) := dk_4 (dk_at dksX5_parseArguments_9 21 rfl rfl)
theorem dX5_parseArguments_244 : decode cX5_parseArguments 244 = .ok (.aload_n 0, 1) := dk_42 (dk_at dksX5_parseArguments_9 22 rfl rfl)
theorem dX5_parseArguments_245 : decode cX5_parseArguments 245 = .ok (.bipush 32, 2) := dk_16 32 (dk_at dksX5_parseArguments_10 0 rfl rfl)
theorem dX5_parseArguments_247 : decode cX5_parseArguments 247 = .ok (.invokevirtual 66, 3) := dk_182 0 66 (dk_at dksX5_parseArguments_10 2 rfl rfl)
theorem dX5_parseArguments_250 : decode cX5_parseArguments 250 = .ok (.ifCond .eq 7, 3) := dk_153 0 7 (dk_at dksX5_parseArguments_10 5 rfl rfl)
theorem dX5_parseArguments_253 : decode cX5_parseArguments 253 = .ok (.iconst 1, 1) := dk_4 (dk_at dksX5_parseArguments_10 8 rfl rfl)
theorem dX5_parseArguments_254 : decode cX5_parseArguments 254 = .ok (.goto 4, 3) := dk_167 0 4 (dk_at dksX5_parseArguments_10 9 rfl rfl)
theorem dX5_parseArguments_257 : decode cX5_parseArguments 257 = .ok (.iconst 0, 1) := dk_3 (dk_at dksX5_parseArguments_10 12 rfl rfl)
theorem dX5_parseArguments_258 : decode cX5_parseArguments 258 = .ok (.iastore, 1) := dk_79 (dk_at dksX5_parseArguments_10 13 rfl rfl)
theorem dX5_parseArguments_259 : decode cX5_parseArguments 259 = .ok (.aload_n 2, 1) := dk_44 (dk_at dksX5_parseArguments_10 14 rfl rfl)
theorem dX5_parseArguments_260 : decode cX5_parseArguments 260 = .ok (.iconst 0, 1) := dk_3 (dk_at dksX5_parseArguments_10 15 rfl rfl)
theorem dX5_parseArguments_261 : decode cX5_parseArguments 261 = .ok (.aload_n 0, 1) := dk_42 (dk_at dksX5_parseArguments_10 16 rfl rfl)
theorem dX5_parseArguments_262 : decode cX5_parseArguments 262 = .ok (.bipush 32, 2) := dk_16 32 (dk_at dksX5_parseArguments_10 17 rfl rfl)
theorem dX5_parseArguments_264 : decode cX5_parseArguments 264 = .ok (.invokevirtual 66, 3) := dk_182 0 66 (dk_at dksX5_parseArguments_10 19 rfl rfl)
theorem dX5_parseArguments_267 : decode cX5_parseArguments 267 = .ok (.ifCond .eq 10, 3) := dk_153 0 10 (dk_at dksX5_parseArguments_11 0 rfl rfl)
theorem dX5_parseArguments_270 : decode cX5_parseArguments 270 = .ok (.aload_n 0, 1) := dk_42 (dk_at dksX5_parseArguments_11 3 rfl rfl)
theorem dX5_parseArguments_271 : decode cX5_parseArguments 271 = .ok (.invokevirtual 128, 3) := dk_182 0 128 (dk_at dksX5_parseArguments_11 4 rfl rfl)
theorem dX5_parseArguments_274 : decode cX5_parseArguments 274 = .ok (.goto 4, 3) := dk_167 0 4 (dk_at dksX5_parseArguments_11 7 rfl rfl)
theorem dX5_parseArguments_277 : decode cX5_parseArguments 277 = .ok (.iconst 1, 1) := dk_4 (dk_at dksX5_parseArguments_11 10 rfl rfl)
theorem dX5_parseArguments_278 : decode cX5_parseArguments 278 = .ok (.iastore, 1) := dk_79 (dk_at dksX5_parseArguments_11 11 rfl rfl)
theorem dX5_parseArguments_279 : decode cX5_parseArguments 279 = .ok (.goto 10, 3) := dk_167 0 10 (dk_at dksX5_parseArguments_11 12 rfl rfl)
theorem dX5_parseArguments_282 : decode cX5_parseArguments 282 = .ok (.aload_n 2, 1) := dk_44 (dk_at dksX5_parseArguments_11 15 rfl rfl)
theorem dX5_parseArguments_283 : decode cX5_parseArguments 283 = .ok (.iconst 0, 1) := dk_3 (dk_at dksX5_parseArguments_11 16 rfl rfl)
theorem dX5_parseArguments_284 : decode cX5_parseArguments 284 = .ok (.aload_n 0, 1) := dk_42 (dk_at dksX5_parseArguments_11 17 rfl rfl)
theorem dX5_parseArguments_285 : decode cX5_parseArguments 285 = .ok (.invokevirtual 128, 3) := dk_182 0 128 (dk_at dksX5_parseArguments_11 18 rfl rfl)
theorem dX5_parseArguments_288 : decode cX5_parseArguments 288 = .ok (.iastore, 1) := dk_79 (dk_at dksX5_parseArguments_11 21 rfl rfl)
theorem dX5_parseArguments_289 : decode cX5_parseArguments 289 = .ok (.return_, 1) := dk_177 (dk_at dksX5_parseArguments_11 22 rfl rfl)
abbrev cX5_parseDigitAfterBlank : ByteArray := prog_6_method_11_code
def yX5_parseDigitAfterBlank : MethodName := ⟨RX5, "parseDigitAfterBlank", "()I"⟩
def dkwX5_parseDigitAfterBlank_0 : List UInt8 := [42, 16, 32, 182, 0, 102, 42, 4, 182, 0, 106, 172]
abbrev dktX5_parseDigitAfterBlank_0 : List UInt8 := dkwX5_parseDigitAfterBlank_0 ++ []
theorem dksX5_parseDigitAfterBlank_0 : cX5_parseDigitAfterBlank.data.toList.drop 0 = dktX5_parseDigitAfterBlank_0 := by decide +kernel
theorem dX5_parseDigitAfterBlank_0 : decode cX5_parseDigitAfterBlank 0 = .ok (.aload_n 0, 1) := dk_42 (dk_at dksX5_parseDigitAfterBlank_0 0 rfl rfl)
theorem dX5_parseDigitAfterBlank_1 : decode cX5_parseDigitAfterBlank 1 = .ok (.bipush 32, 2) := dk_16 32 (dk_at dksX5_parseDigitAfterBlank_0 1 rfl rfl)
theorem dX5_parseDigitAfterBlank_3 : decode cX5_parseDigitAfterBlank 3 = .ok (.invokevirtual 102, 3) := dk_182 0 102 (dk_at dksX5_parseDigitAfterBlank_0 3 rfl rfl)
theorem dX5_parseDigitAfterBlank_6 : decode cX5_parseDigitAfterBlank 6 = .ok (.aload_n 0, 1) := dk_42 (dk_at dksX5_parseDigitAfterBlank_0 6 rfl rfl)
theorem dX5_parseDigitAfterBlank_7 : decode cX5_parseDigitAfterBlank 7 = .ok (.iconst 1, 1) := dk_4 (dk_at dksX5_parseDigitAfterBlank_0 7 rfl rfl)
theorem dX5_parseDigitAfterBlank_8 : decode cX5_parseDigitAfterBlank 8 = .ok (.invokevirtual 106, 3) := dk_182 0 106 (dk_at dksX5_parseDigitAfterBlank_0 8 rfl rfl)
theorem dX5_parseDigitAfterBlank_11 : decode cX5_parseDigitAfterBlank 11 = .ok (.ireturn, 1) := dk_172 (dk_at dksX5_parseDigitAfterBlank_0 11 rfl rfl)
abbrev cX5_expect : ByteArray := prog_6_method_5_code
def yX5_expect : MethodName := ⟨RX5, "expect", "(C)V"⟩
def dkwX5_expect_1 : List UInt8 := [89, 180, 0, 44, 4, 96, 181, 0, 44, 177]
abbrev dktX5_expect_1 : List UInt8 := dkwX5_expect_1 ++ []
def dkwX5_expect_0 : List UInt8 := [42, 180, 0, 62, 154, 0, 11, 42, 27, 182, 0, 66, 154, 0, 11, 42, 4, 181, 0, 62, 167, 0, 13, 42]
abbrev dktX5_expect_0 : List UInt8 := dkwX5_expect_0 ++ dktX5_expect_1
theorem dksX5_expect_0 : cX5_expect.data.toList.drop 0 = dktX5_expect_0 := by decide +kernel
theorem dksX5_expect_1 : cX5_expect.data.toList.drop 24 = dktX5_expect_1 := dk_seg dksX5_expect_0 24 rfl rfl
theorem dX5_expect_0 : decode cX5_expect 0 = .ok (.aload_n 0, 1) := dk_42 (dk_at dksX5_expect_0 0 rfl rfl)
theorem dX5_expect_1 : decode cX5_expect 1 = .ok (.getfield 62, 3) := dk_180 0 62 (dk_at dksX5_expect_0 1 rfl rfl)
theorem dX5_expect_4 : decode cX5_expect 4 = .ok (.ifCond .ne 11, 3) := dk_154 0 11 (dk_at dksX5_expect_0 4 rfl rfl)
theorem dX5_expect_7 : decode cX5_expect 7 = .ok (.aload_n 0, 1) := dk_42 (dk_at dksX5_expect_0 7 rfl rfl)
theorem dX5_expect_8 : decode cX5_expect 8 = .ok (.iload_n 1, 1) := dk_27 (dk_at dksX5_expect_0 8 rfl rfl)
theorem dX5_expect_9 : decode cX5_expect 9 = .ok (.invokevirtual 66, 3) := dk_182 0 66 (dk_at dksX5_expect_0 9 rfl rfl)
theorem dX5_expect_12 : decode cX5_expect 12 = .ok (.ifCond .ne 11, 3) := dk_154 0 11 (dk_at dksX5_expect_0 12 rfl rfl)
theorem dX5_expect_15 : decode cX5_expect 15 = .ok (.aload_n 0, 1) := dk_42 (dk_at dksX5_expect_0 15 rfl rfl)
theorem dX5_expect_16 : decode cX5_expect 16 = .ok (.iconst 1, 1) := dk_4 (dk_at dksX5_expect_0 16 rfl rfl)
theorem dX5_expect_17 : decode cX5_expect 17 = .ok (.putfield 62, 3) := dk_181 0 62 (dk_at dksX5_expect_0 17 rfl rfl)
theorem dX5_expect_20 : decode cX5_expect 20 = .ok (.goto 13, 3) := dk_167 0 13 (dk_at dksX5_expect_0 20 rfl rfl)
theorem dX5_expect_23 : decode cX5_expect 23 = .ok (.aload_n 0, 1) := dk_42 (dk_at dksX5_expect_0 23 rfl rfl)
theorem dX5_expect_24 : decode cX5_expect 24 = .ok (.dup, 1) := dk_89 (dk_at dksX5_expect_1 0 rfl rfl)
theorem dX5_expect_25 : decode cX5_expect 25 = .ok (.getfield 44, 3) := dk_180 0 44 (dk_at dksX5_expect_1 1 rfl rfl)
theorem dX5_expect_28 : decode cX5_expect 28 = .ok (.iconst 1, 1) := dk_4 (dk_at dksX5_expect_1 4 rfl rfl)
theorem dX5_expect_29 : decode cX5_expect 29 = .ok (.iadd, 1) := dk_96 (dk_at dksX5_expect_1 5 rfl rfl)
theorem dX5_expect_30 : decode cX5_expect 30 = .ok (.putfield 44, 3) := dk_181 0 44 (dk_at dksX5_expect_1 6 rfl rfl)
theorem dX5_expect_33 : decode cX5_expect 33 = .ok (.return_, 1) := dk_177 (dk_at dksX5_expect_1 9 rfl rfl)
abbrev cX5_isNext : ByteArray := prog_6_method_3_code
def yX5_isNext : MethodName := ⟨RX5, "isNext", "(C)Z"⟩
def dkwX5_isNext_1 : List UInt8 := [167, 0, 4, 3, 172]
abbrev dktX5_isNext_1 : List UInt8 := dkwX5_isNext_1 ++ []
def dkwX5_isNext_0 : List UInt8 := [42, 182, 0, 54, 154, 0, 22, 42, 180, 0, 40, 42, 180, 0, 44, 182, 0, 58, 27, 160, 0, 7, 4]
abbrev dktX5_isNext_0 : List UInt8 := dkwX5_isNext_0 ++ dktX5_isNext_1
theorem dksX5_isNext_0 : cX5_isNext.data.toList.drop 0 = dktX5_isNext_0 := by decide +kernel
theorem dksX5_isNext_1 : cX5_isNext.data.toList.drop 23 = dktX5_isNext_1 := dk_seg dksX5_isNext_0 23 rfl rfl
theorem dX5_isNext_0 : decode cX5_isNext 0 = .ok (.aload_n 0, 1) := dk_42 (dk_at dksX5_isNext_0 0 rfl rfl)
theorem dX5_isNext_1 : decode cX5_isNext 1 = .ok (.invokevirtual 54, 3) := dk_182 0 54 (dk_at dksX5_isNext_0 1 rfl rfl)
theorem dX5_isNext_4 : decode cX5_isNext 4 = .ok (.ifCond .ne 22, 3) := dk_154 0 22 (dk_at dksX5_isNext_0 4 rfl rfl)
theorem dX5_isNext_7 : decode cX5_isNext 7 = .ok (.aload_n 0, 1) := dk_42 (dk_at dksX5_isNext_0 7 rfl rfl)
theorem dX5_isNext_8 : decode cX5_isNext 8 = .ok (.getfield 40, 3) := dk_180 0 40 (dk_at dksX5_isNext_0 8 rfl rfl)
theorem dX5_isNext_11 : decode cX5_isNext 11 = .ok (.aload_n 0, 1) := dk_42 (dk_at dksX5_isNext_0 11 rfl rfl)
theorem dX5_isNext_12 : decode cX5_isNext 12 = .ok (.getfield 44, 3) := dk_180 0 44 (dk_at dksX5_isNext_0 12 rfl rfl)
theorem dX5_isNext_15 : decode cX5_isNext 15 = .ok (.invokevirtual 58, 3) := dk_182 0 58 (dk_at dksX5_isNext_0 15 rfl rfl)
theorem dX5_isNext_18 : decode cX5_isNext 18 = .ok (.iload_n 1, 1) := dk_27 (dk_at dksX5_isNext_0 18 rfl rfl)
theorem dX5_isNext_19 : decode cX5_isNext 19 = .ok (.if_icmp .ne 7, 3) := dk_160 0 7 (dk_at dksX5_isNext_0 19 rfl rfl)
theorem dX5_isNext_22 : decode cX5_isNext 22 = .ok (.iconst 1, 1) := dk_4 (dk_at dksX5_isNext_0 22 rfl rfl)
theorem dX5_isNext_23 : decode cX5_isNext 23 = .ok (.goto 4, 3) := dk_167 0 4 (dk_at dksX5_isNext_1 0 rfl rfl)
theorem dX5_isNext_26 : decode cX5_isNext 26 = .ok (.iconst 0, 1) := dk_3 (dk_at dksX5_isNext_1 3 rfl rfl)
theorem dX5_isNext_27 : decode cX5_isNext 27 = .ok (.ireturn, 1) := dk_172 (dk_at dksX5_isNext_1 4 rfl rfl)
abbrev cX5_parseDigits : ByteArray := prog_6_method_9_code
def yX5_parseDigits : MethodName := ⟨RX5, "parseDigits", "(I)I"⟩
def dkwX5_parseDigits_3 : List UInt8 := [167, 0, 4, 3, 128, 181, 0, 62, 28, 172]
abbrev dktX5_parseDigits_3 : List UInt8 := dkwX5_parseDigits_3 ++ []
def dkwX5_parseDigits_2 : List UInt8 := [180, 0, 44, 4, 96, 181, 0, 44, 132, 3, 1, 167, 255, 204, 42, 89, 180, 0, 62, 29, 154, 0, 7, 4]
abbrev dktX5_parseDigits_2 : List UInt8 := dkwX5_parseDigits_2 ++ dktX5_parseDigits_3
def dkwX5_parseDigits_1 : List UInt8 := [16, 10, 28, 104, 42, 180, 0, 40, 42, 180, 0, 44, 182, 0, 58, 96, 16, 48, 100, 61, 42, 89]
abbrev dktX5_parseDigits_1 : List UInt8 := dkwX5_parseDigits_1 ++ dktX5_parseDigits_2
def dkwX5_parseDigits_0 : List UInt8 := [3, 61, 3, 62, 42, 180, 0, 62, 154, 0, 51, 29, 27, 162, 0, 46, 42, 182, 0, 99, 153, 0, 39]
abbrev dktX5_parseDigits_0 : List UInt8 := dkwX5_parseDigits_0 ++ dktX5_parseDigits_1
theorem dksX5_parseDigits_0 : cX5_parseDigits.data.toList.drop 0 = dktX5_parseDigits_0 := by decide +kernel
theorem dksX5_parseDigits_1 : cX5_parseDigits.data.toList.drop 23 = dktX5_parseDigits_1 := dk_seg dksX5_parseDigits_0 23 rfl rfl
theorem dksX5_parseDigits_2 : cX5_parseDigits.data.toList.drop 45 = dktX5_parseDigits_2 := dk_seg dksX5_parseDigits_1 22 rfl rfl
theorem dksX5_parseDigits_3 : cX5_parseDigits.data.toList.drop 69 = dktX5_parseDigits_3 := dk_seg dksX5_parseDigits_2 24 rfl rfl
theorem dX5_parseDigits_0 : decode cX5_parseDigits 0 = .ok (.iconst 0, 1) := dk_3 (dk_at dksX5_parseDigits_0 0 rfl rfl)
theorem dX5_parseDigits_1 : decode cX5_parseDigits 1 = .ok (.istore_n 2, 1) := dk_61 (dk_at dksX5_parseDigits_0 1 rfl rfl)
theorem dX5_parseDigits_2 : decode cX5_parseDigits 2 = .ok (.iconst 0, 1) := dk_3 (dk_at dksX5_parseDigits_0 2 rfl rfl)
theorem dX5_parseDigits_3 : decode cX5_parseDigits 3 = .ok (.istore_n 3, 1) := dk_62 (dk_at dksX5_parseDigits_0 3 rfl rfl)
theorem dX5_parseDigits_4 : decode cX5_parseDigits 4 = .ok (.aload_n 0, 1) := dk_42 (dk_at dksX5_parseDigits_0 4 rfl rfl)
theorem dX5_parseDigits_5 : decode cX5_parseDigits 5 = .ok (.getfield 62, 3) := dk_180 0 62 (dk_at dksX5_parseDigits_0 5 rfl rfl)
theorem dX5_parseDigits_8 : decode cX5_parseDigits 8 = .ok (.ifCond .ne 51, 3) := dk_154 0 51 (dk_at dksX5_parseDigits_0 8 rfl rfl)
theorem dX5_parseDigits_11 : decode cX5_parseDigits 11 = .ok (.iload_n 3, 1) := dk_29 (dk_at dksX5_parseDigits_0 11 rfl rfl)
theorem dX5_parseDigits_12 : decode cX5_parseDigits 12 = .ok (.iload_n 1, 1) := dk_27 (dk_at dksX5_parseDigits_0 12 rfl rfl)
theorem dX5_parseDigits_13 : decode cX5_parseDigits 13 = .ok (.if_icmp .ge 46, 3) := dk_162 0 46 (dk_at dksX5_parseDigits_0 13 rfl rfl)
theorem dX5_parseDigits_16 : decode cX5_parseDigits 16 = .ok (.aload_n 0, 1) := dk_42 (dk_at dksX5_parseDigits_0 16 rfl rfl)
theorem dX5_parseDigits_17 : decode cX5_parseDigits 17 = .ok (.invokevirtual 99, 3) := dk_182 0 99 (dk_at dksX5_parseDigits_0 17 rfl rfl)
theorem dX5_parseDigits_20 : decode cX5_parseDigits 20 = .ok (.ifCond .eq 39, 3) := dk_153 0 39 (dk_at dksX5_parseDigits_0 20 rfl rfl)
theorem dX5_parseDigits_23 : decode cX5_parseDigits 23 = .ok (.bipush 10, 2) := dk_16 10 (dk_at dksX5_parseDigits_1 0 rfl rfl)
theorem dX5_parseDigits_25 : decode cX5_parseDigits 25 = .ok (.iload_n 2, 1) := dk_28 (dk_at dksX5_parseDigits_1 2 rfl rfl)
theorem dX5_parseDigits_26 : decode cX5_parseDigits 26 = .ok (.imul, 1) := dk_104 (dk_at dksX5_parseDigits_1 3 rfl rfl)
theorem dX5_parseDigits_27 : decode cX5_parseDigits 27 = .ok (.aload_n 0, 1) := dk_42 (dk_at dksX5_parseDigits_1 4 rfl rfl)
theorem dX5_parseDigits_28 : decode cX5_parseDigits 28 = .ok (.getfield 40, 3) := dk_180 0 40 (dk_at dksX5_parseDigits_1 5 rfl rfl)
theorem dX5_parseDigits_31 : decode cX5_parseDigits 31 = .ok (.aload_n 0, 1) := dk_42 (dk_at dksX5_parseDigits_1 8 rfl rfl)
theorem dX5_parseDigits_32 : decode cX5_parseDigits 32 = .ok (.getfield 44, 3) := dk_180 0 44 (dk_at dksX5_parseDigits_1 9 rfl rfl)
theorem dX5_parseDigits_35 : decode cX5_parseDigits 35 = .ok (.invokevirtual 58, 3) := dk_182 0 58 (dk_at dksX5_parseDigits_1 12 rfl rfl)
theorem dX5_parseDigits_38 : decode cX5_parseDigits 38 = .ok (.iadd, 1) := dk_96 (dk_at dksX5_parseDigits_1 15 rfl rfl)
theorem dX5_parseDigits_39 : decode cX5_parseDigits 39 = .ok (.bipush 48, 2) := dk_16 48 (dk_at dksX5_parseDigits_1 16 rfl rfl)
theorem dX5_parseDigits_41 : decode cX5_parseDigits 41 = .ok (.isub, 1) := dk_100 (dk_at dksX5_parseDigits_1 18 rfl rfl)
theorem dX5_parseDigits_42 : decode cX5_parseDigits 42 = .ok (.istore_n 2, 1) := dk_61 (dk_at dksX5_parseDigits_1 19 rfl rfl)
theorem dX5_parseDigits_43 : decode cX5_parseDigits 43 = .ok (.aload_n 0, 1) := dk_42 (dk_at dksX5_parseDigits_1 20 rfl rfl)
theorem dX5_parseDigits_44 : decode cX5_parseDigits 44 = .ok (.dup, 1) := dk_89 (dk_at dksX5_parseDigits_1 21 rfl rfl)
theorem dX5_parseDigits_45 : decode cX5_parseDigits 45 = .ok (.getfield 44, 3) := dk_180 0 44 (dk_at dksX5_parseDigits_2 0 rfl rfl)
theorem dX5_parseDigits_48 : decode cX5_parseDigits 48 = .ok (.iconst 1, 1) := dk_4 (dk_at dksX5_parseDigits_2 3 rfl rfl)
theorem dX5_parseDigits_49 : decode cX5_parseDigits 49 = .ok (.iadd, 1) := dk_96 (dk_at dksX5_parseDigits_2 4 rfl rfl)
theorem dX5_parseDigits_50 : decode cX5_parseDigits 50 = .ok (.putfield 44, 3) := dk_181 0 44 (dk_at dksX5_parseDigits_2 5 rfl rfl)
theorem dX5_parseDigits_53 : decode cX5_parseDigits 53 = .ok (.iinc 3 1, 3) := dk_132 3 1 (dk_at dksX5_parseDigits_2 8 rfl rfl)
theorem dX5_parseDigits_56 : decode cX5_parseDigits 56 = .ok (.goto (-52), 3) := dk_167 255 204 (dk_at dksX5_parseDigits_2 11 rfl rfl)
theorem dX5_parseDigits_59 : decode cX5_parseDigits 59 = .ok (.aload_n 0, 1) := dk_42 (dk_at dksX5_parseDigits_2 14 rfl rfl)
theorem dX5_parseDigits_60 : decode cX5_parseDigits 60 = .ok (.dup, 1) := dk_89 (dk_at dksX5_parseDigits_2 15 rfl rfl)
theorem dX5_parseDigits_61 : decode cX5_parseDigits 61 = .ok (.getfield 62, 3) := dk_180 0 62 (dk_at dksX5_parseDigits_2 16 rfl rfl)
theorem dX5_parseDigits_64 : decode cX5_parseDigits 64 = .ok (.iload_n 3, 1) := dk_29 (dk_at dksX5_parseDigits_2 19 rfl rfl)
theorem dX5_parseDigits_65 : decode cX5_parseDigits 65 = .ok (.ifCond .ne 7, 3) := dk_154 0 7 (dk_at dksX5_parseDigits_2 20 rfl rfl)
theorem dX5_parseDigits_68 : decode cX5_parseDigits 68 = .ok (.iconst 1, 1) := dk_4 (dk_at dksX5_parseDigits_2 23 rfl rfl)
theorem dX5_parseDigits_69 : decode cX5_parseDigits 69 = .ok (.goto 4, 3) := dk_167 0 4 (dk_at dksX5_parseDigits_3 0 rfl rfl)
theorem dX5_parseDigits_72 : decode cX5_parseDigits 72 = .ok (.iconst 0, 1) := dk_3 (dk_at dksX5_parseDigits_3 3 rfl rfl)
theorem dX5_parseDigits_73 : decode cX5_parseDigits 73 = .ok (.ior, 1) := dk_128 (dk_at dksX5_parseDigits_3 4 rfl rfl)
theorem dX5_parseDigits_74 : decode cX5_parseDigits 74 = .ok (.putfield 62, 3) := dk_181 0 62 (dk_at dksX5_parseDigits_3 5 rfl rfl)
theorem dX5_parseDigits_77 : decode cX5_parseDigits 77 = .ok (.iload_n 2, 1) := dk_28 (dk_at dksX5_parseDigits_3 8 rfl rfl)
theorem dX5_parseDigits_78 : decode cX5_parseDigits 78 = .ok (.ireturn, 1) := dk_172 (dk_at dksX5_parseDigits_3 9 rfl rfl)
abbrev cX5_isNextDigit : ByteArray := prog_6_method_4_code
def yX5_isNextDigit : MethodName := ⟨RX5, "isNextDigit", "()Z"⟩
def dkwX5_isNextDigit_1 : List UInt8 := [180, 0, 40, 42, 180, 0, 44, 182, 0, 58, 16, 57, 163, 0, 7, 4, 167, 0, 4, 3, 172]
abbrev dktX5_isNextDigit_1 : List UInt8 := dkwX5_isNextDigit_1 ++ []
def dkwX5_isNextDigit_0 : List UInt8 := [42, 182, 0, 54, 154, 0, 39, 42, 180, 0, 40, 42, 180, 0, 44, 182, 0, 58, 16, 48, 161, 0, 23, 42]
abbrev dktX5_isNextDigit_0 : List UInt8 := dkwX5_isNextDigit_0 ++ dktX5_isNextDigit_1
theorem dksX5_isNextDigit_0 : cX5_isNextDigit.data.toList.drop 0 = dktX5_isNextDigit_0 := by decide +kernel
theorem dksX5_isNextDigit_1 : cX5_isNextDigit.data.toList.drop 24 = dktX5_isNextDigit_1 := dk_seg dksX5_isNextDigit_0 24 rfl rfl
theorem dX5_isNextDigit_0 : decode cX5_isNextDigit 0 = .ok (.aload_n 0, 1) := dk_42 (dk_at dksX5_isNextDigit_0 0 rfl rfl)
theorem dX5_isNextDigit_1 : decode cX5_isNextDigit 1 = .ok (.invokevirtual 54, 3) := dk_182 0 54 (dk_at dksX5_isNextDigit_0 1 rfl rfl)
theorem dX5_isNextDigit_4 : decode cX5_isNextDigit 4 = .ok (.ifCond .ne 39, 3) := dk_154 0 39 (dk_at dksX5_isNextDigit_0 4 rfl rfl)
theorem dX5_isNextDigit_7 : decode cX5_isNextDigit 7 = .ok (.aload_n 0, 1) := dk_42 (dk_at dksX5_isNextDigit_0 7 rfl rfl)
theorem dX5_isNextDigit_8 : decode cX5_isNextDigit 8 = .ok (.getfield 40, 3) := dk_180 0 40 (dk_at dksX5_isNextDigit_0 8 rfl rfl)
theorem dX5_isNextDigit_11 : decode cX5_isNextDigit 11 = .ok (.aload_n 0, 1) := dk_42 (dk_at dksX5_isNextDigit_0 11 rfl rfl)
theorem dX5_isNextDigit_12 : decode cX5_isNextDigit 12 = .ok (.getfield 44, 3) := dk_180 0 44 (dk_at dksX5_isNextDigit_0 12 rfl rfl)
theorem dX5_isNextDigit_15 : decode cX5_isNextDigit 15 = .ok (.invokevirtual 58, 3) := dk_182 0 58 (dk_at dksX5_isNextDigit_0 15 rfl rfl)
theorem dX5_isNextDigit_18 : decode cX5_isNextDigit 18 = .ok (.bipush 48, 2) := dk_16 48 (dk_at dksX5_isNextDigit_0 18 rfl rfl)
theorem dX5_isNextDigit_20 : decode cX5_isNextDigit 20 = .ok (.if_icmp .lt 23, 3) := dk_161 0 23 (dk_at dksX5_isNextDigit_0 20 rfl rfl)
theorem dX5_isNextDigit_23 : decode cX5_isNextDigit 23 = .ok (.aload_n 0, 1) := dk_42 (dk_at dksX5_isNextDigit_0 23 rfl rfl)
theorem dX5_isNextDigit_24 : decode cX5_isNextDigit 24 = .ok (.getfield 40, 3) := dk_180 0 40 (dk_at dksX5_isNextDigit_1 0 rfl rfl)
theorem dX5_isNextDigit_27 : decode cX5_isNextDigit 27 = .ok (.aload_n 0, 1) := dk_42 (dk_at dksX5_isNextDigit_1 3 rfl rfl)
theorem dX5_isNextDigit_28 : decode cX5_isNextDigit 28 = .ok (.getfield 44, 3) := dk_180 0 44 (dk_at dksX5_isNextDigit_1 4 rfl rfl)
theorem dX5_isNextDigit_31 : decode cX5_isNextDigit 31 = .ok (.invokevirtual 58, 3) := dk_182 0 58 (dk_at dksX5_isNextDigit_1 7 rfl rfl)
theorem dX5_isNextDigit_34 : decode cX5_isNextDigit 34 = .ok (.bipush 57, 2) := dk_16 57 (dk_at dksX5_isNextDigit_1 10 rfl rfl)
theorem dX5_isNextDigit_36 : decode cX5_isNextDigit 36 = .ok (.if_icmp .gt 7, 3) := dk_163 0 7 (dk_at dksX5_isNextDigit_1 12 rfl rfl)
theorem dX5_isNextDigit_39 : decode cX5_isNextDigit 39 = .ok (.iconst 1, 1) := dk_4 (dk_at dksX5_isNextDigit_1 15 rfl rfl)
theorem dX5_isNextDigit_40 : decode cX5_isNextDigit 40 = .ok (.goto 4, 3) := dk_167 0 4 (dk_at dksX5_isNextDigit_1 16 rfl rfl)
theorem dX5_isNextDigit_43 : decode cX5_isNextDigit 43 = .ok (.iconst 0, 1) := dk_3 (dk_at dksX5_isNextDigit_1 19 rfl rfl)
theorem dX5_isNextDigit_44 : decode cX5_isNextDigit 44 = .ok (.ireturn, 1) := dk_172 (dk_at dksX5_isNextDigit_1 20 rfl rfl)
abbrev cX5_parseNumberAfterBlank : ByteArray := prog_6_method_10_code
def yX5_parseNumberAfterBlank : MethodName := ⟨RX5, "parseNumberAfterBlank", "()I"⟩
def dkwX5_parseNumberAfterBlank_0 : List UInt8 := [42, 16, 32, 182, 0, 102, 42, 6, 182, 0, 106, 172]
abbrev dktX5_parseNumberAfterBlank_0 : List UInt8 := dkwX5_parseNumberAfterBlank_0 ++ []
theorem dksX5_parseNumberAfterBlank_0 : cX5_parseNumberAfterBlank.data.toList.drop 0 = dktX5_parseNumberAfterBlank_0 := by decide +kernel
theorem dX5_parseNumberAfterBlank_0 : decode cX5_parseNumberAfterBlank 0 = .ok (.aload_n 0, 1) := dk_42 (dk_at dksX5_parseNumberAfterBlank_0 0 rfl rfl)
theorem dX5_parseNumberAfterBlank_1 : decode cX5_parseNumberAfterBlank 1 = .ok (.bipush 32, 2) := dk_16 32 (dk_at dksX5_parseNumberAfterBlank_0 1 rfl rfl)
theorem dX5_parseNumberAfterBlank_3 : decode cX5_parseNumberAfterBlank 3 = .ok (.invokevirtual 102, 3) := dk_182 0 102 (dk_at dksX5_parseNumberAfterBlank_0 3 rfl rfl)
theorem dX5_parseNumberAfterBlank_6 : decode cX5_parseNumberAfterBlank 6 = .ok (.aload_n 0, 1) := dk_42 (dk_at dksX5_parseNumberAfterBlank_0 6 rfl rfl)
theorem dX5_parseNumberAfterBlank_7 : decode cX5_parseNumberAfterBlank 7 = .ok (.iconst 3, 1) := dk_6 (dk_at dksX5_parseNumberAfterBlank_0 7 rfl rfl)
theorem dX5_parseNumberAfterBlank_8 : decode cX5_parseNumberAfterBlank 8 = .ok (.invokevirtual 106, 3) := dk_182 0 106 (dk_at dksX5_parseNumberAfterBlank_0 8 rfl rfl)
theorem dX5_parseNumberAfterBlank_11 : decode cX5_parseNumberAfterBlank 11 = .ok (.ireturn, 1) := dk_172 (dk_at dksX5_parseNumberAfterBlank_0 11 rfl rfl)
theorem q136 : (Jvm.Cond.initialized "ClaimRegistry$Parser") ∈ lw_all := lw_g (lw_at lw_m1 42 rfl) rfl
theorem q871 : (Jvm.Cond.selects "ClaimRegistry$Parser" ({ cls := "java/lang/Object", name := "getClass", desc := "()Ljava/lang/Class;" } : Jvm.MethodName) ({ cls := "java/lang/Object", name := "getClass", desc := "()Ljava/lang/Class;" } : Jvm.MethodName)) ∈ lw_all := lw_g (lw_at lw_m4 57 rfl) rfl
theorem q2098 : (Jvm.Cond.instantiable "ClaimRegistry$Parser" (5 : Nat)) ∈ lw_all := lw_g (lw_at lw_m9 84 rfl) rfl
theorem q2101 : (Jvm.Cond.instanceMethod ({ cls := "ClaimRegistry$Parser", name := "<init>", desc := "(Ljava/lang/String;)V" } : Jvm.MethodName)) ∈ lw_all := lw_g (lw_at lw_m9 87 rfl) rfl
theorem q2102 : (Jvm.Cond.code ({ cls := "ClaimRegistry$Parser", name := "<init>", desc := "(Ljava/lang/String;)V" } : Jvm.MethodName) prog_6_method_1_code (2 : Nat) (Option.none : Option Jvm.ClassFile.FieldType)) ∈ lw_all := lw_g (lw_at lw_m9 88 rfl) rfl
theorem q2103 : (Jvm.Cond.methodLink "ClaimRegistry$Parser" (1 : Nat) ({ cls := "java/lang/Object", name := "<init>", desc := "()V" } : Jvm.MethodName)) ∈ lw_all := lw_g (lw_at lw_m9 89 rfl) rfl
theorem q2104 : (Jvm.Cond.stringRef "ClaimRegistry$Parser" (7 : Nat) "add") ∈ lw_tbl := lw_at lw_m9 90 rfl
theorem q2105 : (Jvm.Cond.stringRef "ClaimRegistry$Parser" (9 : Nat) "sign") ∈ lw_tbl := lw_at lw_m9 91 rfl
theorem q2106 : (Jvm.Cond.stringRef "ClaimRegistry$Parser" (11 : Nat) "countersign") ∈ lw_tbl := lw_at lw_m9 92 rfl
theorem q2107 : (Jvm.Cond.stringRef "ClaimRegistry$Parser" (13 : Nat) "settle") ∈ lw_tbl := lw_at lw_m9 93 rfl
theorem q2108 : (Jvm.Cond.stringRef "ClaimRegistry$Parser" (15 : Nat) "tick") ∈ lw_tbl := lw_at lw_m9 94 rfl
theorem q2109 : (Jvm.Cond.stringRef "ClaimRegistry$Parser" (17 : Nat) "audit") ∈ lw_tbl := lw_at lw_m9 95 rfl
theorem q2110 : (Jvm.Cond.stringRef "ClaimRegistry$Parser" (19 : Nat) "rate") ∈ lw_tbl := lw_at lw_m9 96 rfl
theorem q2111 : (Jvm.Cond.methodLink "ClaimRegistry$Parser" (21 : Nat) ({ cls := "java/util/List", name := "of", desc := "(Ljava/lang/Object;Ljava/lang/Object;Ljava/lang/Object;Ljava/lang/Object;Ljava/lang/Object;Ljava/lang/Object;Ljava/lang/Object;)Ljava/util/List;" } : Jvm.MethodName)) ∈ lw_all := lw_g (lw_at lw_m9 97 rfl) rfl
theorem q2163 : (Jvm.Cond.classLink "ClaimRegistry$Parser" (33 : Nat) "java/util/ArrayList") ∈ lw_all := lw_g (lw_at lw_m9 149 rfl) rfl
theorem q2164 : (Jvm.Cond.methodLink "ClaimRegistry$Parser" (35 : Nat) ({ cls := "java/util/ArrayList", name := "<init>", desc := "()V" } : Jvm.MethodName)) ∈ lw_all := lw_g (lw_at lw_m9 150 rfl) rfl
theorem q2180 : (Jvm.Cond.fieldLink "ClaimRegistry$Parser" (27 : Nat) "ClaimRegistry$Parser" "keywords" "Ljava/util/List;") ∈ lw_all := lw_g (lw_at lw_m9 166 rfl) rfl
theorem q2181 : (Jvm.Cond.fieldLink "ClaimRegistry$Parser" (40 : Nat) "ClaimRegistry$Parser" "program" "Ljava/lang/String;") ∈ lw_all := lw_g (lw_at lw_m9 167 rfl) rfl
theorem q2182 : (Jvm.Cond.fieldLink "ClaimRegistry$Parser" (36 : Nat) "ClaimRegistry$Parser" "commands" "Ljava/util/ArrayList;") ∈ lw_all := lw_g (lw_at lw_m9 168 rfl) rfl
theorem q2184 : (Jvm.Cond.fieldLink "ClaimRegistry$Parser" (44 : Nat) "ClaimRegistry$Parser" "position" "I") ∈ lw_all := lw_g (lw_at lw_m9 170 rfl) rfl
theorem q2186 : (Jvm.Cond.fieldLink "ClaimRegistry$Parser" (62 : Nat) "ClaimRegistry$Parser" "hasFailed" "Z") ∈ lw_all := lw_g (lw_at lw_m9 172 rfl) rfl
theorem q2187 : (Jvm.Cond.laysFinal "ClaimRegistry$Parser" "ClaimRegistry$Parser" "keywords" "Ljava/util/List;") ∈ lw_all := lw_g (lw_at lw_m9 173 rfl) rfl
theorem q2188 : (Jvm.Cond.soleField "ClaimRegistry$Parser" "keywords") ∈ lw_all := lw_g (lw_at lw_m9 174 rfl) rfl
theorem q2189 : (Jvm.Cond.laysFinal "ClaimRegistry$Parser" "ClaimRegistry$Parser" "program" "Ljava/lang/String;") ∈ lw_all := lw_g (lw_at lw_m9 175 rfl) rfl
theorem q2190 : (Jvm.Cond.soleField "ClaimRegistry$Parser" "program") ∈ lw_all := lw_g (lw_at lw_m9 176 rfl) rfl
theorem q2191 : (Jvm.Cond.laysFinal "ClaimRegistry$Parser" "ClaimRegistry$Parser" "commands" "Ljava/util/ArrayList;") ∈ lw_all := lw_g (lw_at lw_m9 177 rfl) rfl
theorem q2192 : (Jvm.Cond.soleField "ClaimRegistry$Parser" "commands") ∈ lw_all := lw_g (lw_at lw_m9 178 rfl) rfl
theorem q2193 : (Jvm.Cond.lays "ClaimRegistry$Parser" "ClaimRegistry$Parser" "position" "I") ∈ lw_all := lw_g (lw_at lw_m9 179 rfl) rfl
theorem q2194 : (Jvm.Cond.soleField "ClaimRegistry$Parser" "position") ∈ lw_all := lw_g (lw_at lw_m9 180 rfl) rfl
theorem q2195 : (Jvm.Cond.lays "ClaimRegistry$Parser" "ClaimRegistry$Parser" "hasFailed" "Z") ∈ lw_all := lw_g (lw_at lw_m9 181 rfl) rfl
theorem q2196 : (Jvm.Cond.soleField "ClaimRegistry$Parser" "hasFailed") ∈ lw_all := lw_g (lw_at lw_m9 182 rfl) rfl
theorem q2197 : (Jvm.Cond.superclass "ClaimRegistry$Parser" "java/lang/Object") ∈ lw_all := lw_g (lw_at lw_m9 183 rfl) rfl
theorem q2199 : (Jvm.Cond.instanceMethod ({ cls := "ClaimRegistry$Parser", name := "parse", desc := "()Z" } : Jvm.MethodName)) ∈ lw_all := lw_g (lw_at lw_m9 185 rfl) rfl
theorem q2200 : (Jvm.Cond.selects "ClaimRegistry$Parser" ({ cls := "ClaimRegistry$Parser", name := "parse", desc := "()Z" } : Jvm.MethodName) ({ cls := "ClaimRegistry$Parser", name := "parse", desc := "()Z" } : Jvm.MethodName)) ∈ lw_all := lw_g (lw_at lw_m9 186 rfl) rfl
theorem q2201 : (Jvm.Cond.code ({ cls := "ClaimRegistry$Parser", name := "parse", desc := "()Z" } : Jvm.MethodName) prog_6_method_14_code (1 : Nat) (Option.some Jvm.ClassFile.FieldType.boolean)) ∈ lw_all := lw_g (lw_at lw_m9 187 rfl) rfl
theorem q2202 : (Jvm.Cond.methodLink "ClaimRegistry$Parser" (144 : Nat) ({ cls := "ClaimRegistry$Parser", name := "parseCommand", desc := "()V" } : Jvm.MethodName)) ∈ lw_all := lw_g (lw_at lw_m9 188 rfl) rfl
theorem q2203 : (Jvm.Cond.privateMethod ({ cls := "ClaimRegistry$Parser", name := "parseCommand", desc := "()V" } : Jvm.MethodName)) ∈ lw_tbl := lw_at lw_m9 189 rfl
theorem q2204 : (Jvm.Cond.instanceMethod ({ cls := "ClaimRegistry$Parser", name := "parseCommand", desc := "()V" } : Jvm.MethodName)) ∈ lw_all := lw_g (lw_at lw_m9 190 rfl) rfl
theorem q2205 : (Jvm.Cond.code ({ cls := "ClaimRegistry$Parser", name := "parseCommand", desc := "()V" } : Jvm.MethodName) prog_6_method_13_code (2 : Nat) (Option.none : Option Jvm.ClassFile.FieldType)) ∈ lw_all := lw_g (lw_at lw_m9 191 rfl) rfl
theorem q2206 : (Jvm.Cond.classLink "ClaimRegistry$Parser" (111 : Nat) "ClaimRegistry$Command") ∈ lw_all := lw_g (lw_at lw_m9 192 rfl) rfl
theorem q2208 : (Jvm.Cond.methodLink "ClaimRegistry$Parser" (131 : Nat) ({ cls := "ClaimRegistry$Parser", name := "parseKeyword", desc := "()Ljava/lang/String;" } : Jvm.MethodName)) ∈ lw_all := lw_g (lw_at lw_m9 194 rfl) rfl
theorem q2209 : (Jvm.Cond.privateMethod ({ cls := "ClaimRegistry$Parser", name := "parseKeyword", desc := "()Ljava/lang/String;" } : Jvm.MethodName)) ∈ lw_tbl := lw_at lw_m9 195 rfl
theorem q2210 : (Jvm.Cond.instanceMethod ({ cls := "ClaimRegistry$Parser", name := "parseKeyword", desc := "()Ljava/lang/String;" } : Jvm.MethodName)) ∈ lw_all := lw_g (lw_at lw_m9 196 rfl) rfl
theorem q2211 : (Jvm.Cond.code ({ cls := "ClaimRegistry$Parser", name := "parseKeyword", desc := "()Ljava/lang/String;" } : Jvm.MethodName) prog_6_method_8_code (3 : Nat) (Option.some (Jvm.ClassFile.FieldType.object "java/lang/String"))) ∈ lw_all := lw_g (lw_at lw_m9 197 rfl) rfl
theorem q2212 : (Jvm.Cond.methodLink "ClaimRegistry$Parser" (54 : Nat) ({ cls := "ClaimRegistry$Parser", name := "isAtEnd", desc := "()Z" } : Jvm.MethodName)) ∈ lw_all := lw_g (lw_at lw_m9 198 rfl) rfl
theorem q2213 : (Jvm.Cond.privateMethod ({ cls := "ClaimRegistry$Parser", name := "isAtEnd", desc := "()Z" } : Jvm.MethodName)) ∈ lw_tbl := lw_at lw_m9 199 rfl
theorem q2214 : (Jvm.Cond.instanceMethod ({ cls := "ClaimRegistry$Parser", name := "isAtEnd", desc := "()Z" } : Jvm.MethodName)) ∈ lw_all := lw_g (lw_at lw_m9 200 rfl) rfl
theorem q2215 : (Jvm.Cond.code ({ cls := "ClaimRegistry$Parser", name := "isAtEnd", desc := "()Z" } : Jvm.MethodName) prog_6_method_2_code (1 : Nat) (Option.some Jvm.ClassFile.FieldType.boolean)) ∈ lw_all := lw_g (lw_at lw_m9 201 rfl) rfl
theorem q2216 : (Jvm.Cond.methodLink "ClaimRegistry$Parser" (48 : Nat) ({ cls := "java/lang/String", name := "length", desc := "()I" } : Jvm.MethodName)) ∈ lw_all := lw_g (lw_at lw_m9 202 rfl) rfl
theorem q2217 : (Jvm.Cond.methodLink "ClaimRegistry$Parser" (87 : Nat) ({ cls := "java/lang/String", name := "substring", desc := "(II)Ljava/lang/String;" } : Jvm.MethodName)) ∈ lw_all := lw_g (lw_at lw_m9 203 rfl) rfl
theorem q2245 : (Jvm.Cond.methodLink "ClaimRegistry$Parser" (91 : Nat) ({ cls := "ClaimRegistry$Parser", name := "isKeywordPrefix", desc := "(Ljava/lang/String;)Z" } : Jvm.MethodName)) ∈ lw_all := lw_g (lw_at lw_m9 231 rfl) rfl
theorem q2246 : (Jvm.Cond.privateMethod ({ cls := "ClaimRegistry$Parser", name := "isKeywordPrefix", desc := "(Ljava/lang/String;)Z" } : Jvm.MethodName)) ∈ lw_tbl := lw_at lw_m9 232 rfl
theorem q2247 : (Jvm.Cond.instanceMethod ({ cls := "ClaimRegistry$Parser", name := "isKeywordPrefix", desc := "(Ljava/lang/String;)Z" } : Jvm.MethodName)) ∈ lw_all := lw_g (lw_at lw_m9 233 rfl) rfl
theorem q2248 : (Jvm.Cond.code ({ cls := "ClaimRegistry$Parser", name := "isKeywordPrefix", desc := "(Ljava/lang/String;)Z" } : Jvm.MethodName) prog_6_method_7_code (4 : Nat) (Option.some Jvm.ClassFile.FieldType.boolean)) ∈ lw_all := lw_g (lw_at lw_m9 234 rfl) rfl
theorem q2249 : (Jvm.Cond.interfaceEntry "ClaimRegistry$Parser" (70 : Nat)) ∈ lw_tbl := lw_at lw_m9 235 rfl
theorem q2250 : (Jvm.Cond.methodLink "ClaimRegistry$Parser" (70 : Nat) ({ cls := "java/util/List", name := "iterator", desc := "()Ljava/util/Iterator;" } : Jvm.MethodName)) ∈ lw_all := lw_g (lw_at lw_m9 236 rfl) rfl
theorem q2295 : (Jvm.Cond.interfaceEntry "ClaimRegistry$Parser" (74 : Nat)) ∈ lw_tbl := lw_at lw_m10 41 rfl
theorem q2296 : (Jvm.Cond.methodLink "ClaimRegistry$Parser" (74 : Nat) ({ cls := "java/util/Iterator", name := "hasNext", desc := "()Z" } : Jvm.MethodName)) ∈ lw_all := lw_g (lw_at lw_m10 42 rfl) rfl
theorem q2297 : (Jvm.Cond.interfaceEntry "ClaimRegistry$Parser" (79 : Nat)) ∈ lw_tbl := lw_at lw_m10 43 rfl
theorem q2298 : (Jvm.Cond.methodLink "ClaimRegistry$Parser" (79 : Nat) ({ cls := "java/util/Iterator", name := "next", desc := "()Ljava/lang/Object;" } : Jvm.MethodName)) ∈ lw_all := lw_g (lw_at lw_m10 44 rfl) rfl
theorem q2299 : (Jvm.Cond.classLink "ClaimRegistry$Parser" (49 : Nat) "java/lang/String") ∈ lw_all := lw_g (lw_at lw_m10 45 rfl) rfl
theorem q2300 : (Jvm.Cond.methodLink "ClaimRegistry$Parser" (83 : Nat) ({ cls := "ClaimRegistry$Parser", name := "hasPrefix", desc := "(Ljava/lang/String;Ljava/lang/String;)Z" } : Jvm.MethodName)) ∈ lw_all := lw_g (lw_at lw_m10 46 rfl) rfl
theorem q2301 : (Jvm.Cond.static ({ cls := "ClaimRegistry$Parser", name := "hasPrefix", desc := "(Ljava/lang/String;Ljava/lang/String;)Z" } : Jvm.MethodName)) ∈ lw_all := lw_g (lw_at lw_m10 47 rfl) rfl
theorem q2302 : (Jvm.Cond.code ({ cls := "ClaimRegistry$Parser", name := "hasPrefix", desc := "(Ljava/lang/String;Ljava/lang/String;)Z" } : Jvm.MethodName) prog_6_method_6_code (3 : Nat) (Option.some Jvm.ClassFile.FieldType.boolean)) ∈ lw_all := lw_g (lw_at lw_m10 48 rfl) rfl
theorem q2303 : (Jvm.Cond.methodLink "ClaimRegistry$Parser" (58 : Nat) ({ cls := "java/lang/String", name := "charAt", desc := "(I)C" } : Jvm.MethodName)) ∈ lw_all := lw_g (lw_at lw_m10 49 rfl) rfl
theorem q2314 : (Jvm.Cond.interfaceEntry "ClaimRegistry$Parser" (95 : Nat)) ∈ lw_tbl := lw_at lw_m10 60 rfl
theorem q2315 : (Jvm.Cond.methodLink "ClaimRegistry$Parser" (95 : Nat) ({ cls := "java/util/List", name := "contains", desc := "(Ljava/lang/Object;)Z" } : Jvm.MethodName)) ∈ lw_all := lw_g (lw_at lw_m10 61 rfl) rfl
theorem q2338 : (Jvm.Cond.selects "ClaimRegistry$Parser" ({ cls := "java/lang/Object", name := "equals", desc := "(Ljava/lang/Object;)Z" } : Jvm.MethodName) ({ cls := "java/lang/Object", name := "equals", desc := "(Ljava/lang/Object;)Z" } : Jvm.MethodName)) ∈ lw_all := lw_g (lw_at lw_m10 84 rfl) rfl
theorem q2390 : (Jvm.Cond.methodLink "ClaimRegistry$Parser" (135 : Nat) ({ cls := "ClaimRegistry$Command", name := "<init>", desc := "(Ljava/lang/String;)V" } : Jvm.MethodName)) ∈ lw_all := lw_g (lw_at lw_m10 136 rfl) rfl
theorem q2395 : (Jvm.Cond.fieldLinkNest "ClaimRegistry$Parser" (116 : Nat) "ClaimRegistry$Command" "keyword" "Ljava/lang/String;" "ClaimRegistry") ∈ lw_tbl := lw_at lw_m10 141 rfl
theorem q2398 : (Jvm.Cond.fieldLinkNest "ClaimRegistry$Parser" (110 : Nat) "ClaimRegistry$Command" "arguments" "[I" "ClaimRegistry") ∈ lw_tbl := lw_at lw_m10 144 rfl
theorem q2405 : (Jvm.Cond.methodLink "ClaimRegistry$Parser" (138 : Nat) ({ cls := "java/util/ArrayList", name := "add", desc := "(Ljava/lang/Object;)Z" } : Jvm.MethodName)) ∈ lw_all := lw_g (lw_at lw_m10 151 rfl) rfl
theorem q2425 : (Jvm.Cond.methodLink "ClaimRegistry$Parser" (140 : Nat) ({ cls := "ClaimRegistry$Parser", name := "parseArguments", desc := "(LClaimRegistry$Command;)V" } : Jvm.MethodName)) ∈ lw_all := lw_g (lw_at lw_m10 171 rfl) rfl
theorem q2426 : (Jvm.Cond.privateMethod ({ cls := "ClaimRegistry$Parser", name := "parseArguments", desc := "(LClaimRegistry$Command;)V" } : Jvm.MethodName)) ∈ lw_tbl := lw_at lw_m10 172 rfl
theorem q2427 : (Jvm.Cond.instanceMethod ({ cls := "ClaimRegistry$Parser", name := "parseArguments", desc := "(LClaimRegistry$Command;)V" } : Jvm.MethodName)) ∈ lw_all := lw_g (lw_at lw_m10 173 rfl) rfl
theorem q2428 : (Jvm.Cond.code ({ cls := "ClaimRegistry$Parser", name := "parseArguments", desc := "(LClaimRegistry$Command;)V" } : Jvm.MethodName) prog_6_method_12_code (5 : Nat) (Option.none : Option Jvm.ClassFile.FieldType)) ∈ lw_all := lw_g (lw_at lw_m10 174 rfl) rfl
theorem q2429 : (Jvm.Cond.methodLink "ClaimRegistry$Parser" (119 : Nat) ({ cls := "java/lang/String", name := "hashCode", desc := "()I" } : Jvm.MethodName)) ∈ lw_all := lw_g (lw_at lw_m10 175 rfl) rfl
theorem q2486 : (Jvm.Cond.methodLink "ClaimRegistry$Parser" (122 : Nat) ({ cls := "java/lang/String", name := "equals", desc := "(Ljava/lang/Object;)Z" } : Jvm.MethodName)) ∈ lw_all := lw_g (lw_at lw_m10 232 rfl) rfl
theorem q2487 : (Jvm.Cond.methodLink "ClaimRegistry$Parser" (125 : Nat) ({ cls := "ClaimRegistry$Parser", name := "parseDigitAfterBlank", desc := "()I" } : Jvm.MethodName)) ∈ lw_all := lw_g (lw_at lw_m10 233 rfl) rfl
theorem q2488 : (Jvm.Cond.privateMethod ({ cls := "ClaimRegistry$Parser", name := "parseDigitAfterBlank", desc := "()I" } : Jvm.MethodName)) ∈ lw_tbl := lw_at lw_m10 234 rfl
theorem q2489 : (Jvm.Cond.instanceMethod ({ cls := "ClaimRegistry$Parser", name := "parseDigitAfterBlank", desc := "()I" } : Jvm.MethodName)) ∈ lw_all := lw_g (lw_at lw_m10 235 rfl) rfl
theorem q2490 : (Jvm.Cond.code ({ cls := "ClaimRegistry$Parser", name := "parseDigitAfterBlank", desc := "()I" } : Jvm.MethodName) prog_6_method_11_code (1 : Nat) (Option.some Jvm.ClassFile.FieldType.int)) ∈ lw_all := lw_g (lw_at lw_m10 236 rfl) rfl
theorem q2491 : (Jvm.Cond.methodLink "ClaimRegistry$Parser" (102 : Nat) ({ cls := "ClaimRegistry$Parser", name := "expect", desc := "(C)V" } : Jvm.MethodName)) ∈ lw_all := lw_g (lw_at lw_m10 237 rfl) rfl
theorem q2492 : (Jvm.Cond.privateMethod ({ cls := "ClaimRegistry$Parser", name := "expect", desc := "(C)V" } : Jvm.MethodName)) ∈ lw_tbl := lw_at lw_m10 238 rfl
theorem q2493 : (Jvm.Cond.instanceMethod ({ cls := "ClaimRegistry$Parser", name := "expect", desc := "(C)V" } : Jvm.MethodName)) ∈ lw_all := lw_g (lw_at lw_m10 239 rfl) rfl
theorem q2494 : (Jvm.Cond.code ({ cls := "ClaimRegistry$Parser", name := "expect", desc := "(C)V" } : Jvm.MethodName) prog_6_method_5_code (2 : Nat) (Option.none : Option Jvm.ClassFile.FieldType)) ∈ lw_all := lw_g (lw_at lw_m11 0 rfl) rfl
theorem q2495 : (Jvm.Cond.methodLink "ClaimRegistry$Parser" (66 : Nat) ({ cls := "ClaimRegistry$Parser", name := "isNext", desc := "(C)Z" } : Jvm.MethodName)) ∈ lw_all := lw_g (lw_at lw_m11 1 rfl) rfl
theorem q2496 : (Jvm.Cond.privateMethod ({ cls := "ClaimRegistry$Parser", name := "isNext", desc := "(C)Z" } : Jvm.MethodName)) ∈ lw_tbl := lw_at lw_m11 2 rfl
theorem q2497 : (Jvm.Cond.instanceMethod ({ cls := "ClaimRegistry$Parser", name := "isNext", desc := "(C)Z" } : Jvm.MethodName)) ∈ lw_all := lw_g (lw_at lw_m11 3 rfl) rfl
theorem q2498 : (Jvm.Cond.code ({ cls := "ClaimRegistry$Parser", name := "isNext", desc := "(C)Z" } : Jvm.MethodName) prog_6_method_3_code (2 : Nat) (Option.some Jvm.ClassFile.FieldType.boolean)) ∈ lw_all := lw_g (lw_at lw_m11 4 rfl) rfl
theorem q2499 : (Jvm.Cond.methodLink "ClaimRegistry$Parser" (106 : Nat) ({ cls := "ClaimRegistry$Parser", name := "parseDigits", desc := "(I)I" } : Jvm.MethodName)) ∈ lw_all := lw_g (lw_at lw_m11 5 rfl) rfl
theorem q2500 : (Jvm.Cond.privateMethod ({ cls := "ClaimRegistry$Parser", name := "parseDigits", desc := "(I)I" } : Jvm.MethodName)) ∈ lw_tbl := lw_at lw_m11 6 rfl
theorem q2501 : (Jvm.Cond.instanceMethod ({ cls := "ClaimRegistry$Parser", name := "parseDigits", desc := "(I)I" } : Jvm.MethodName)) ∈ lw_all := lw_g (lw_at lw_m11 7 rfl) rfl
theorem q2502 : (Jvm.Cond.code ({ cls := "ClaimRegistry$Parser", name := "parseDigits", desc := "(I)I" } : Jvm.MethodName) prog_6_method_9_code (4 : Nat) (Option.some Jvm.ClassFile.FieldType.int)) ∈ lw_all := lw_g (lw_at lw_m11 8 rfl) rfl
theorem q2503 : (Jvm.Cond.methodLink "ClaimRegistry$Parser" (99 : Nat) ({ cls := "ClaimRegistry$Parser", name := "isNextDigit", desc := "()Z" } : Jvm.MethodName)) ∈ lw_all := lw_g (lw_at lw_m11 9 rfl) rfl
theorem q2504 : (Jvm.Cond.privateMethod ({ cls := "ClaimRegistry$Parser", name := "isNextDigit", desc := "()Z" } : Jvm.MethodName)) ∈ lw_tbl := lw_at lw_m11 10 rfl
theorem q2505 : (Jvm.Cond.instanceMethod ({ cls := "ClaimRegistry$Parser", name := "isNextDigit", desc := "()Z" } : Jvm.MethodName)) ∈ lw_all := lw_g (lw_at lw_m11 11 rfl) rfl
theorem q2506 : (Jvm.Cond.code ({ cls := "ClaimRegistry$Parser", name := "isNextDigit", desc := "()Z" } : Jvm.MethodName) prog_6_method_4_code (1 : Nat) (Option.some Jvm.ClassFile.FieldType.boolean)) ∈ lw_all := lw_g (lw_at lw_m11 12 rfl) rfl
theorem q2507 : (Jvm.Cond.methodLink "ClaimRegistry$Parser" (128 : Nat) ({ cls := "ClaimRegistry$Parser", name := "parseNumberAfterBlank", desc := "()I" } : Jvm.MethodName)) ∈ lw_all := lw_g (lw_at lw_m11 13 rfl) rfl
theorem q2508 : (Jvm.Cond.privateMethod ({ cls := "ClaimRegistry$Parser", name := "parseNumberAfterBlank", desc := "()I" } : Jvm.MethodName)) ∈ lw_tbl := lw_at lw_m11 14 rfl
theorem q2509 : (Jvm.Cond.instanceMethod ({ cls := "ClaimRegistry$Parser", name := "parseNumberAfterBlank", desc := "()I" } : Jvm.MethodName)) ∈ lw_all := lw_g (lw_at lw_m11 15 rfl) rfl
theorem q2510 : (Jvm.Cond.code ({ cls := "ClaimRegistry$Parser", name := "parseNumberAfterBlank", desc := "()I" } : Jvm.MethodName) prog_6_method_10_code (1 : Nat) (Option.some Jvm.ClassFile.FieldType.int)) ∈ lw_all := lw_g (lw_at lw_m11 16 rfl) rfl
theorem q3123 : (Jvm.Cond.castable "ClaimRegistry$Parser" "java/lang/Object") ∈ lw_tbl := lw_at lw_m13 149 rfl
theorem in_X5 : ∀ w ∈ wsX50, w ∈ lw_all := lw_in wsX50 [2187, 2189, 2191, 2193, 2195] (by decide +kernel) (by decide +kernel)

/-! ClaimRegistry$Command -/
set_option maxRecDepth 100000
def RX6 : String := "ClaimRegistry$Command"
def TX6 : u_T := fun k => match k with
  | 0 => ("ClaimRegistry$Command", "keyword", "Ljava/lang/String;", true)
  | _ => ("ClaimRegistry$Command", "arguments", "[I", true)
def tyX6 : Nat → FieldType := fun k => match k with
  | 0 => .object "java/lang/String"
  | _ => .array .int
abbrev wsX60 : List Cond := u_ws RX6 TX6 2
theorem nmX6 : ∀ a, a < 2 → ∀ b, b < 2 → a ≠ b → (TX6 a).2.1 ≠ (TX6 b).2.1 := by decide +kernel
theorem tyX6_ok : ∀ k, k < 2 → parseFieldDescriptor (TX6 k).2.2.1 = some (tyX6 k) := by decide +kernel
abbrev cX6_init : ByteArray := prog_5_method_1_code
def yX6_init : MethodName := ⟨RX6, "<init>", "(Ljava/lang/String;)V"⟩
def dkwX6_init_0 : List UInt8 := [42, 183, 0, 1, 42, 7, 188, 10, 181, 0, 7, 42, 43, 181, 0, 13, 177]
abbrev dktX6_init_0 : List UInt8 := dkwX6_init_0 ++ []
theorem dksX6_init_0 : cX6_init.data.toList.drop 0 = dktX6_init_0 := by decide +kernel
theorem dX6_init_0 : decode cX6_init 0 = .ok (.aload_n 0, 1) := dk_42 (dk_at dksX6_init_0 0 rfl rfl)
theorem dX6_init_1 : decode cX6_init 1 = .ok (.invokespecial 1, 3) := dk_183 0 1 (dk_at dksX6_init_0 1 rfl rfl)
theorem dX6_init_4 : decode cX6_init 4 = .ok (.aload_n 0, 1) := dk_42 (dk_at dksX6_init_0 4 rfl rfl)
theorem dX6_init_5 : decode cX6_init 5 = .ok (.iconst 4, 1) := dk_7 (dk_at dksX6_init_0 5 rfl rfl)
theorem dX6_init_6 : decode cX6_init 6 = .ok (.newarray .int, 2) := dk_188_10 (dk_at dksX6_init_0 6 rfl rfl)
theorem dX6_init_8 : decode cX6_init 8 = .ok (.putfield 7, 3) := dk_181 0 7 (dk_at dksX6_init_0 8 rfl rfl)
theorem dX6_init_11 : decode cX6_init 11 = .ok (.aload_n 0, 1) := dk_42 (dk_at dksX6_init_0 11 rfl rfl)
theorem dX6_init_12 : decode cX6_init 12 = .ok (.aload_n 1, 1) := dk_43 (dk_at dksX6_init_0 12 rfl rfl)
theorem dX6_init_13 : decode cX6_init 13 = .ok (.putfield 13, 3) := dk_181 0 13 (dk_at dksX6_init_0 13 rfl rfl)
theorem dX6_init_16 : decode cX6_init 16 = .ok (.return_, 1) := dk_177 (dk_at dksX6_init_0 16 rfl rfl)
theorem q143 : (Jvm.Cond.initialized "ClaimRegistry$Command") ∈ lw_all := lw_g (lw_at lw_m1 49 rfl) rfl
theorem q870 : (Jvm.Cond.selects "ClaimRegistry$Command" ({ cls := "java/lang/Object", name := "getClass", desc := "()Ljava/lang/Class;" } : Jvm.MethodName) ({ cls := "java/lang/Object", name := "getClass", desc := "()Ljava/lang/Class;" } : Jvm.MethodName)) ∈ lw_all := lw_g (lw_at lw_m4 56 rfl) rfl
theorem q2207 : (Jvm.Cond.instantiable "ClaimRegistry$Command" (2 : Nat)) ∈ lw_all := lw_g (lw_at lw_m9 193 rfl) rfl
theorem q2337 : (Jvm.Cond.selects "ClaimRegistry$Command" ({ cls := "java/lang/Object", name := "equals", desc := "(Ljava/lang/Object;)Z" } : Jvm.MethodName) ({ cls := "java/lang/Object", name := "equals", desc := "(Ljava/lang/Object;)Z" } : Jvm.MethodName)) ∈ lw_all := lw_g (lw_at lw_m10 83 rfl) rfl
theorem q2391 : (Jvm.Cond.instanceMethod ({ cls := "ClaimRegistry$Command", name := "<init>", desc := "(Ljava/lang/String;)V" } : Jvm.MethodName)) ∈ lw_all := lw_g (lw_at lw_m10 137 rfl) rfl
theorem q2392 : (Jvm.Cond.code ({ cls := "ClaimRegistry$Command", name := "<init>", desc := "(Ljava/lang/String;)V" } : Jvm.MethodName) prog_5_method_1_code (2 : Nat) (Option.none : Option Jvm.ClassFile.FieldType)) ∈ lw_all := lw_g (lw_at lw_m10 138 rfl) rfl
theorem q2393 : (Jvm.Cond.methodLink "ClaimRegistry$Command" (1 : Nat) ({ cls := "java/lang/Object", name := "<init>", desc := "()V" } : Jvm.MethodName)) ∈ lw_all := lw_g (lw_at lw_m10 139 rfl) rfl
theorem q2394 : (Jvm.Cond.fieldLink "ClaimRegistry$Command" (13 : Nat) "ClaimRegistry$Command" "keyword" "Ljava/lang/String;") ∈ lw_all := lw_g (lw_at lw_m10 140 rfl) rfl
theorem q2397 : (Jvm.Cond.fieldLink "ClaimRegistry$Command" (7 : Nat) "ClaimRegistry$Command" "arguments" "[I") ∈ lw_all := lw_g (lw_at lw_m10 143 rfl) rfl
theorem q2400 : (Jvm.Cond.laysFinal "ClaimRegistry$Command" "ClaimRegistry$Command" "keyword" "Ljava/lang/String;") ∈ lw_all := lw_g (lw_at lw_m10 146 rfl) rfl
theorem q2401 : (Jvm.Cond.soleField "ClaimRegistry$Command" "keyword") ∈ lw_all := lw_g (lw_at lw_m10 147 rfl) rfl
theorem q2402 : (Jvm.Cond.laysFinal "ClaimRegistry$Command" "ClaimRegistry$Command" "arguments" "[I") ∈ lw_all := lw_g (lw_at lw_m10 148 rfl) rfl
theorem q2403 : (Jvm.Cond.soleField "ClaimRegistry$Command" "arguments") ∈ lw_all := lw_g (lw_at lw_m10 149 rfl) rfl
theorem q2404 : (Jvm.Cond.superclass "ClaimRegistry$Command" "java/lang/Object") ∈ lw_all := lw_g (lw_at lw_m10 150 rfl) rfl
theorem q3127 : (Jvm.Cond.castable "ClaimRegistry$Command" "java/lang/Object") ∈ lw_tbl := lw_at lw_m13 153 rfl
theorem in_X6 : ∀ w ∈ wsX60, w ∈ lw_all := lw_in wsX60 [2400, 2402] (by decide +kernel) (by decide +kernel)
