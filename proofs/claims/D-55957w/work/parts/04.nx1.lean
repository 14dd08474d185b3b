/-! ClaimRegistry -/
set_option maxRecDepth 100000
def RX1 : String := "ClaimRegistry"
def TX1 : u_T := fun k => match k with
  | 0 => ("ClaimRegistry", "state", "LClaimRegistry$State;", false)
  | 1 => ("ClaimRegistry", "saved", "LClaimRegistry$State;", false)
  | 2 => ("ClaimRegistry", "history", "Ljava/util/ArrayDeque;", true)
  | 3 => ("ClaimRegistry", "input", "Ljava/lang/StringBuilder;", true)
  | 4 => ("ClaimRegistry", "line", "Ljava/lang/StringBuilder;", true)
  | 5 => ("ClaimRegistry", "isExecuting", "Z", false)
  | 6 => ("ClaimRegistry", "errorPosition", "I", false)
  | _ => ("ClaimRegistry", "failedCommand", "I", false)
def tyX1 : Nat → FieldType := fun k => match k with
  | 0 => .object "ClaimRegistry$State"
  | 1 => .object "ClaimRegistry$State"
  | 2 => .object "java/util/ArrayDeque"
  | 3 => .object "java/lang/StringBuilder"
  | 4 => .object "java/lang/StringBuilder"
  | 5 => .boolean
  | 6 => .int
  | _ => .int
abbrev wsX10 : List Cond := u_ws RX1 TX1 8
theorem nmX1 : ∀ a, a < 8 → ∀ b, b < 8 → a ≠ b → (TX1 a).2.1 ≠ (TX1 b).2.1 := by decide +kernel
theorem tyX1_ok : ∀ k, k < 8 → parseFieldDescriptor (TX1 k).2.2.1 = some (tyX1 k) := by decide +kernel
abbrev cX1_init : ByteArray := prog_1_method_1_code
def yX1_init : MethodName := ⟨RX1, "<init>", "()V"⟩
def dkwX1_init_2 : List UInt8 := [181, 0, 30, 42, 2, 181, 0, 33, 42, 2, 181, 0, 37, 177]
abbrev dktX1_init_2 : List UInt8 := dkwX1_init_2 ++ []
def dkwX1_init_1 : List UInt8 := [181, 0, 19, 42, 187, 0, 23, 89, 183, 0, 25, 181, 0, 26, 42, 187, 0, 23, 89, 183, 0, 25]
abbrev dktX1_init_1 : List UInt8 := dkwX1_init_1 ++ dktX1_init_2
def dkwX1_init_0 : List UInt8 := [42, 183, 0, 1, 42, 187, 0, 7, 89, 183, 0, 9, 181, 0, 10, 42, 187, 0, 16, 89, 183, 0, 18]
abbrev dktX1_init_0 : List UInt8 := dkwX1_init_0 ++ dktX1_init_1
theorem dksX1_init_0 : cX1_init.data.toList.drop 0 = dktX1_init_0 := by decide +kernel
theorem dksX1_init_1 : cX1_init.data.toList.drop 23 = dktX1_init_1 := dk_seg dksX1_init_0 23 rfl rfl
theorem dksX1_init_2 : cX1_init.data.toList.drop 45 = dktX1_init_2 := dk_seg dksX1_init_1 22 rfl rfl
theorem dX1_init_0 : decode cX1_init 0 = .ok (.aload_n 0, 1) := dk_42 (dk_at dksX1_init_0 0 rfl rfl)
theorem dX1_init_1 : decode cX1_init 1 = .ok (.invokespecial 1, 3) := dk_183 0 1 (dk_at dksX1_init_0 1 rfl rfl)
theorem dX1_init_4 : decode cX1_init 4 = .ok (.aload_n 0, 1) := dk_42 (dk_at dksX1_init_0 4 rfl rfl)
theorem dX1_init_5 : decode cX1_init 5 = .ok (.new 7, 3) := dk_187 0 7 (dk_at dksX1_init_0 5 rfl rfl)
theorem dX1_init_8 : decode cX1_init 8 = .ok (.dup, 1) := dk_89 (dk_at dksX1_init_0 8 rfl rfl)
theorem dX1_init_9 : decode cX1_init 9 = .ok (.invokespecial 9, 3) := dk_183 0 9 (dk_at dksX1_init_0 9 rfl rfl)
theorem dX1_init_12 : decode cX1_init 12 = .ok (.putfield 10, 3) := dk_181 0 10 (dk_at dksX1_init_0 12 rfl rfl)
theorem dX1_init_15 : decode cX1_init 15 = .ok (.aload_n 0, 1) := dk_42 (dk_at dksX1_init_0 15 rfl rfl)
theorem dX1_init_16 : decode cX1_init 16 = .ok (.new 16, 3) := dk_187 0 16 (dk_at dksX1_init_0 16 rfl rfl)
theorem dX1_init_19 : decode cX1_init 19 = .ok (.dup, 1) := dk_89 (dk_at dksX1_init_0 19 rfl rfl)
theorem dX1_init_20 : decode cX1_init 20 = .ok (.invokespecial 18, 3) := dk_183 0 18 (dk_at dksX1_init_0 20 rfl rfl)
theorem dX1_init_23 : decode cX1_init 23 = .ok (.putfield 19, 3) := dk_181 0 19 (dk_at dksX1_init_1 0 rfl rfl)
theorem dX1_init_26 : decode cX1_init 26 = .ok (.aload_n 0, 1) := dk_42 (dk_at dksX1_init_1 3 rfl rfl)
theorem dX1_init_27 : decode cX1_init 27 = .ok (.new 23, 3) := dk_187 0 23 (dk_at dksX1_init_1 4 rfl rfl)
theorem dX1_init_30 : decode cX1_init 30 = .ok (.dup, 1) := dk_89 (dk_at dksX1_init_1 7 rfl rfl)
theorem dX1_init_31 : decode cX1_init 31 = .ok (.invokespecial 25, 3) := dk_183 0 25 (dk_at dksX1_init_1 8 rfl rfl)
theorem dX1_init_34 : decode cX1_init 34 = .ok (.putfield 26, 3) := dk_181 0 26 (dk_at dksX1_init_1 11 rfl rfl)
theorem dX1_init_37 : decode cX1_init 37 = .ok (.aload_n 0, 1) := dk_42 (dk_at dksX1_init_1 14 rfl rfl)
theorem dX1_init_38 : decode cX1_init 38 = .ok (.new 23, 3) := dk_187 0 23 (dk_at dksX1_init_1 15 rfl rfl)
theorem dX1_init_41 : decode cX1_init 41 = .ok (.dup, 1) := dk_89 (dk_at dksX1_init_1 18 rfl rfl)
theorem dX1_init_42 : decode cX1_init 42 = .ok (.invokespecial 25, 3) := dk_183 0 25 (dk_at dksX1_init_1 19 rfl rfl)
theorem dX1_init_45 : decode cX1_init 45 = .ok (.putfield 30, 3) := dk_181 0 30 (dk_at dksX1_init_2 0 rfl rfl)
theorem dX1_init_48 : decode cX1_init 48 = .ok (.aload_n 0, 1) := dk_42 (dk_at dksX1_init_2 3 rfl rfl)
theorem dX1_init_49 : decode cX1_init 49 = .ok (.iconst (-1), 1) := dk_2 (dk_at dksX1_init_2 4 rfl rfl)
theorem dX1_init_50 : decode cX1_init 50 = .ok (.putfield 33, 3) := dk_181 0 33 (dk_at dksX1_init_2 5 rfl rfl)
theorem dX1_init_53 : decode cX1_init 53 = .ok (.aload_n 0, 1) := dk_42 (dk_at dksX1_init_2 8 rfl rfl)
theorem dX1_init_54 : decode cX1_init 54 = .ok (.iconst (-1), 1) := dk_2 (dk_at dksX1_init_2 9 rfl rfl)
theorem dX1_init_55 : decode cX1_init 55 = .ok (.putfield 37, 3) := dk_181 0 37 (dk_at dksX1_init_2 10 rfl rfl)
theorem dX1_init_58 : decode cX1_init 58 = .ok (.return_, 1) := dk_177 (dk_at dksX1_init_2 13 rfl rfl)
abbrev cX1_tick : ByteArray := prog_1_method_22_code
def yX1_tick : MethodName := ⟨RX1, "tick", "()I"⟩
def dkwX1_tick_0 : List UInt8 := [42, 182, 0, 101, 42, 180, 0, 10, 182, 0, 165, 172]
abbrev dktX1_tick_0 : List UInt8 := dkwX1_tick_0 ++ []
theorem dksX1_tick_0 : cX1_tick.data.toList.drop 0 = dktX1_tick_0 := by decide +kernel
theorem dX1_tick_0 : decode cX1_tick 0 = .ok (.aload_n 0, 1) := dk_42 (dk_at dksX1_tick_0 0 rfl rfl)
theorem dX1_tick_1 : decode cX1_tick 1 = .ok (.invokevirtual 101, 3) := dk_182 0 101 (dk_at dksX1_tick_0 1 rfl rfl)
theorem dX1_tick_4 : decode cX1_tick 4 = .ok (.aload_n 0, 1) := dk_42 (dk_at dksX1_tick_0 4 rfl rfl)
theorem dX1_tick_5 : decode cX1_tick 5 = .ok (.getfield 10, 3) := dk_180 0 10 (dk_at dksX1_tick_0 5 rfl rfl)
theorem dX1_tick_8 : decode cX1_tick 8 = .ok (.invokevirtual 165, 3) := dk_182 0 165 (dk_at dksX1_tick_0 8 rfl rfl)
theorem dX1_tick_11 : decode cX1_tick 11 = .ok (.ireturn, 1) := dk_172 (dk_at dksX1_tick_0 11 rfl rfl)
abbrev cX1_beginChange : ByteArray := prog_1_method_12_code
def yX1_beginChange : MethodName := ⟨RX1, "beginChange", "()V"⟩
def dkwX1_beginChange_1 : List UInt8 := [180, 0, 19, 182, 0, 68, 16, 8, 164, 0, 11, 42, 180, 0, 19, 182, 0, 72, 87, 177]
abbrev dktX1_beginChange_1 : List UInt8 := dkwX1_beginChange_1 ++ []
def dkwX1_beginChange_0 : List UInt8 := [42, 180, 0, 56, 153, 0, 4, 177, 42, 180, 0, 19, 42, 180, 0, 10, 182, 0, 60, 182, 0, 64, 42]
abbrev dktX1_beginChange_0 : List UInt8 := dkwX1_beginChange_0 ++ dktX1_beginChange_1
theorem dksX1_beginChange_0 : cX1_beginChange.data.toList.drop 0 = dktX1_beginChange_0 := by decide +kernel
theorem dksX1_beginChange_1 : cX1_beginChange.data.toList.drop 23 = dktX1_beginChange_1 := dk_seg dksX1_beginChange_0 23 rfl rfl
theorem dX1_beginChange_0 : decode cX1_beginChange 0 = .ok (.aload_n 0, 1) := dk_42 (dk_at dksX1_beginChange_0 0 rfl rfl)
theorem dX1_beginChange_1 : decode cX1_beginChange 1 = .ok (.getfield 56, 3) := dk_180 0 56 (dk_at dksX1_beginChange_0 1 rfl rfl)
theorem dX1_beginChange_4 : decode cX1_beginChange 4 = .ok (.ifCond .eq 4, 3) := dk_153 0 4 (dk_at dksX1_beginChange_0 4 rfl rfl)
theorem dX1_beginChange_7 : decode cX1_beginChange 7 = .ok (.return_, 1) := dk_177 (dk_at dksX1_beginChange_0 7 rfl rfl)
theorem dX1_beginChange_8 : decode cX1_beginChange 8 = .ok (.aload_n 0, 1) := dk_42 (dk_at dksX1_beginChange_0 8 rfl rfl)
theorem dX1_beginChange_9 : decode cX1_beginChange 9 = .ok (.getfield 19, 3) := dk_180 0 19 (dk_at dksX1_beginChange_0 9 rfl rfl)
theorem dX1_beginChange_12 : decode cX1_beginChange 12 = .ok (.aload_n 0, 1) := dk_42 (dk_at dksX1_beginChange_0 12 rfl rfl)
theorem dX1_beginChange_13 : decode cX1_beginChange 13 = .ok (.getfield 10, 3) := dk_180 0 10 (dk_at dksX1_beginChange_0 13 rfl rfl)
theorem dX1_beginChange_16 : decode cX1_beginChange 16 = .ok (.invokevirtual 60, 3) := dk_182 0 60 (dk_at dksX1_beginChange_0 16 rfl rfl)
theorem dX1_beginChange_19 : decode cX1_beginChange 19 = .ok (.invokevirtual 64, 3) := dk_182 0 64 (dk_at dksX1_beginChange_0 19 rfl rfl)
theorem dX1_beginChange_22 : decode cX1_beginChange 22 = .ok (.aload_n 0, 1) := dk_42 (dk_at dksX1_beginChange_0 22 rfl rfl)
theorem dX1_beginChange_23 : decode cX1_beginChange 23 = .ok (.getfield 19, 3) := dk_180 0 19 (dk_at dksX1_beginChange_1 0 rfl rfl)
theorem dX1_beginChange_26 : decode cX1_beginChange 26 = .ok (.invokevirtual 68, 3) := dk_182 0 68 (dk_at dksX1_beginChange_1 3 rfl rfl)
theorem dX1_beginChange_29 : decode cX1_beginChange 29 = .ok (.bipush 8, 2) := dk_16 8 (dk_at dksX1_beginChange_1 6 rfl rfl)
theorem dX1_beginChange_31 : decode cX1_beginChange 31 = .ok (.if_icmp .le 11, 3) := dk_164 0 11 (dk_at dksX1_beginChange_1 8 rfl rfl)
theorem dX1_beginChange_34 : decode cX1_beginChange 34 = .ok (.aload_n 0, 1) := dk_42 (dk_at dksX1_beginChange_1 11 rfl rfl)
theorem dX1_beginChange_35 : decode cX1_beginChange 35 = .ok (.getfield 19, 3) := dk_180 0 19 (dk_at dksX1_beginChange_1 12 rfl rfl)
theorem dX1_beginChange_38 : decode cX1_beginChange 38 = .ok (.invokevirtual 72, 3) := dk_182 0 72 (dk_at dksX1_beginChange_1 15 rfl rfl)
theorem dX1_beginChange_41 : decode cX1_beginChange 41 = .ok (.pop, 1) := dk_87 (dk_at dksX1_beginChange_1 18 rfl rfl)
theorem dX1_beginChange_42 : decode cX1_beginChange 42 = .ok (.return_, 1) := dk_177 (dk_at dksX1_beginChange_1 19 rfl rfl)
abbrev cX1_phaseAt : ByteArray := prog_1_method_11_code
def yX1_phaseAt : MethodName := ⟨RX1, "phaseAt", "(I)I"⟩
def dkwX1_phaseAt_0 : List UInt8 := [26, 7, 108, 7, 112, 172]
abbrev dktX1_phaseAt_0 : List UInt8 := dkwX1_phaseAt_0 ++ []
theorem dksX1_phaseAt_0 : cX1_phaseAt.data.toList.drop 0 = dktX1_phaseAt_0 := by decide +kernel
theorem dX1_phaseAt_0 : decode cX1_phaseAt 0 = .ok (.iload_n 0, 1) := dk_26 (dk_at dksX1_phaseAt_0 0 rfl rfl)
theorem dX1_phaseAt_1 : decode cX1_phaseAt 1 = .ok (.iconst 4, 1) := dk_7 (dk_at dksX1_phaseAt_0 1 rfl rfl)
theorem dX1_phaseAt_2 : decode cX1_phaseAt 2 = .ok (.idiv, 1) := dk_108 (dk_at dksX1_phaseAt_0 2 rfl rfl)
theorem dX1_phaseAt_3 : decode cX1_phaseAt 3 = .ok (.iconst 4, 1) := dk_7 (dk_at dksX1_phaseAt_0 3 rfl rfl)
theorem dX1_phaseAt_4 : decode cX1_phaseAt 4 = .ok (.irem, 1) := dk_112 (dk_at dksX1_phaseAt_0 4 rfl rfl)
theorem dX1_phaseAt_5 : decode cX1_phaseAt 5 = .ok (.ireturn, 1) := dk_172 (dk_at dksX1_phaseAt_0 5 rfl rfl)
abbrev cX1_time : ByteArray := prog_1_method_26_code
def yX1_time : MethodName := ⟨RX1, "time", "()I"⟩
def dkwX1_time_0 : List UInt8 := [42, 180, 0, 10, 180, 0, 181, 172]
abbrev dktX1_time_0 : List UInt8 := dkwX1_time_0 ++ []
theorem dksX1_time_0 : cX1_time.data.toList.drop 0 = dktX1_time_0 := by decide +kernel
theorem dX1_time_0 : decode cX1_time 0 = .ok (.aload_n 0, 1) := dk_42 (dk_at dksX1_time_0 0 rfl rfl)
theorem dX1_time_1 : decode cX1_time 1 = .ok (.getfield 10, 3) := dk_180 0 10 (dk_at dksX1_time_0 1 rfl rfl)
theorem dX1_time_4 : decode cX1_time 4 = .ok (.getfield 181, 3) := dk_180 0 181 (dk_at dksX1_time_0 4 rfl rfl)
theorem dX1_time_7 : decode cX1_time 7 = .ok (.ireturn, 1) := dk_172 (dk_at dksX1_time_0 7 rfl rfl)
abbrev cX1_phase : ByteArray := prog_1_method_27_code
def yX1_phase : MethodName := ⟨RX1, "phase", "()I"⟩
def dkwX1_phase_0 : List UInt8 := [42, 180, 0, 10, 180, 0, 181, 184, 0, 184, 172]
abbrev dktX1_phase_0 : List UInt8 := dkwX1_phase_0 ++ []
theorem dksX1_phase_0 : cX1_phase.data.toList.drop 0 = dktX1_phase_0 := by decide +kernel
theorem dX1_phase_0 : decode cX1_phase 0 = .ok (.aload_n 0, 1) := dk_42 (dk_at dksX1_phase_0 0 rfl rfl)
theorem dX1_phase_1 : decode cX1_phase 1 = .ok (.getfield 10, 3) := dk_180 0 10 (dk_at dksX1_phase_0 1 rfl rfl)
theorem dX1_phase_4 : decode cX1_phase 4 = .ok (.getfield 181, 3) := dk_180 0 181 (dk_at dksX1_phase_0 4 rfl rfl)
theorem dX1_phase_7 : decode cX1_phase 7 = .ok (.invokestatic 184, 3) := dk_184 0 184 (dk_at dksX1_phase_0 7 rfl rfl)
theorem dX1_phase_10 : decode cX1_phase 10 = .ok (.ireturn, 1) := dk_172 (dk_at dksX1_phase_0 10 rfl rfl)
abbrev cX1_activeCount : ByteArray := prog_1_method_29_code
def yX1_activeCount : MethodName := ⟨RX1, "activeCount", "()I"⟩
def dkwX1_activeCount_0 : List UInt8 := [42, 180, 0, 10, 180, 0, 91, 182, 0, 95, 172]
abbrev dktX1_activeCount_0 : List UInt8 := dkwX1_activeCount_0 ++ []
theorem dksX1_activeCount_0 : cX1_activeCount.data.toList.drop 0 = dktX1_activeCount_0 := by decide +kernel
theorem dX1_activeCount_0 : decode cX1_activeCount 0 = .ok (.aload_n 0, 1) := dk_42 (dk_at dksX1_activeCount_0 0 rfl rfl)
theorem dX1_activeCount_1 : decode cX1_activeCount 1 = .ok (.getfield 10, 3) := dk_180 0 10 (dk_at dksX1_activeCount_0 1 rfl rfl)
theorem dX1_activeCount_4 : decode cX1_activeCount 4 = .ok (.getfield 91, 3) := dk_180 0 91 (dk_at dksX1_activeCount_0 4 rfl rfl)
theorem dX1_activeCount_7 : decode cX1_activeCount 7 = .ok (.invokevirtual 95, 3) := dk_182 0 95 (dk_at dksX1_activeCount_0 7 rfl rfl)
theorem dX1_activeCount_10 : decode cX1_activeCount 10 = .ok (.ireturn, 1) := dk_172 (dk_at dksX1_activeCount_0 10 rfl rfl)
abbrev cX1_isActive : ByteArray := prog_1_method_30_code
def yX1_isActive : MethodName := ⟨RX1, "isActive", "(I)Z"⟩
def dkwX1_isActive_0 : List UInt8 := [42, 180, 0, 10, 27, 182, 0, 76, 198, 0, 7, 4, 167, 0, 4, 3, 172]
abbrev dktX1_isActive_0 : List UInt8 := dkwX1_isActive_0 ++ []
theorem dksX1_isActive_0 : cX1_isActive.data.toList.drop 0 = dktX1_isActive_0 := by decide +kernel
theorem dX1_isActive_0 : decode cX1_isActive 0 = .ok (.aload_n 0, 1) := dk_42 (dk_at dksX1_isActive_0 0 rfl rfl)
theorem dX1_isActive_1 : decode cX1_isActive 1 = .ok (.getfield 10, 3) := dk_180 0 10 (dk_at dksX1_isActive_0 1 rfl rfl)
theorem dX1_isActive_4 : decode cX1_isActive 4 = .ok (.iload_n 1, 1) := dk_27 (dk_at dksX1_isActive_0 4 rfl rfl)
theorem dX1_isActive_5 : decode cX1_isActive 5 = .ok (.invokevirtual 76, 3) := dk_182 0 76 (dk_at dksX1_isActive_0 5 rfl rfl)
theorem dX1_isActive_8 : decode cX1_isActive 8 = .ok (.ifnull 7, 3) := dk_198 0 7 (dk_at dksX1_isActive_0 8 rfl rfl)
theorem dX1_isActive_11 : decode cX1_isActive 11 = .ok (.iconst 1, 1) := dk_4 (dk_at dksX1_isActive_0 11 rfl rfl)
theorem dX1_isActive_12 : decode cX1_isActive 12 = .ok (.goto 4, 3) := dk_167 0 4 (dk_at dksX1_isActive_0 12 rfl rfl)
theorem dX1_isActive_15 : decode cX1_isActive 15 = .ok (.iconst 0, 1) := dk_3 (dk_at dksX1_isActive_0 15 rfl rfl)
theorem dX1_isActive_16 : decode cX1_isActive 16 = .ok (.ireturn, 1) := dk_172 (dk_at dksX1_isActive_0 16 rfl rfl)
abbrev cX1_hasCycle : ByteArray := prog_1_method_67_code
def yX1_hasCycle : MethodName := ⟨RX1, "hasCycle", "()Z"⟩
def dkwX1_hasCycle_1 : List UInt8 := [167, 255, 235, 3, 172]
abbrev dktX1_hasCycle_1 : List UInt8 := dkwX1_hasCycle_1 ++ []
def dkwX1_hasCycle_0 : List UInt8 := [3, 60, 27, 16, 8, 162, 0, 21, 42, 27, 27, 182, 1, 22, 2, 159, 0, 5, 4, 172, 132, 1, 1]
abbrev dktX1_hasCycle_0 : List UInt8 := dkwX1_hasCycle_0 ++ dktX1_hasCycle_1
theorem dksX1_hasCycle_0 : cX1_hasCycle.data.toList.drop 0 = dktX1_hasCycle_0 := by decide +kernel
theorem dksX1_hasCycle_1 : cX1_hasCycle.data.toList.drop 23 = dktX1_hasCycle_1 := dk_seg dksX1_hasCycle_0 23 rfl rfl
theorem dX1_hasCycle_0 : decode cX1_hasCycle 0 = .ok (.iconst 0, 1) := dk_3 (dk_at dksX1_hasCycle_0 0 rfl rfl)
theorem dX1_hasCycle_1 : decode cX1_hasCycle 1 = .ok (.istore_n 1, 1) := dk_60 (dk_at dksX1_hasCycle_0 1 rfl rfl)
theorem dX1_hasCycle_2 : decode cX1_hasCycle 2 = .ok (.iload_n 1, 1) := dk_27 (dk_at dksX1_hasCycle_0 2 rfl rfl)
theorem dX1_hasCycle_3 : decode cX1_hasCycle 3 = .ok (.bipush 8, 2) := dk_16 8 (dk_at dksX1_hasCycle_0 3 rfl rfl)
theorem dX1_hasCycle_5 : decode cX1_hasCycle 5 = .ok (.if_icmp .ge 21, 3) := dk_162 0 21 (dk_at dksX1_hasCycle_0 5 rfl rfl)
theorem dX1_hasCycle_8 : decode cX1_hasCycle 8 = .ok (.aload_n 0, 1) := dk_42 (dk_at dksX1_hasCycle_0 8 rfl rfl)
theorem dX1_hasCycle_9 : decode cX1_hasCycle 9 = .ok (.iload_n 1, 1) := dk_27 (dk_at dksX1_hasCycle_0 9 rfl rfl)
theorem dX1_hasCycle_10 : decode cX1_hasCycle 10 = .ok (.iload_n 1, 1) := dk_27 (dk_at dksX1_hasCycle_0 10 rfl rfl)
theorem dX1_hasCycle_11 : decode cX1_hasCycle 11 = .ok (.invokevirtual 278, 3) := dk_182 1 22 (dk_at dksX1_hasCycle_0 11 rfl rfl)
theorem dX1_hasCycle_14 : decode cX1_hasCycle 14 = .ok (.iconst (-1), 1) := dk_2 (dk_at dksX1_hasCycle_0 14 rfl rfl)
theorem dX1_hasCycle_15 : decode cX1_hasCycle 15 = .ok (.if_icmp .eq 5, 3) := dk_159 0 5 (dk_at dksX1_hasCycle_0 15 rfl rfl)
theorem dX1_hasCycle_18 : decode cX1_hasCycle 18 = .ok (.iconst 1, 1) := dk_4 (dk_at dksX1_hasCycle_0 18 rfl rfl)
theorem dX1_hasCycle_19 : decode cX1_hasCycle 19 = .ok (.ireturn, 1) := dk_172 (dk_at dksX1_hasCycle_0 19 rfl rfl)
theorem dX1_hasCycle_20 : decode cX1_hasCycle 20 = .ok (.iinc 1 1, 3) := dk_132 1 1 (dk_at dksX1_hasCycle_0 20 rfl rfl)
theorem dX1_hasCycle_23 : decode cX1_hasCycle 23 = .ok (.goto (-21), 3) := dk_167 255 235 (dk_at dksX1_hasCycle_1 0 rfl rfl)
theorem dX1_hasCycle_26 : decode cX1_hasCycle 26 = .ok (.iconst 0, 1) := dk_3 (dk_at dksX1_hasCycle_1 3 rfl rfl)
theorem dX1_hasCycle_27 : decode cX1_hasCycle 27 = .ok (.ireturn, 1) := dk_172 (dk_at dksX1_hasCycle_1 4 rfl rfl)
abbrev cX1_shortestChain : ByteArray := prog_1_method_61_code
def yX1_shortestChain : MethodName := ⟨RX1, "shortestChain", "(II)I"⟩
def dkwX1_shortestChain_7 : List UInt8 := [167, 0, 6, 45, 28, 46, 172]
abbrev dktX1_shortestChain_7 : List UInt8 := dkwX1_shortestChain_7 ++ []
def dkwX1_shortestChain_6 : List UInt8 := [180, 0, 200, 184, 1, 14, 182, 0, 64, 167, 255, 190, 167, 255, 136, 45, 28, 46, 154, 0, 7, 2]
abbrev dktX1_shortestChain_6 : List UInt8 := dkwX1_shortestChain_6 ++ dktX1_shortestChain_7
def dkwX1_shortestChain_5 : List UInt8 := [180, 0, 200, 46, 154, 0, 27, 45, 25, 9, 180, 0, 200, 21, 7, 4, 96, 79, 25, 4, 25, 9]
abbrev dktX1_shortestChain_5 : List UInt8 := dkwX1_shortestChain_5 ++ dktX1_shortestChain_6
def dkwX1_shortestChain_4 : List UInt8 := [185, 0, 252, 1, 0, 192, 0, 118, 58, 9, 25, 9, 180, 0, 197, 21, 6, 160, 0, 37, 45, 25, 9]
abbrev dktX1_shortestChain_4 : List UInt8 := dkwX1_shortestChain_4 ++ dktX1_shortestChain_5
def dkwX1_shortestChain_3 : List UInt8 := [180, 0, 91, 182, 1, 18, 58, 8, 25, 8, 185, 0, 247, 1, 0, 153, 0, 62, 25, 8]
abbrev dktX1_shortestChain_3 : List UInt8 := dkwX1_shortestChain_3 ++ dktX1_shortestChain_4
def dkwX1_shortestChain_2 : List UInt8 := [21, 5, 153, 0, 7, 3, 167, 0, 7, 45, 21, 6, 46, 54, 7, 3, 54, 5, 42, 180, 0, 10]
abbrev dktX1_shortestChain_2 : List UInt8 := dkwX1_shortestChain_2 ++ dktX1_shortestChain_3
def dkwX1_shortestChain_1 : List UInt8 := [54, 5, 25, 4, 182, 0, 234, 154, 0, 118, 25, 4, 182, 0, 72, 192, 0, 238, 182, 0, 240, 54, 6]
abbrev dktX1_shortestChain_1 : List UInt8 := dkwX1_shortestChain_1 ++ dktX1_shortestChain_2
def dkwX1_shortestChain_0 : List UInt8 := [16, 8, 188, 10, 78, 187, 0, 16, 89, 183, 0, 18, 58, 4, 25, 4, 27, 184, 1, 14, 182, 0, 64, 4]
abbrev dktX1_shortestChain_0 : List UInt8 := dkwX1_shortestChain_0 ++ dktX1_shortestChain_1
theorem dksX1_shortestChain_0 : cX1_shortestChain.data.toList.drop 0 = dktX1_shortestChain_0 := by decide +kernel
theorem dksX1_shortestChain_1 : cX1_shortestChain.data.toList.drop 24 = dktX1_shortestChain_1 := dk_seg dksX1_shortestChain_0 24 rfl rfl
theorem dksX1_shortestChain_2 : cX1_shortestChain.data.toList.drop 47 = dktX1_shortestChain_2 := dk_seg dksX1_shortestChain_1 23 rfl rfl
theorem dksX1_shortestChain_3 : cX1_shortestChain.data.toList.drop 69 = dktX1_shortestChain_3 := dk_seg dksX1_shortestChain_2 22 rfl rfl
theorem dksX1_shortestChain_4 : cX1_shortestChain.data.toList.drop 89 = dktX1_shortestChain_4 := dk_seg dksX1_shortestChain_3 20 rfl rfl
theorem dksX1_shortestChain_5 : cX1_shortestChain.data.toList.drop 112 = dktX1_shortestChain_5 := dk_seg dksX1_shortestChain_4 23 rfl rfl
theorem dksX1_shortestChain_6 : cX1_shortestChain.data.toList.drop 134 = dktX1_shortestChain_6 := dk_seg dksX1_shortestChain_5 22 rfl rfl
theorem dksX1_shortestChain_7 : cX1_shortestChain.data.toList.drop 156 = dktX1_shortestChain_7 := dk_seg dksX1_shortestChain_6 22 rfl rfl
theorem dX1_shortestChain_0 : decode cX1_shortestChain 0 = .ok (.bipush 8, 2) := dk_16 8 (dk_at dksX1_shortestChain_0 0 rfl rfl)
theorem dX1_shortestChain_2 : decode cX1_shortestChain 2 = .ok (.newarray .int, 2) := dk_188_10 (dk_at dksX1_shortestChain_0 2 rfl rfl)
theorem dX1_shortestChain_4 : decode cX1_shortestChain 4 = .ok (.astore_n 3, 1) := dk_78 (dk_at dksX1_shortestChain_0 4 rfl rfl)
theorem dX1_shortestChain_5 : decode cX1_shortestChain 5 = .ok (.new 16, 3) := dk_187 0 16 (dk_at dksX1_shortestChain_0 5 rfl rfl)
theorem dX1_shortestChain_8 : decode cX1_shortestChain 8 = .ok (.dup, 1) := dk_89 (dk_at dksX1_shortestChain_0 8 rfl rfl)
theorem dX1_shortestChain_9 : decode cX1_shortestChain 9 = .ok (.invokespecial 18, 3) := dk_183 0 18 (dk_at dksX1_shortestChain_0 9 rfl rfl)
theorem dX1_shortestChain_12 : decode cX1_shortestChain 12 = .ok (.astore 4, 2) := dk_58 4 (dk_at dksX1_shortestChain_0 12 rfl rfl)
theorem dX1_shortestChain_14 : decode cX1_shortestChain 14 = .ok (.aload 4, 2) := dk_25 4 (dk_at dksX1_shortestChain_0 14 rfl rfl)
theorem dX1_shortestChain_16 : decode cX1_shortestChain 16 = .ok (.iload_n 1, 1) := dk_27 (dk_at dksX1_shortestChain_0 16 rfl rfl)
theorem dX1_shortestChain_17 : decode cX1_shortestChain 17 = .ok (.invokestatic 270, 3) := dk_184 1 14 (dk_at dksX1_shortestChain_0 17 rfl rfl)
theorem dX1_shortestChain_20 : decode cX1_shortestChain 20 = .ok (.invokevirtual 64, 3) := dk_182 0 64 (dk_at dksX1_shortestChain_0 20 rfl rfl)
theorem dX1_shortestChain_23 : decode cX1_shortestChain 23 = .ok (.iconst 1, 1) := dk_4 (dk_at dksX1_shortestChain_0 23 rfl rfl)
theorem dX1_shortestChain_24 : decode cX1_shortestChain 24 = .ok (.istore 5, 2) := dk_54 5 (dk_at dksX1_shortestChain_1 0 rfl rfl)
theorem dX1_shortestChain_26 : decode cX1_shortestChain 26 = .ok (.aload 4, 2) := dk_25 4 (dk_at dksX1_shortestChain_1 2 rfl rfl)
theorem dX1_shortestChain_28 : decode cX1_shortestChain 28 = .ok (.invokevirtual 234, 3) := dk_182 0 234 (dk_at dksX1_shortestChain_1 4 rfl rfl)
theorem dX1_shortestChain_31 : decode cX1_shortestChain 31 = .ok (.ifCond .ne 118, 3) := dk_154 0 118 (dk_at dksX1_shortestChain_1 7 rfl rfl)
theorem dX1_shortestChain_34 : decode cX1_shortestChain 34 = .ok (.aload 4, 2) := dk_25 4 (dk_at dksX1_shortestChain_1 10 rfl rfl)
theorem dX1_shortestChain_36 : decode cX1_shortestChain 36 = .ok (.invokevirtual 72, 3) := dk_182 0 72 (dk_at dksX1_shortestChain_1 12 rfl rfl)
theorem dX1_shortestChain_39 : decode cX1_shortestChain 39 = .ok (.checkcast 238, 3) := dk_192 0 238 (dk_at dksX1_shortestChain_1 15 rfl rfl)
theorem dX1_shortestChain_42 : decode cX1_shortestChain 42 = .ok (.invokevirtual 240, 3) := dk_182 0 240 (dk_at dksX1_shortestChain_1 18 rfl rfl)
theorem dX1_shortestChain_45 : decode cX1_shortestChain 45 = .ok (.istore 6, 2) := dk_54 6 (dk_at dksX1_shortestChain_1 21 rfl rfl)
theorem dX1_shortestChain_47 : decode cX1_shortestChain 47 = .ok (.iload 5, 2) := dk_21 5 (dk_at dksX1_shortestChain_2 0 rfl rfl)
theorem dX1_shortestChain_49 : decode cX1_shortestChain 49 = .ok (.ifCond .eq 7, 3) := dk_153 0 7 (dk_at dksX1_shortestChain_2 2 rfl rfl)
theorem dX1_shortestChain_52 : decode cX1_shortestChain 52 = .ok (.iconst 0, 1) := dk_3 (dk_at dksX1_shortestChain_2 5 rfl rfl)
theorem dX1_shortestChain_53 : decode cX1_shortestChain 53 = .ok (.goto 7, 3) := dk_167 0 7 (dk_at dksX1_shortestChain_2 6 rfl rfl)
theorem dX1_shortestChain_56 : decode cX1_shortestChain 56 = .ok (.aload_n 3, 1) := dk_45 (dk_at dksX1_shortestChain_2 9 rfl rfl)
theorem dX1_shortestChain_57 : decode cX1_shortestChain 57 = .ok (.iload 6, 2) := dk_21 6 (dk_at dksX1_shortestChain_2 10 rfl rfl)
theorem dX1_shortestChain_59 : decode cX1_shortestChain 59 = .ok (.iaload, 1) := dk_46 (dk_at dksX1_shortestChain_2 12 rfl rfl)
theorem dX1_shortestChain_60 : decode cX1_shortestChain 60 = .ok (.istore 7, 2) := dk_54 7 (dk_at dksX1_shortestChain_2 13 rfl rfl)
theorem dX1_shortestChain_62 : decode cX1_shortestChain 62 = .ok (.iconst 0, 1) := dk_3 (dk_at dksX1_shortestChain_2 15 rfl rfl)
theorem dX1_shortestChain_63 : decode cX1_shortestChain 63 = .ok (.istore 5, 2) := dk_54 5 (dk_at dksX1_shortestChain_2 16 rfl rfl)
theorem dX1_shortestChain_65 : decode cX1_shortestChain 65 = .ok (.aload_n 0, 1) := dk_42 (dk_at dksX1_shortestChain_2 18 rfl rfl)
theorem dX1_shortestChain_66 : decode cX1_shortestChain 66 = .ok (.getfield 10, 3) := dk_180 0 10 (dk_at dksX1_shortestChain_2 19 rfl rfl)
theorem dX1_shortestChain_69 : decode cX1_shortestChain 69 = .ok (.getfield 91, 3) := dk_180 0 91 (dk_at dksX1_shortestChain_3 0 rfl rfl)
theorem dX1_shortestChain_72 : decode cX1_shortestChain 72 = .ok (.invokevirtual 274, 3) := dk_182 1 18 (dk_at dksX1_shortestChain_3 3 rfl rfl)
theorem dX1_shortestChain_75 : decode cX1_shortestChain 75 = .ok (.astore 8, 2) := dk_58 8 (dk_at dksX1_shortestChain_3 6 rfl rfl)
theorem dX1_shortestChain_77 : decode cX1_shortestChain 77 = .ok (.aload 8, 2) := dk_25 8 (dk_at dksX1_shortestChain_3 8 rfl rfl)
theorem dX1_shortestChain_79 : decode cX1_shortestChain 79 = .ok (.invokeinterface 247 1, 5) := by decide +kernel
theorem dX1_shortestChain_84 : decode cX1_shortestChain 84 = .ok (.ifCond .eq 62, 3) := dk_153 0 62 (dk_at dksX1_shortestChain_3 15 rfl rfl)
theorem dX1_shortestChain_87 : decode cX1_shortestChain 87 = .ok (.aload 8, 2) := dk_25 8 (dk_at dksX1_shortestChain_3 18 rfl rfl)
theorem dX1_shortestChain_89 : decode cX1_shortestChain 89 = .ok (.invokeinterface 252 1, 5) := by decide +kernel
theorem dX1_shortestChain_94 : decode cX1_shortestChain 94 = .ok (.checkcast 118, 3) := dk_192 0 118 (dk_at dksX1_shortestChain_4 5 rfl rfl)
theorem dX1_shortestChain_97 : decode cX1_shortestChain 97 = .ok (.astore 9, 2) := dk_58 9 (dk_at dksX1_shortestChain_4 8 rfl rfl)
theorem dX1_shortestChain_99 : decode cX1_shortestChain 99 = .ok (.aload 9, 2) := dk_25 9 (dk_at dksX1_shortestChain_4 10 rfl rfl)
theorem dX1_shortestChain_101 : decode cX1_shortestChain 101 = .ok (.getfield 197, 3) := dk_180 0 197 (dk_at dksX1_shortestChain_4 12 rfl rfl)
theorem dX1_shortestChain_104 : decode cX1_shortestChain 104 = .ok (.iload 6, 2) := dk_21 6 (dk_at dksX1_shortestChain_4 15 rfl rfl)
theorem dX1_shortestChain_106 : decode cX1_shortestChain 106 = .ok (.if_icmp .ne 37, 3) := dk_160 0 37 (dk_at dksX1_shortestChain_4 17 rfl rfl)
theorem dX1_shortestChain_109 : decode cX1_shortestChain 109 = .ok (.aload_n 3, 1) := dk_45 (dk_at dksX1_shortestChain_4 20 rfl rfl)
theorem dX1_shortestChain_110 : decode cX1_shortestChain 110 = .ok (.aload 9, 2) := dk_25 9 (dk_at dksX1_shortestChain_4 21 rfl rfl)
theorem dX1_shortestChain_112 : decode cX1_shortestChain 112 = .ok (.getfield 200, 3) := dk_180 0 200 (dk_at dksX1_shortestChain_5 0 rfl rfl)
theorem dX1_shortestChain_115 : decode cX1_shortestChain 115 = .ok (.iaload, 1) := dk_46 (dk_at dksX1_shortestChain_5 3 rfl rfl)
theorem dX1_shortestChain_116 : decode cX1_shortestChain 116 = .ok (.ifCond .ne 27, 3) := dk_154 0 27 (dk_at dksX1_shortestChain_5 4 rfl rfl)
theorem dX1_shortestChain_119 : decode cX1_shortestChain 119 = .ok (.aload_n 3, 1) := dk_45 (dk_at dksX1_shortestChain_5 7 rfl rfl)
theorem dX1_shortestChain_120 : decode cX1_shortestChain 120 = .ok (.aload 9, 2) := dk_25 9 (dk_at dksX1_shortestChain_5 8 rfl rfl)
theorem dX1_shortestChain_122 : decode cX1_shortestChain 122 = .ok (.getfield 200, 3) := dk_180 0 200 (dk_at dksX1_shortestChain_5 10 rfl rfl)
theorem dX1_shortestChain_125 : decode cX1_shortestChain 125 = .ok (.iload 7, 2) := dk_21 7 (dk_at dksX1_shortestChain_5 13 rfl rfl)
theorem dX1_shortestChain_127 : decode cX1_shortestChain 127 = .ok (.iconst 1, 1) := dk_4 (dk_at dksX1_shortestChain_5 15 rfl rfl)
theorem dX1_shortestChain_128 : decode cX1_shortestChain 128 = .ok (.iadd, 1) := dk_96 (dk_at dksX1_shortestChain_5 16 rfl rfl)
theorem dX1_shortestChain_129 : decode cX1_shortestChain 129 = .ok (.iastore, 1) := dk_79 (dk_at dksX1_shortestChain_5 17 rfl rfl)
theorem dX1_shortestChain_130 : decode cX1_shortestChain 130 = .ok (.aload 4, 2) := dk_25 4 (dk_at dksX1_shortestChain_5 18 rfl rfl)
theorem dX1_shortestChain_132 : decode cX1_shortestChain 132 = .ok (.aload 9, 2) := dk_25 9 (dk_at dksX1_shortestChain_5 20 rfl rfl)
theorem dX1_shortestChain_134 : decode cX1_shortestChain 134 = .ok (.getfield 200, 3) := dk_180 0 200 (dk_at dksX1_shortestChain_6 0 rfl rfl)
theorem dX1_shortestChain_137 : decode cX1_shortestChain 137 = .ok (.invokestatic 270, 3) := dk_184 1 14 (dk_at dksX1_shortestChain_6 3 rfl rfl)
theorem dX1_shortestChain_140 : decode cX1_shortestChain 140 = .ok (.invokevirtual 64, 3) := dk_182 0 64 (dk_at dksX1_shortestChain_6 6 rfl rfl)
theorem dX1_shortestChain_143 : decode cX1_shortestChain 143 = .ok (.goto (-66), 3) := dk_167 255 190 (dk_at dksX1_shortestChain_6 9 rfl rfl)
theorem dX1_shortestChain_146 : decode cX1_shortestChain 146 = .ok (.goto (-120), 3) := dk_167 255 136 (dk_at dksX1_shortestChain_6 12 rfl rfl)
theorem dX1_shortestChain_149 : decode cX1_shortestChain 149 = .ok (.aload_n 3, 1) := dk_45 (dk_at dksX1_shortestChain_6 15 rfl rfl)
theorem dX1_shortestChain_150 : decode cX1_shortestChain 150 = .ok (.iload_n 2, 1) := dk_28 (dk_at dksX1_shortestChain_6 16 rfl rfl)
theorem dX1_shortestChain_151 : decode cX1_shortestChain 151 = .ok (.iaload, 1) := dk_46 (dk_at dksX1_shortestChain_6 17 rfl rfl)
theorem dX1_shortestChain_152 : decode cX1_shortestChain 152 = .ok (.ifCond .ne 7, 3) := dk_154 0 7 (dk_at dksX1_shortestChain_6 18 rfl rfl)
theorem dX1_shortestChain_155 : decode cX1_shortestChain 155 = .ok (.iconst (-1), 1) := dk_2 (dk_at dksX1_shortestChain_6 21 rfl rfl)
theorem dX1_shortestChain_156 : decode cX1_shortestChain 156 = .ok (.goto 6, 3) := dk_167 0 6 (dk_at dksX1_shortestChain_7 0 rfl rfl)
theorem dX1_shortestChain_159 : decode cX1_shortestChain 159 = .ok (.aload_n 3, 1) := dk_45 (dk_at dksX1_shortestChain_7 3 rfl rfl)
theorem dX1_shortestChain_160 : decode cX1_shortestChain 160 = .ok (.iload_n 2, 1) := dk_28 (dk_at dksX1_shortestChain_7 4 rfl rfl)
theorem dX1_shortestChain_161 : decode cX1_shortestChain 161 = .ok (.iaload, 1) := dk_46 (dk_at dksX1_shortestChain_7 5 rfl rfl)
theorem dX1_shortestChain_162 : decode cX1_shortestChain 162 = .ok (.ireturn, 1) := dk_172 (dk_at dksX1_shortestChain_7 6 rfl rfl)
abbrev cX1_expiredCount : ByteArray := prog_1_method_80_code
def yX1_expiredCount : MethodName := ⟨RX1, "expiredCount", "()I"⟩
def dkwX1_expiredCount_0 : List UInt8 := [42, 180, 0, 10, 180, 1, 67, 172]
abbrev dktX1_expiredCount_0 : List UInt8 := dkwX1_expiredCount_0 ++ []
theorem dksX1_expiredCount_0 : cX1_expiredCount.data.toList.drop 0 = dktX1_expiredCount_0 := by decide +kernel
theorem dX1_expiredCount_0 : decode cX1_expiredCount 0 = .ok (.aload_n 0, 1) := dk_42 (dk_at dksX1_expiredCount_0 0 rfl rfl)
theorem dX1_expiredCount_1 : decode cX1_expiredCount 1 = .ok (.getfield 10, 3) := dk_180 0 10 (dk_at dksX1_expiredCount_0 1 rfl rfl)
theorem dX1_expiredCount_4 : decode cX1_expiredCount 4 = .ok (.getfield 323, 3) := dk_180 1 67 (dk_at dksX1_expiredCount_0 4 rfl rfl)
theorem dX1_expiredCount_7 : decode cX1_expiredCount 7 = .ok (.ireturn, 1) := dk_172 (dk_at dksX1_expiredCount_0 7 rfl rfl)
abbrev cX1_settledCount : ByteArray := prog_1_method_81_code
def yX1_settledCount : MethodName := ⟨RX1, "settledCount", "()I"⟩
def dkwX1_settledCount_0 : List UInt8 := [42, 180, 0, 10, 180, 1, 70, 172]
abbrev dktX1_settledCount_0 : List UInt8 := dkwX1_settledCount_0 ++ []
theorem dksX1_settledCount_0 : cX1_settledCount.data.toList.drop 0 = dktX1_settledCount_0 := by decide +kernel
theorem dX1_settledCount_0 : decode cX1_settledCount 0 = .ok (.aload_n 0, 1) := dk_42 (dk_at dksX1_settledCount_0 0 rfl rfl)
theorem dX1_settledCount_1 : decode cX1_settledCount 1 = .ok (.getfield 10, 3) := dk_180 0 10 (dk_at dksX1_settledCount_0 1 rfl rfl)
theorem dX1_settledCount_4 : decode cX1_settledCount 4 = .ok (.getfield 326, 3) := dk_180 1 70 (dk_at dksX1_settledCount_0 4 rfl rfl)
theorem dX1_settledCount_7 : decode cX1_settledCount 7 = .ok (.ireturn, 1) := dk_172 (dk_at dksX1_settledCount_0 7 rfl rfl)
abbrev cX1_voidedCount : ByteArray := prog_1_method_82_code
def yX1_voidedCount : MethodName := ⟨RX1, "voidedCount", "()I"⟩
def dkwX1_voidedCount_0 : List UInt8 := [42, 180, 0, 10, 180, 1, 73, 172]
abbrev dktX1_voidedCount_0 : List UInt8 := dkwX1_voidedCount_0 ++ []
theorem dksX1_voidedCount_0 : cX1_voidedCount.data.toList.drop 0 = dktX1_voidedCount_0 := by decide +kernel
theorem dX1_voidedCount_0 : decode cX1_voidedCount 0 = .ok (.aload_n 0, 1) := dk_42 (dk_at dksX1_voidedCount_0 0 rfl rfl)
theorem dX1_voidedCount_1 : decode cX1_voidedCount 1 = .ok (.getfield 10, 3) := dk_180 0 10 (dk_at dksX1_voidedCount_0 1 rfl rfl)
theorem dX1_voidedCount_4 : decode cX1_voidedCount 4 = .ok (.getfield 329, 3) := dk_180 1 73 (dk_at dksX1_voidedCount_0 4 rfl rfl)
theorem dX1_voidedCount_7 : decode cX1_voidedCount 7 = .ok (.ireturn, 1) := dk_172 (dk_at dksX1_voidedCount_0 7 rfl rfl)
abbrev cX1_interestTotal : ByteArray := prog_1_method_83_code
def yX1_interestTotal : MethodName := ⟨RX1, "interestTotal", "()J"⟩
def dkwX1_interestTotal_0 : List UInt8 := [42, 180, 0, 10, 180, 1, 76, 173]
abbrev dktX1_interestTotal_0 : List UInt8 := dkwX1_interestTotal_0 ++ []
theorem dksX1_interestTotal_0 : cX1_interestTotal.data.toList.drop 0 = dktX1_interestTotal_0 := by decide +kernel
theorem dX1_interestTotal_0 : decode cX1_interestTotal 0 = .ok (.aload_n 0, 1) := dk_42 (dk_at dksX1_interestTotal_0 0 rfl rfl)
theorem dX1_interestTotal_1 : decode cX1_interestTotal 1 = .ok (.getfield 10, 3) := dk_180 0 10 (dk_at dksX1_interestTotal_0 1 rfl rfl)
theorem dX1_interestTotal_4 : decode cX1_interestTotal 4 = .ok (.getfield 332, 3) := dk_180 1 76 (dk_at dksX1_interestTotal_0 4 rfl rfl)
theorem dX1_interestTotal_7 : decode cX1_interestTotal 7 = .ok (.lreturn, 1) := dk_173 (dk_at dksX1_interestTotal_0 7 rfl rfl)
abbrev cX1_activeWeight : ByteArray := prog_1_method_84_code
def yX1_activeWeight : MethodName := ⟨RX1, "activeWeight", "()J"⟩
def dkwX1_activeWeight_0 : List UInt8 := [42, 180, 0, 10, 182, 1, 80, 173]
abbrev dktX1_activeWeight_0 : List UInt8 := dkwX1_activeWeight_0 ++ []
theorem dksX1_activeWeight_0 : cX1_activeWeight.data.toList.drop 0 = dktX1_activeWeight_0 := by decide +kernel
theorem dX1_activeWeight_0 : decode cX1_activeWeight 0 = .ok (.aload_n 0, 1) := dk_42 (dk_at dksX1_activeWeight_0 0 rfl rfl)
theorem dX1_activeWeight_1 : decode cX1_activeWeight 1 = .ok (.getfield 10, 3) := dk_180 0 10 (dk_at dksX1_activeWeight_0 1 rfl rfl)
theorem dX1_activeWeight_4 : decode cX1_activeWeight 4 = .ok (.invokevirtual 336, 3) := dk_182 1 80 (dk_at dksX1_activeWeight_0 4 rfl rfl)
theorem dX1_activeWeight_7 : decode cX1_activeWeight 7 = .ok (.lreturn, 1) := dk_173 (dk_at dksX1_activeWeight_0 7 rfl rfl)
abbrev cX1_closedWeight : ByteArray := prog_1_method_85_code
def yX1_closedWeight : MethodName := ⟨RX1, "closedWeight", "()J"⟩
def dkwX1_closedWeight_0 : List UInt8 := [42, 180, 0, 10, 180, 1, 84, 173]
abbrev dktX1_closedWeight_0 : List UInt8 := dkwX1_closedWeight_0 ++ []
theorem dksX1_closedWeight_0 : cX1_closedWeight.data.toList.drop 0 = dktX1_closedWeight_0 := by decide +kernel
theorem dX1_closedWeight_0 : decode cX1_closedWeight 0 = .ok (.aload_n 0, 1) := dk_42 (dk_at dksX1_closedWeight_0 0 rfl rfl)
theorem dX1_closedWeight_1 : decode cX1_closedWeight 1 = .ok (.getfield 10, 3) := dk_180 0 10 (dk_at dksX1_closedWeight_0 1 rfl rfl)
theorem dX1_closedWeight_4 : decode cX1_closedWeight 4 = .ok (.getfield 340, 3) := dk_180 1 84 (dk_at dksX1_closedWeight_0 4 rfl rfl)
theorem dX1_closedWeight_7 : decode cX1_closedWeight 7 = .ok (.lreturn, 1) := dk_173 (dk_at dksX1_closedWeight_0 7 rfl rfl)
abbrev cX1_isConsistent : ByteArray := prog_1_method_89_code
def yX1_isConsistent : MethodName := ⟨RX1, "isConsistent", "()Z"⟩
def dkwX1_isConsistent_4 : List UInt8 := [154, 0, 7, 4, 167, 0, 4, 3, 172]
abbrev dktX1_isConsistent_4 : List UInt8 := dkwX1_isConsistent_4 ++ []
def dkwX1_isConsistent_3 : List UInt8 := [167, 0, 4, 3, 61, 27, 153, 0, 25, 28, 153, 0, 21, 42, 182, 1, 93, 153, 0, 14, 42, 182, 1, 96]
abbrev dktX1_isConsistent_3 : List UInt8 := dkwX1_isConsistent_3 ++ dktX1_isConsistent_4
def dkwX1_isConsistent_2 : List UInt8 := [153, 0, 25, 42, 16, 10, 182, 1, 90, 153, 0, 16, 42, 16, 50, 182, 1, 90, 153, 0, 7, 4]
abbrev dktX1_isConsistent_2 : List UInt8 := dkwX1_isConsistent_2 ++ dktX1_isConsistent_3
def dkwX1_isConsistent_1 : List UInt8 := [180, 0, 10, 180, 1, 84, 97, 148, 154, 0, 7, 4, 167, 0, 4, 3, 60, 42, 3, 182, 1, 90]
abbrev dktX1_isConsistent_1 : List UInt8 := dkwX1_isConsistent_1 ++ dktX1_isConsistent_2
def dkwX1_isConsistent_0 : List UInt8 := [42, 180, 0, 10, 180, 1, 87, 42, 180, 0, 10, 180, 1, 76, 97, 42, 180, 0, 10, 182, 1, 80, 42]
abbrev dktX1_isConsistent_0 : List UInt8 := dkwX1_isConsistent_0 ++ dktX1_isConsistent_1
theorem dksX1_isConsistent_0 : cX1_isConsistent.data.toList.drop 0 = dktX1_isConsistent_0 := by decide +kernel
theorem dksX1_isConsistent_1 : cX1_isConsistent.data.toList.drop 23 = dktX1_isConsistent_1 := dk_seg dksX1_isConsistent_0 23 rfl rfl
theorem dksX1_isConsistent_2 : cX1_isConsistent.data.toList.drop 45 = dktX1_isConsistent_2 := dk_seg dksX1_isConsistent_1 22 rfl rfl
theorem dksX1_isConsistent_3 : cX1_isConsistent.data.toList.drop 67 = dktX1_isConsistent_3 := dk_seg dksX1_isConsistent_2 22 rfl rfl
theorem dksX1_isConsistent_4 : cX1_isConsistent.data.toList.drop 91 = dktX1_isConsistent_4 := dk_seg dksX1_isConsistent_3 24 rfl rfl
theorem dX1_isConsistent_0 : decode cX1_isConsistent 0 = .ok (.aload_n 0, 1) := dk_42 (dk_at dksX1_isConsistent_0 0 rfl rfl)
theorem dX1_isConsistent_1 : decode cX1_isConsistent 1 = .ok (.getfield 10, 3) := dk_180 0 10 (dk_at dksX1_isConsistent_0 1 rfl rfl)
theorem dX1_isConsistent_4 : decode cX1_isConsistent 4 = .ok (.getfield 343, 3) := dk_180 1 87 (dk_at dksX1_isConsistent_0 4 rfl rfl)
theorem dX1_isConsistent_7 : decode cX1_isConsistent 7 = .ok (.aload_n 0, 1) := dk_42 (dk_at dksX1_isConsistent_0 7 rfl rfl)
theorem dX1_isConsistent_8 : decode cX1_isConsistent 8 = .ok (.getfield 10, 3) := dk_180 0 10 (dk_at dksX1_isConsistent_0 8 rfl rfl)
theorem dX1_isConsistent_11 : decode cX1_isConsistent 11 = .ok (.getfield 332, 3) := dk_180 1 76 (dk_at dksX1_isConsistent_0 11 rfl rfl)
theorem dX1_isConsistent_14 : decode cX1_isConsistent 14 = .ok (.ladd, 1) := dk_97 (dk_at dksX1_isConsistent_0 14 rfl rfl)
theorem dX1_isConsistent_15 : decode cX1_isConsistent 15 = .ok (.aload_n 0, 1) := dk_42 (dk_at dksX1_isConsistent_0 15 rfl rfl)
theorem dX1_isConsistent_16 : decode cX1_isConsistent 16 = .ok (.getfield 10, 3) := dk_180 0 10 (dk_at dksX1_isConsistent_0 16 rfl rfl)
theorem dX1_isConsistent_19 : decode cX1_isConsistent 19 = .ok (.invokevirtual 336, 3) := dk_182 1 80 (dk_at dksX1_isConsistent_0 19 rfl rfl)
theorem dX1_isConsistent_22 : decode cX1_isConsistent 22 = .ok (.aload_n 0, 1) := dk_42 (dk_at dksX1_isConsistent_0 22 rfl rfl)
theorem dX1_isConsistent_23 : decode cX1_isConsistent 23 = .ok (.getfield 10, 3) := dk_180 0 10 (dk_at dksX1_isConsistent_1 0 rfl rfl)
theorem dX1_isConsistent_26 : decode cX1_isConsistent 26 = .ok (.getfield 340, 3) := dk_180 1 84 (dk_at dksX1_isConsistent_1 3 rfl rfl)
theorem dX1_isConsistent_29 : decode cX1_isConsistent 29 = .ok (.ladd, 1) := dk_97 (dk_at dksX1_isConsistent_1 6 rfl rfl)
theorem dX1_isConsistent_30 : decode cX1_isConsistent 30 = .ok (.lcmp, 1) := dk_148 (dk_at dksX1_isConsistent_1 7 rfl rfl)
theorem dX1_isConsistent_31 : decode cX1_isConsistent 31 = .ok (.ifCond .ne 7, 3) := dk_154 0 7 (dk_at dksX1_isConsistent_1 8 rfl rfl)
theorem dX1_isConsistent_34 : decode cX1_isConsistent 34 = .ok (.iconst 1, 1) := dk_4 (dk_at dksX1_isConsistent_1 11 rfl rfl)
theorem dX1_isConsistent_35 : decode cX1_isConsistent 35 = .ok (.goto 4, 3) := dk_167 0 4 (dk_at dksX1_isConsistent_1 12 rfl rfl)
theorem dX1_isConsistent_38 : decode cX1_isConsistent 38 = .ok (.iconst 0, 1) := dk_3 (dk_at dksX1_isConsistent_1 15 rfl rfl)
theorem dX1_isConsistent_39 : decode cX1_isConsistent 39 = .ok (.istore_n 1, 1) := dk_60 (dk_at dksX1_isConsistent_1 16 rfl rfl)
theorem dX1_isConsistent_40 : decode cX1_isConsistent 40 = .ok (.aload_n 0, 1) := dk_42 (dk_at dksX1_isConsistent_1 17 rfl rfl)
theorem dX1_isConsistent_41 : decode cX1_isConsistent 41 = .ok (.iconst 0, 1) := dk_3 (dk_at dksX1_isConsistent_1 18 rfl rfl)
theorem dX1_isConsistent_42 : decode cX1_isConsistent 42 = .ok (.invokevirtual 346, 3) := dk_182 1 90 (dk_at dksX1_isConsistent_1 19 rfl rfl)
theorem dX1_isConsistent_45 : decode cX1_isConsistent 45 = .ok (.ifCond .eq 25, 3) := dk_153 0 25 (dk_at dksX1_isConsistent_2 0 rfl rfl)
theorem dX1_isConsistent_48 : decode cX1_isConsistent 48 = .ok (.aload_n 0, 1) := dk_42 (dk_at dksX1_isConsistent_2 3 rfl rfl)
theorem dX1_isConsistent_49 : decode cX1_isConsistent 49 = .ok (.bipush 10, 2) := dk_16 10 (dk_at dksX1_isConsistent_2 4 rfl rfl)
theorem dX1_isConsistent_51 : decode cX1_isConsistent 51 = .ok (.invokevirtual 346, 3) := dk_182 1 90 (dk_at dksX1_isConsistent_2 6 rfl rfl)
theorem dX1_isConsistent_54 : decode cX1_isConsistent 54 = .ok (.ifCond .eq 16, 3) := dk_153 0 16 (dk_at dksX1_isConsistent_2 9 rfl rfl)
theorem dX1_isConsistent_57 : decode cX1_isConsistent 57 = .ok (.aload_n 0, 1) := dk_42 (dk_at dksX1_isConsistent_2 12 rfl rfl)
theorem dX1_isConsistent_58 : decode cX1_isConsistent 58 = .ok (.bipush 50, 2) := dk_16 50 (dk_at dksX1_isConsistent_2 13 rfl rfl)
theorem dX1_isConsistent_60 : decode cX1_isConsistent 60 = .ok (.invokevirtual 346, 3) := dk_182 1 90 (dk_at dksX1_isConsistent_2 15 rfl rfl)
theorem dX1_isConsistent_63 : decode cX1_isConsistent 63 = .ok (.ifCond .eq 7, 3) := dk_153 0 7 (dk_at dksX1_isConsistent_2 18 rfl rfl)
theorem dX1_isConsistent_66 : decode cX1_isConsistent 66 = .ok (.iconst 1, 1) := dk_4 (dk_at dksX1_isConsistent_2 21 rfl rfl)
theorem dX1_isConsistent_67 : decode cX1_isConsistent 67 = .ok (.goto 4, 3) := dk_167 0 4 (dk_at dksX1_isConsistent_3 0 rfl rfl)
theorem dX1_isConsistent_70 : decode cX1_isConsistent 70 = .ok (.iconst 0, 1) := dk_3 (dk_at dksX1_isConsistent_3 3 rfl rfl)
theorem dX1_isConsistent_71 : decode cX1_isConsistent 71 = .ok (.istore_n 2, 1) := dk_61 (dk_at dksX1_isConsistent_3 4 rfl rfl)
theorem dX1_isConsistent_72 : decode cX1_isConsistent 72 = .ok (.iload_n 1, 1) := dk_27 (dk_at dksX1_isConsistent_3 5 rfl rfl)
theorem dX1_isConsistent_73 : decode cX1_isConsistent 73 = .ok (.ifCond .eq 25, 3) := dk_153 0 25 (dk_at dksX1_isConsistent_3 6 rfl rfl)
theorem dX1_isConsistent_76 : decode cX1_isConsistent 76 = .ok (.iload_n 2, 1) := dk_28 (dk_at dksX1_isConsistent_3 9 rfl rfl)
theorem dX1_isConsistent_77 : decode cX1_isConsistent 77 = .ok (.ifCond .eq 21, 3) := dk_153 0 21 (dk_at dksX1_isConsistent_3 10 rfl rfl)
theorem dX1_isConsistent_80 : decode cX1_isConsistent 80 = .ok (.aload_n 0, 1) := dk_42 (dk_at dksX1_isConsistent_3 13 rfl rfl)
theorem dX1_isConsistent_81 : decode cX1_isConsistent 81 = .ok (.invokevirtual 349, 3) := dk_182 1 93 (dk_at dksX1_isConsistent_3 14 rfl rfl)
theorem dX1_isConsistent_84 : decode cX1_isConsistent 84 = .ok (.ifCond .eq 14, 3) := dk_153 0 14 (dk_at dksX1_isConsistent_3 17 rfl rfl)
theorem dX1_isConsistent_87 : decode cX1_isConsistent 87 = .ok (.aload_n 0, 1) := dk_42 (dk_at dksX1_isConsistent_3 20 rfl rfl)
theorem dX1_isConsistent_88 : decode cX1_isConsistent 88 = .ok (.invokevirtual 352, 3) := dk_182 1 96 (dk_at dksX1_isConsistent_3 21 rfl rfl)
theorem dX1_isConsistent_91 : decode cX1_isConsistent 91 = .ok (.ifCond .ne 7, 3) := dk_154 0 7 (dk_at dksX1_isConsistent_4 0 rfl rfl)
theorem dX1_isConsistent_94 : decode cX1_isConsistent 94 = .ok (.iconst 1, 1) := dk_4 (dk_at dksX1_isConsistent_4 3 rfl rfl)
theorem dX1_isConsistent_95 : decode cX1_isConsistent 95 = .ok (.goto 4, 3) := dk_167 0 4 (dk_at dksX1_isConsistent_4 4 rfl rfl)
theorem dX1_isConsistent_98 : decode cX1_isConsistent 98 = .ok (.iconst 0, 1) := dk_3 (dk_at dksX1_isConsistent_4 7 rfl rfl)
theorem dX1_isConsistent_99 : decode cX1_isConsistent 99 = .ok (.ireturn, 1) := dk_172 (dk_at dksX1_isConsistent_4 8 rfl rfl)
abbrev cX1_areForecastsEqual : ByteArray := prog_1_method_86_code
def yX1_areForecastsEqual : MethodName := ⟨RX1, "areForecastsEqual", "(I)Z"⟩
def dkwX1_areForecastsEqual_0 : List UInt8 := [42, 27, 182, 1, 52, 42, 27, 182, 1, 55, 160, 0, 7, 4, 167, 0, 4, 3, 172]
abbrev dktX1_areForecastsEqual_0 : List UInt8 := dkwX1_areForecastsEqual_0 ++ []
theorem dksX1_areForecastsEqual_0 : cX1_areForecastsEqual.data.toList.drop 0 = dktX1_areForecastsEqual_0 := by decide +kernel
theorem dX1_areForecastsEqual_0 : decode cX1_areForecastsEqual 0 = .ok (.aload_n 0, 1) := dk_42 (dk_at dksX1_areForecastsEqual_0 0 rfl rfl)
theorem dX1_areForecastsEqual_1 : decode cX1_areForecastsEqual 1 = .ok (.iload_n 1, 1) := dk_27 (dk_at dksX1_areForecastsEqual_0 1 rfl rfl)
theorem dX1_areForecastsEqual_2 : decode cX1_areForecastsEqual 2 = .ok (.invokevirtual 308, 3) := dk_182 1 52 (dk_at dksX1_areForecastsEqual_0 2 rfl rfl)
theorem dX1_areForecastsEqual_5 : decode cX1_areForecastsEqual 5 = .ok (.aload_n 0, 1) := dk_42 (dk_at dksX1_areForecastsEqual_0 5 rfl rfl)
theorem dX1_areForecastsEqual_6 : decode cX1_areForecastsEqual 6 = .ok (.iload_n 1, 1) := dk_27 (dk_at dksX1_areForecastsEqual_0 6 rfl rfl)
theorem dX1_areForecastsEqual_7 : decode cX1_areForecastsEqual 7 = .ok (.invokevirtual 311, 3) := dk_182 1 55 (dk_at dksX1_areForecastsEqual_0 7 rfl rfl)
theorem dX1_areForecastsEqual_10 : decode cX1_areForecastsEqual 10 = .ok (.if_icmp .ne 7, 3) := dk_160 0 7 (dk_at dksX1_areForecastsEqual_0 10 rfl rfl)
theorem dX1_areForecastsEqual_13 : decode cX1_areForecastsEqual 13 = .ok (.iconst 1, 1) := dk_4 (dk_at dksX1_areForecastsEqual_0 13 rfl rfl)
theorem dX1_areForecastsEqual_14 : decode cX1_areForecastsEqual 14 = .ok (.goto 4, 3) := dk_167 0 4 (dk_at dksX1_areForecastsEqual_0 14 rfl rfl)
theorem dX1_areForecastsEqual_17 : decode cX1_areForecastsEqual 17 = .ok (.iconst 0, 1) := dk_3 (dk_at dksX1_areForecastsEqual_0 17 rfl rfl)
theorem dX1_areForecastsEqual_18 : decode cX1_areForecastsEqual 18 = .ok (.ireturn, 1) := dk_172 (dk_at dksX1_areForecastsEqual_0 18 rfl rfl)
abbrev cX1_expiringByComparison : ByteArray := prog_1_method_73_code
def yX1_expiringByComparison : MethodName := ⟨RX1, "expiringByComparison", "(I)I"⟩
def dkwX1_expiringByComparison_1 : List UInt8 := [186, 1, 48, 0, 0, 182, 0, 112, 172]
abbrev dktX1_expiringByComparison_1 : List UInt8 := dkwX1_expiringByComparison_1 ++ []
def dkwX1_expiringByComparison_0 : List UInt8 := [42, 180, 0, 10, 180, 0, 181, 27, 96, 61, 27, 154, 0, 7, 3, 167, 0, 16, 42, 180, 0, 10, 28]
abbrev dktX1_expiringByComparison_0 : List UInt8 := dkwX1_expiringByComparison_0 ++ dktX1_expiringByComparison_1
theorem dksX1_expiringByComparison_0 : cX1_expiringByComparison.data.toList.drop 0 = dktX1_expiringByComparison_0 := by decide +kernel
theorem dksX1_expiringByComparison_1 : cX1_expiringByComparison.data.toList.drop 23 = dktX1_expiringByComparison_1 := dk_seg dksX1_expiringByComparison_0 23 rfl rfl
theorem dX1_expiringByComparison_0 : decode cX1_expiringByComparison 0 = .ok (.aload_n 0, 1) := dk_42 (dk_at dksX1_expiringByComparison_0 0 rfl rfl)
theorem dX1_expiringByComparison_1 : decode cX1_expiringByComparison 1 = .ok (.getfield 10, 3) := dk_180 0 10 (dk_at dksX1_expiringByComparison_0 1 rfl rfl)
theorem dX1_expiringByComparison_4 : decode cX1_expiringByComparison 4 = .ok (.getfield 181, 3) := dk_180 0 181 (dk_at dksX1_expiringByComparison_0 4 rfl rfl)
theorem dX1_expiringByComparison_7 : decode cX1_expiringByComparison 7 = .ok (.iload_n 1, 1) := dk_27 (dk_at dksX1_expiringByComparison_0 7 rfl rfl)
theorem dX1_expiringByComparison_8 : decode cX1_expiringByComparison 8 = .ok (.iadd, 1) := dk_96 (dk_at dksX1_expiringByComparison_0 8 rfl rfl)
theorem dX1_expiringByComparison_9 : decode cX1_expiringByComparison 9 = .ok (.istore_n 2, 1) := dk_61 (dk_at dksX1_expiringByComparison_0 9 rfl rfl)
theorem dX1_expiringByComparison_10 : decode cX1_expiringByComparison 10 = .ok (.iload_n 1, 1) := dk_27 (dk_at dksX1_expiringByComparison_0 10 rfl rfl)
theorem dX1_expiringByComparison_11 : decode cX1_expiringByComparison 11 = .ok (.ifCond .ne 7, 3) := dk_154 0 7 (dk_at dksX1_expiringByComparison_0 11 rfl rfl)
theorem dX1_expiringByComparison_14 : decode cX1_expiringByComparison 14 = .ok (.iconst 0, 1) := dk_3 (dk_at dksX1_expiringByComparison_0 14 rfl rfl)
theorem dX1_expiringByComparison_15 : decode cX1_expiringByComparison 15 = .ok (.goto 16, 3) := dk_167 0 16 (dk_at dksX1_expiringByComparison_0 15 rfl rfl)
theorem dX1_expiringByComparison_18 : decode cX1_expiringByComparison 18 = .ok (.aload_n 0, 1) := dk_42 (dk_at dksX1_expiringByComparison_0 18 rfl rfl)
theorem dX1_expiringByComparison_19 : decode cX1_expiringByComparison 19 = .ok (.getfield 10, 3) := dk_180 0 10 (dk_at dksX1_expiringByComparison_0 19 rfl rfl)
theorem dX1_expiringByComparison_22 : decode cX1_expiringByComparison 22 = .ok (.iload_n 2, 1) := dk_28 (dk_at dksX1_expiringByComparison_0 22 rfl rfl)
theorem dX1_expiringByComparison_23 : decode cX1_expiringByComparison 23 = .ok (.invokedynamic 304, 5) := by decide +kernel
theorem dX1_expiringByComparison_28 : decode cX1_expiringByComparison 28 = .ok (.invokevirtual 112, 3) := dk_182 0 112 (dk_at dksX1_expiringByComparison_1 5 rfl rfl)
theorem dX1_expiringByComparison_31 : decode cX1_expiringByComparison 31 = .ok (.ireturn, 1) := dk_172 (dk_at dksX1_expiringByComparison_1 8 rfl rfl)
abbrev cX1_lambda_expiringByComparison_10 : ByteArray := prog_1_method_102_code
def yX1_lambda_expiringByComparison_10 : MethodName := ⟨RX1, "lambda$expiringByComparison$10", "(ILClaimRegistry$Claim;)Z"⟩
def dkwX1_lambda_expiringByComparison_10_0 : List UInt8 := [43, 180, 0, 146, 26, 163, 0, 7, 4, 167, 0, 4, 3, 172]
abbrev dktX1_lambda_expiringByComparison_10_0 : List UInt8 := dkwX1_lambda_expiringByComparison_10_0 ++ []
theorem dksX1_lambda_expiringByComparison_10_0 : cX1_lambda_expiringByComparison_10.data.toList.drop 0 = dktX1_lambda_expiringByComparison_10_0 := by decide +kernel
theorem dX1_lambda_expiringByComparison_10_0 : decode cX1_lambda_expiringByComparison_10 0 = .ok (.aload_n 1, 1) := dk_43 (dk_at dksX1_lambda_expiringByComparison_10_0 0 rfl rfl)
theorem dX1_lambda_expiringByComparison_10_1 : decode cX1_lambda_expiringByComparison_10 1 = .ok (.getfield 146, 3) := dk_180 0 146 (dk_at dksX1_lambda_expiringByComparison_10_0 1 rfl rfl)
theorem dX1_lambda_expiringByComparison_10_4 : decode cX1_lambda_expiringByComparison_10 4 = .ok (.iload_n 0, 1) := dk_26 (dk_at dksX1_lambda_expiringByComparison_10_0 4 rfl rfl)
theorem dX1_lambda_expiringByComparison_10_5 : decode cX1_lambda_expiringByComparison_10 5 = .ok (.if_icmp .gt 7, 3) := dk_163 0 7 (dk_at dksX1_lambda_expiringByComparison_10_0 5 rfl rfl)
theorem dX1_lambda_expiringByComparison_10_8 : decode cX1_lambda_expiringByComparison_10 8 = .ok (.iconst 1, 1) := dk_4 (dk_at dksX1_lambda_expiringByComparison_10_0 8 rfl rfl)
theorem dX1_lambda_expiringByComparison_10_9 : decode cX1_lambda_expiringByComparison_10 9 = .ok (.goto 4, 3) := dk_167 0 4 (dk_at dksX1_lambda_expiringByComparison_10_0 9 rfl rfl)
theorem dX1_lambda_expiringByComparison_10_12 : decode cX1_lambda_expiringByComparison_10 12 = .ok (.iconst 0, 1) := dk_3 (dk_at dksX1_lambda_expiringByComparison_10_0 12 rfl rfl)
theorem dX1_lambda_expiringByComparison_10_13 : decode cX1_lambda_expiringByComparison_10 13 = .ok (.ireturn, 1) := dk_172 (dk_at dksX1_lambda_expiringByComparison_10_0 13 rfl rfl)
abbrev cX1_expiringByCopy : ByteArray := prog_1_method_74_code
def yX1_expiringByCopy : MethodName := ⟨RX1, "expiringByCopy", "(I)I"⟩
def dkwX1_expiringByCopy_0 : List UInt8 := [42, 180, 0, 10, 182, 0, 60, 27, 182, 0, 168, 172]
abbrev dktX1_expiringByCopy_0 : List UInt8 := dkwX1_expiringByCopy_0 ++ []
theorem dksX1_expiringByCopy_0 : cX1_expiringByCopy.data.toList.drop 0 = dktX1_expiringByCopy_0 := by decide +kernel
theorem dX1_expiringByCopy_0 : decode cX1_expiringByCopy 0 = .ok (.aload_n 0, 1) := dk_42 (dk_at dksX1_expiringByCopy_0 0 rfl rfl)
theorem dX1_expiringByCopy_1 : decode cX1_expiringByCopy 1 = .ok (.getfield 10, 3) := dk_180 0 10 (dk_at dksX1_expiringByCopy_0 1 rfl rfl)
theorem dX1_expiringByCopy_4 : decode cX1_expiringByCopy 4 = .ok (.invokevirtual 60, 3) := dk_182 0 60 (dk_at dksX1_expiringByCopy_0 4 rfl rfl)
theorem dX1_expiringByCopy_7 : decode cX1_expiringByCopy 7 = .ok (.iload_n 1, 1) := dk_27 (dk_at dksX1_expiringByCopy_0 7 rfl rfl)
theorem dX1_expiringByCopy_8 : decode cX1_expiringByCopy 8 = .ok (.invokevirtual 168, 3) := dk_182 0 168 (dk_at dksX1_expiringByCopy_0 8 rfl rfl)
theorem dX1_expiringByCopy_11 : decode cX1_expiringByCopy 11 = .ok (.ireturn, 1) := dk_172 (dk_at dksX1_expiringByCopy_0 11 rfl rfl)
abbrev cX1_areChainsEqual : ByteArray := prog_1_method_88_code
def yX1_areChainsEqual : MethodName := ⟨RX1, "areChainsEqual", "()Z"⟩
def dkwX1_areChainsEqual_1 : List UInt8 := [28, 182, 1, 26, 159, 0, 5, 3, 172, 132, 2, 1, 167, 255, 230, 132, 1, 1, 167, 255, 216, 4, 172]
abbrev dktX1_areChainsEqual_1 : List UInt8 := dkwX1_areChainsEqual_1 ++ []
def dkwX1_areChainsEqual_0 : List UInt8 := [3, 60, 27, 16, 8, 162, 0, 40, 3, 61, 28, 16, 8, 162, 0, 26, 42, 27, 28, 182, 1, 22, 42, 27]
abbrev dktX1_areChainsEqual_0 : List UInt8 := dkwX1_areChainsEqual_0 ++ dktX1_areChainsEqual_1
theorem dksX1_areChainsEqual_0 : cX1_areChainsEqual.data.toList.drop 0 = dktX1_areChainsEqual_0 := by decide +kernel
theorem dksX1_areChainsEqual_1 : cX1_areChainsEqual.data.toList.drop 24 = dktX1_areChainsEqual_1 := dk_seg dksX1_areChainsEqual_0 24 rfl rfl
theorem dX1_areChainsEqual_0 : decode cX1_areChainsEqual 0 = .ok (.iconst 0, 1) := dk_3 (dk_at dksX1_areChainsEqual_0 0 rfl rfl)
theorem dX1_areChainsEqual_1 : decode cX1_areChainsEqual 1 = .ok (.istore_n 1, 1) := dk_60 (dk_at dksX1_areChainsEqual_0 1 rfl rfl)
theorem dX1_areChainsEqual_2 : decode cX1_areChainsEqual 2 = .ok (.iload_n 1, 1) := dk_27 (dk_at dksX1_areChainsEqual_0 2 rfl rfl)
theorem dX1_areChainsEqual_3 : decode cX1_areChainsEqual 3 = .ok (.bipush 8, 2) := dk_16 8 (dk_at dksX1_areChainsEqual_0 3 rfl rfl)
theorem dX1_areChainsEqual_5 : decode cX1_areChainsEqual 5 = .ok (.if_icmp .ge 40, 3) := dk_162 0 40 (dk_at dksX1_areChainsEqual_0 5 rfl rfl)
theorem dX1_areChainsEqual_8 : decode cX1_areChainsEqual 8 = .ok (.iconst 0, 1) := dk_3 (dk_at dksX1_areChainsEqual_0 8 rfl rfl)
theorem dX1_areChainsEqual_9 : decode cX1_areChainsEqual 9 = .ok (.istore_n 2, 1) := dk_61 (dk_at dksX1_areChainsEqual_0 9 rfl rfl)
theorem dX1_areChainsEqual_10 : decode cX1_areChainsEqual 10 = .ok (.iload_n 2, 1) := dk_28 (dk_at dksX1_areChainsEqual_0 10 rfl rfl)
theorem dX1_areChainsEqual_11 : decode cX1_areChainsEqual 11 = .ok (.bipush 8, 2) := dk_16 8 (dk_at dksX1_areChainsEqual_0 11 rfl rfl)
theorem dX1_areChainsEqual_13 : decode cX1_areChainsEqual 13 = .ok (.if_icmp .ge 26, 3) := dk_162 0 26 (dk_at dksX1_areChainsEqual_0 13 rfl rfl)
theorem dX1_areChainsEqual_16 : decode cX1_areChainsEqual 16 = .ok (.aload_n 0, 1) := dk_42 (dk_at dksX1_areChainsEqual_0 16 rfl rfl)
theorem dX1_areChainsEqual_17 : decode cX1_areChainsEqual 17 = .ok (.iload_n 1, 1) := dk_27 (dk_at dksX1_areChainsEqual_0 17 rfl rfl)
theorem dX1_areChainsEqual_18 : decode cX1_areChainsEqual 18 = .ok (.iload_n 2, 1) := dk_28 (dk_at dksX1_areChainsEqual_0 18 rfl rfl)
theorem dX1_areChainsEqual_19 : decode cX1_areChainsEqual 19 = .ok (.invokevirtual 278, 3) := dk_182 1 22 (dk_at dksX1_areChainsEqual_0 19 rfl rfl)
theorem dX1_areChainsEqual_22 : decode cX1_areChainsEqual 22 = .ok (.aload_n 0, 1) := dk_42 (dk_at dksX1_areChainsEqual_0 22 rfl rfl)
theorem dX1_areChainsEqual_23 : decode cX1_areChainsEqual 23 = .ok (.iload_n 1, 1) := dk_27 (dk_at dksX1_areChainsEqual_0 23 rfl rfl)
theorem dX1_areChainsEqual_24 : decode cX1_areChainsEqual 24 = .ok (.iload_n 2, 1) := dk_28 (dk_at dksX1_areChainsEqual_1 0 rfl rfl)
theorem dX1_areChainsEqual_25 : decode cX1_areChainsEqual 25 = .ok (.invokevirtual 282, 3) := dk_182 1 26 (dk_at dksX1_areChainsEqual_1 1 rfl rfl)
theorem dX1_areChainsEqual_28 : decode cX1_areChainsEqual 28 = .ok (.if_icmp .eq 5, 3) := dk_159 0 5 (dk_at dksX1_areChainsEqual_1 4 rfl rfl)
theorem dX1_areChainsEqual_31 : decode cX1_areChainsEqual 31 = .ok (.iconst 0, 1) := dk_3 (dk_at dksX1_areChainsEqual_1 7 rfl rfl)
theorem dX1_areChainsEqual_32 : decode cX1_areChainsEqual 32 = .ok (.ireturn, 1) := dk_172 (dk_at dksX1_areChainsEqual_1 8 rfl rfl)
theorem dX1_areChainsEqual_33 : decode cX1_areChainsEqual 33 = .ok (.iinc 2 1, 3) := dk_132 2 1 (dk_at dksX1_areChainsEqual_1 9 rfl rfl)
theorem dX1_areChainsEqual_36 : decode cX1_areChainsEqual 36 = .ok (.goto (-26), 3) := dk_167 255 230 (dk_at dksX1_areChainsEqual_1 12 rfl rfl)
theorem dX1_areChainsEqual_39 : decode cX1_areChainsEqual 39 = .ok (.iinc 1 1, 3) := dk_132 1 1 (dk_at dksX1_areChainsEqual_1 15 rfl rfl)
theorem dX1_areChainsEqual_42 : decode cX1_areChainsEqual 42 = .ok (.goto (-40), 3) := dk_167 255 216 (dk_at dksX1_areChainsEqual_1 18 rfl rfl)
theorem dX1_areChainsEqual_45 : decode cX1_areChainsEqual 45 = .ok (.iconst 1, 1) := dk_4 (dk_at dksX1_areChainsEqual_1 21 rfl rfl)
theorem dX1_areChainsEqual_46 : decode cX1_areChainsEqual 46 = .ok (.ireturn, 1) := dk_172 (dk_at dksX1_areChainsEqual_1 22 rfl rfl)
abbrev cX1_shortestChainByRounds : ByteArray := prog_1_method_63_code
def yX1_shortestChainByRounds : MethodName := ⟨RX1, "shortestChainByRounds", "(II)I"⟩
def dkwX1_shortestChainByRounds_1 : List UInt8 := [122, 4, 126, 4, 160, 0, 6, 21, 4, 172, 29, 21, 5, 128, 62, 132, 4, 1, 167, 255, 221, 2, 172]
abbrev dktX1_shortestChainByRounds_1 : List UInt8 := dkwX1_shortestChainByRounds_1 ++ []
def dkwX1_shortestChainByRounds_0 : List UInt8 := [4, 27, 120, 62, 4, 54, 4, 21, 4, 16, 8, 163, 0, 34, 42, 29, 182, 1, 19, 54, 5, 21, 5, 28]
abbrev dktX1_shortestChainByRounds_0 : List UInt8 := dkwX1_shortestChainByRounds_0 ++ dktX1_shortestChainByRounds_1
theorem dksX1_shortestChainByRounds_0 : cX1_shortestChainByRounds.data.toList.drop 0 = dktX1_shortestChainByRounds_0 := by decide +kernel
theorem dksX1_shortestChainByRounds_1 : cX1_shortestChainByRounds.data.toList.drop 24 = dktX1_shortestChainByRounds_1 := dk_seg dksX1_shortestChainByRounds_0 24 rfl rfl
theorem dX1_shortestChainByRounds_0 : decode cX1_shortestChainByRounds 0 = .ok (.iconst 1, 1) := dk_4 (dk_at dksX1_shortestChainByRounds_0 0 rfl rfl)
theorem dX1_shortestChainByRounds_1 : decode cX1_shortestChainByRounds 1 = .ok (.iload_n 1, 1) := dk_27 (dk_at dksX1_shortestChainByRounds_0 1 rfl rfl)
theorem dX1_shortestChainByRounds_2 : decode cX1_shortestChainByRounds 2 = .ok (.ishl, 1) := dk_120 (dk_at dksX1_shortestChainByRounds_0 2 rfl rfl)
theorem dX1_shortestChainByRounds_3 : decode cX1_shortestChainByRounds 3 = .ok (.istore_n 3, 1) := dk_62 (dk_at dksX1_shortestChainByRounds_0 3 rfl rfl)
theorem dX1_shortestChainByRounds_4 : decode cX1_shortestChainByRounds 4 = .ok (.iconst 1, 1) := dk_4 (dk_at dksX1_shortestChainByRounds_0 4 rfl rfl)
theorem dX1_shortestChainByRounds_5 : decode cX1_shortestChainByRounds 5 = .ok (.istore 4, 2) := dk_54 4 (dk_at dksX1_shortestChainByRounds_0 5 rfl rfl)
theorem dX1_shortestChainByRounds_7 : decode cX1_shortestChainByRounds 7 = .ok (.iload 4, 2) := dk_21 4 (dk_at dksX1_shortestChainByRounds_0 7 rfl rfl)
theorem dX1_shortestChainByRounds_9 : decode cX1_shortestChainByRounds 9 = .ok (.bipush 8, 2) := dk_16 8 (dk_at dksX1_shortestChainByRounds_0 9 rfl rfl)
theorem dX1_shortestChainByRounds_11 : decode cX1_shortestChainByRounds 11 = .ok (.if_icmp .gt 34, 3) := dk_163 0 34 (dk_at dksX1_shortestChainByRounds_0 11 rfl rfl)
theorem dX1_shortestChainByRounds_14 : decode cX1_shortestChainByRounds 14 = .ok (.aload_n 0, 1) := dk_42 (dk_at dksX1_shortestChainByRounds_0 14 rfl rfl)
theorem dX1_shortestChainByRounds_15 : decode cX1_shortestChainByRounds 15 = .ok (.iload_n 3, 1) := dk_29 (dk_at dksX1_shortestChainByRounds_0 15 rfl rfl)
theorem dX1_shortestChainByRounds_16 : decode cX1_shortestChainByRounds 16 = .ok (.invokevirtual 275, 3) := dk_182 1 19 (dk_at dksX1_shortestChainByRounds_0 16 rfl rfl)
theorem dX1_shortestChainByRounds_19 : decode cX1_shortestChainByRounds 19 = .ok (.istore 5, 2) := dk_54 5 (dk_at dksX1_shortestChainByRounds_0 19 rfl rfl)
theorem dX1_shortestChainByRounds_21 : decode cX1_shortestChainByRounds 21 = .ok (.iload 5, 2) := dk_21 5 (dk_at dksX1_shortestChainByRounds_0 21 rfl rfl)
theorem dX1_shortestChainByRounds_23 : decode cX1_shortestChainByRounds 23 = .ok (.iload_n 2, 1) := dk_28 (dk_at dksX1_shortestChainByRounds_0 23 rfl rfl)
theorem dX1_shortestChainByRounds_24 : decode cX1_shortestChainByRounds 24 = .ok (.ishr, 1) := dk_122 (dk_at dksX1_shortestChainByRounds_1 0 rfl rfl)
theorem dX1_shortestChainByRounds_25 : decode cX1_shortestChainByRounds 25 = .ok (.iconst 1, 1) := dk_4 (dk_at dksX1_shortestChainByRounds_1 1 rfl rfl)
theorem dX1_shortestChainByRounds_26 : decode cX1_shortestChainByRounds 26 = .ok (.iand, 1) := dk_126 (dk_at dksX1_shortestChainByRounds_1 2 rfl rfl)
theorem dX1_shortestChainByRounds_27 : decode cX1_shortestChainByRounds 27 = .ok (.iconst 1, 1) := dk_4 (dk_at dksX1_shortestChainByRounds_1 3 rfl rfl)
theorem dX1_shortestChainByRounds_28 : decode cX1_shortestChainByRounds 28 = .ok (.if_icmp .ne 6, 3) := dk_160 0 6 (dk_at dksX1_shortestChainByRounds_1 4 rfl rfl)
theorem dX1_shortestChainByRounds_31 : decode cX1_shortestChainByRounds 31 = .ok (.iload 4, 2) := dk_21 4 (dk_at dksX1_shortestChainByRounds_1 7 rfl rfl)
theorem dX1_shortestChainByRounds_33 : decode cX1_shortestChainByRounds 33 = .ok (.ireturn, 1) := dk_172 (dk_at dksX1_shortestChainByRounds_1 9 rfl rfl)
theorem dX1_shortestChainByRounds_34 : decode cX1_shortestChainByRounds 34 = .ok (.iload_n 3, 1) := dk_29 (dk_at dksX1_shortestChainByRounds_1 10 rfl rfl)
theorem dX1_shortestChainByRounds_35 : decode cX1_shortestChainByRounds 35 = .ok (.iload 5, 2) := dk_21 5 (dk_at dksX1_shortestChainByRounds_1 11 rfl rfl)
theorem dX1_shortestChainByRounds_37 : decode cX1_shortestChainByRounds 37 = .ok (.ior, 1) := dk_128 (dk_at dksX1_shortestChainByRounds_1 13 rfl rfl)
theorem dX1_shortestChainByRounds_38 : decode cX1_shortestChainByRounds 38 = .ok (.istore_n 3, 1) := dk_62 (dk_at dksX1_shortestChainByRounds_1 14 rfl rfl)
theorem dX1_shortestChainByRounds_39 : decode cX1_shortestChainByRounds 39 = .ok (.iinc 4 1, 3) := dk_132 4 1 (dk_at dksX1_shortestChainByRounds_1 15 rfl rfl)
theorem dX1_shortestChainByRounds_42 : decode cX1_shortestChainByRounds 42 = .ok (.goto (-35), 3) := dk_167 255 221 (dk_at dksX1_shortestChainByRounds_1 18 rfl rfl)
theorem dX1_shortestChainByRounds_45 : decode cX1_shortestChainByRounds 45 = .ok (.iconst (-1), 1) := dk_2 (dk_at dksX1_shortestChainByRounds_1 21 rfl rfl)
theorem dX1_shortestChainByRounds_46 : decode cX1_shortestChainByRounds 46 = .ok (.ireturn, 1) := dk_172 (dk_at dksX1_shortestChainByRounds_1 22 rfl rfl)
abbrev cX1_creditorsOf : ByteArray := prog_1_method_62_code
def yX1_creditorsOf : MethodName := ⟨RX1, "creditorsOf", "(I)I"⟩
def dkwX1_creditorsOf_2 : List UInt8 := [4, 25, 4, 180, 0, 200, 120, 128, 61, 167, 255, 213, 28, 172]
abbrev dktX1_creditorsOf_2 : List UInt8 := dkwX1_creditorsOf_2 ++ []
def dkwX1_creditorsOf_1 : List UInt8 := [185, 0, 252, 1, 0, 192, 0, 118, 58, 4, 27, 25, 4, 180, 0, 197, 122, 4, 126, 4, 160, 0, 13, 28]
abbrev dktX1_creditorsOf_1 : List UInt8 := dkwX1_creditorsOf_1 ++ dktX1_creditorsOf_2
def dkwX1_creditorsOf_0 : List UInt8 := [3, 61, 42, 180, 0, 10, 180, 0, 91, 182, 1, 18, 78, 45, 185, 0, 247, 1, 0, 153, 0, 40, 45]
abbrev dktX1_creditorsOf_0 : List UInt8 := dkwX1_creditorsOf_0 ++ dktX1_creditorsOf_1
theorem dksX1_creditorsOf_0 : cX1_creditorsOf.data.toList.drop 0 = dktX1_creditorsOf_0 := by decide +kernel
theorem dksX1_creditorsOf_1 : cX1_creditorsOf.data.toList.drop 23 = dktX1_creditorsOf_1 := dk_seg dksX1_creditorsOf_0 23 rfl rfl
theorem dksX1_creditorsOf_2 : cX1_creditorsOf.data.toList.drop 47 = dktX1_creditorsOf_2 := dk_seg dksX1_creditorsOf_1 24 rfl rfl
theorem dX1_creditorsOf_0 : decode cX1_creditorsOf 0 = .ok (.iconst 0, 1) := dk_3 (dk_at dksX1_creditorsOf_0 0 rfl rfl)
theorem dX1_creditorsOf_1 : decode cX1_creditorsOf 1 = .ok (.istore_n 2, 1) := dk_61 (dk_at dksX1_creditorsOf_0 1 rfl rfl)
theorem dX1_creditorsOf_2 : decode cX1_creditorsOf 2 = .ok (.aload_n 0, 1) := dk_42 (dk_at dksX1_creditorsOf_0 2 rfl rfl)
theorem dX1_creditorsOf_3 : decode cX1_creditorsOf 3 = .ok (.getfield 10, 3) := dk_180 0 10 (dk_at dksX1_creditorsOf_0 3 rfl rfl)
theorem dX1_creditorsOf_6 : decode cX1_creditorsOf 6 = .ok (.getfield 91, 3) := dk_180 0 91 (dk_at dksX1_creditorsOf_0 6 rfl rfl)
theorem dX1_creditorsOf_9 : decode cX1_creditorsOf 9 = .ok (.invokevirtual 274, 3) := dk_182 1 18 (dk_at dksX1_creditorsOf_0 9 rfl rfl)
theorem dX1_creditorsOf_12 : decode cX1_creditorsOf 12 = .ok (.astore_n 3, 1) := dk_78 (dk_at dksX1_creditorsOf_0 12 rfl rfl)
theorem dX1_creditorsOf_13 : decode cX1_creditorsOf 13 = .ok (.aload_n 3, 1) := dk_45 (dk_at dksX1_creditorsOf_0 13 rfl rfl)
theorem dX1_creditorsOf_14 : decode cX1_creditorsOf 14 = .ok (.invokeinterface 247 1, 5) := by decide +kernel
theorem dX1_creditorsOf_19 : decode cX1_creditorsOf 19 = .ok (.ifCond .eq 40, 3) := dk_153 0 40 (dk_at dksX1_creditorsOf_0 19 rfl rfl)
theorem dX1_creditorsOf_22 : decode cX1_creditorsOf 22 = .ok (.aload_n 3, 1) := dk_45 (dk_at dksX1_creditorsOf_0 22 rfl rfl)
theorem dX1_creditorsOf_23 : decode cX1_creditorsOf 23 = .ok (.invokeinterface 252 1, 5) := by decide +kernel
theorem dX1_creditorsOf_28 : decode cX1_creditorsOf 28 = .ok (.checkcast 118, 3) := dk_192 0 118 (dk_at dksX1_creditorsOf_1 5 rfl rfl)
theorem dX1_creditorsOf_31 : decode cX1_creditorsOf 31 = .ok (.astore 4, 2) := dk_58 4 (dk_at dksX1_creditorsOf_1 8 rfl rfl)
theorem dX1_creditorsOf_33 : decode cX1_creditorsOf 33 = .ok (.iload_n 1, 1) := dk_27 (dk_at dksX1_creditorsOf_1 10 rfl rfl)
theorem dX1_creditorsOf_34 : decode cX1_creditorsOf 34 = .ok (.aload 4, 2) := dk_25 4 (dk_at dksX1_creditorsOf_1 11 rfl rfl)
theorem dX1_creditorsOf_36 : decode cX1_creditorsOf 36 = .ok (.getfield 197, 3) := dk_180 0 197 (dk_at dksX1_creditorsOf_1 13 rfl rfl)
theorem dX1_creditorsOf_39 : decode cX1_creditorsOf 39 = .ok (.ishr, 1) := dk_122 (dk_at dksX1_creditorsOf_1 16 rfl rfl)
theorem dX1_creditorsOf_40 : decode cX1_creditorsOf 40 = .ok (.iconst 1, 1) := dk_4 (dk_at dksX1_creditorsOf_1 17 rfl rfl)
theorem dX1_creditorsOf_41 : decode cX1_creditorsOf 41 = .ok (.iand, 1) := dk_126 (dk_at dksX1_creditorsOf_1 18 rfl rfl)
theorem dX1_creditorsOf_42 : decode cX1_creditorsOf 42 = .ok (.iconst 1, 1) := dk_4 (dk_at dksX1_creditorsOf_1 19 rfl rfl)
theorem dX1_creditorsOf_43 : decode cX1_creditorsOf 43 = .ok (.if_icmp .ne 13, 3) := dk_160 0 13 (dk_at dksX1_creditorsOf_1 20 rfl rfl)
theorem dX1_creditorsOf_46 : decode cX1_creditorsOf 46 = .ok (.iload_n 2, 1) := dk_28 (dk_at dksX1_creditorsOf_1 23 rfl rfl)
theorem dX1_creditorsOf_47 : decode cX1_creditorsOf 47 = .ok (.iconst 1, 1) := dk_4 (dk_at dksX1_creditorsOf_2 0 rfl rfl)
theorem dX1_creditorsOf_48 : decode cX1_creditorsOf 48 = .ok (.aload 4, 2) := dk_25 4 (dk_at dksX1_creditorsOf_2 1 rfl rfl)
theorem dX1_creditorsOf_50 : decode cX1_creditorsOf 50 = .ok (.getfield 200, 3) := dk_180 0 200 (dk_at dksX1_creditorsOf_2 3 rfl rfl)
theorem dX1_creditorsOf_53 : decode cX1_creditorsOf 53 = .ok (.ishl, 1) := dk_120 (dk_at dksX1_creditorsOf_2 6 rfl rfl)
theorem dX1_creditorsOf_54 : decode cX1_creditorsOf 54 = .ok (.ior, 1) := dk_128 (dk_at dksX1_creditorsOf_2 7 rfl rfl)
theorem dX1_creditorsOf_55 : decode cX1_creditorsOf 55 = .ok (.istore_n 2, 1) := dk_61 (dk_at dksX1_creditorsOf_2 8 rfl rfl)
theorem dX1_creditorsOf_56 : decode cX1_creditorsOf 56 = .ok (.goto (-43), 3) := dk_167 255 213 (dk_at dksX1_creditorsOf_2 9 rfl rfl)
theorem dX1_creditorsOf_59 : decode cX1_creditorsOf 59 = .ok (.iload_n 2, 1) := dk_28 (dk_at dksX1_creditorsOf_2 12 rfl rfl)
theorem dX1_creditorsOf_60 : decode cX1_creditorsOf 60 = .ok (.ireturn, 1) := dk_172 (dk_at dksX1_creditorsOf_2 13 rfl rfl)
abbrev cX1_sumOfBalances : ByteArray := prog_1_method_87_code
def yX1_sumOfBalances : MethodName := ⟨RX1, "sumOfBalances", "()I"⟩
def dkwX1_sumOfBalances_1 : List UInt8 := [27, 172]
abbrev dktX1_sumOfBalances_1 : List UInt8 := dkwX1_sumOfBalances_1 ++ []
def dkwX1_sumOfBalances_0 : List UInt8 := [3, 60, 3, 61, 28, 16, 8, 162, 0, 17, 27, 42, 28, 182, 0, 216, 96, 60, 132, 2, 1, 167, 255, 239]
abbrev dktX1_sumOfBalances_0 : List UInt8 := dkwX1_sumOfBalances_0 ++ dktX1_sumOfBalances_1
theorem dksX1_sumOfBalances_0 : cX1_sumOfBalances.data.toList.drop 0 = dktX1_sumOfBalances_0 := by decide +kernel
theorem dksX1_sumOfBalances_1 : cX1_sumOfBalances.data.toList.drop 24 = dktX1_sumOfBalances_1 := dk_seg dksX1_sumOfBalances_0 24 rfl rfl
theorem dX1_sumOfBalances_0 : decode cX1_sumOfBalances 0 = .ok (.iconst 0, 1) := dk_3 (dk_at dksX1_sumOfBalances_0 0 rfl rfl)
theorem dX1_sumOfBalances_1 : decode cX1_sumOfBalances 1 = .ok (.istore_n 1, 1) := dk_60 (dk_at dksX1_sumOfBalances_0 1 rfl rfl)
theorem dX1_sumOfBalances_2 : decode cX1_sumOfBalances 2 = .ok (.iconst 0, 1) := dk_3 (dk_at dksX1_sumOfBalances_0 2 rfl rfl)
theorem dX1_sumOfBalances_3 : decode cX1_sumOfBalances 3 = .ok (.istore_n 2, 1) := dk_61 (dk_at dksX1_sumOfBalances_0 3 rfl rfl)
theorem dX1_sumOfBalances_4 : decode cX1_sumOfBalances 4 = .ok (.iload_n 2, 1) := dk_28 (dk_at dksX1_sumOfBalances_0 4 rfl rfl)
theorem dX1_sumOfBalances_5 : decode cX1_sumOfBalances 5 = .ok (.bipush 8, 2) := dk_16 8 (dk_at dksX1_sumOfBalances_0 5 rfl rfl)
theorem dX1_sumOfBalances_7 : decode cX1_sumOfBalances 7 = .ok (.if_icmp .ge 17, 3) := dk_162 0 17 (dk_at dksX1_sumOfBalances_0 7 rfl rfl)
theorem dX1_sumOfBalances_10 : decode cX1_sumOfBalances 10 = .ok (.iload_n 1, 1) := dk_27 (dk_at dksX1_sumOfBalances_0 10 rfl rfl)
theorem dX1_sumOfBalances_11 : decode cX1_sumOfBalances 11 = .ok (.aload_n 0, 1) := dk_42 (dk_at dksX1_sumOfBalances_0 11 rfl rfl)
theorem dX1_sumOfBalances_12 : decode cX1_sumOfBalances 12 = .ok (.iload_n 2, 1) := dk_28 (dk_at dksX1_sumOfBalances_0 12 rfl rfl)
theorem dX1_sumOfBalances_13 : decode cX1_sumOfBalances 13 = .ok (.invokevirtual 216, 3) := dk_182 0 216 (dk_at dksX1_sumOfBalances_0 13 rfl rfl)
theorem dX1_sumOfBalances_16 : decode cX1_sumOfBalances 16 = .ok (.iadd, 1) := dk_96 (dk_at dksX1_sumOfBalances_0 16 rfl rfl)
theorem dX1_sumOfBalances_17 : decode cX1_sumOfBalances 17 = .ok (.istore_n 1, 1) := dk_60 (dk_at dksX1_sumOfBalances_0 17 rfl rfl)
theorem dX1_sumOfBalances_18 : decode cX1_sumOfBalances 18 = .ok (.iinc 2 1, 3) := dk_132 2 1 (dk_at dksX1_sumOfBalances_0 18 rfl rfl)
theorem dX1_sumOfBalances_21 : decode cX1_sumOfBalances 21 = .ok (.goto (-17), 3) := dk_167 255 239 (dk_at dksX1_sumOfBalances_0 21 rfl rfl)
theorem dX1_sumOfBalances_24 : decode cX1_sumOfBalances 24 = .ok (.iload_n 1, 1) := dk_27 (dk_at dksX1_sumOfBalances_1 0 rfl rfl)
theorem dX1_sumOfBalances_25 : decode cX1_sumOfBalances 25 = .ok (.ireturn, 1) := dk_172 (dk_at dksX1_sumOfBalances_1 1 rfl rfl)
abbrev cX1_balanceOf : ByteArray := prog_1_method_47_code
def yX1_balanceOf : MethodName := ⟨RX1, "balanceOf", "(I)I"⟩
def dkwX1_balanceOf_0 : List UInt8 := [42, 180, 0, 10, 27, 186, 0, 215, 0, 0, 182, 0, 210, 172]
abbrev dktX1_balanceOf_0 : List UInt8 := dkwX1_balanceOf_0 ++ []
theorem dksX1_balanceOf_0 : cX1_balanceOf.data.toList.drop 0 = dktX1_balanceOf_0 := by decide +kernel
theorem dX1_balanceOf_0 : decode cX1_balanceOf 0 = .ok (.aload_n 0, 1) := dk_42 (dk_at dksX1_balanceOf_0 0 rfl rfl)
theorem dX1_balanceOf_1 : decode cX1_balanceOf 1 = .ok (.getfield 10, 3) := dk_180 0 10 (dk_at dksX1_balanceOf_0 1 rfl rfl)
theorem dX1_balanceOf_4 : decode cX1_balanceOf 4 = .ok (.iload_n 1, 1) := dk_27 (dk_at dksX1_balanceOf_0 4 rfl rfl)
theorem dX1_balanceOf_5 : decode cX1_balanceOf 5 = .ok (.invokedynamic 215, 5) := by decide +kernel
theorem dX1_balanceOf_10 : decode cX1_balanceOf 10 = .ok (.invokevirtual 210, 3) := dk_182 0 210 (dk_at dksX1_balanceOf_0 10 rfl rfl)
theorem dX1_balanceOf_13 : decode cX1_balanceOf 13 = .ok (.ireturn, 1) := dk_172 (dk_at dksX1_balanceOf_0 13 rfl rfl)
abbrev cX1_lambda_balanceOf_4 : ByteArray := prog_1_method_108_code
def yX1_lambda_balanceOf_4 : MethodName := ⟨RX1, "lambda$balanceOf$4", "(ILClaimRegistry$Claim;)I"⟩
def dkwX1_lambda_balanceOf_4_0 : List UInt8 := [43, 26, 184, 1, 206, 43, 180, 0, 162, 104, 172]
abbrev dktX1_lambda_balanceOf_4_0 : List UInt8 := dkwX1_lambda_balanceOf_4_0 ++ []
theorem dksX1_lambda_balanceOf_4_0 : cX1_lambda_balanceOf_4.data.toList.drop 0 = dktX1_lambda_balanceOf_4_0 := by decide +kernel
theorem dX1_lambda_balanceOf_4_0 : decode cX1_lambda_balanceOf_4 0 = .ok (.aload_n 1, 1) := dk_43 (dk_at dksX1_lambda_balanceOf_4_0 0 rfl rfl)
theorem dX1_lambda_balanceOf_4_1 : decode cX1_lambda_balanceOf_4 1 = .ok (.iload_n 0, 1) := dk_26 (dk_at dksX1_lambda_balanceOf_4_0 1 rfl rfl)
theorem dX1_lambda_balanceOf_4_2 : decode cX1_lambda_balanceOf_4 2 = .ok (.invokestatic 462, 3) := dk_184 1 206 (dk_at dksX1_lambda_balanceOf_4_0 2 rfl rfl)
theorem dX1_lambda_balanceOf_4_5 : decode cX1_lambda_balanceOf_4 5 = .ok (.aload_n 1, 1) := dk_43 (dk_at dksX1_lambda_balanceOf_4_0 5 rfl rfl)
theorem dX1_lambda_balanceOf_4_6 : decode cX1_lambda_balanceOf_4 6 = .ok (.getfield 162, 3) := dk_180 0 162 (dk_at dksX1_lambda_balanceOf_4_0 6 rfl rfl)
theorem dX1_lambda_balanceOf_4_9 : decode cX1_lambda_balanceOf_4 9 = .ok (.imul, 1) := dk_104 (dk_at dksX1_lambda_balanceOf_4_0 9 rfl rfl)
theorem dX1_lambda_balanceOf_4_10 : decode cX1_lambda_balanceOf_4 10 = .ok (.ireturn, 1) := dk_172 (dk_at dksX1_lambda_balanceOf_4_0 10 rfl rfl)
abbrev cX1_signOf : ByteArray := prog_1_method_48_code
def yX1_signOf : MethodName := ⟨RX1, "signOf", "(LClaimRegistry$Claim;I)I"⟩
def dkwX1_signOf_0 : List UInt8 := [42, 180, 0, 200, 27, 160, 0, 5, 4, 172, 42, 180, 0, 197, 27, 160, 0, 7, 2, 167, 0, 4, 3, 172]
abbrev dktX1_signOf_0 : List UInt8 := dkwX1_signOf_0 ++ []
theorem dksX1_signOf_0 : cX1_signOf.data.toList.drop 0 = dktX1_signOf_0 := by decide +kernel
theorem dX1_signOf_0 : decode cX1_signOf 0 = .ok (.aload_n 0, 1) := dk_42 (dk_at dksX1_signOf_0 0 rfl rfl)
theorem dX1_signOf_1 : decode cX1_signOf 1 = .ok (.getfield 200, 3) := dk_180 0 200 (dk_at dksX1_signOf_0 1 rfl rfl)
theorem dX1_signOf_4 : decode cX1_signOf 4 = .ok (.iload_n 1, 1) := dk_27 (dk_at dksX1_signOf_0 4 rfl rfl)
theorem dX1_signOf_5 : decode cX1_signOf 5 = .ok (.if_icmp .ne 5, 3) := dk_160 0 5 (dk_at dksX1_signOf_0 5 rfl rfl)
theorem dX1_signOf_8 : decode cX1_signOf 8 = .ok (.iconst 1, 1) := dk_4 (dk_at dksX1_signOf_0 8 rfl rfl)
theorem dX1_signOf_9 : decode cX1_signOf 9 = .ok (.ireturn, 1) := dk_172 (dk_at dksX1_signOf_0 9 rfl rfl)
theorem dX1_signOf_10 : decode cX1_signOf 10 = .ok (.aload_n 0, 1) := dk_42 (dk_at dksX1_signOf_0 10 rfl rfl)
theorem dX1_signOf_11 : decode cX1_signOf 11 = .ok (.getfield 197, 3) := dk_180 0 197 (dk_at dksX1_signOf_0 11 rfl rfl)
theorem dX1_signOf_14 : decode cX1_signOf 14 = .ok (.iload_n 1, 1) := dk_27 (dk_at dksX1_signOf_0 14 rfl rfl)
theorem dX1_signOf_15 : decode cX1_signOf 15 = .ok (.if_icmp .ne 7, 3) := dk_160 0 7 (dk_at dksX1_signOf_0 15 rfl rfl)
theorem dX1_signOf_18 : decode cX1_signOf 18 = .ok (.iconst (-1), 1) := dk_2 (dk_at dksX1_signOf_0 18 rfl rfl)
theorem dX1_signOf_19 : decode cX1_signOf 19 = .ok (.goto 4, 3) := dk_167 0 4 (dk_at dksX1_signOf_0 19 rfl rfl)
theorem dX1_signOf_22 : decode cX1_signOf 22 = .ok (.iconst 0, 1) := dk_3 (dk_at dksX1_signOf_0 22 rfl rfl)
theorem dX1_signOf_23 : decode cX1_signOf 23 = .ok (.ireturn, 1) := dk_172 (dk_at dksX1_signOf_0 23 rfl rfl)
abbrev cX1_undoableCount : ByteArray := prog_1_method_98_code
def yX1_undoableCount : MethodName := ⟨RX1, "undoableCount", "()I"⟩
def dkwX1_undoableCount_0 : List UInt8 := [42, 180, 0, 19, 182, 0, 68, 172]
abbrev dktX1_undoableCount_0 : List UInt8 := dkwX1_undoableCount_0 ++ []
theorem dksX1_undoableCount_0 : cX1_undoableCount.data.toList.drop 0 = dktX1_undoableCount_0 := by decide +kernel
theorem dX1_undoableCount_0 : decode cX1_undoableCount 0 = .ok (.aload_n 0, 1) := dk_42 (dk_at dksX1_undoableCount_0 0 rfl rfl)
theorem dX1_undoableCount_1 : decode cX1_undoableCount 1 = .ok (.getfield 19, 3) := dk_180 0 19 (dk_at dksX1_undoableCount_0 1 rfl rfl)
theorem dX1_undoableCount_4 : decode cX1_undoableCount 4 = .ok (.invokevirtual 68, 3) := dk_182 0 68 (dk_at dksX1_undoableCount_0 4 rfl rfl)
theorem dX1_undoableCount_7 : decode cX1_undoableCount 7 = .ok (.ireturn, 1) := dk_172 (dk_at dksX1_undoableCount_0 7 rfl rfl)
abbrev cX1_save : ByteArray := prog_1_method_100_code
def yX1_save : MethodName := ⟨RX1, "save", "()I"⟩
def dkwX1_save_0 : List UInt8 := [42, 42, 180, 0, 10, 182, 0, 60, 181, 1, 200, 42, 180, 0, 10, 180, 0, 91, 182, 0, 95, 172]
abbrev dktX1_save_0 : List UInt8 := dkwX1_save_0 ++ []
theorem dksX1_save_0 : cX1_save.data.toList.drop 0 = dktX1_save_0 := by decide +kernel
theorem dX1_save_0 : decode cX1_save 0 = .ok (.aload_n 0, 1) := dk_42 (dk_at dksX1_save_0 0 rfl rfl)
theorem dX1_save_1 : decode cX1_save 1 = .ok (.aload_n 0, 1) := dk_42 (dk_at dksX1_save_0 1 rfl rfl)
theorem dX1_save_2 : decode cX1_save 2 = .ok (.getfield 10, 3) := dk_180 0 10 (dk_at dksX1_save_0 2 rfl rfl)
theorem dX1_save_5 : decode cX1_save 5 = .ok (.invokevirtual 60, 3) := dk_182 0 60 (dk_at dksX1_save_0 5 rfl rfl)
theorem dX1_save_8 : decode cX1_save 8 = .ok (.putfield 456, 3) := dk_181 1 200 (dk_at dksX1_save_0 8 rfl rfl)
theorem dX1_save_11 : decode cX1_save 11 = .ok (.aload_n 0, 1) := dk_42 (dk_at dksX1_save_0 11 rfl rfl)
theorem dX1_save_12 : decode cX1_save 12 = .ok (.getfield 10, 3) := dk_180 0 10 (dk_at dksX1_save_0 12 rfl rfl)
theorem dX1_save_15 : decode cX1_save 15 = .ok (.getfield 91, 3) := dk_180 0 91 (dk_at dksX1_save_0 15 rfl rfl)
theorem dX1_save_18 : decode cX1_save 18 = .ok (.invokevirtual 95, 3) := dk_182 0 95 (dk_at dksX1_save_0 18 rfl rfl)
theorem dX1_save_21 : decode cX1_save 21 = .ok (.ireturn, 1) := dk_172 (dk_at dksX1_save_0 21 rfl rfl)
abbrev cX1_add : ByteArray := prog_1_method_14_code
def yX1_add : MethodName := ⟨RX1, "add", "(IIII)I"⟩
def dkwX1_add_4 : List UInt8 := [182, 0, 104, 172]
abbrev dktX1_add_4 : List UInt8 := dkwX1_add_4 ++ []
def dkwX1_add_3 : List UInt8 := [162, 0, 7, 4, 167, 0, 4, 3, 184, 0, 98, 42, 182, 0, 101, 42, 180, 0, 10, 27, 28, 29, 21, 4]
abbrev dktX1_add_3 : List UInt8 := dkwX1_add_3 ++ dktX1_add_4
def dkwX1_add_2 : List UInt8 := [153, 0, 7, 4, 167, 0, 4, 3, 184, 0, 88, 42, 180, 0, 10, 180, 0, 91, 182, 0, 95, 16, 12]
abbrev dktX1_add_2 : List UInt8 := dkwX1_add_2 ++ dktX1_add_3
def dkwX1_add_1 : List UInt8 := [184, 0, 88, 29, 4, 17, 3, 231, 184, 0, 52, 153, 0, 18, 21, 4, 4, 16, 50, 184, 0, 52]
abbrev dktX1_add_1 : List UInt8 := dkwX1_add_1 ++ dktX1_add_2
def dkwX1_add_0 : List UInt8 := [27, 184, 0, 84, 153, 0, 19, 28, 184, 0, 84, 153, 0, 12, 27, 28, 159, 0, 7, 4, 167, 0, 4, 3]
abbrev dktX1_add_0 : List UInt8 := dkwX1_add_0 ++ dktX1_add_1
theorem dksX1_add_0 : cX1_add.data.toList.drop 0 = dktX1_add_0 := by decide +kernel
theorem dksX1_add_1 : cX1_add.data.toList.drop 24 = dktX1_add_1 := dk_seg dksX1_add_0 24 rfl rfl
theorem dksX1_add_2 : cX1_add.data.toList.drop 46 = dktX1_add_2 := dk_seg dksX1_add_1 22 rfl rfl
theorem dksX1_add_3 : cX1_add.data.toList.drop 69 = dktX1_add_3 := dk_seg dksX1_add_2 23 rfl rfl
theorem dksX1_add_4 : cX1_add.data.toList.drop 93 = dktX1_add_4 := dk_seg dksX1_add_3 24 rfl rfl
theorem dX1_add_0 : decode cX1_add 0 = .ok (.iload_n 1, 1) := dk_27 (dk_at dksX1_add_0 0 rfl rfl)
theorem dX1_add_1 : decode cX1_add 1 = .ok (.invokestatic 84, 3) := dk_184 0 84 (dk_at dksX1_add_0 1 rfl rfl)
theorem dX1_add_4 : decode cX1_add 4 = .ok (.ifCond .eq 19, 3) := dk_153 0 19 (dk_at dksX1_add_0 4 rfl rfl)
theorem dX1_add_7 : decode cX1_add 7 = .ok (.iload_n 2, 1) := dk_28 (dk_at dksX1_add_0 7 rfl rfl)
theorem dX1_add_8 : decode cX1_add 8 = .ok (.invokestatic 84, 3) := dk_184 0 84 (dk_at dksX1_add_0 8 rfl rfl)
theorem dX1_add_11 : decode cX1_add 11 = .ok (.ifCond .eq 12, 3) := dk_153 0 12 (dk_at dksX1_add_0 11 rfl rfl)
theorem dX1_add_14 : decode cX1_add 14 = .ok (.iload_n 1, 1) := dk_27 (dk_at dksX1_add_0 14 rfl rfl)
theorem dX1_add_15 : decode cX1_add 15 = .ok (.iload_n 2, 1) := dk_28 (dk_at dksX1_add_0 15 rfl rfl)
theorem dX1_add_16 : decode cX1_add 16 = .ok (.if_icmp .eq 7, 3) := dk_159 0 7 (dk_at dksX1_add_0 16 rfl rfl)
theorem dX1_add_19 : decode cX1_add 19 = .ok (.iconst 1, 1) := dk_4 (dk_at dksX1_add_0 19 rfl rfl)
theorem dX1_add_20 : decode cX1_add 20 = .ok (.goto 4, 3) := dk_167 0 4 (dk_at dksX1_add_0 20 rfl rfl)
theorem dX1_add_23 : decode cX1_add 23 = .ok (.iconst 0, 1) := dk_3 (dk_at dksX1_add_0 23 rfl rfl)
theorem dX1_add_24 : decode cX1_add 24 = .ok (.invokestatic 88, 3) := dk_184 0 88 (dk_at dksX1_add_1 0 rfl rfl)
theorem dX1_add_27 : decode cX1_add 27 = .ok (.iload_n 3, 1) := dk_29 (dk_at dksX1_add_1 3 rfl rfl)
theorem dX1_add_28 : decode cX1_add 28 = .ok (.iconst 1, 1) := dk_4 (dk_at dksX1_add_1 4 rfl rfl)
theorem dX1_add_29 : decode cX1_add 29 = .ok (.sipush 999, 3) := dk_17 3 231 (dk_at dksX1_add_1 5 rfl rfl)
theorem dX1_add_32 : decode cX1_add 32 = .ok (.invokestatic 52, 3) := dk_184 0 52 (dk_at dksX1_add_1 8 rfl rfl)
theorem dX1_add_35 : decode cX1_add 35 = .ok (.ifCond .eq 18, 3) := dk_153 0 18 (dk_at dksX1_add_1 11 rfl rfl)
theorem dX1_add_38 : decode cX1_add 38 = .ok (.iload 4, 2) := dk_21 4 (dk_at dksX1_add_1 14 rfl rfl)
theorem dX1_add_40 : decode cX1_add 40 = .ok (.iconst 1, 1) := dk_4 (dk_at dksX1_add_1 16 rfl rfl)
theorem dX1_add_41 : decode cX1_add 41 = .ok (.bipush 50, 2) := dk_16 50 (dk_at dksX1_add_1 17 rfl rfl)
theorem dX1_add_43 : decode cX1_add 43 = .ok (.invokestatic 52, 3) := dk_184 0 52 (dk_at dksX1_add_1 19 rfl rfl)
theorem dX1_add_46 : decode cX1_add 46 = .ok (.ifCond .eq 7, 3) := dk_153 0 7 (dk_at dksX1_add_2 0 rfl rfl)
theorem dX1_add_49 : decode cX1_add 49 = .ok (.iconst 1, 1) := dk_4 (dk_at dksX1_add_2 3 rfl rfl)
theorem dX1_add_50 : decode cX1_add 50 = .ok (.goto 4, 3) := dk_167 0 4 (dk_at dksX1_add_2 4 rfl rfl)
theorem dX1_add_53 : decode cX1_add 53 = .ok (.iconst 0, 1) := dk_3 (dk_at dksX1_add_2 7 rfl rfl)
theorem dX1_add_54 : decode cX1_add 54 = .ok (.invokestatic 88, 3) := dk_184 0 88 (dk_at dksX1_add_2 8 rfl rfl)
theorem dX1_add_57 : decode cX1_add 57 = .ok (.aload_n 0, 1) := dk_42 (dk_at dksX1_add_2 11 rfl rfl)
theorem dX1_add_58 : decode cX1_add 58 = .ok (.getfield 10, 3) := dk_180 0 10 (dk_at dksX1_add_2 12 rfl rfl)
theorem dX1_add_61 : decode cX1_add 61 = .ok (.getfield 91, 3) := dk_180 0 91 (dk_at dksX1_add_2 15 rfl rfl)
theorem dX1_add_64 : decode cX1_add 64 = .ok (.invokevirtual 95, 3) := dk_182 0 95 (dk_at dksX1_add_2 18 rfl rfl)
theorem dX1_add_67 : decode cX1_add 67 = .ok (.bipush 12, 2) := dk_16 12 (dk_at dksX1_add_2 21 rfl rfl)
theorem dX1_add_69 : decode cX1_add 69 = .ok (.if_icmp .ge 7, 3) := dk_162 0 7 (dk_at dksX1_add_3 0 rfl rfl)
theorem dX1_add_72 : decode cX1_add 72 = .ok (.iconst 1, 1) := dk_4 (dk_at dksX1_add_3 3 rfl rfl)
theorem dX1_add_73 : decode cX1_add 73 = .ok (.goto 4, 3) := dk_167 0 4 (dk_at dksX1_add_3 4 rfl rfl)
theorem dX1_add_76 : decode cX1_add 76 = .ok (.iconst 0, 1) := dk_3 (dk_at dksX1_add_3 7 rfl rfl)
theorem dX1_add_77 : decode cX1_add 77 = .ok (.invokestatic 98, 3) := dk_184 0 98 (dk_at dksX1_add_3 8 rfl rfl)
theorem dX1_add_80 : decode cX1_add 80 = .ok (.aload_n 0, 1) := dk_42 (dk_at dksX1_add_3 11 rfl rfl)
theorem dX1_add_81 : decode cX1_add 81 = .ok (.invokevirtual 101, 3) := dk_182 0 101 (dk_at dksX1_add_3 12 rfl rfl)
theorem dX1_add_84 : decode cX1_add 84 = .ok (.aload_n 0, 1) := dk_42 (dk_at dksX1_add_3 15 rfl rfl)
theorem dX1_add_85 : decode cX1_add 85 = .ok (.getfield 10, 3) := dk_180 0 10 (dk_at dksX1_add_3 16 rfl rfl)
theorem dX1_add_88 : decode cX1_add 88 = .ok (.iload_n 1, 1) := dk_27 (dk_at dksX1_add_3 19 rfl rfl)
theorem dX1_add_89 : decode cX1_add 89 = .ok (.iload_n 2, 1) := dk_28 (dk_at dksX1_add_3 20 rfl rfl)
theorem dX1_add_90 : decode cX1_add 90 = .ok (.iload_n 3, 1) := dk_29 (dk_at dksX1_add_3 21 rfl rfl)
theorem dX1_add_91 : decode cX1_add 91 = .ok (.iload 4, 2) := dk_21 4 (dk_at dksX1_add_3 22 rfl rfl)
theorem dX1_add_93 : decode cX1_add 93 = .ok (.invokevirtual 104, 3) := dk_182 0 104 (dk_at dksX1_add_4 0 rfl rfl)
theorem dX1_add_96 : decode cX1_add 96 = .ok (.ireturn, 1) := dk_172 (dk_at dksX1_add_4 3 rfl rfl)
abbrev cX1_isPerson : ByteArray := prog_1_method_7_code
def yX1_isPerson : MethodName := ⟨RX1, "isPerson", "(I)Z"⟩
def dkwX1_isPerson_0 : List UInt8 := [26, 3, 16, 7, 184, 0, 52, 172]
abbrev dktX1_isPerson_0 : List UInt8 := dkwX1_isPerson_0 ++ []
theorem dksX1_isPerson_0 : cX1_isPerson.data.toList.drop 0 = dktX1_isPerson_0 := by decide +kernel
theorem dX1_isPerson_0 : decode cX1_isPerson 0 = .ok (.iload_n 0, 1) := dk_26 (dk_at dksX1_isPerson_0 0 rfl rfl)
theorem dX1_isPerson_1 : decode cX1_isPerson 1 = .ok (.iconst 0, 1) := dk_3 (dk_at dksX1_isPerson_0 1 rfl rfl)
theorem dX1_isPerson_2 : decode cX1_isPerson 2 = .ok (.bipush 7, 2) := dk_16 7 (dk_at dksX1_isPerson_0 2 rfl rfl)
theorem dX1_isPerson_4 : decode cX1_isPerson 4 = .ok (.invokestatic 52, 3) := dk_184 0 52 (dk_at dksX1_isPerson_0 4 rfl rfl)
theorem dX1_isPerson_7 : decode cX1_isPerson 7 = .ok (.ireturn, 1) := dk_172 (dk_at dksX1_isPerson_0 7 rfl rfl)
abbrev cX1_isBetween : ByteArray := prog_1_method_6_code
def yX1_isBetween : MethodName := ⟨RX1, "isBetween", "(III)Z"⟩
def dkwX1_isBetween_0 : List UInt8 := [26, 27, 161, 0, 12, 26, 28, 163, 0, 7, 4, 167, 0, 4, 3, 172]
abbrev dktX1_isBetween_0 : List UInt8 := dkwX1_isBetween_0 ++ []
theorem dksX1_isBetween_0 : cX1_isBetween.data.toList.drop 0 = dktX1_isBetween_0 := by decide +kernel
theorem dX1_isBetween_0 : decode cX1_isBetween 0 = .ok (.iload_n 0, 1) := dk_26 (dk_at dksX1_isBetween_0 0 rfl rfl)
theorem dX1_isBetween_1 : decode cX1_isBetween 1 = .ok (.iload_n 1, 1) := dk_27 (dk_at dksX1_isBetween_0 1 rfl rfl)
theorem dX1_isBetween_2 : decode cX1_isBetween 2 = .ok (.if_icmp .lt 12, 3) := dk_161 0 12 (dk_at dksX1_isBetween_0 2 rfl rfl)
theorem dX1_isBetween_5 : decode cX1_isBetween 5 = .ok (.iload_n 0, 1) := dk_26 (dk_at dksX1_isBetween_0 5 rfl rfl)
theorem dX1_isBetween_6 : decode cX1_isBetween 6 = .ok (.iload_n 2, 1) := dk_28 (dk_at dksX1_isBetween_0 6 rfl rfl)
theorem dX1_isBetween_7 : decode cX1_isBetween 7 = .ok (.if_icmp .gt 7, 3) := dk_163 0 7 (dk_at dksX1_isBetween_0 7 rfl rfl)
theorem dX1_isBetween_10 : decode cX1_isBetween 10 = .ok (.iconst 1, 1) := dk_4 (dk_at dksX1_isBetween_0 10 rfl rfl)
theorem dX1_isBetween_11 : decode cX1_isBetween 11 = .ok (.goto 4, 3) := dk_167 0 4 (dk_at dksX1_isBetween_0 11 rfl rfl)
theorem dX1_isBetween_14 : decode cX1_isBetween 14 = .ok (.iconst 0, 1) := dk_3 (dk_at dksX1_isBetween_0 14 rfl rfl)
theorem dX1_isBetween_15 : decode cX1_isBetween 15 = .ok (.ireturn, 1) := dk_172 (dk_at dksX1_isBetween_0 15 rfl rfl)
abbrev cX1_checkArgument : ByteArray := prog_1_method_2_code
def yX1_checkArgument : MethodName := ⟨RX1, "checkArgument", "(Z)V"⟩
def dkwX1_checkArgument_0 : List UInt8 := [26, 154, 0, 11, 187, 0, 40, 89, 183, 0, 42, 191, 177]
abbrev dktX1_checkArgument_0 : List UInt8 := dkwX1_checkArgument_0 ++ []
theorem dksX1_checkArgument_0 : cX1_checkArgument.data.toList.drop 0 = dktX1_checkArgument_0 := by decide +kernel
theorem dX1_checkArgument_0 : decode cX1_checkArgument 0 = .ok (.iload_n 0, 1) := dk_26 (dk_at dksX1_checkArgument_0 0 rfl rfl)
theorem dX1_checkArgument_1 : decode cX1_checkArgument 1 = .ok (.ifCond .ne 11, 3) := dk_154 0 11 (dk_at dksX1_checkArgument_0 1 rfl rfl)
theorem dX1_checkArgument_4 : decode cX1_checkArgument 4 = .ok (.new 40, 3) := dk_187 0 40 (dk_at dksX1_checkArgument_0 4 rfl rfl)
theorem dX1_checkArgument_7 : decode cX1_checkArgument 7 = .ok (.dup, 1) := dk_89 (dk_at dksX1_checkArgument_0 7 rfl rfl)
theorem dX1_checkArgument_8 : decode cX1_checkArgument 8 = .ok (.invokespecial 42, 3) := dk_183 0 42 (dk_at dksX1_checkArgument_0 8 rfl rfl)
theorem dX1_checkArgument_11 : decode cX1_checkArgument 11 = .ok (.athrow, 1) := dk_191 (dk_at dksX1_checkArgument_0 11 rfl rfl)
theorem dX1_checkArgument_12 : decode cX1_checkArgument 12 = .ok (.return_, 1) := dk_177 (dk_at dksX1_checkArgument_0 12 rfl rfl)
abbrev cX1_checkState : ByteArray := prog_1_method_3_code
def yX1_checkState : MethodName := ⟨RX1, "checkState", "(Z)V"⟩
def dkwX1_checkState_0 : List UInt8 := [26, 154, 0, 11, 187, 0, 43, 89, 183, 0, 45, 191, 177]
abbrev dktX1_checkState_0 : List UInt8 := dkwX1_checkState_0 ++ []
theorem dksX1_checkState_0 : cX1_checkState.data.toList.drop 0 = dktX1_checkState_0 := by decide +kernel
theorem dX1_checkState_0 : decode cX1_checkState 0 = .ok (.iload_n 0, 1) := dk_26 (dk_at dksX1_checkState_0 0 rfl rfl)
theorem dX1_checkState_1 : decode cX1_checkState 1 = .ok (.ifCond .ne 11, 3) := dk_154 0 11 (dk_at dksX1_checkState_0 1 rfl rfl)
theorem dX1_checkState_4 : decode cX1_checkState 4 = .ok (.new 43, 3) := dk_187 0 43 (dk_at dksX1_checkState_0 4 rfl rfl)
theorem dX1_checkState_7 : decode cX1_checkState 7 = .ok (.dup, 1) := dk_89 (dk_at dksX1_checkState_0 7 rfl rfl)
theorem dX1_checkState_8 : decode cX1_checkState 8 = .ok (.invokespecial 45, 3) := dk_183 0 45 (dk_at dksX1_checkState_0 8 rfl rfl)
theorem dX1_checkState_11 : decode cX1_checkState 11 = .ok (.athrow, 1) := dk_191 (dk_at dksX1_checkState_0 11 rfl rfl)
theorem dX1_checkState_12 : decode cX1_checkState 12 = .ok (.return_, 1) := dk_177 (dk_at dksX1_checkState_0 12 rfl rfl)
abbrev cX1_sign : ByteArray := prog_1_method_19_code
def yX1_sign : MethodName := ⟨RX1, "sign", "(II)I"⟩
def dkwX1_sign_2 : List UInt8 := [172]
abbrev dktX1_sign_2 : List UInt8 := dkwX1_sign_2 ++ []
def dkwX1_sign_1 : List UInt8 := [182, 0, 101, 45, 28, 181, 0, 143, 45, 89, 180, 0, 146, 8, 28, 96, 96, 181, 0, 146, 45, 180, 0, 146]
abbrev dktX1_sign_1 : List UInt8 := dkwX1_sign_1 ++ dktX1_sign_2
def dkwX1_sign_0 : List UInt8 := [42, 27, 182, 0, 133, 78, 28, 184, 0, 136, 184, 0, 88, 42, 45, 28, 182, 0, 139, 184, 0, 98, 42]
abbrev dktX1_sign_0 : List UInt8 := dkwX1_sign_0 ++ dktX1_sign_1
theorem dksX1_sign_0 : cX1_sign.data.toList.drop 0 = dktX1_sign_0 := by decide +kernel
theorem dksX1_sign_1 : cX1_sign.data.toList.drop 23 = dktX1_sign_1 := dk_seg dksX1_sign_0 23 rfl rfl
theorem dksX1_sign_2 : cX1_sign.data.toList.drop 47 = dktX1_sign_2 := dk_seg dksX1_sign_1 24 rfl rfl
theorem dX1_sign_0 : decode cX1_sign 0 = .ok (.aload_n 0, 1) := dk_42 (dk_at dksX1_sign_0 0 rfl rfl)
theorem dX1_sign_1 : decode cX1_sign 1 = .ok (.iload_n 1, 1) := dk_27 (dk_at dksX1_sign_0 1 rfl rfl)
theorem dX1_sign_2 : decode cX1_sign 2 = .ok (.invokevirtual 133, 3) := dk_182 0 133 (dk_at dksX1_sign_0 2 rfl rfl)
theorem dX1_sign_5 : decode cX1_sign 5 = .ok (.astore_n 3, 1) := dk_78 (dk_at dksX1_sign_0 5 rfl rfl)
theorem dX1_sign_6 : decode cX1_sign 6 = .ok (.iload_n 2, 1) := dk_28 (dk_at dksX1_sign_0 6 rfl rfl)
theorem dX1_sign_7 : decode cX1_sign 7 = .ok (.invokestatic 136, 3) := dk_184 0 136 (dk_at dksX1_sign_0 7 rfl rfl)
theorem dX1_sign_10 : decode cX1_sign 10 = .ok (.invokestatic 88, 3) := dk_184 0 88 (dk_at dksX1_sign_0 10 rfl rfl)
theorem dX1_sign_13 : decode cX1_sign 13 = .ok (.aload_n 0, 1) := dk_42 (dk_at dksX1_sign_0 13 rfl rfl)
theorem dX1_sign_14 : decode cX1_sign 14 = .ok (.aload_n 3, 1) := dk_45 (dk_at dksX1_sign_0 14 rfl rfl)
theorem dX1_sign_15 : decode cX1_sign 15 = .ok (.iload_n 2, 1) := dk_28 (dk_at dksX1_sign_0 15 rfl rfl)
theorem dX1_sign_16 : decode cX1_sign 16 = .ok (.invokevirtual 139, 3) := dk_182 0 139 (dk_at dksX1_sign_0 16 rfl rfl)
theorem dX1_sign_19 : decode cX1_sign 19 = .ok (.invokestatic 98, 3) := dk_184 0 98 (dk_at dksX1_sign_0 19 rfl rfl)
theorem dX1_sign_22 : decode cX1_sign 22 = .ok (.aload_n 0, 1) := dk_42 (dk_at dksX1_sign_0 22 rfl rfl)
theorem dX1_sign_23 : decode cX1_sign 23 = .ok (.invokevirtual 101, 3) := dk_182 0 101 (dk_at dksX1_sign_1 0 rfl rfl)
theorem dX1_sign_26 : decode cX1_sign 26 = .ok (.aload_n 3, 1) := dk_45 (dk_at dksX1_sign_1 3 rfl rfl)
theorem dX1_sign_27 : decode cX1_sign 27 = .ok (.iload_n 2, 1) := dk_28 (dk_at dksX1_sign_1 4 rfl rfl)
theorem dX1_sign_28 : decode cX1_sign 28 = .ok (.putfield 143, 3) := dk_181 0 143 (dk_at dksX1_sign_1 5 rfl rfl)
theorem dX1_sign_31 : decode cX1_sign 31 = .ok (.aload_n 3, 1) := dk_45 (dk_at dksX1_sign_1 8 rfl rfl)
theorem dX1_sign_32 : decode cX1_sign 32 = .ok (.dup, 1) := dk_89 (dk_at dksX1_sign_1 9 rfl rfl)
theorem dX1_sign_33 : decode cX1_sign 33 = .ok (.getfield 146, 3) := dk_180 0 146 (dk_at dksX1_sign_1 10 rfl rfl)
theorem dX1_sign_36 : decode cX1_sign 36 = .ok (.iconst 5, 1) := dk_8 (dk_at dksX1_sign_1 13 rfl rfl)
theorem dX1_sign_37 : decode cX1_sign 37 = .ok (.iload_n 2, 1) := dk_28 (dk_at dksX1_sign_1 14 rfl rfl)
theorem dX1_sign_38 : decode cX1_sign 38 = .ok (.iadd, 1) := dk_96 (dk_at dksX1_sign_1 15 rfl rfl)
theorem dX1_sign_39 : decode cX1_sign 39 = .ok (.iadd, 1) := dk_96 (dk_at dksX1_sign_1 16 rfl rfl)
theorem dX1_sign_40 : decode cX1_sign 40 = .ok (.putfield 146, 3) := dk_181 0 146 (dk_at dksX1_sign_1 17 rfl rfl)
theorem dX1_sign_43 : decode cX1_sign 43 = .ok (.aload_n 3, 1) := dk_45 (dk_at dksX1_sign_1 20 rfl rfl)
theorem dX1_sign_44 : decode cX1_sign 44 = .ok (.getfield 146, 3) := dk_180 0 146 (dk_at dksX1_sign_1 21 rfl rfl)
theorem dX1_sign_47 : decode cX1_sign 47 = .ok (.ireturn, 1) := dk_172 (dk_at dksX1_sign_2 0 rfl rfl)
abbrev cX1_claim : ByteArray := prog_1_method_13_code
def yX1_claim : MethodName := ⟨RX1, "claim", "(I)LClaimRegistry$Claim;"⟩
def dkwX1_claim_0 : List UInt8 := [42, 180, 0, 10, 27, 182, 0, 76, 77, 44, 198, 0, 7, 4, 167, 0, 4, 3, 184, 0, 80, 44, 176]
abbrev dktX1_claim_0 : List UInt8 := dkwX1_claim_0 ++ []
theorem dksX1_claim_0 : cX1_claim.data.toList.drop 0 = dktX1_claim_0 := by decide +kernel
theorem dX1_claim_0 : decode cX1_claim 0 = .ok (.aload_n 0, 1) := dk_42 (dk_at dksX1_claim_0 0 rfl rfl)
theorem dX1_claim_1 : decode cX1_claim 1 = .ok (.getfield 10, 3) := dk_180 0 10 (dk_at dksX1_claim_0 1 rfl rfl)
theorem dX1_claim_4 : decode cX1_claim 4 = .ok (.iload_n 1, 1) := dk_27 (dk_at dksX1_claim_0 4 rfl rfl)
theorem dX1_claim_5 : decode cX1_claim 5 = .ok (.invokevirtual 76, 3) := dk_182 0 76 (dk_at dksX1_claim_0 5 rfl rfl)
theorem dX1_claim_8 : decode cX1_claim 8 = .ok (.astore_n 2, 1) := dk_77 (dk_at dksX1_claim_0 8 rfl rfl)
theorem dX1_claim_9 : decode cX1_claim 9 = .ok (.aload_n 2, 1) := dk_44 (dk_at dksX1_claim_0 9 rfl rfl)
theorem dX1_claim_10 : decode cX1_claim 10 = .ok (.ifnull 7, 3) := dk_198 0 7 (dk_at dksX1_claim_0 10 rfl rfl)
theorem dX1_claim_13 : decode cX1_claim 13 = .ok (.iconst 1, 1) := dk_4 (dk_at dksX1_claim_0 13 rfl rfl)
theorem dX1_claim_14 : decode cX1_claim 14 = .ok (.goto 4, 3) := dk_167 0 4 (dk_at dksX1_claim_0 14 rfl rfl)
theorem dX1_claim_17 : decode cX1_claim 17 = .ok (.iconst 0, 1) := dk_3 (dk_at dksX1_claim_0 17 rfl rfl)
theorem dX1_claim_18 : decode cX1_claim 18 = .ok (.invokestatic 80, 3) := dk_184 0 80 (dk_at dksX1_claim_0 18 rfl rfl)
theorem dX1_claim_21 : decode cX1_claim 21 = .ok (.aload_n 2, 1) := dk_44 (dk_at dksX1_claim_0 21 rfl rfl)
theorem dX1_claim_22 : decode cX1_claim 22 = .ok (.areturn, 1) := dk_176 (dk_at dksX1_claim_0 22 rfl rfl)
abbrev cX1_checkElement : ByteArray := prog_1_method_4_code
def yX1_checkElement : MethodName := ⟨RX1, "checkElement", "(Z)V"⟩
def dkwX1_checkElement_0 : List UInt8 := [26, 154, 0, 11, 187, 0, 46, 89, 183, 0, 48, 191, 177]
abbrev dktX1_checkElement_0 : List UInt8 := dkwX1_checkElement_0 ++ []
theorem dksX1_checkElement_0 : cX1_checkElement.data.toList.drop 0 = dktX1_checkElement_0 := by decide +kernel
theorem dX1_checkElement_0 : decode cX1_checkElement 0 = .ok (.iload_n 0, 1) := dk_26 (dk_at dksX1_checkElement_0 0 rfl rfl)
theorem dX1_checkElement_1 : decode cX1_checkElement 1 = .ok (.ifCond .ne 11, 3) := dk_154 0 11 (dk_at dksX1_checkElement_0 1 rfl rfl)
theorem dX1_checkElement_4 : decode cX1_checkElement 4 = .ok (.new 46, 3) := dk_187 0 46 (dk_at dksX1_checkElement_0 4 rfl rfl)
theorem dX1_checkElement_7 : decode cX1_checkElement 7 = .ok (.dup, 1) := dk_89 (dk_at dksX1_checkElement_0 7 rfl rfl)
theorem dX1_checkElement_8 : decode cX1_checkElement 8 = .ok (.invokespecial 48, 3) := dk_183 0 48 (dk_at dksX1_checkElement_0 8 rfl rfl)
theorem dX1_checkElement_11 : decode cX1_checkElement 11 = .ok (.athrow, 1) := dk_191 (dk_at dksX1_checkElement_0 11 rfl rfl)
theorem dX1_checkElement_12 : decode cX1_checkElement 12 = .ok (.return_, 1) := dk_177 (dk_at dksX1_checkElement_0 12 rfl rfl)
abbrev cX1_isWave : ByteArray := prog_1_method_8_code
def yX1_isWave : MethodName := ⟨RX1, "isWave", "(I)Z"⟩
def dkwX1_isWave_0 : List UInt8 := [26, 3, 6, 184, 0, 52, 172]
abbrev dktX1_isWave_0 : List UInt8 := dkwX1_isWave_0 ++ []
theorem dksX1_isWave_0 : cX1_isWave.data.toList.drop 0 = dktX1_isWave_0 := by decide +kernel
theorem dX1_isWave_0 : decode cX1_isWave 0 = .ok (.iload_n 0, 1) := dk_26 (dk_at dksX1_isWave_0 0 rfl rfl)
theorem dX1_isWave_1 : decode cX1_isWave 1 = .ok (.iconst 0, 1) := dk_3 (dk_at dksX1_isWave_0 1 rfl rfl)
theorem dX1_isWave_2 : decode cX1_isWave 2 = .ok (.iconst 3, 1) := dk_6 (dk_at dksX1_isWave_0 2 rfl rfl)
theorem dX1_isWave_3 : decode cX1_isWave 3 = .ok (.invokestatic 52, 3) := dk_184 0 52 (dk_at dksX1_isWave_0 3 rfl rfl)
theorem dX1_isWave_6 : decode cX1_isWave 6 = .ok (.ireturn, 1) := dk_172 (dk_at dksX1_isWave_0 6 rfl rfl)
abbrev cX1_isSignable : ByteArray := prog_1_method_17_code
def yX1_isSignable : MethodName := ⟨RX1, "isSignable", "(LClaimRegistry$Claim;I)Z"⟩
def dkwX1_isSignable_0 : List UInt8 := [43, 182, 0, 117, 154, 0, 16, 42, 28, 182, 0, 123, 6, 162, 0, 7, 4, 167, 0, 4, 3, 172]
abbrev dktX1_isSignable_0 : List UInt8 := dkwX1_isSignable_0 ++ []
theorem dksX1_isSignable_0 : cX1_isSignable.data.toList.drop 0 = dktX1_isSignable_0 := by decide +kernel
theorem dX1_isSignable_0 : decode cX1_isSignable 0 = .ok (.aload_n 1, 1) := dk_43 (dk_at dksX1_isSignable_0 0 rfl rfl)
theorem dX1_isSignable_1 : decode cX1_isSignable 1 = .ok (.invokevirtual 117, 3) := dk_182 0 117 (dk_at dksX1_isSignable_0 1 rfl rfl)
theorem dX1_isSignable_4 : decode cX1_isSignable 4 = .ok (.ifCond .ne 16, 3) := dk_154 0 16 (dk_at dksX1_isSignable_0 4 rfl rfl)
theorem dX1_isSignable_7 : decode cX1_isSignable 7 = .ok (.aload_n 0, 1) := dk_42 (dk_at dksX1_isSignable_0 7 rfl rfl)
theorem dX1_isSignable_8 : decode cX1_isSignable 8 = .ok (.iload_n 2, 1) := dk_28 (dk_at dksX1_isSignable_0 8 rfl rfl)
theorem dX1_isSignable_9 : decode cX1_isSignable 9 = .ok (.invokevirtual 123, 3) := dk_182 0 123 (dk_at dksX1_isSignable_0 9 rfl rfl)
theorem dX1_isSignable_12 : decode cX1_isSignable 12 = .ok (.iconst 3, 1) := dk_6 (dk_at dksX1_isSignable_0 12 rfl rfl)
theorem dX1_isSignable_13 : decode cX1_isSignable 13 = .ok (.if_icmp .ge 7, 3) := dk_162 0 7 (dk_at dksX1_isSignable_0 13 rfl rfl)
theorem dX1_isSignable_16 : decode cX1_isSignable 16 = .ok (.iconst 1, 1) := dk_4 (dk_at dksX1_isSignable_0 16 rfl rfl)
theorem dX1_isSignable_17 : decode cX1_isSignable 17 = .ok (.goto 4, 3) := dk_167 0 4 (dk_at dksX1_isSignable_0 17 rfl rfl)
theorem dX1_isSignable_20 : decode cX1_isSignable 20 = .ok (.iconst 0, 1) := dk_3 (dk_at dksX1_isSignable_0 20 rfl rfl)
theorem dX1_isSignable_21 : decode cX1_isSignable 21 = .ok (.ireturn, 1) := dk_172 (dk_at dksX1_isSignable_0 21 rfl rfl)
abbrev cX1_signatures : ByteArray := prog_1_method_15_code
def yX1_signatures : MethodName := ⟨RX1, "signatures", "(I)I"⟩
def dkwX1_signatures_0 : List UInt8 := [42, 180, 0, 10, 27, 186, 0, 108, 0, 0, 182, 0, 112, 172]
abbrev dktX1_signatures_0 : List UInt8 := dkwX1_signatures_0 ++ []
theorem dksX1_signatures_0 : cX1_signatures.data.toList.drop 0 = dktX1_signatures_0 := by decide +kernel
theorem dX1_signatures_0 : decode cX1_signatures 0 = .ok (.aload_n 0, 1) := dk_42 (dk_at dksX1_signatures_0 0 rfl rfl)
theorem dX1_signatures_1 : decode cX1_signatures 1 = .ok (.getfield 10, 3) := dk_180 0 10 (dk_at dksX1_signatures_0 1 rfl rfl)
theorem dX1_signatures_4 : decode cX1_signatures 4 = .ok (.iload_n 1, 1) := dk_27 (dk_at dksX1_signatures_0 4 rfl rfl)
theorem dX1_signatures_5 : decode cX1_signatures 5 = .ok (.invokedynamic 108, 5) := by decide +kernel
theorem dX1_signatures_10 : decode cX1_signatures 10 = .ok (.invokevirtual 112, 3) := dk_182 0 112 (dk_at dksX1_signatures_0 10 rfl rfl)
theorem dX1_signatures_13 : decode cX1_signatures 13 = .ok (.ireturn, 1) := dk_172 (dk_at dksX1_signatures_0 13 rfl rfl)
abbrev cX1_lambda_signatures_0 : ByteArray := prog_1_method_112_code
def yX1_lambda_signatures_0 : MethodName := ⟨RX1, "lambda$signatures$0", "(ILClaimRegistry$Claim;)Z"⟩
def dkwX1_lambda_signatures_0_0 : List UInt8 := [43, 180, 0, 143, 26, 160, 0, 7, 4, 167, 0, 4, 3, 172]
abbrev dktX1_lambda_signatures_0_0 : List UInt8 := dkwX1_lambda_signatures_0_0 ++ []
theorem dksX1_lambda_signatures_0_0 : cX1_lambda_signatures_0.data.toList.drop 0 = dktX1_lambda_signatures_0_0 := by decide +kernel
theorem dX1_lambda_signatures_0_0 : decode cX1_lambda_signatures_0 0 = .ok (.aload_n 1, 1) := dk_43 (dk_at dksX1_lambda_signatures_0_0 0 rfl rfl)
theorem dX1_lambda_signatures_0_1 : decode cX1_lambda_signatures_0 1 = .ok (.getfield 143, 3) := dk_180 0 143 (dk_at dksX1_lambda_signatures_0_0 1 rfl rfl)
theorem dX1_lambda_signatures_0_4 : decode cX1_lambda_signatures_0 4 = .ok (.iload_n 0, 1) := dk_26 (dk_at dksX1_lambda_signatures_0_0 4 rfl rfl)
theorem dX1_lambda_signatures_0_5 : decode cX1_lambda_signatures_0 5 = .ok (.if_icmp .ne 7, 3) := dk_160 0 7 (dk_at dksX1_lambda_signatures_0_0 5 rfl rfl)
theorem dX1_lambda_signatures_0_8 : decode cX1_lambda_signatures_0 8 = .ok (.iconst 1, 1) := dk_4 (dk_at dksX1_lambda_signatures_0_0 8 rfl rfl)
theorem dX1_lambda_signatures_0_9 : decode cX1_lambda_signatures_0 9 = .ok (.goto 4, 3) := dk_167 0 4 (dk_at dksX1_lambda_signatures_0_0 9 rfl rfl)
theorem dX1_lambda_signatures_0_12 : decode cX1_lambda_signatures_0 12 = .ok (.iconst 0, 1) := dk_3 (dk_at dksX1_lambda_signatures_0_0 12 rfl rfl)
theorem dX1_lambda_signatures_0_13 : decode cX1_lambda_signatures_0 13 = .ok (.ireturn, 1) := dk_172 (dk_at dksX1_lambda_signatures_0_0 13 rfl rfl)
abbrev cX1_countersign : ByteArray := prog_1_method_20_code
def yX1_countersign : MethodName := ⟨RX1, "countersign", "(II)I"⟩
def dkwX1_countersign_2 : List UInt8 := [180, 0, 146, 172]
abbrev dktX1_countersign_2 : List UInt8 := dkwX1_countersign_2 ++ []
def dkwX1_countersign_1 : List UInt8 := [182, 0, 101, 45, 28, 181, 0, 155, 45, 89, 180, 0, 146, 16, 10, 5, 28, 104, 96, 96, 181, 0, 146, 45]
abbrev dktX1_countersign_1 : List UInt8 := dkwX1_countersign_1 ++ dktX1_countersign_2
def dkwX1_countersign_0 : List UInt8 := [42, 27, 182, 0, 133, 78, 28, 184, 0, 149, 184, 0, 88, 42, 45, 28, 182, 0, 152, 184, 0, 98, 42]
abbrev dktX1_countersign_0 : List UInt8 := dkwX1_countersign_0 ++ dktX1_countersign_1
theorem dksX1_countersign_0 : cX1_countersign.data.toList.drop 0 = dktX1_countersign_0 := by decide +kernel
theorem dksX1_countersign_1 : cX1_countersign.data.toList.drop 23 = dktX1_countersign_1 := dk_seg dksX1_countersign_0 23 rfl rfl
theorem dksX1_countersign_2 : cX1_countersign.data.toList.drop 47 = dktX1_countersign_2 := dk_seg dksX1_countersign_1 24 rfl rfl
theorem dX1_countersign_0 : decode cX1_countersign 0 = .ok (.aload_n 0, 1) := dk_42 (dk_at dksX1_countersign_0 0 rfl rfl)
theorem dX1_countersign_1 : decode cX1_countersign 1 = .ok (.iload_n 1, 1) := dk_27 (dk_at dksX1_countersign_0 1 rfl rfl)
theorem dX1_countersign_2 : decode cX1_countersign 2 = .ok (.invokevirtual 133, 3) := dk_182 0 133 (dk_at dksX1_countersign_0 2 rfl rfl)
theorem dX1_countersign_5 : decode cX1_countersign 5 = .ok (.astore_n 3, 1) := dk_78 (dk_at dksX1_countersign_0 5 rfl rfl)
theorem dX1_countersign_6 : decode cX1_countersign 6 = .ok (.iload_n 2, 1) := dk_28 (dk_at dksX1_countersign_0 6 rfl rfl)
theorem dX1_countersign_7 : decode cX1_countersign 7 = .ok (.invokestatic 149, 3) := dk_184 0 149 (dk_at dksX1_countersign_0 7 rfl rfl)
theorem dX1_countersign_10 : decode cX1_countersign 10 = .ok (.invokestatic 88, 3) := dk_184 0 88 (dk_at dksX1_countersign_0 10 rfl rfl)
theorem dX1_countersign_13 : decode cX1_countersign 13 = .ok (.aload_n 0, 1) := dk_42 (dk_at dksX1_countersign_0 13 rfl rfl)
theorem dX1_countersign_14 : decode cX1_countersign 14 = .ok (.aload_n 3, 1) := dk_45 (dk_at dksX1_countersign_0 14 rfl rfl)
theorem dX1_countersign_15 : decode cX1_countersign 15 = .ok (.iload_n 2, 1) := dk_28 (dk_at dksX1_countersign_0 15 rfl rfl)
theorem dX1_countersign_16 : decode cX1_countersign 16 = .ok (.invokevirtual 152, 3) := dk_182 0 152 (dk_at dksX1_countersign_0 16 rfl rfl)
theorem dX1_countersign_19 : decode cX1_countersign 19 = .ok (.invokestatic 98, 3) := dk_184 0 98 (dk_at dksX1_countersign_0 19 rfl rfl)
theorem dX1_countersign_22 : decode cX1_countersign 22 = .ok (.aload_n 0, 1) := dk_42 (dk_at dksX1_countersign_0 22 rfl rfl)
theorem dX1_countersign_23 : decode cX1_countersign 23 = .ok (.invokevirtual 101, 3) := dk_182 0 101 (dk_at dksX1_countersign_1 0 rfl rfl)
theorem dX1_countersign_26 : decode cX1_countersign 26 = .ok (.aload_n 3, 1) := dk_45 (dk_at dksX1_countersign_1 3 rfl rfl)
theorem dX1_countersign_27 : decode cX1_countersign 27 = .ok (.iload_n 2, 1) := dk_28 (dk_at dksX1_countersign_1 4 rfl rfl)
theorem dX1_countersign_28 : decode cX1_countersign 28 = .ok (.putfield 155, 3) := dk_181 0 155 (dk_at dksX1_countersign_1 5 rfl rfl)
theorem dX1_countersign_31 : decode cX1_countersign 31 = .ok (.aload_n 3, 1) := dk_45 (dk_at dksX1_countersign_1 8 rfl rfl)
theorem dX1_countersign_32 : decode cX1_countersign 32 = .ok (.dup, 1) := dk_89 (dk_at dksX1_countersign_1 9 rfl rfl)
theorem dX1_countersign_33 : decode cX1_countersign 33 = .ok (.getfield 146, 3) := dk_180 0 146 (dk_at dksX1_countersign_1 10 rfl rfl)
theorem dX1_countersign_36 : decode cX1_countersign 36 = .ok (.bipush 10, 2) := dk_16 10 (dk_at dksX1_countersign_1 13 rfl rfl)
theorem dX1_countersign_38 : decode cX1_countersign 38 = .ok (.iconst 2, 1) := dk_5 (dk_at dksX1_countersign_1 15 rfl rfl)
theorem dX1_countersign_39 : decode cX1_countersign 39 = .ok (.iload_n 2, 1) := dk_28 (dk_at dksX1_countersign_1 16 rfl rfl)
theorem dX1_countersign_40 : decode cX1_countersign 40 = .ok (.imul, 1) := dk_104 (dk_at dksX1_countersign_1 17 rfl rfl)
theorem dX1_countersign_41 : decode cX1_countersign 41 = .ok (.iadd, 1) := dk_96 (dk_at dksX1_countersign_1 18 rfl rfl)
theorem dX1_countersign_42 : decode cX1_countersign 42 = .ok (.iadd, 1) := dk_96 (dk_at dksX1_countersign_1 19 rfl rfl)
theorem dX1_countersign_43 : decode cX1_countersign 43 = .ok (.putfield 146, 3) := dk_181 0 146 (dk_at dksX1_countersign_1 20 rfl rfl)
theorem dX1_countersign_46 : decode cX1_countersign 46 = .ok (.aload_n 3, 1) := dk_45 (dk_at dksX1_countersign_1 23 rfl rfl)
theorem dX1_countersign_47 : decode cX1_countersign 47 = .ok (.getfield 146, 3) := dk_180 0 146 (dk_at dksX1_countersign_2 0 rfl rfl)
theorem dX1_countersign_50 : decode cX1_countersign 50 = .ok (.ireturn, 1) := dk_172 (dk_at dksX1_countersign_2 3 rfl rfl)
abbrev cX1_isRock : ByteArray := prog_1_method_9_code
def yX1_isRock : MethodName := ⟨RX1, "isRock", "(I)Z"⟩
def dkwX1_isRock_0 : List UInt8 := [26, 3, 6, 184, 0, 52, 172]
abbrev dktX1_isRock_0 : List UInt8 := dkwX1_isRock_0 ++ []
theorem dksX1_isRock_0 : cX1_isRock.data.toList.drop 0 = dktX1_isRock_0 := by decide +kernel
theorem dX1_isRock_0 : decode cX1_isRock 0 = .ok (.iload_n 0, 1) := dk_26 (dk_at dksX1_isRock_0 0 rfl rfl)
theorem dX1_isRock_1 : decode cX1_isRock 1 = .ok (.iconst 0, 1) := dk_3 (dk_at dksX1_isRock_0 1 rfl rfl)
theorem dX1_isRock_2 : decode cX1_isRock 2 = .ok (.iconst 3, 1) := dk_6 (dk_at dksX1_isRock_0 2 rfl rfl)
theorem dX1_isRock_3 : decode cX1_isRock 3 = .ok (.invokestatic 52, 3) := dk_184 0 52 (dk_at dksX1_isRock_0 3 rfl rfl)
theorem dX1_isRock_6 : decode cX1_isRock 6 = .ok (.ireturn, 1) := dk_172 (dk_at dksX1_isRock_0 6 rfl rfl)
abbrev cX1_isCountersignable : ByteArray := prog_1_method_18_code
def yX1_isCountersignable : MethodName := ⟨RX1, "isCountersignable", "(LClaimRegistry$Claim;I)Z"⟩
def dkwX1_isCountersignable_1 : List UInt8 := [167, 0, 4, 3, 172]
abbrev dktX1_isCountersignable_1 : List UInt8 := dkwX1_isCountersignable_1 ++ []
def dkwX1_isCountersignable_0 : List UInt8 := [43, 182, 0, 117, 153, 0, 23, 43, 182, 0, 127, 154, 0, 16, 42, 28, 182, 0, 130, 5, 162, 0, 7, 4]
abbrev dktX1_isCountersignable_0 : List UInt8 := dkwX1_isCountersignable_0 ++ dktX1_isCountersignable_1
theorem dksX1_isCountersignable_0 : cX1_isCountersignable.data.toList.drop 0 = dktX1_isCountersignable_0 := by decide +kernel
theorem dksX1_isCountersignable_1 : cX1_isCountersignable.data.toList.drop 24 = dktX1_isCountersignable_1 := dk_seg dksX1_isCountersignable_0 24 rfl rfl
theorem dX1_isCountersignable_0 : decode cX1_isCountersignable 0 = .ok (.aload_n 1, 1) := dk_43 (dk_at dksX1_isCountersignable_0 0 rfl rfl)
theorem dX1_isCountersignable_1 : decode cX1_isCountersignable 1 = .ok (.invokevirtual 117, 3) := dk_182 0 117 (dk_at dksX1_isCountersignable_0 1 rfl rfl)
theorem dX1_isCountersignable_4 : decode cX1_isCountersignable 4 = .ok (.ifCond .eq 23, 3) := dk_153 0 23 (dk_at dksX1_isCountersignable_0 4 rfl rfl)
theorem dX1_isCountersignable_7 : decode cX1_isCountersignable 7 = .ok (.aload_n 1, 1) := dk_43 (dk_at dksX1_isCountersignable_0 7 rfl rfl)
theorem dX1_isCountersignable_8 : decode cX1_isCountersignable 8 = .ok (.invokevirtual 127, 3) := dk_182 0 127 (dk_at dksX1_isCountersignable_0 8 rfl rfl)
theorem dX1_isCountersignable_11 : decode cX1_isCountersignable 11 = .ok (.ifCond .ne 16, 3) := dk_154 0 16 (dk_at dksX1_isCountersignable_0 11 rfl rfl)
theorem dX1_isCountersignable_14 : decode cX1_isCountersignable 14 = .ok (.aload_n 0, 1) := dk_42 (dk_at dksX1_isCountersignable_0 14 rfl rfl)
theorem dX1_isCountersignable_15 : decode cX1_isCountersignable 15 = .ok (.iload_n 2, 1) := dk_28 (dk_at dksX1_isCountersignable_0 15 rfl rfl)
theorem dX1_isCountersignable_16 : decode cX1_isCountersignable 16 = .ok (.invokevirtual 130, 3) := dk_182 0 130 (dk_at dksX1_isCountersignable_0 16 rfl rfl)
theorem dX1_isCountersignable_19 : decode cX1_isCountersignable 19 = .ok (.iconst 2, 1) := dk_5 (dk_at dksX1_isCountersignable_0 19 rfl rfl)
theorem dX1_isCountersignable_20 : decode cX1_isCountersignable 20 = .ok (.if_icmp .ge 7, 3) := dk_162 0 7 (dk_at dksX1_isCountersignable_0 20 rfl rfl)
theorem dX1_isCountersignable_23 : decode cX1_isCountersignable 23 = .ok (.iconst 1, 1) := dk_4 (dk_at dksX1_isCountersignable_0 23 rfl rfl)
theorem dX1_isCountersignable_24 : decode cX1_isCountersignable 24 = .ok (.goto 4, 3) := dk_167 0 4 (dk_at dksX1_isCountersignable_1 0 rfl rfl)
theorem dX1_isCountersignable_27 : decode cX1_isCountersignable 27 = .ok (.iconst 0, 1) := dk_3 (dk_at dksX1_isCountersignable_1 3 rfl rfl)
theorem dX1_isCountersignable_28 : decode cX1_isCountersignable 28 = .ok (.ireturn, 1) := dk_172 (dk_at dksX1_isCountersignable_1 4 rfl rfl)
abbrev cX1_countersignatures : ByteArray := prog_1_method_16_code
def yX1_countersignatures : MethodName := ⟨RX1, "countersignatures", "(I)I"⟩
def dkwX1_countersignatures_0 : List UInt8 := [42, 180, 0, 10, 27, 186, 0, 116, 0, 0, 182, 0, 112, 172]
abbrev dktX1_countersignatures_0 : List UInt8 := dkwX1_countersignatures_0 ++ []
theorem dksX1_countersignatures_0 : cX1_countersignatures.data.toList.drop 0 = dktX1_countersignatures_0 := by decide +kernel
theorem dX1_countersignatures_0 : decode cX1_countersignatures 0 = .ok (.aload_n 0, 1) := dk_42 (dk_at dksX1_countersignatures_0 0 rfl rfl)
theorem dX1_countersignatures_1 : decode cX1_countersignatures 1 = .ok (.getfield 10, 3) := dk_180 0 10 (dk_at dksX1_countersignatures_0 1 rfl rfl)
theorem dX1_countersignatures_4 : decode cX1_countersignatures 4 = .ok (.iload_n 1, 1) := dk_27 (dk_at dksX1_countersignatures_0 4 rfl rfl)
theorem dX1_countersignatures_5 : decode cX1_countersignatures 5 = .ok (.invokedynamic 116, 5) := by decide +kernel
theorem dX1_countersignatures_10 : decode cX1_countersignatures 10 = .ok (.invokevirtual 112, 3) := dk_182 0 112 (dk_at dksX1_countersignatures_0 10 rfl rfl)
theorem dX1_countersignatures_13 : decode cX1_countersignatures 13 = .ok (.ireturn, 1) := dk_172 (dk_at dksX1_countersignatures_0 13 rfl rfl)
abbrev cX1_lambda_countersignatures_1 : ByteArray := prog_1_method_111_code
def yX1_lambda_countersignatures_1 : MethodName := ⟨RX1, "lambda$countersignatures$1", "(ILClaimRegistry$Claim;)Z"⟩
def dkwX1_lambda_countersignatures_1_0 : List UInt8 := [43, 180, 0, 155, 26, 160, 0, 7, 4, 167, 0, 4, 3, 172]
abbrev dktX1_lambda_countersignatures_1_0 : List UInt8 := dkwX1_lambda_countersignatures_1_0 ++ []
theorem dksX1_lambda_countersignatures_1_0 : cX1_lambda_countersignatures_1.data.toList.drop 0 = dktX1_lambda_countersignatures_1_0 := by decide +kernel
theorem dX1_lambda_countersignatures_1_0 : decode cX1_lambda_countersignatures_1 0 = .ok (.aload_n 1, 1) := dk_43 (dk_at dksX1_lambda_countersignatures_1_0 0 rfl rfl)
theorem dX1_lambda_countersignatures_1_1 : decode cX1_lambda_countersignatures_1 1 = .ok (.getfield 155, 3) := dk_180 0 155 (dk_at dksX1_lambda_countersignatures_1_0 1 rfl rfl)
theorem dX1_lambda_countersignatures_1_4 : decode cX1_lambda_countersignatures_1 4 = .ok (.iload_n 0, 1) := dk_26 (dk_at dksX1_lambda_countersignatures_1_0 4 rfl rfl)
theorem dX1_lambda_countersignatures_1_5 : decode cX1_lambda_countersignatures_1 5 = .ok (.if_icmp .ne 7, 3) := dk_160 0 7 (dk_at dksX1_lambda_countersignatures_1_0 5 rfl rfl)
theorem dX1_lambda_countersignatures_1_8 : decode cX1_lambda_countersignatures_1 8 = .ok (.iconst 1, 1) := dk_4 (dk_at dksX1_lambda_countersignatures_1_0 8 rfl rfl)
theorem dX1_lambda_countersignatures_1_9 : decode cX1_lambda_countersignatures_1 9 = .ok (.goto 4, 3) := dk_167 0 4 (dk_at dksX1_lambda_countersignatures_1_0 9 rfl rfl)
theorem dX1_lambda_countersignatures_1_12 : decode cX1_lambda_countersignatures_1 12 = .ok (.iconst 0, 1) := dk_3 (dk_at dksX1_lambda_countersignatures_1_0 12 rfl rfl)
theorem dX1_lambda_countersignatures_1_13 : decode cX1_lambda_countersignatures_1 13 = .ok (.ireturn, 1) := dk_172 (dk_at dksX1_lambda_countersignatures_1_0 13 rfl rfl)
abbrev cX1_settle : ByteArray := prog_1_method_21_code
def yX1_settle : MethodName := ⟨RX1, "settle", "(I)I"⟩
def dkwX1_settle_1 : List UInt8 := [182, 0, 158, 44, 180, 0, 162, 172]
abbrev dktX1_settle_1 : List UInt8 := dkwX1_settle_1 ++ []
def dkwX1_settle_0 : List UInt8 := [42, 27, 182, 0, 133, 77, 44, 182, 0, 117, 184, 0, 98, 42, 182, 0, 101, 42, 180, 0, 10, 44]
abbrev dktX1_settle_0 : List UInt8 := dkwX1_settle_0 ++ dktX1_settle_1
theorem dksX1_settle_0 : cX1_settle.data.toList.drop 0 = dktX1_settle_0 := by decide +kernel
theorem dksX1_settle_1 : cX1_settle.data.toList.drop 22 = dktX1_settle_1 := dk_seg dksX1_settle_0 22 rfl rfl
theorem dX1_settle_0 : decode cX1_settle 0 = .ok (.aload_n 0, 1) := dk_42 (dk_at dksX1_settle_0 0 rfl rfl)
theorem dX1_settle_1 : decode cX1_settle 1 = .ok (.iload_n 1, 1) := dk_27 (dk_at dksX1_settle_0 1 rfl rfl)
theorem dX1_settle_2 : decode cX1_settle 2 = .ok (.invokevirtual 133, 3) := dk_182 0 133 (dk_at dksX1_settle_0 2 rfl rfl)
theorem dX1_settle_5 : decode cX1_settle 5 = .ok (.astore_n 2, 1) := dk_77 (dk_at dksX1_settle_0 5 rfl rfl)
theorem dX1_settle_6 : decode cX1_settle 6 = .ok (.aload_n 2, 1) := dk_44 (dk_at dksX1_settle_0 6 rfl rfl)
theorem dX1_settle_7 : decode cX1_settle 7 = .ok (.invokevirtual 117, 3) := dk_182 0 117 (dk_at dksX1_settle_0 7 rfl rfl)
theorem dX1_settle_10 : decode cX1_settle 10 = .ok (.invokestatic 98, 3) := dk_184 0 98 (dk_at dksX1_settle_0 10 rfl rfl)
theorem dX1_settle_13 : decode cX1_settle 13 = .ok (.aload_n 0, 1) := dk_42 (dk_at dksX1_settle_0 13 rfl rfl)
theorem dX1_settle_14 : decode cX1_settle 14 = .ok (.invokevirtual 101, 3) := dk_182 0 101 (dk_at dksX1_settle_0 14 rfl rfl)
theorem dX1_settle_17 : decode cX1_settle 17 = .ok (.aload_n 0, 1) := dk_42 (dk_at dksX1_settle_0 17 rfl rfl)
theorem dX1_settle_18 : decode cX1_settle 18 = .ok (.getfield 10, 3) := dk_180 0 10 (dk_at dksX1_settle_0 18 rfl rfl)
theorem dX1_settle_21 : decode cX1_settle 21 = .ok (.aload_n 2, 1) := dk_44 (dk_at dksX1_settle_0 21 rfl rfl)
theorem dX1_settle_22 : decode cX1_settle 22 = .ok (.invokevirtual 158, 3) := dk_182 0 158 (dk_at dksX1_settle_1 0 rfl rfl)
theorem dX1_settle_25 : decode cX1_settle 25 = .ok (.aload_n 2, 1) := dk_44 (dk_at dksX1_settle_1 3 rfl rfl)
theorem dX1_settle_26 : decode cX1_settle 26 = .ok (.getfield 162, 3) := dk_180 0 162 (dk_at dksX1_settle_1 4 rfl rfl)
theorem dX1_settle_29 : decode cX1_settle 29 = .ok (.ireturn, 1) := dk_172 (dk_at dksX1_settle_1 7 rfl rfl)
abbrev cX1_advance : ByteArray := prog_1_method_23_code
def yX1_advance : MethodName := ⟨RX1, "advance", "(I)I"⟩
def dkwX1_advance_0 : List UInt8 := [27, 4, 16, 50, 184, 0, 52, 184, 0, 88, 42, 182, 0, 101, 42, 180, 0, 10, 27, 182, 0, 168, 172]
abbrev dktX1_advance_0 : List UInt8 := dkwX1_advance_0 ++ []
theorem dksX1_advance_0 : cX1_advance.data.toList.drop 0 = dktX1_advance_0 := by decide +kernel
theorem dX1_advance_0 : decode cX1_advance 0 = .ok (.iload_n 1, 1) := dk_27 (dk_at dksX1_advance_0 0 rfl rfl)
theorem dX1_advance_1 : decode cX1_advance 1 = .ok (.iconst 1, 1) := dk_4 (dk_at dksX1_advance_0 1 rfl rfl)
theorem dX1_advance_2 : decode cX1_advance 2 = .ok (.bipush 50, 2) := dk_16 50 (dk_at dksX1_advance_0 2 rfl rfl)
theorem dX1_advance_4 : decode cX1_advance 4 = .ok (.invokestatic 52, 3) := dk_184 0 52 (dk_at dksX1_advance_0 4 rfl rfl)
theorem dX1_advance_7 : decode cX1_advance 7 = .ok (.invokestatic 88, 3) := dk_184 0 88 (dk_at dksX1_advance_0 7 rfl rfl)
theorem dX1_advance_10 : decode cX1_advance 10 = .ok (.aload_n 0, 1) := dk_42 (dk_at dksX1_advance_0 10 rfl rfl)
theorem dX1_advance_11 : decode cX1_advance 11 = .ok (.invokevirtual 101, 3) := dk_182 0 101 (dk_at dksX1_advance_0 11 rfl rfl)
theorem dX1_advance_14 : decode cX1_advance 14 = .ok (.aload_n 0, 1) := dk_42 (dk_at dksX1_advance_0 14 rfl rfl)
theorem dX1_advance_15 : decode cX1_advance 15 = .ok (.getfield 10, 3) := dk_180 0 10 (dk_at dksX1_advance_0 15 rfl rfl)
theorem dX1_advance_18 : decode cX1_advance 18 = .ok (.iload_n 1, 1) := dk_27 (dk_at dksX1_advance_0 18 rfl rfl)
theorem dX1_advance_19 : decode cX1_advance 19 = .ok (.invokevirtual 168, 3) := dk_182 0 168 (dk_at dksX1_advance_0 19 rfl rfl)
theorem dX1_advance_22 : decode cX1_advance 22 = .ok (.ireturn, 1) := dk_172 (dk_at dksX1_advance_0 22 rfl rfl)
abbrev cX1_audit : ByteArray := prog_1_method_24_code
def yX1_audit : MethodName := ⟨RX1, "audit", "(I)I"⟩
def dkwX1_audit_0 : List UInt8 := [27, 4, 16, 12, 184, 0, 52, 184, 0, 88, 42, 182, 0, 101, 42, 180, 0, 10, 27, 182, 0, 171, 172]
abbrev dktX1_audit_0 : List UInt8 := dkwX1_audit_0 ++ []
theorem dksX1_audit_0 : cX1_audit.data.toList.drop 0 = dktX1_audit_0 := by decide +kernel
theorem dX1_audit_0 : decode cX1_audit 0 = .ok (.iload_n 1, 1) := dk_27 (dk_at dksX1_audit_0 0 rfl rfl)
theorem dX1_audit_1 : decode cX1_audit 1 = .ok (.iconst 1, 1) := dk_4 (dk_at dksX1_audit_0 1 rfl rfl)
theorem dX1_audit_2 : decode cX1_audit 2 = .ok (.bipush 12, 2) := dk_16 12 (dk_at dksX1_audit_0 2 rfl rfl)
theorem dX1_audit_4 : decode cX1_audit 4 = .ok (.invokestatic 52, 3) := dk_184 0 52 (dk_at dksX1_audit_0 4 rfl rfl)
theorem dX1_audit_7 : decode cX1_audit 7 = .ok (.invokestatic 88, 3) := dk_184 0 88 (dk_at dksX1_audit_0 7 rfl rfl)
theorem dX1_audit_10 : decode cX1_audit 10 = .ok (.aload_n 0, 1) := dk_42 (dk_at dksX1_audit_0 10 rfl rfl)
theorem dX1_audit_11 : decode cX1_audit 11 = .ok (.invokevirtual 101, 3) := dk_182 0 101 (dk_at dksX1_audit_0 11 rfl rfl)
theorem dX1_audit_14 : decode cX1_audit 14 = .ok (.aload_n 0, 1) := dk_42 (dk_at dksX1_audit_0 14 rfl rfl)
theorem dX1_audit_15 : decode cX1_audit 15 = .ok (.getfield 10, 3) := dk_180 0 10 (dk_at dksX1_audit_0 15 rfl rfl)
theorem dX1_audit_18 : decode cX1_audit 18 = .ok (.iload_n 1, 1) := dk_27 (dk_at dksX1_audit_0 18 rfl rfl)
theorem dX1_audit_19 : decode cX1_audit 19 = .ok (.invokevirtual 171, 3) := dk_182 0 171 (dk_at dksX1_audit_0 19 rfl rfl)
theorem dX1_audit_22 : decode cX1_audit 22 = .ok (.ireturn, 1) := dk_172 (dk_at dksX1_audit_0 22 rfl rfl)
abbrev cX1_setRate : ByteArray := prog_1_method_25_code
def yX1_setRate : MethodName := ⟨RX1, "setRate", "(II)I"⟩
def dkwX1_setRate_2 : List UInt8 := [27, 28, 79, 29, 172]
abbrev dktX1_setRate_2 : List UInt8 := dkwX1_setRate_2 ++ []
def dkwX1_setRate_1 : List UInt8 := [184, 0, 88, 42, 182, 0, 101, 42, 180, 0, 10, 180, 0, 177, 27, 46, 62, 42, 180, 0, 10, 180, 0, 177]
abbrev dktX1_setRate_1 : List UInt8 := dkwX1_setRate_1 ++ dktX1_setRate_2
def dkwX1_setRate_0 : List UInt8 := [27, 184, 0, 174, 153, 0, 17, 28, 3, 16, 20, 184, 0, 52, 153, 0, 7, 4, 167, 0, 4, 3]
abbrev dktX1_setRate_0 : List UInt8 := dkwX1_setRate_0 ++ dktX1_setRate_1
theorem dksX1_setRate_0 : cX1_setRate.data.toList.drop 0 = dktX1_setRate_0 := by decide +kernel
theorem dksX1_setRate_1 : cX1_setRate.data.toList.drop 22 = dktX1_setRate_1 := dk_seg dksX1_setRate_0 22 rfl rfl
theorem dksX1_setRate_2 : cX1_setRate.data.toList.drop 46 = dktX1_setRate_2 := dk_seg dksX1_setRate_1 24 rfl rfl
theorem dX1_setRate_0 : decode cX1_setRate 0 = .ok (.iload_n 1, 1) := dk_27 (dk_at dksX1_setRate_0 0 rfl rfl)
theorem dX1_setRate_1 : decode cX1_setRate 1 = .ok (.invokestatic 174, 3) := dk_184 0 174 (dk_at dksX1_setRate_0 1 rfl rfl)
theorem dX1_setRate_4 : decode cX1_setRate 4 = .ok (.ifCond .eq 17, 3) := dk_153 0 17 (dk_at dksX1_setRate_0 4 rfl rfl)
theorem dX1_setRate_7 : decode cX1_setRate 7 = .ok (.iload_n 2, 1) := dk_28 (dk_at dksX1_setRate_0 7 rfl rfl)
theorem dX1_setRate_8 : decode cX1_setRate 8 = .ok (.iconst 0, 1) := dk_3 (dk_at dksX1_setRate_0 8 rfl rfl)
theorem dX1_setRate_9 : decode cX1_setRate 9 = .ok (.bipush 20, 2) := dk_16 20 (dk_at dksX1_setRate_0 9 rfl rfl)
theorem dX1_setRate_11 : decode cX1_setRate 11 = .ok (.invokestatic 52, 3) := dk_184 0 52 (dk_at dksX1_setRate_0 11 rfl rfl)
theorem dX1_setRate_14 : decode cX1_setRate 14 = .ok (.ifCond .eq 7, 3) := dk_153 0 7 (dk_at dksX1_setRate_0 14 rfl rfl)
theorem dX1_setRate_17 : decode cX1_setRate 17 = .ok (.iconst 1, 1) := dk_4 (dk_at dksX1_setRate_0 17 rfl rfl)
theorem dX1_setRate_18 : decode cX1_setRate 18 = .ok (.goto 4, 3) := dk_167 0 4 (dk_at dksX1_setRate_0 18 rfl rfl)
theorem dX1_setRate_21 : decode cX1_setRate 21 = .ok (.iconst 0, 1) := dk_3 (dk_at dksX1_setRate_0 21 rfl rfl)
theorem dX1_setRate_22 : decode cX1_setRate 22 = .ok (.invokestatic 88, 3) := dk_184 0 88 (dk_at dksX1_setRate_1 0 rfl rfl)
theorem dX1_setRate_25 : decode cX1_setRate 25 = .ok (.aload_n 0, 1) := dk_42 (dk_at dksX1_setRate_1 3 rfl rfl)
theorem dX1_setRate_26 : decode cX1_setRate 26 = .ok (.invokevirtual 101, 3) := dk_182 0 101 (dk_at dksX1_setRate_1 4 rfl rfl)
theorem dX1_setRate_29 : decode cX1_setRate 29 = .ok (.aload_n 0, 1) := dk_42 (dk_at dksX1_setRate_1 7 rfl rfl)
theorem dX1_setRate_30 : decode cX1_setRate 30 = .ok (.getfield 10, 3) := dk_180 0 10 (dk_at dksX1_setRate_1 8 rfl rfl)
theorem dX1_setRate_33 : decode cX1_setRate 33 = .ok (.getfield 177, 3) := dk_180 0 177 (dk_at dksX1_setRate_1 11 rfl rfl)
theorem dX1_setRate_36 : decode cX1_setRate 36 = .ok (.iload_n 1, 1) := dk_27 (dk_at dksX1_setRate_1 14 rfl rfl)
theorem dX1_setRate_37 : decode cX1_setRate 37 = .ok (.iaload, 1) := dk_46 (dk_at dksX1_setRate_1 15 rfl rfl)
theorem dX1_setRate_38 : decode cX1_setRate 38 = .ok (.istore_n 3, 1) := dk_62 (dk_at dksX1_setRate_1 16 rfl rfl)
theorem dX1_setRate_39 : decode cX1_setRate 39 = .ok (.aload_n 0, 1) := dk_42 (dk_at dksX1_setRate_1 17 rfl rfl)
theorem dX1_setRate_40 : decode cX1_setRate 40 = .ok (.getfield 10, 3) := dk_180 0 10 (dk_at dksX1_setRate_1 18 rfl rfl)
theorem dX1_setRate_43 : decode cX1_setRate 43 = .ok (.getfield 177, 3) := dk_180 0 177 (dk_at dksX1_setRate_1 21 rfl rfl)
theorem dX1_setRate_46 : decode cX1_setRate 46 = .ok (.iload_n 1, 1) := dk_27 (dk_at dksX1_setRate_2 0 rfl rfl)
theorem dX1_setRate_47 : decode cX1_setRate 47 = .ok (.iload_n 2, 1) := dk_28 (dk_at dksX1_setRate_2 1 rfl rfl)
theorem dX1_setRate_48 : decode cX1_setRate 48 = .ok (.iastore, 1) := dk_79 (dk_at dksX1_setRate_2 2 rfl rfl)
theorem dX1_setRate_49 : decode cX1_setRate 49 = .ok (.iload_n 3, 1) := dk_29 (dk_at dksX1_setRate_2 3 rfl rfl)
theorem dX1_setRate_50 : decode cX1_setRate 50 = .ok (.ireturn, 1) := dk_172 (dk_at dksX1_setRate_2 4 rfl rfl)
abbrev cX1_isPhase : ByteArray := prog_1_method_10_code
def yX1_isPhase : MethodName := ⟨RX1, "isPhase", "(I)Z"⟩
def dkwX1_isPhase_0 : List UInt8 := [26, 3, 6, 184, 0, 52, 172]
abbrev dktX1_isPhase_0 : List UInt8 := dkwX1_isPhase_0 ++ []
theorem dksX1_isPhase_0 : cX1_isPhase.data.toList.drop 0 = dktX1_isPhase_0 := by decide +kernel
theorem dX1_isPhase_0 : decode cX1_isPhase 0 = .ok (.iload_n 0, 1) := dk_26 (dk_at dksX1_isPhase_0 0 rfl rfl)
theorem dX1_isPhase_1 : decode cX1_isPhase 1 = .ok (.iconst 0, 1) := dk_3 (dk_at dksX1_isPhase_0 1 rfl rfl)
theorem dX1_isPhase_2 : decode cX1_isPhase 2 = .ok (.iconst 3, 1) := dk_6 (dk_at dksX1_isPhase_0 2 rfl rfl)
theorem dX1_isPhase_3 : decode cX1_isPhase 3 = .ok (.invokestatic 52, 3) := dk_184 0 52 (dk_at dksX1_isPhase_0 3 rfl rfl)
theorem dX1_isPhase_6 : decode cX1_isPhase 6 = .ok (.ireturn, 1) := dk_172 (dk_at dksX1_isPhase_0 6 rfl rfl)
abbrev cX1_rate : ByteArray := prog_1_method_28_code
def yX1_rate : MethodName := ⟨RX1, "rate", "(I)I"⟩
def dkwX1_rate_0 : List UInt8 := [27, 184, 0, 174, 184, 0, 88, 42, 180, 0, 10, 180, 0, 177, 27, 46, 172]
abbrev dktX1_rate_0 : List UInt8 := dkwX1_rate_0 ++ []
theorem dksX1_rate_0 : cX1_rate.data.toList.drop 0 = dktX1_rate_0 := by decide +kernel
theorem dX1_rate_0 : decode cX1_rate 0 = .ok (.iload_n 1, 1) := dk_27 (dk_at dksX1_rate_0 0 rfl rfl)
theorem dX1_rate_1 : decode cX1_rate 1 = .ok (.invokestatic 174, 3) := dk_184 0 174 (dk_at dksX1_rate_0 1 rfl rfl)
theorem dX1_rate_4 : decode cX1_rate 4 = .ok (.invokestatic 88, 3) := dk_184 0 88 (dk_at dksX1_rate_0 4 rfl rfl)
theorem dX1_rate_7 : decode cX1_rate 7 = .ok (.aload_n 0, 1) := dk_42 (dk_at dksX1_rate_0 7 rfl rfl)
theorem dX1_rate_8 : decode cX1_rate 8 = .ok (.getfield 10, 3) := dk_180 0 10 (dk_at dksX1_rate_0 8 rfl rfl)
theorem dX1_rate_11 : decode cX1_rate 11 = .ok (.getfield 177, 3) := dk_180 0 177 (dk_at dksX1_rate_0 11 rfl rfl)
theorem dX1_rate_14 : decode cX1_rate 14 = .ok (.iload_n 1, 1) := dk_27 (dk_at dksX1_rate_0 14 rfl rfl)
theorem dX1_rate_15 : decode cX1_rate 15 = .ok (.iaload, 1) := dk_46 (dk_at dksX1_rate_0 15 rfl rfl)
theorem dX1_rate_16 : decode cX1_rate 16 = .ok (.ireturn, 1) := dk_172 (dk_at dksX1_rate_0 16 rfl rfl)
abbrev cX1_idAt : ByteArray := prog_1_method_31_code
def yX1_idAt : MethodName := ⟨RX1, "idAt", "(I)I"⟩
def dkwX1_idAt_1 : List UInt8 := [180, 0, 91, 27, 182, 0, 190, 192, 0, 118, 180, 0, 194, 172]
abbrev dktX1_idAt_1 : List UInt8 := dkwX1_idAt_1 ++ []
def dkwX1_idAt_0 : List UInt8 := [27, 3, 42, 180, 0, 10, 180, 0, 91, 182, 0, 95, 4, 100, 184, 0, 52, 184, 0, 187, 42, 180, 0, 10]
abbrev dktX1_idAt_0 : List UInt8 := dkwX1_idAt_0 ++ dktX1_idAt_1
theorem dksX1_idAt_0 : cX1_idAt.data.toList.drop 0 = dktX1_idAt_0 := by decide +kernel
theorem dksX1_idAt_1 : cX1_idAt.data.toList.drop 24 = dktX1_idAt_1 := dk_seg dksX1_idAt_0 24 rfl rfl
theorem dX1_idAt_0 : decode cX1_idAt 0 = .ok (.iload_n 1, 1) := dk_27 (dk_at dksX1_idAt_0 0 rfl rfl)
theorem dX1_idAt_1 : decode cX1_idAt 1 = .ok (.iconst 0, 1) := dk_3 (dk_at dksX1_idAt_0 1 rfl rfl)
theorem dX1_idAt_2 : decode cX1_idAt 2 = .ok (.aload_n 0, 1) := dk_42 (dk_at dksX1_idAt_0 2 rfl rfl)
theorem dX1_idAt_3 : decode cX1_idAt 3 = .ok (.getfield 10, 3) := dk_180 0 10 (dk_at dksX1_idAt_0 3 rfl rfl)
theorem dX1_idAt_6 : decode cX1_idAt 6 = .ok (.getfield 91, 3) := dk_180 0 91 (dk_at dksX1_idAt_0 6 rfl rfl)
theorem dX1_idAt_9 : decode cX1_idAt 9 = .ok (.invokevirtual 95, 3) := dk_182 0 95 (dk_at dksX1_idAt_0 9 rfl rfl)
theorem dX1_idAt_12 : decode cX1_idAt 12 = .ok (.iconst 1, 1) := dk_4 (dk_at dksX1_idAt_0 12 rfl rfl)
theorem dX1_idAt_13 : decode cX1_idAt 13 = .ok (.isub, 1) := dk_100 (dk_at dksX1_idAt_0 13 rfl rfl)
theorem dX1_idAt_14 : decode cX1_idAt 14 = .ok (.invokestatic 52, 3) := dk_184 0 52 (dk_at dksX1_idAt_0 14 rfl rfl)
theorem dX1_idAt_17 : decode cX1_idAt 17 = .ok (.invokestatic 187, 3) := dk_184 0 187 (dk_at dksX1_idAt_0 17 rfl rfl)
theorem dX1_idAt_20 : decode cX1_idAt 20 = .ok (.aload_n 0, 1) := dk_42 (dk_at dksX1_idAt_0 20 rfl rfl)
theorem dX1_idAt_21 : decode cX1_idAt 21 = .ok (.getfield 10, 3) := dk_180 0 10 (dk_at dksX1_idAt_0 21 rfl rfl)
theorem dX1_idAt_24 : decode cX1_idAt 24 = .ok (.getfield 91, 3) := dk_180 0 91 (dk_at dksX1_idAt_1 0 rfl rfl)
theorem dX1_idAt_27 : decode cX1_idAt 27 = .ok (.iload_n 1, 1) := dk_27 (dk_at dksX1_idAt_1 3 rfl rfl)
theorem dX1_idAt_28 : decode cX1_idAt 28 = .ok (.invokevirtual 190, 3) := dk_182 0 190 (dk_at dksX1_idAt_1 4 rfl rfl)
theorem dX1_idAt_31 : decode cX1_idAt 31 = .ok (.checkcast 118, 3) := dk_192 0 118 (dk_at dksX1_idAt_1 7 rfl rfl)
theorem dX1_idAt_34 : decode cX1_idAt 34 = .ok (.getfield 194, 3) := dk_180 0 194 (dk_at dksX1_idAt_1 10 rfl rfl)
theorem dX1_idAt_37 : decode cX1_idAt 37 = .ok (.ireturn, 1) := dk_172 (dk_at dksX1_idAt_1 13 rfl rfl)
abbrev cX1_checkIndex : ByteArray := prog_1_method_5_code
def yX1_checkIndex : MethodName := ⟨RX1, "checkIndex", "(Z)V"⟩
def dkwX1_checkIndex_0 : List UInt8 := [26, 154, 0, 11, 187, 0, 49, 89, 183, 0, 51, 191, 177]
abbrev dktX1_checkIndex_0 : List UInt8 := dkwX1_checkIndex_0 ++ []
theorem dksX1_checkIndex_0 : cX1_checkIndex.data.toList.drop 0 = dktX1_checkIndex_0 := by decide +kernel
theorem dX1_checkIndex_0 : decode cX1_checkIndex 0 = .ok (.iload_n 0, 1) := dk_26 (dk_at dksX1_checkIndex_0 0 rfl rfl)
theorem dX1_checkIndex_1 : decode cX1_checkIndex 1 = .ok (.ifCond .ne 11, 3) := dk_154 0 11 (dk_at dksX1_checkIndex_0 1 rfl rfl)
theorem dX1_checkIndex_4 : decode cX1_checkIndex 4 = .ok (.new 49, 3) := dk_187 0 49 (dk_at dksX1_checkIndex_0 4 rfl rfl)
theorem dX1_checkIndex_7 : decode cX1_checkIndex 7 = .ok (.dup, 1) := dk_89 (dk_at dksX1_checkIndex_0 7 rfl rfl)
theorem dX1_checkIndex_8 : decode cX1_checkIndex 8 = .ok (.invokespecial 51, 3) := dk_183 0 51 (dk_at dksX1_checkIndex_0 8 rfl rfl)
theorem dX1_checkIndex_11 : decode cX1_checkIndex 11 = .ok (.athrow, 1) := dk_191 (dk_at dksX1_checkIndex_0 11 rfl rfl)
theorem dX1_checkIndex_12 : decode cX1_checkIndex 12 = .ok (.return_, 1) := dk_177 (dk_at dksX1_checkIndex_0 12 rfl rfl)
abbrev cX1_debtor : ByteArray := prog_1_method_32_code
def yX1_debtor : MethodName := ⟨RX1, "debtor", "(I)I"⟩
def dkwX1_debtor_0 : List UInt8 := [42, 27, 182, 0, 133, 180, 0, 197, 172]
abbrev dktX1_debtor_0 : List UInt8 := dkwX1_debtor_0 ++ []
theorem dksX1_debtor_0 : cX1_debtor.data.toList.drop 0 = dktX1_debtor_0 := by decide +kernel
theorem dX1_debtor_0 : decode cX1_debtor 0 = .ok (.aload_n 0, 1) := dk_42 (dk_at dksX1_debtor_0 0 rfl rfl)
theorem dX1_debtor_1 : decode cX1_debtor 1 = .ok (.iload_n 1, 1) := dk_27 (dk_at dksX1_debtor_0 1 rfl rfl)
theorem dX1_debtor_2 : decode cX1_debtor 2 = .ok (.invokevirtual 133, 3) := dk_182 0 133 (dk_at dksX1_debtor_0 2 rfl rfl)
theorem dX1_debtor_5 : decode cX1_debtor 5 = .ok (.getfield 197, 3) := dk_180 0 197 (dk_at dksX1_debtor_0 5 rfl rfl)
theorem dX1_debtor_8 : decode cX1_debtor 8 = .ok (.ireturn, 1) := dk_172 (dk_at dksX1_debtor_0 8 rfl rfl)
abbrev cX1_creditor : ByteArray := prog_1_method_33_code
def yX1_creditor : MethodName := ⟨RX1, "creditor", "(I)I"⟩
def dkwX1_creditor_0 : List UInt8 := [42, 27, 182, 0, 133, 180, 0, 200, 172]
abbrev dktX1_creditor_0 : List UInt8 := dkwX1_creditor_0 ++ []
theorem dksX1_creditor_0 : cX1_creditor.data.toList.drop 0 = dktX1_creditor_0 := by decide +kernel
theorem dX1_creditor_0 : decode cX1_creditor 0 = .ok (.aload_n 0, 1) := dk_42 (dk_at dksX1_creditor_0 0 rfl rfl)
theorem dX1_creditor_1 : decode cX1_creditor 1 = .ok (.iload_n 1, 1) := dk_27 (dk_at dksX1_creditor_0 1 rfl rfl)
theorem dX1_creditor_2 : decode cX1_creditor 2 = .ok (.invokevirtual 133, 3) := dk_182 0 133 (dk_at dksX1_creditor_0 2 rfl rfl)
theorem dX1_creditor_5 : decode cX1_creditor 5 = .ok (.getfield 200, 3) := dk_180 0 200 (dk_at dksX1_creditor_0 5 rfl rfl)
theorem dX1_creditor_8 : decode cX1_creditor 8 = .ok (.ireturn, 1) := dk_172 (dk_at dksX1_creditor_0 8 rfl rfl)
abbrev cX1_weight : ByteArray := prog_1_method_34_code
def yX1_weight : MethodName := ⟨RX1, "weight", "(I)I"⟩
def dkwX1_weight_0 : List UInt8 := [42, 27, 182, 0, 133, 180, 0, 162, 172]
abbrev dktX1_weight_0 : List UInt8 := dkwX1_weight_0 ++ []
theorem dksX1_weight_0 : cX1_weight.data.toList.drop 0 = dktX1_weight_0 := by decide +kernel
theorem dX1_weight_0 : decode cX1_weight 0 = .ok (.aload_n 0, 1) := dk_42 (dk_at dksX1_weight_0 0 rfl rfl)
theorem dX1_weight_1 : decode cX1_weight 1 = .ok (.iload_n 1, 1) := dk_27 (dk_at dksX1_weight_0 1 rfl rfl)
theorem dX1_weight_2 : decode cX1_weight 2 = .ok (.invokevirtual 133, 3) := dk_182 0 133 (dk_at dksX1_weight_0 2 rfl rfl)
theorem dX1_weight_5 : decode cX1_weight 5 = .ok (.getfield 162, 3) := dk_180 0 162 (dk_at dksX1_weight_0 5 rfl rfl)
theorem dX1_weight_8 : decode cX1_weight 8 = .ok (.ireturn, 1) := dk_172 (dk_at dksX1_weight_0 8 rfl rfl)
abbrev cX1_expiry : ByteArray := prog_1_method_35_code
def yX1_expiry : MethodName := ⟨RX1, "expiry", "(I)I"⟩
def dkwX1_expiry_0 : List UInt8 := [42, 27, 182, 0, 133, 180, 0, 146, 172]
abbrev dktX1_expiry_0 : List UInt8 := dkwX1_expiry_0 ++ []
theorem dksX1_expiry_0 : cX1_expiry.data.toList.drop 0 = dktX1_expiry_0 := by decide +kernel
theorem dX1_expiry_0 : decode cX1_expiry 0 = .ok (.aload_n 0, 1) := dk_42 (dk_at dksX1_expiry_0 0 rfl rfl)
theorem dX1_expiry_1 : decode cX1_expiry 1 = .ok (.iload_n 1, 1) := dk_27 (dk_at dksX1_expiry_0 1 rfl rfl)
theorem dX1_expiry_2 : decode cX1_expiry 2 = .ok (.invokevirtual 133, 3) := dk_182 0 133 (dk_at dksX1_expiry_0 2 rfl rfl)
theorem dX1_expiry_5 : decode cX1_expiry 5 = .ok (.getfield 146, 3) := dk_180 0 146 (dk_at dksX1_expiry_0 5 rfl rfl)
theorem dX1_expiry_8 : decode cX1_expiry 8 = .ok (.ireturn, 1) := dk_172 (dk_at dksX1_expiry_0 8 rfl rfl)
abbrev cX1_strikes : ByteArray := prog_1_method_36_code
def yX1_strikes : MethodName := ⟨RX1, "strikes", "(I)I"⟩
def dkwX1_strikes_0 : List UInt8 := [42, 27, 182, 0, 133, 180, 0, 203, 172]
abbrev dktX1_strikes_0 : List UInt8 := dkwX1_strikes_0 ++ []
theorem dksX1_strikes_0 : cX1_strikes.data.toList.drop 0 = dktX1_strikes_0 := by decide +kernel
theorem dX1_strikes_0 : decode cX1_strikes 0 = .ok (.aload_n 0, 1) := dk_42 (dk_at dksX1_strikes_0 0 rfl rfl)
theorem dX1_strikes_1 : decode cX1_strikes 1 = .ok (.iload_n 1, 1) := dk_27 (dk_at dksX1_strikes_0 1 rfl rfl)
theorem dX1_strikes_2 : decode cX1_strikes 2 = .ok (.invokevirtual 133, 3) := dk_182 0 133 (dk_at dksX1_strikes_0 2 rfl rfl)
theorem dX1_strikes_5 : decode cX1_strikes 5 = .ok (.getfield 203, 3) := dk_180 0 203 (dk_at dksX1_strikes_0 5 rfl rfl)
theorem dX1_strikes_8 : decode cX1_strikes 8 = .ok (.ireturn, 1) := dk_172 (dk_at dksX1_strikes_0 8 rfl rfl)
abbrev cX1_isSigned : ByteArray := prog_1_method_37_code
def yX1_isSigned : MethodName := ⟨RX1, "isSigned", "(I)Z"⟩
def dkwX1_isSigned_0 : List UInt8 := [42, 27, 182, 0, 133, 182, 0, 117, 172]
abbrev dktX1_isSigned_0 : List UInt8 := dkwX1_isSigned_0 ++ []
theorem dksX1_isSigned_0 : cX1_isSigned.data.toList.drop 0 = dktX1_isSigned_0 := by decide +kernel
theorem dX1_isSigned_0 : decode cX1_isSigned 0 = .ok (.aload_n 0, 1) := dk_42 (dk_at dksX1_isSigned_0 0 rfl rfl)
theorem dX1_isSigned_1 : decode cX1_isSigned 1 = .ok (.iload_n 1, 1) := dk_27 (dk_at dksX1_isSigned_0 1 rfl rfl)
theorem dX1_isSigned_2 : decode cX1_isSigned 2 = .ok (.invokevirtual 133, 3) := dk_182 0 133 (dk_at dksX1_isSigned_0 2 rfl rfl)
theorem dX1_isSigned_5 : decode cX1_isSigned 5 = .ok (.invokevirtual 117, 3) := dk_182 0 117 (dk_at dksX1_isSigned_0 5 rfl rfl)
theorem dX1_isSigned_8 : decode cX1_isSigned 8 = .ok (.ireturn, 1) := dk_172 (dk_at dksX1_isSigned_0 8 rfl rfl)
abbrev cX1_isCountersigned : ByteArray := prog_1_method_38_code
def yX1_isCountersigned : MethodName := ⟨RX1, "isCountersigned", "(I)Z"⟩
def dkwX1_isCountersigned_0 : List UInt8 := [42, 27, 182, 0, 133, 182, 0, 127, 172]
abbrev dktX1_isCountersigned_0 : List UInt8 := dkwX1_isCountersigned_0 ++ []
theorem dksX1_isCountersigned_0 : cX1_isCountersigned.data.toList.drop 0 = dktX1_isCountersigned_0 := by decide +kernel
theorem dX1_isCountersigned_0 : decode cX1_isCountersigned 0 = .ok (.aload_n 0, 1) := dk_42 (dk_at dksX1_isCountersigned_0 0 rfl rfl)
theorem dX1_isCountersigned_1 : decode cX1_isCountersigned 1 = .ok (.iload_n 1, 1) := dk_27 (dk_at dksX1_isCountersigned_0 1 rfl rfl)
theorem dX1_isCountersigned_2 : decode cX1_isCountersigned 2 = .ok (.invokevirtual 133, 3) := dk_182 0 133 (dk_at dksX1_isCountersigned_0 2 rfl rfl)
theorem dX1_isCountersigned_5 : decode cX1_isCountersigned 5 = .ok (.invokevirtual 127, 3) := dk_182 0 127 (dk_at dksX1_isCountersigned_0 5 rfl rfl)
theorem dX1_isCountersigned_8 : decode cX1_isCountersigned 8 = .ok (.ireturn, 1) := dk_172 (dk_at dksX1_isCountersigned_0 8 rfl rfl)
abbrev cX1_signer : ByteArray := prog_1_method_39_code
def yX1_signer : MethodName := ⟨RX1, "signer", "(I)I"⟩
def dkwX1_signer_0 : List UInt8 := [42, 27, 182, 0, 133, 77, 44, 182, 0, 117, 184, 0, 98, 44, 180, 0, 143, 172]
abbrev dktX1_signer_0 : List UInt8 := dkwX1_signer_0 ++ []
theorem dksX1_signer_0 : cX1_signer.data.toList.drop 0 = dktX1_signer_0 := by decide +kernel
theorem dX1_signer_0 : decode cX1_signer 0 = .ok (.aload_n 0, 1) := dk_42 (dk_at dksX1_signer_0 0 rfl rfl)
theorem dX1_signer_1 : decode cX1_signer 1 = .ok (.iload_n 1, 1) := dk_27 (dk_at dksX1_signer_0 1 rfl rfl)
theorem dX1_signer_2 : decode cX1_signer 2 = .ok (.invokevirtual 133, 3) := dk_182 0 133 (dk_at dksX1_signer_0 2 rfl rfl)
theorem dX1_signer_5 : decode cX1_signer 5 = .ok (.astore_n 2, 1) := dk_77 (dk_at dksX1_signer_0 5 rfl rfl)
theorem dX1_signer_6 : decode cX1_signer 6 = .ok (.aload_n 2, 1) := dk_44 (dk_at dksX1_signer_0 6 rfl rfl)
theorem dX1_signer_7 : decode cX1_signer 7 = .ok (.invokevirtual 117, 3) := dk_182 0 117 (dk_at dksX1_signer_0 7 rfl rfl)
theorem dX1_signer_10 : decode cX1_signer 10 = .ok (.invokestatic 98, 3) := dk_184 0 98 (dk_at dksX1_signer_0 10 rfl rfl)
theorem dX1_signer_13 : decode cX1_signer 13 = .ok (.aload_n 2, 1) := dk_44 (dk_at dksX1_signer_0 13 rfl rfl)
theorem dX1_signer_14 : decode cX1_signer 14 = .ok (.getfield 143, 3) := dk_180 0 143 (dk_at dksX1_signer_0 14 rfl rfl)
theorem dX1_signer_17 : decode cX1_signer 17 = .ok (.ireturn, 1) := dk_172 (dk_at dksX1_signer_0 17 rfl rfl)
abbrev cX1_countersigner : ByteArray := prog_1_method_40_code
def yX1_countersigner : MethodName := ⟨RX1, "countersigner", "(I)I"⟩
def dkwX1_countersigner_0 : List UInt8 := [42, 27, 182, 0, 133, 77, 44, 182, 0, 127, 184, 0, 98, 44, 180, 0, 155, 172]
abbrev dktX1_countersigner_0 : List UInt8 := dkwX1_countersigner_0 ++ []
theorem dksX1_countersigner_0 : cX1_countersigner.data.toList.drop 0 = dktX1_countersigner_0 := by decide +kernel
theorem dX1_countersigner_0 : decode cX1_countersigner 0 = .ok (.aload_n 0, 1) := dk_42 (dk_at dksX1_countersigner_0 0 rfl rfl)
theorem dX1_countersigner_1 : decode cX1_countersigner 1 = .ok (.iload_n 1, 1) := dk_27 (dk_at dksX1_countersigner_0 1 rfl rfl)
theorem dX1_countersigner_2 : decode cX1_countersigner 2 = .ok (.invokevirtual 133, 3) := dk_182 0 133 (dk_at dksX1_countersigner_0 2 rfl rfl)
theorem dX1_countersigner_5 : decode cX1_countersigner 5 = .ok (.astore_n 2, 1) := dk_77 (dk_at dksX1_countersigner_0 5 rfl rfl)
theorem dX1_countersigner_6 : decode cX1_countersigner 6 = .ok (.aload_n 2, 1) := dk_44 (dk_at dksX1_countersigner_0 6 rfl rfl)
theorem dX1_countersigner_7 : decode cX1_countersigner 7 = .ok (.invokevirtual 127, 3) := dk_182 0 127 (dk_at dksX1_countersigner_0 7 rfl rfl)
theorem dX1_countersigner_10 : decode cX1_countersigner 10 = .ok (.invokestatic 98, 3) := dk_184 0 98 (dk_at dksX1_countersigner_0 10 rfl rfl)
theorem dX1_countersigner_13 : decode cX1_countersigner 13 = .ok (.aload_n 2, 1) := dk_44 (dk_at dksX1_countersigner_0 13 rfl rfl)
theorem dX1_countersigner_14 : decode cX1_countersigner 14 = .ok (.getfield 155, 3) := dk_180 0 155 (dk_at dksX1_countersigner_0 14 rfl rfl)
theorem dX1_countersigner_17 : decode cX1_countersigner 17 = .ok (.ireturn, 1) := dk_172 (dk_at dksX1_countersigner_0 17 rfl rfl)
abbrev cX1_signaturesOf : ByteArray := prog_1_method_43_code
def yX1_signaturesOf : MethodName := ⟨RX1, "signaturesOf", "(I)I"⟩
def dkwX1_signaturesOf_0 : List UInt8 := [27, 184, 0, 136, 184, 0, 88, 42, 27, 182, 0, 123, 172]
abbrev dktX1_signaturesOf_0 : List UInt8 := dkwX1_signaturesOf_0 ++ []
theorem dksX1_signaturesOf_0 : cX1_signaturesOf.data.toList.drop 0 = dktX1_signaturesOf_0 := by decide +kernel
theorem dX1_signaturesOf_0 : decode cX1_signaturesOf 0 = .ok (.iload_n 1, 1) := dk_27 (dk_at dksX1_signaturesOf_0 0 rfl rfl)
theorem dX1_signaturesOf_1 : decode cX1_signaturesOf 1 = .ok (.invokestatic 136, 3) := dk_184 0 136 (dk_at dksX1_signaturesOf_0 1 rfl rfl)
theorem dX1_signaturesOf_4 : decode cX1_signaturesOf 4 = .ok (.invokestatic 88, 3) := dk_184 0 88 (dk_at dksX1_signaturesOf_0 4 rfl rfl)
theorem dX1_signaturesOf_7 : decode cX1_signaturesOf 7 = .ok (.aload_n 0, 1) := dk_42 (dk_at dksX1_signaturesOf_0 7 rfl rfl)
theorem dX1_signaturesOf_8 : decode cX1_signaturesOf 8 = .ok (.iload_n 1, 1) := dk_27 (dk_at dksX1_signaturesOf_0 8 rfl rfl)
theorem dX1_signaturesOf_9 : decode cX1_signaturesOf 9 = .ok (.invokevirtual 123, 3) := dk_182 0 123 (dk_at dksX1_signaturesOf_0 9 rfl rfl)
theorem dX1_signaturesOf_12 : decode cX1_signaturesOf 12 = .ok (.ireturn, 1) := dk_172 (dk_at dksX1_signaturesOf_0 12 rfl rfl)
abbrev cX1_countersignaturesOf : ByteArray := prog_1_method_44_code
def yX1_countersignaturesOf : MethodName := ⟨RX1, "countersignaturesOf", "(I)I"⟩
def dkwX1_countersignaturesOf_0 : List UInt8 := [27, 184, 0, 149, 184, 0, 88, 42, 27, 182, 0, 130, 172]
abbrev dktX1_countersignaturesOf_0 : List UInt8 := dkwX1_countersignaturesOf_0 ++ []
theorem dksX1_countersignaturesOf_0 : cX1_countersignaturesOf.data.toList.drop 0 = dktX1_countersignaturesOf_0 := by decide +kernel
theorem dX1_countersignaturesOf_0 : decode cX1_countersignaturesOf 0 = .ok (.iload_n 1, 1) := dk_27 (dk_at dksX1_countersignaturesOf_0 0 rfl rfl)
theorem dX1_countersignaturesOf_1 : decode cX1_countersignaturesOf 1 = .ok (.invokestatic 149, 3) := dk_184 0 149 (dk_at dksX1_countersignaturesOf_0 1 rfl rfl)
theorem dX1_countersignaturesOf_4 : decode cX1_countersignaturesOf 4 = .ok (.invokestatic 88, 3) := dk_184 0 88 (dk_at dksX1_countersignaturesOf_0 4 rfl rfl)
theorem dX1_countersignaturesOf_7 : decode cX1_countersignaturesOf 7 = .ok (.aload_n 0, 1) := dk_42 (dk_at dksX1_countersignaturesOf_0 7 rfl rfl)
theorem dX1_countersignaturesOf_8 : decode cX1_countersignaturesOf 8 = .ok (.iload_n 1, 1) := dk_27 (dk_at dksX1_countersignaturesOf_0 8 rfl rfl)
theorem dX1_countersignaturesOf_9 : decode cX1_countersignaturesOf 9 = .ok (.invokevirtual 130, 3) := dk_182 0 130 (dk_at dksX1_countersignaturesOf_0 9 rfl rfl)
theorem dX1_countersignaturesOf_12 : decode cX1_countersignaturesOf 12 = .ok (.ireturn, 1) := dk_172 (dk_at dksX1_countersignaturesOf_0 12 rfl rfl)
abbrev cX1_owedBy : ByteArray := prog_1_method_45_code
def yX1_owedBy : MethodName := ⟨RX1, "owedBy", "(I)I"⟩
def dkwX1_owedBy_0 : List UInt8 := [27, 184, 0, 84, 184, 0, 88, 42, 180, 0, 10, 27, 186, 0, 206, 0, 0, 182, 0, 210, 172]
abbrev dktX1_owedBy_0 : List UInt8 := dkwX1_owedBy_0 ++ []
theorem dksX1_owedBy_0 : cX1_owedBy.data.toList.drop 0 = dktX1_owedBy_0 := by decide +kernel
theorem dX1_owedBy_0 : decode cX1_owedBy 0 = .ok (.iload_n 1, 1) := dk_27 (dk_at dksX1_owedBy_0 0 rfl rfl)
theorem dX1_owedBy_1 : decode cX1_owedBy 1 = .ok (.invokestatic 84, 3) := dk_184 0 84 (dk_at dksX1_owedBy_0 1 rfl rfl)
theorem dX1_owedBy_4 : decode cX1_owedBy 4 = .ok (.invokestatic 88, 3) := dk_184 0 88 (dk_at dksX1_owedBy_0 4 rfl rfl)
theorem dX1_owedBy_7 : decode cX1_owedBy 7 = .ok (.aload_n 0, 1) := dk_42 (dk_at dksX1_owedBy_0 7 rfl rfl)
theorem dX1_owedBy_8 : decode cX1_owedBy 8 = .ok (.getfield 10, 3) := dk_180 0 10 (dk_at dksX1_owedBy_0 8 rfl rfl)
theorem dX1_owedBy_11 : decode cX1_owedBy 11 = .ok (.iload_n 1, 1) := dk_27 (dk_at dksX1_owedBy_0 11 rfl rfl)
theorem dX1_owedBy_12 : decode cX1_owedBy 12 = .ok (.invokedynamic 206, 5) := by decide +kernel
theorem dX1_owedBy_17 : decode cX1_owedBy 17 = .ok (.invokevirtual 210, 3) := dk_182 0 210 (dk_at dksX1_owedBy_0 17 rfl rfl)
theorem dX1_owedBy_20 : decode cX1_owedBy 20 = .ok (.ireturn, 1) := dk_172 (dk_at dksX1_owedBy_0 20 rfl rfl)
abbrev cX1_lambda_owedBy_2 : ByteArray := prog_1_method_110_code
def yX1_lambda_owedBy_2 : MethodName := ⟨RX1, "lambda$owedBy$2", "(ILClaimRegistry$Claim;)I"⟩
def dkwX1_lambda_owedBy_2_0 : List UInt8 := [43, 180, 0, 197, 26, 160, 0, 10, 43, 180, 0, 162, 167, 0, 4, 3, 172]
abbrev dktX1_lambda_owedBy_2_0 : List UInt8 := dkwX1_lambda_owedBy_2_0 ++ []
theorem dksX1_lambda_owedBy_2_0 : cX1_lambda_owedBy_2.data.toList.drop 0 = dktX1_lambda_owedBy_2_0 := by decide +kernel
theorem dX1_lambda_owedBy_2_0 : decode cX1_lambda_owedBy_2 0 = .ok (.aload_n 1, 1) := dk_43 (dk_at dksX1_lambda_owedBy_2_0 0 rfl rfl)
theorem dX1_lambda_owedBy_2_1 : decode cX1_lambda_owedBy_2 1 = .ok (.getfield 197, 3) := dk_180 0 197 (dk_at dksX1_lambda_owedBy_2_0 1 rfl rfl)
theorem dX1_lambda_owedBy_2_4 : decode cX1_lambda_owedBy_2 4 = .ok (.iload_n 0, 1) := dk_26 (dk_at dksX1_lambda_owedBy_2_0 4 rfl rfl)
theorem dX1_lambda_owedBy_2_5 : decode cX1_lambda_owedBy_2 5 = .ok (.if_icmp .ne 10, 3) := dk_160 0 10 (dk_at dksX1_lambda_owedBy_2_0 5 rfl rfl)
theorem dX1_lambda_owedBy_2_8 : decode cX1_lambda_owedBy_2 8 = .ok (.aload_n 1, 1) := dk_43 (dk_at dksX1_lambda_owedBy_2_0 8 rfl rfl)
theorem dX1_lambda_owedBy_2_9 : decode cX1_lambda_owedBy_2 9 = .ok (.getfield 162, 3) := dk_180 0 162 (dk_at dksX1_lambda_owedBy_2_0 9 rfl rfl)
theorem dX1_lambda_owedBy_2_12 : decode cX1_lambda_owedBy_2 12 = .ok (.goto 4, 3) := dk_167 0 4 (dk_at dksX1_lambda_owedBy_2_0 12 rfl rfl)
theorem dX1_lambda_owedBy_2_15 : decode cX1_lambda_owedBy_2 15 = .ok (.iconst 0, 1) := dk_3 (dk_at dksX1_lambda_owedBy_2_0 15 rfl rfl)
theorem dX1_lambda_owedBy_2_16 : decode cX1_lambda_owedBy_2 16 = .ok (.ireturn, 1) := dk_172 (dk_at dksX1_lambda_owedBy_2_0 16 rfl rfl)
abbrev cX1_owedTo : ByteArray := prog_1_method_46_code
def yX1_owedTo : MethodName := ⟨RX1, "owedTo", "(I)I"⟩
def dkwX1_owedTo_0 : List UInt8 := [27, 184, 0, 84, 184, 0, 88, 42, 180, 0, 10, 27, 186, 0, 214, 0, 0, 182, 0, 210, 172]
abbrev dktX1_owedTo_0 : List UInt8 := dkwX1_owedTo_0 ++ []
theorem dksX1_owedTo_0 : cX1_owedTo.data.toList.drop 0 = dktX1_owedTo_0 := by decide +kernel
theorem dX1_owedTo_0 : decode cX1_owedTo 0 = .ok (.iload_n 1, 1) := dk_27 (dk_at dksX1_owedTo_0 0 rfl rfl)
theorem dX1_owedTo_1 : decode cX1_owedTo 1 = .ok (.invokestatic 84, 3) := dk_184 0 84 (dk_at dksX1_owedTo_0 1 rfl rfl)
theorem dX1_owedTo_4 : decode cX1_owedTo 4 = .ok (.invokestatic 88, 3) := dk_184 0 88 (dk_at dksX1_owedTo_0 4 rfl rfl)
theorem dX1_owedTo_7 : decode cX1_owedTo 7 = .ok (.aload_n 0, 1) := dk_42 (dk_at dksX1_owedTo_0 7 rfl rfl)
theorem dX1_owedTo_8 : decode cX1_owedTo 8 = .ok (.getfield 10, 3) := dk_180 0 10 (dk_at dksX1_owedTo_0 8 rfl rfl)
theorem dX1_owedTo_11 : decode cX1_owedTo 11 = .ok (.iload_n 1, 1) := dk_27 (dk_at dksX1_owedTo_0 11 rfl rfl)
theorem dX1_owedTo_12 : decode cX1_owedTo 12 = .ok (.invokedynamic 214, 5) := by decide +kernel
theorem dX1_owedTo_17 : decode cX1_owedTo 17 = .ok (.invokevirtual 210, 3) := dk_182 0 210 (dk_at dksX1_owedTo_0 17 rfl rfl)
theorem dX1_owedTo_20 : decode cX1_owedTo 20 = .ok (.ireturn, 1) := dk_172 (dk_at dksX1_owedTo_0 20 rfl rfl)
abbrev cX1_lambda_owedTo_3 : ByteArray := prog_1_method_109_code
def yX1_lambda_owedTo_3 : MethodName := ⟨RX1, "lambda$owedTo$3", "(ILClaimRegistry$Claim;)I"⟩
def dkwX1_lambda_owedTo_3_0 : List UInt8 := [43, 180, 0, 200, 26, 160, 0, 10, 43, 180, 0, 162, 167, 0, 4, 3, 172]
abbrev dktX1_lambda_owedTo_3_0 : List UInt8 := dkwX1_lambda_owedTo_3_0 ++ []
theorem dksX1_lambda_owedTo_3_0 : cX1_lambda_owedTo_3.data.toList.drop 0 = dktX1_lambda_owedTo_3_0 := by decide +kernel
theorem dX1_lambda_owedTo_3_0 : decode cX1_lambda_owedTo_3 0 = .ok (.aload_n 1, 1) := dk_43 (dk_at dksX1_lambda_owedTo_3_0 0 rfl rfl)
theorem dX1_lambda_owedTo_3_1 : decode cX1_lambda_owedTo_3 1 = .ok (.getfield 200, 3) := dk_180 0 200 (dk_at dksX1_lambda_owedTo_3_0 1 rfl rfl)
theorem dX1_lambda_owedTo_3_4 : decode cX1_lambda_owedTo_3 4 = .ok (.iload_n 0, 1) := dk_26 (dk_at dksX1_lambda_owedTo_3_0 4 rfl rfl)
theorem dX1_lambda_owedTo_3_5 : decode cX1_lambda_owedTo_3 5 = .ok (.if_icmp .ne 10, 3) := dk_160 0 10 (dk_at dksX1_lambda_owedTo_3_0 5 rfl rfl)
theorem dX1_lambda_owedTo_3_8 : decode cX1_lambda_owedTo_3 8 = .ok (.aload_n 1, 1) := dk_43 (dk_at dksX1_lambda_owedTo_3_0 8 rfl rfl)
theorem dX1_lambda_owedTo_3_9 : decode cX1_lambda_owedTo_3 9 = .ok (.getfield 162, 3) := dk_180 0 162 (dk_at dksX1_lambda_owedTo_3_0 9 rfl rfl)
theorem dX1_lambda_owedTo_3_12 : decode cX1_lambda_owedTo_3 12 = .ok (.goto 4, 3) := dk_167 0 4 (dk_at dksX1_lambda_owedTo_3_0 12 rfl rfl)
theorem dX1_lambda_owedTo_3_15 : decode cX1_lambda_owedTo_3 15 = .ok (.iconst 0, 1) := dk_3 (dk_at dksX1_lambda_owedTo_3_0 15 rfl rfl)
theorem dX1_lambda_owedTo_3_16 : decode cX1_lambda_owedTo_3 16 = .ok (.ireturn, 1) := dk_172 (dk_at dksX1_lambda_owedTo_3_0 16 rfl rfl)
abbrev cX1_balance : ByteArray := prog_1_method_49_code
def yX1_balance : MethodName := ⟨RX1, "balance", "(I)I"⟩
def dkwX1_balance_0 : List UInt8 := [27, 184, 0, 84, 184, 0, 88, 42, 27, 182, 0, 216, 172]
abbrev dktX1_balance_0 : List UInt8 := dkwX1_balance_0 ++ []
theorem dksX1_balance_0 : cX1_balance.data.toList.drop 0 = dktX1_balance_0 := by decide +kernel
theorem dX1_balance_0 : decode cX1_balance 0 = .ok (.iload_n 1, 1) := dk_27 (dk_at dksX1_balance_0 0 rfl rfl)
theorem dX1_balance_1 : decode cX1_balance 1 = .ok (.invokestatic 84, 3) := dk_184 0 84 (dk_at dksX1_balance_0 1 rfl rfl)
theorem dX1_balance_4 : decode cX1_balance 4 = .ok (.invokestatic 88, 3) := dk_184 0 88 (dk_at dksX1_balance_0 4 rfl rfl)
theorem dX1_balance_7 : decode cX1_balance 7 = .ok (.aload_n 0, 1) := dk_42 (dk_at dksX1_balance_0 7 rfl rfl)
theorem dX1_balance_8 : decode cX1_balance 8 = .ok (.iload_n 1, 1) := dk_27 (dk_at dksX1_balance_0 8 rfl rfl)
theorem dX1_balance_9 : decode cX1_balance 9 = .ok (.invokevirtual 216, 3) := dk_182 0 216 (dk_at dksX1_balance_0 9 rfl rfl)
theorem dX1_balance_12 : decode cX1_balance 12 = .ok (.ireturn, 1) := dk_172 (dk_at dksX1_balance_0 12 rfl rfl)
abbrev cX1_mostIndebted : ByteArray := prog_1_method_50_code
def yX1_mostIndebted : MethodName := ⟨RX1, "mostIndebted", "()I"⟩
def dkwX1_mostIndebted_2 : List UInt8 := [132, 2, 1, 167, 255, 232, 27, 172]
abbrev dktX1_mostIndebted_2 : List UInt8 := dkwX1_mostIndebted_2 ++ []
def dkwX1_mostIndebted_1 : List UInt8 := [61, 28, 16, 8, 162, 0, 24, 42, 28, 182, 0, 216, 42, 27, 182, 0, 216, 162, 0, 5, 28, 60]
abbrev dktX1_mostIndebted_1 : List UInt8 := dkwX1_mostIndebted_1 ++ dktX1_mostIndebted_2
def dkwX1_mostIndebted_0 : List UInt8 := [42, 180, 0, 10, 180, 0, 91, 182, 0, 219, 154, 0, 7, 4, 167, 0, 4, 3, 184, 0, 80, 3, 60, 4]
abbrev dktX1_mostIndebted_0 : List UInt8 := dkwX1_mostIndebted_0 ++ dktX1_mostIndebted_1
theorem dksX1_mostIndebted_0 : cX1_mostIndebted.data.toList.drop 0 = dktX1_mostIndebted_0 := by decide +kernel
theorem dksX1_mostIndebted_1 : cX1_mostIndebted.data.toList.drop 24 = dktX1_mostIndebted_1 := dk_seg dksX1_mostIndebted_0 24 rfl rfl
theorem dksX1_mostIndebted_2 : cX1_mostIndebted.data.toList.drop 46 = dktX1_mostIndebted_2 := dk_seg dksX1_mostIndebted_1 22 rfl rfl
theorem dX1_mostIndebted_0 : decode cX1_mostIndebted 0 = .ok (.aload_n 0, 1) := dk_42 (dk_at dksX1_mostIndebted_0 0 rfl rfl)
theorem dX1_mostIndebted_1 : decode cX1_mostIndebted 1 = .ok (.getfield 10, 3) := dk_180 0 10 (dk_at dksX1_mostIndebted_0 1 rfl rfl)
theorem dX1_mostIndebted_4 : decode cX1_mostIndebted 4 = .ok (.getfield 91, 3) := dk_180 0 91 (dk_at dksX1_mostIndebted_0 4 rfl rfl)
theorem dX1_mostIndebted_7 : decode cX1_mostIndebted 7 = .ok (.invokevirtual 219, 3) := dk_182 0 219 (dk_at dksX1_mostIndebted_0 7 rfl rfl)
theorem dX1_mostIndebted_10 : decode cX1_mostIndebted 10 = .ok (.ifCond .ne 7, 3) := dk_154 0 7 (dk_at dksX1_mostIndebted_0 10 rfl rfl)
theorem dX1_mostIndebted_13 : decode cX1_mostIndebted 13 = .ok (.iconst 1, 1) := dk_4 (dk_at dksX1_mostIndebted_0 13 rfl rfl)
theorem dX1_mostIndebted_14 : decode cX1_mostIndebted 14 = .ok (.goto 4, 3) := dk_167 0 4 (dk_at dksX1_mostIndebted_0 14 rfl rfl)
theorem dX1_mostIndebted_17 : decode cX1_mostIndebted 17 = .ok (.iconst 0, 1) := dk_3 (dk_at dksX1_mostIndebted_0 17 rfl rfl)
theorem dX1_mostIndebted_18 : decode cX1_mostIndebted 18 = .ok (.invokestatic 80, 3) := dk_184 0 80 (dk_at dksX1_mostIndebted_0 18 rfl rfl)
theorem dX1_mostIndebted_21 : decode cX1_mostIndebted 21 = .ok (.iconst 0, 1) := dk_3 (dk_at dksX1_mostIndebted_0 21 rfl rfl)
theorem dX1_mostIndebted_22 : decode cX1_mostIndebted 22 = .ok (.istore_n 1, 1) := dk_60 (dk_at dksX1_mostIndebted_0 22 rfl rfl)
theorem dX1_mostIndebted_23 : decode cX1_mostIndebted 23 = .ok (.iconst 1, 1) := dk_4 (dk_at dksX1_mostIndebted_0 23 rfl rfl)
theorem dX1_mostIndebted_24 : decode cX1_mostIndebted 24 = .ok (.istore_n 2, 1) := dk_61 (dk_at dksX1_mostIndebted_1 0 rfl rfl)
theorem dX1_mostIndebted_25 : decode cX1_mostIndebted 25 = .ok (.iload_n 2, 1) := dk_28 (dk_at dksX1_mostIndebted_1 1 rfl rfl)
theorem dX1_mostIndebted_26 : decode cX1_mostIndebted 26 = .ok (.bipush 8, 2) := dk_16 8 (dk_at dksX1_mostIndebted_1 2 rfl rfl)
theorem dX1_mostIndebted_28 : decode cX1_mostIndebted 28 = .ok (.if_icmp .ge 24, 3) := dk_162 0 24 (dk_at dksX1_mostIndebted_1 4 rfl rfl)
theorem dX1_mostIndebted_31 : decode cX1_mostIndebted 31 = .ok (.aload_n 0, 1) := dk_42 (dk_at dksX1_mostIndebted_1 7 rfl rfl)
theorem dX1_mostIndebted_32 : decode cX1_mostIndebted 32 = .ok (.iload_n 2, 1) := dk_28 (dk_at dksX1_mostIndebted_1 8 rfl rfl)
theorem dX1_mostIndebted_33 : decode cX1_mostIndebted 33 = .ok (.invokevirtual 216, 3) := dk_182 0 216 (dk_at dksX1_mostIndebted_1 9 rfl rfl)
theorem dX1_mostIndebted_36 : decode cX1_mostIndebted 36 = .ok (.aload_n 0, 1) := dk_42 (dk_at dksX1_mostIndebted_1 12 rfl rfl)
theorem dX1_mostIndebted_37 : decode cX1_mostIndebted 37 = .ok (.iload_n 1, 1) := dk_27 (dk_at dksX1_mostIndebted_1 13 rfl rfl)
theorem dX1_mostIndebted_38 : decode cX1_mostIndebted 38 = .ok (.invokevirtual 216, 3) := dk_182 0 216 (dk_at dksX1_mostIndebted_1 14 rfl rfl)
theorem dX1_mostIndebted_41 : decode cX1_mostIndebted 41 = .ok (.if_icmp .ge 5, 3) := dk_162 0 5 (dk_at dksX1_mostIndebted_1 17 rfl rfl)
theorem dX1_mostIndebted_44 : decode cX1_mostIndebted 44 = .ok (.iload_n 2, 1) := dk_28 (dk_at dksX1_mostIndebted_1 20 rfl rfl)
theorem dX1_mostIndebted_45 : decode cX1_mostIndebted 45 = .ok (.istore_n 1, 1) := dk_60 (dk_at dksX1_mostIndebted_1 21 rfl rfl)
theorem dX1_mostIndebted_46 : decode cX1_mostIndebted 46 = .ok (.iinc 2 1, 3) := dk_132 2 1 (dk_at dksX1_mostIndebted_2 0 rfl rfl)
theorem dX1_mostIndebted_49 : decode cX1_mostIndebted 49 = .ok (.goto (-24), 3) := dk_167 255 232 (dk_at dksX1_mostIndebted_2 3 rfl rfl)
theorem dX1_mostIndebted_52 : decode cX1_mostIndebted 52 = .ok (.iload_n 1, 1) := dk_27 (dk_at dksX1_mostIndebted_2 6 rfl rfl)
theorem dX1_mostIndebted_53 : decode cX1_mostIndebted 53 = .ok (.ireturn, 1) := dk_172 (dk_at dksX1_mostIndebted_2 7 rfl rfl)
abbrev cX1_heaviest : ByteArray := prog_1_method_53_code
def yX1_heaviest : MethodName := ⟨RX1, "heaviest", "()I"⟩
def dkwX1_heaviest_0 : List UInt8 := [42, 186, 0, 226, 0, 0, 182, 0, 229, 180, 0, 194, 172]
abbrev dktX1_heaviest_0 : List UInt8 := dkwX1_heaviest_0 ++ []
theorem dksX1_heaviest_0 : cX1_heaviest.data.toList.drop 0 = dktX1_heaviest_0 := by decide +kernel
theorem dX1_heaviest_0 : decode cX1_heaviest 0 = .ok (.aload_n 0, 1) := dk_42 (dk_at dksX1_heaviest_0 0 rfl rfl)
theorem dX1_heaviest_1 : decode cX1_heaviest 1 = .ok (.invokedynamic 226, 5) := by decide +kernel
theorem dX1_heaviest_6 : decode cX1_heaviest 6 = .ok (.invokevirtual 229, 3) := dk_182 0 229 (dk_at dksX1_heaviest_0 6 rfl rfl)
theorem dX1_heaviest_9 : decode cX1_heaviest 9 = .ok (.getfield 194, 3) := dk_180 0 194 (dk_at dksX1_heaviest_0 9 rfl rfl)
theorem dX1_heaviest_12 : decode cX1_heaviest 12 = .ok (.ireturn, 1) := dk_172 (dk_at dksX1_heaviest_0 12 rfl rfl)
abbrev cX1_lambda_heaviest_5 : ByteArray := prog_1_method_107_code
def yX1_lambda_heaviest_5 : MethodName := ⟨RX1, "lambda$heaviest$5", "(LClaimRegistry$Claim;)I"⟩
def dkwX1_lambda_heaviest_5_0 : List UInt8 := [42, 180, 0, 162, 116, 172]
abbrev dktX1_lambda_heaviest_5_0 : List UInt8 := dkwX1_lambda_heaviest_5_0 ++ []
theorem dksX1_lambda_heaviest_5_0 : cX1_lambda_heaviest_5.data.toList.drop 0 = dktX1_lambda_heaviest_5_0 := by decide +kernel
theorem dX1_lambda_heaviest_5_0 : decode cX1_lambda_heaviest_5 0 = .ok (.aload_n 0, 1) := dk_42 (dk_at dksX1_lambda_heaviest_5_0 0 rfl rfl)
theorem dX1_lambda_heaviest_5_1 : decode cX1_lambda_heaviest_5 1 = .ok (.getfield 162, 3) := dk_180 0 162 (dk_at dksX1_lambda_heaviest_5_0 1 rfl rfl)
theorem dX1_lambda_heaviest_5_4 : decode cX1_lambda_heaviest_5 4 = .ok (.ineg, 1) := dk_116 (dk_at dksX1_lambda_heaviest_5_0 4 rfl rfl)
theorem dX1_lambda_heaviest_5_5 : decode cX1_lambda_heaviest_5 5 = .ok (.ireturn, 1) := dk_172 (dk_at dksX1_lambda_heaviest_5_0 5 rfl rfl)
abbrev cX1_lowest : ByteArray := prog_1_method_51_code
def yX1_lowest : MethodName := ⟨RX1, "lowest", "(LClaimRegistry$ClaimValue;)LClaimRegistry$Claim;"⟩
def dkwX1_lowest_0 : List UInt8 := [42, 180, 0, 10, 43, 182, 0, 222, 77, 44, 198, 0, 7, 4, 167, 0, 4, 3, 184, 0, 80, 44, 176]
abbrev dktX1_lowest_0 : List UInt8 := dkwX1_lowest_0 ++ []
theorem dksX1_lowest_0 : cX1_lowest.data.toList.drop 0 = dktX1_lowest_0 := by decide +kernel
theorem dX1_lowest_0 : decode cX1_lowest 0 = .ok (.aload_n 0, 1) := dk_42 (dk_at dksX1_lowest_0 0 rfl rfl)
theorem dX1_lowest_1 : decode cX1_lowest 1 = .ok (.getfield 10, 3) := dk_180 0 10 (dk_at dksX1_lowest_0 1 rfl rfl)
theorem dX1_lowest_4 : decode cX1_lowest 4 = .ok (.aload_n 1, 1) := dk_43 (dk_at dksX1_lowest_0 4 rfl rfl)
theorem dX1_lowest_5 : decode cX1_lowest 5 = .ok (.invokevirtual 222, 3) := dk_182 0 222 (dk_at dksX1_lowest_0 5 rfl rfl)
theorem dX1_lowest_8 : decode cX1_lowest 8 = .ok (.astore_n 2, 1) := dk_77 (dk_at dksX1_lowest_0 8 rfl rfl)
theorem dX1_lowest_9 : decode cX1_lowest 9 = .ok (.aload_n 2, 1) := dk_44 (dk_at dksX1_lowest_0 9 rfl rfl)
theorem dX1_lowest_10 : decode cX1_lowest 10 = .ok (.ifnull 7, 3) := dk_198 0 7 (dk_at dksX1_lowest_0 10 rfl rfl)
theorem dX1_lowest_13 : decode cX1_lowest 13 = .ok (.iconst 1, 1) := dk_4 (dk_at dksX1_lowest_0 13 rfl rfl)
theorem dX1_lowest_14 : decode cX1_lowest 14 = .ok (.goto 4, 3) := dk_167 0 4 (dk_at dksX1_lowest_0 14 rfl rfl)
theorem dX1_lowest_17 : decode cX1_lowest 17 = .ok (.iconst 0, 1) := dk_3 (dk_at dksX1_lowest_0 17 rfl rfl)
theorem dX1_lowest_18 : decode cX1_lowest 18 = .ok (.invokestatic 80, 3) := dk_184 0 80 (dk_at dksX1_lowest_0 18 rfl rfl)
theorem dX1_lowest_21 : decode cX1_lowest 21 = .ok (.aload_n 2, 1) := dk_44 (dk_at dksX1_lowest_0 21 rfl rfl)
theorem dX1_lowest_22 : decode cX1_lowest 22 = .ok (.areturn, 1) := dk_176 (dk_at dksX1_lowest_0 22 rfl rfl)
abbrev cX1_nextExpiry : ByteArray := prog_1_method_54_code
def yX1_nextExpiry : MethodName := ⟨RX1, "nextExpiry", "()I"⟩
def dkwX1_nextExpiry_0 : List UInt8 := [42, 186, 0, 230, 0, 0, 182, 0, 229, 180, 0, 146, 172]
abbrev dktX1_nextExpiry_0 : List UInt8 := dkwX1_nextExpiry_0 ++ []
theorem dksX1_nextExpiry_0 : cX1_nextExpiry.data.toList.drop 0 = dktX1_nextExpiry_0 := by decide +kernel
theorem dX1_nextExpiry_0 : decode cX1_nextExpiry 0 = .ok (.aload_n 0, 1) := dk_42 (dk_at dksX1_nextExpiry_0 0 rfl rfl)
theorem dX1_nextExpiry_1 : decode cX1_nextExpiry 1 = .ok (.invokedynamic 230, 5) := by decide +kernel
theorem dX1_nextExpiry_6 : decode cX1_nextExpiry 6 = .ok (.invokevirtual 229, 3) := dk_182 0 229 (dk_at dksX1_nextExpiry_0 6 rfl rfl)
theorem dX1_nextExpiry_9 : decode cX1_nextExpiry 9 = .ok (.getfield 146, 3) := dk_180 0 146 (dk_at dksX1_nextExpiry_0 9 rfl rfl)
theorem dX1_nextExpiry_12 : decode cX1_nextExpiry 12 = .ok (.ireturn, 1) := dk_172 (dk_at dksX1_nextExpiry_0 12 rfl rfl)
abbrev cX1_expiryOf : ByteArray := prog_1_method_52_code
def yX1_expiryOf : MethodName := ⟨RX1, "expiryOf", "(LClaimRegistry$Claim;)I"⟩
theorem dX1_expiryOf_0 : decode cX1_expiryOf 0 = .ok (.aload_n 0, 1) := by decide +kernel
theorem dX1_expiryOf_1 : decode cX1_expiryOf 1 = .ok (.getfield 146, 3) := by decide +kernel
theorem dX1_expiryOf_4 : decode cX1_expiryOf 4 = .ok (.ireturn, 1) := by decide +kernel
abbrev cX1_nextToAudit : ByteArray := prog_1_method_55_code
def yX1_nextToAudit : MethodName := ⟨RX1, "nextToAudit", "()I"⟩
def dkwX1_nextToAudit_1 : List UInt8 := [180, 0, 10, 180, 0, 231, 182, 0, 235, 192, 0, 238, 182, 0, 240, 172]
abbrev dktX1_nextToAudit_1 : List UInt8 := dkwX1_nextToAudit_1 ++ []
def dkwX1_nextToAudit_0 : List UInt8 := [42, 180, 0, 10, 180, 0, 231, 182, 0, 234, 154, 0, 7, 4, 167, 0, 4, 3, 184, 0, 80, 42]
abbrev dktX1_nextToAudit_0 : List UInt8 := dkwX1_nextToAudit_0 ++ dktX1_nextToAudit_1
theorem dksX1_nextToAudit_0 : cX1_nextToAudit.data.toList.drop 0 = dktX1_nextToAudit_0 := by decide +kernel
theorem dksX1_nextToAudit_1 : cX1_nextToAudit.data.toList.drop 22 = dktX1_nextToAudit_1 := dk_seg dksX1_nextToAudit_0 22 rfl rfl
theorem dX1_nextToAudit_0 : decode cX1_nextToAudit 0 = .ok (.aload_n 0, 1) := dk_42 (dk_at dksX1_nextToAudit_0 0 rfl rfl)
theorem dX1_nextToAudit_1 : decode cX1_nextToAudit 1 = .ok (.getfield 10, 3) := dk_180 0 10 (dk_at dksX1_nextToAudit_0 1 rfl rfl)
theorem dX1_nextToAudit_4 : decode cX1_nextToAudit 4 = .ok (.getfield 231, 3) := dk_180 0 231 (dk_at dksX1_nextToAudit_0 4 rfl rfl)
theorem dX1_nextToAudit_7 : decode cX1_nextToAudit 7 = .ok (.invokevirtual 234, 3) := dk_182 0 234 (dk_at dksX1_nextToAudit_0 7 rfl rfl)
theorem dX1_nextToAudit_10 : decode cX1_nextToAudit 10 = .ok (.ifCond .ne 7, 3) := dk_154 0 7 (dk_at dksX1_nextToAudit_0 10 rfl rfl)
theorem dX1_nextToAudit_13 : decode cX1_nextToAudit 13 = .ok (.iconst 1, 1) := dk_4 (dk_at dksX1_nextToAudit_0 13 rfl rfl)
theorem dX1_nextToAudit_14 : decode cX1_nextToAudit 14 = .ok (.goto 4, 3) := dk_167 0 4 (dk_at dksX1_nextToAudit_0 14 rfl rfl)
theorem dX1_nextToAudit_17 : decode cX1_nextToAudit 17 = .ok (.iconst 0, 1) := dk_3 (dk_at dksX1_nextToAudit_0 17 rfl rfl)
theorem dX1_nextToAudit_18 : decode cX1_nextToAudit 18 = .ok (.invokestatic 80, 3) := dk_184 0 80 (dk_at dksX1_nextToAudit_0 18 rfl rfl)
theorem dX1_nextToAudit_21 : decode cX1_nextToAudit 21 = .ok (.aload_n 0, 1) := dk_42 (dk_at dksX1_nextToAudit_0 21 rfl rfl)
theorem dX1_nextToAudit_22 : decode cX1_nextToAudit 22 = .ok (.getfield 10, 3) := dk_180 0 10 (dk_at dksX1_nextToAudit_1 0 rfl rfl)
theorem dX1_nextToAudit_25 : decode cX1_nextToAudit 25 = .ok (.getfield 231, 3) := dk_180 0 231 (dk_at dksX1_nextToAudit_1 3 rfl rfl)
theorem dX1_nextToAudit_28 : decode cX1_nextToAudit 28 = .ok (.invokevirtual 235, 3) := dk_182 0 235 (dk_at dksX1_nextToAudit_1 6 rfl rfl)
theorem dX1_nextToAudit_31 : decode cX1_nextToAudit 31 = .ok (.checkcast 238, 3) := dk_192 0 238 (dk_at dksX1_nextToAudit_1 9 rfl rfl)
theorem dX1_nextToAudit_34 : decode cX1_nextToAudit 34 = .ok (.invokevirtual 240, 3) := dk_182 0 240 (dk_at dksX1_nextToAudit_1 12 rfl rfl)
theorem dX1_nextToAudit_37 : decode cX1_nextToAudit 37 = .ok (.ireturn, 1) := dk_172 (dk_at dksX1_nextToAudit_1 15 rfl rfl)
abbrev cX1_auditPosition : ByteArray := prog_1_method_56_code
def yX1_auditPosition : MethodName := ⟨RX1, "auditPosition", "(I)I"⟩
def dkwX1_auditPosition_2 : List UInt8 := [27, 160, 0, 5, 28, 172, 132, 2, 1, 167, 255, 222, 187, 0, 46, 89, 183, 0, 48, 191]
abbrev dktX1_auditPosition_2 : List UInt8 := dkwX1_auditPosition_2 ++ []
def dkwX1_auditPosition_1 : List UInt8 := [185, 0, 247, 1, 0, 153, 0, 31, 45, 185, 0, 252, 1, 0, 192, 0, 238, 182, 0, 240, 54, 4, 21, 4]
abbrev dktX1_auditPosition_1 : List UInt8 := dkwX1_auditPosition_1 ++ dktX1_auditPosition_2
def dkwX1_auditPosition_0 : List UInt8 := [42, 27, 182, 0, 133, 87, 3, 61, 42, 180, 0, 10, 180, 0, 231, 182, 0, 243, 78, 45]
abbrev dktX1_auditPosition_0 : List UInt8 := dkwX1_auditPosition_0 ++ dktX1_auditPosition_1
theorem dksX1_auditPosition_0 : cX1_auditPosition.data.toList.drop 0 = dktX1_auditPosition_0 := by decide +kernel
theorem dksX1_auditPosition_1 : cX1_auditPosition.data.toList.drop 20 = dktX1_auditPosition_1 := dk_seg dksX1_auditPosition_0 20 rfl rfl
theorem dksX1_auditPosition_2 : cX1_auditPosition.data.toList.drop 44 = dktX1_auditPosition_2 := dk_seg dksX1_auditPosition_1 24 rfl rfl
theorem dX1_auditPosition_0 : decode cX1_auditPosition 0 = .ok (.aload_n 0, 1) := dk_42 (dk_at dksX1_auditPosition_0 0 rfl rfl)
theorem dX1_auditPosition_1 : decode cX1_auditPosition 1 = .ok (.iload_n 1, 1) := dk_27 (dk_at dksX1_auditPosition_0 1 rfl rfl)
theorem dX1_auditPosition_2 : decode cX1_auditPosition 2 = .ok (.invokevirtual 133, 3) := dk_182 0 133 (dk_at dksX1_auditPosition_0 2 rfl rfl)
theorem dX1_auditPosition_5 : decode cX1_auditPosition 5 = .ok (.pop, 1) := dk_87 (dk_at dksX1_auditPosition_0 5 rfl rfl)
theorem dX1_auditPosition_6 : decode cX1_auditPosition 6 = .ok (.iconst 0, 1) := dk_3 (dk_at dksX1_auditPosition_0 6 rfl rfl)
theorem dX1_auditPosition_7 : decode cX1_auditPosition 7 = .ok (.istore_n 2, 1) := dk_61 (dk_at dksX1_auditPosition_0 7 rfl rfl)
theorem dX1_auditPosition_8 : decode cX1_auditPosition 8 = .ok (.aload_n 0, 1) := dk_42 (dk_at dksX1_auditPosition_0 8 rfl rfl)
theorem dX1_auditPosition_9 : decode cX1_auditPosition 9 = .ok (.getfield 10, 3) := dk_180 0 10 (dk_at dksX1_auditPosition_0 9 rfl rfl)
theorem dX1_auditPosition_12 : decode cX1_auditPosition 12 = .ok (.getfield 231, 3) := dk_180 0 231 (dk_at dksX1_auditPosition_0 12 rfl rfl)
theorem dX1_auditPosition_15 : decode cX1_auditPosition 15 = .ok (.invokevirtual 243, 3) := dk_182 0 243 (dk_at dksX1_auditPosition_0 15 rfl rfl)
theorem dX1_auditPosition_18 : decode cX1_auditPosition 18 = .ok (.astore_n 3, 1) := dk_78 (dk_at dksX1_auditPosition_0 18 rfl rfl)
theorem dX1_auditPosition_19 : decode cX1_auditPosition 19 = .ok (.aload_n 3, 1) := dk_45 (dk_at dksX1_auditPosition_0 19 rfl rfl)
theorem dX1_auditPosition_20 : decode cX1_auditPosition 20 = .ok (.invokeinterface 247 1, 5) := by decide +kernel
theorem dX1_auditPosition_25 : decode cX1_auditPosition 25 = .ok (.ifCond .eq 31, 3) := dk_153 0 31 (dk_at dksX1_auditPosition_1 5 rfl rfl)
theorem dX1_auditPosition_28 : decode cX1_auditPosition 28 = .ok (.aload_n 3, 1) := dk_45 (dk_at dksX1_auditPosition_1 8 rfl rfl)
theorem dX1_auditPosition_29 : decode cX1_auditPosition 29 = .ok (.invokeinterface 252 1, 5) := by decide +kernel
theorem dX1_auditPosition_34 : decode cX1_auditPosition 34 = .ok (.checkcast 238, 3) := dk_192 0 238 (dk_at dksX1_auditPosition_1 14 rfl rfl)
theorem dX1_auditPosition_37 : decode cX1_auditPosition 37 = .ok (.invokevirtual 240, 3) := dk_182 0 240 (dk_at dksX1_auditPosition_1 17 rfl rfl)
theorem dX1_auditPosition_40 : decode cX1_auditPosition 40 = .ok (.istore 4, 2) := dk_54 4 (dk_at dksX1_auditPosition_1 20 rfl rfl)
theorem dX1_auditPosition_42 : decode cX1_auditPosition 42 = .ok (.iload 4, 2) := dk_21 4 (dk_at dksX1_auditPosition_1 22 rfl rfl)
theorem dX1_auditPosition_44 : decode cX1_auditPosition 44 = .ok (.iload_n 1, 1) := dk_27 (dk_at dksX1_auditPosition_2 0 rfl rfl)
theorem dX1_auditPosition_45 : decode cX1_auditPosition 45 = .ok (.if_icmp .ne 5, 3) := dk_160 0 5 (dk_at dksX1_auditPosition_2 1 rfl rfl)
theorem dX1_auditPosition_48 : decode cX1_auditPosition 48 = .ok (.iload_n 2, 1) := dk_28 (dk_at dksX1_auditPosition_2 4 rfl rfl)
theorem dX1_auditPosition_49 : decode cX1_auditPosition 49 = .ok (.ireturn, 1) := dk_172 (dk_at dksX1_auditPosition_2 5 rfl rfl)
theorem dX1_auditPosition_50 : decode cX1_auditPosition 50 = .ok (.iinc 2 1, 3) := dk_132 2 1 (dk_at dksX1_auditPosition_2 6 rfl rfl)
theorem dX1_auditPosition_53 : decode cX1_auditPosition 53 = .ok (.goto (-34), 3) := dk_167 255 222 (dk_at dksX1_auditPosition_2 9 rfl rfl)
theorem dX1_auditPosition_56 : decode cX1_auditPosition 56 = .ok (.new 46, 3) := dk_187 0 46 (dk_at dksX1_auditPosition_2 12 rfl rfl)
theorem dX1_auditPosition_59 : decode cX1_auditPosition 59 = .ok (.dup, 1) := dk_89 (dk_at dksX1_auditPosition_2 15 rfl rfl)
theorem dX1_auditPosition_60 : decode cX1_auditPosition 60 = .ok (.invokespecial 48, 3) := dk_183 0 48 (dk_at dksX1_auditPosition_2 16 rfl rfl)
theorem dX1_auditPosition_63 : decode cX1_auditPosition 63 = .ok (.athrow, 1) := dk_191 (dk_at dksX1_auditPosition_2 19 rfl rfl)
abbrev cX1_owes : ByteArray := prog_1_method_59_code
def yX1_owes : MethodName := ⟨RX1, "owes", "(II)Z"⟩
def dkwX1_owes_0 : List UInt8 := [27, 28, 184, 1, 2, 42, 27, 28, 182, 1, 6, 172]
abbrev dktX1_owes_0 : List UInt8 := dkwX1_owes_0 ++ []
theorem dksX1_owes_0 : cX1_owes.data.toList.drop 0 = dktX1_owes_0 := by decide +kernel
theorem dX1_owes_0 : decode cX1_owes 0 = .ok (.iload_n 1, 1) := dk_27 (dk_at dksX1_owes_0 0 rfl rfl)
theorem dX1_owes_1 : decode cX1_owes 1 = .ok (.iload_n 2, 1) := dk_28 (dk_at dksX1_owes_0 1 rfl rfl)
theorem dX1_owes_2 : decode cX1_owes 2 = .ok (.invokestatic 258, 3) := dk_184 1 2 (dk_at dksX1_owes_0 2 rfl rfl)
theorem dX1_owes_5 : decode cX1_owes 5 = .ok (.aload_n 0, 1) := dk_42 (dk_at dksX1_owes_0 5 rfl rfl)
theorem dX1_owes_6 : decode cX1_owes 6 = .ok (.iload_n 1, 1) := dk_27 (dk_at dksX1_owes_0 6 rfl rfl)
theorem dX1_owes_7 : decode cX1_owes 7 = .ok (.iload_n 2, 1) := dk_28 (dk_at dksX1_owes_0 7 rfl rfl)
theorem dX1_owes_8 : decode cX1_owes 8 = .ok (.invokevirtual 262, 3) := dk_182 1 6 (dk_at dksX1_owes_0 8 rfl rfl)
theorem dX1_owes_11 : decode cX1_owes 11 = .ok (.ireturn, 1) := dk_172 (dk_at dksX1_owes_0 11 rfl rfl)
abbrev cX1_checkPersons : ByteArray := prog_1_method_57_code
def yX1_checkPersons : MethodName := ⟨RX1, "checkPersons", "(II)V"⟩
def dkwX1_checkPersons_0 : List UInt8 := [26, 184, 0, 84, 153, 0, 14, 27, 184, 0, 84, 153, 0, 7, 4, 167, 0, 4, 3, 184, 0, 88, 177]
abbrev dktX1_checkPersons_0 : List UInt8 := dkwX1_checkPersons_0 ++ []
theorem dksX1_checkPersons_0 : cX1_checkPersons.data.toList.drop 0 = dktX1_checkPersons_0 := by decide +kernel
theorem dX1_checkPersons_0 : decode cX1_checkPersons 0 = .ok (.iload_n 0, 1) := dk_26 (dk_at dksX1_checkPersons_0 0 rfl rfl)
theorem dX1_checkPersons_1 : decode cX1_checkPersons 1 = .ok (.invokestatic 84, 3) := dk_184 0 84 (dk_at dksX1_checkPersons_0 1 rfl rfl)
theorem dX1_checkPersons_4 : decode cX1_checkPersons 4 = .ok (.ifCond .eq 14, 3) := dk_153 0 14 (dk_at dksX1_checkPersons_0 4 rfl rfl)
theorem dX1_checkPersons_7 : decode cX1_checkPersons 7 = .ok (.iload_n 1, 1) := dk_27 (dk_at dksX1_checkPersons_0 7 rfl rfl)
theorem dX1_checkPersons_8 : decode cX1_checkPersons 8 = .ok (.invokestatic 84, 3) := dk_184 0 84 (dk_at dksX1_checkPersons_0 8 rfl rfl)
theorem dX1_checkPersons_11 : decode cX1_checkPersons 11 = .ok (.ifCond .eq 7, 3) := dk_153 0 7 (dk_at dksX1_checkPersons_0 11 rfl rfl)
theorem dX1_checkPersons_14 : decode cX1_checkPersons 14 = .ok (.iconst 1, 1) := dk_4 (dk_at dksX1_checkPersons_0 14 rfl rfl)
theorem dX1_checkPersons_15 : decode cX1_checkPersons 15 = .ok (.goto 4, 3) := dk_167 0 4 (dk_at dksX1_checkPersons_0 15 rfl rfl)
theorem dX1_checkPersons_18 : decode cX1_checkPersons 18 = .ok (.iconst 0, 1) := dk_3 (dk_at dksX1_checkPersons_0 18 rfl rfl)
theorem dX1_checkPersons_19 : decode cX1_checkPersons 19 = .ok (.invokestatic 88, 3) := dk_184 0 88 (dk_at dksX1_checkPersons_0 19 rfl rfl)
theorem dX1_checkPersons_22 : decode cX1_checkPersons 22 = .ok (.return_, 1) := dk_177 (dk_at dksX1_checkPersons_0 22 rfl rfl)
abbrev cX1_isOwed : ByteArray := prog_1_method_58_code
def yX1_isOwed : MethodName := ⟨RX1, "isOwed", "(II)Z"⟩
def dkwX1_isOwed_0 : List UInt8 := [42, 180, 0, 10, 27, 28, 186, 0, 255, 0, 0, 182, 0, 112, 158, 0, 7, 4, 167, 0, 4, 3, 172]
abbrev dktX1_isOwed_0 : List UInt8 := dkwX1_isOwed_0 ++ []
theorem dksX1_isOwed_0 : cX1_isOwed.data.toList.drop 0 = dktX1_isOwed_0 := by decide +kernel
theorem dX1_isOwed_0 : decode cX1_isOwed 0 = .ok (.aload_n 0, 1) := dk_42 (dk_at dksX1_isOwed_0 0 rfl rfl)
theorem dX1_isOwed_1 : decode cX1_isOwed 1 = .ok (.getfield 10, 3) := dk_180 0 10 (dk_at dksX1_isOwed_0 1 rfl rfl)
theorem dX1_isOwed_4 : decode cX1_isOwed 4 = .ok (.iload_n 1, 1) := dk_27 (dk_at dksX1_isOwed_0 4 rfl rfl)
theorem dX1_isOwed_5 : decode cX1_isOwed 5 = .ok (.iload_n 2, 1) := dk_28 (dk_at dksX1_isOwed_0 5 rfl rfl)
theorem dX1_isOwed_6 : decode cX1_isOwed 6 = .ok (.invokedynamic 255, 5) := by decide +kernel
theorem dX1_isOwed_11 : decode cX1_isOwed 11 = .ok (.invokevirtual 112, 3) := dk_182 0 112 (dk_at dksX1_isOwed_0 11 rfl rfl)
theorem dX1_isOwed_14 : decode cX1_isOwed 14 = .ok (.ifCond .le 7, 3) := dk_158 0 7 (dk_at dksX1_isOwed_0 14 rfl rfl)
theorem dX1_isOwed_17 : decode cX1_isOwed 17 = .ok (.iconst 1, 1) := dk_4 (dk_at dksX1_isOwed_0 17 rfl rfl)
theorem dX1_isOwed_18 : decode cX1_isOwed 18 = .ok (.goto 4, 3) := dk_167 0 4 (dk_at dksX1_isOwed_0 18 rfl rfl)
theorem dX1_isOwed_21 : decode cX1_isOwed 21 = .ok (.iconst 0, 1) := dk_3 (dk_at dksX1_isOwed_0 21 rfl rfl)
theorem dX1_isOwed_22 : decode cX1_isOwed 22 = .ok (.ireturn, 1) := dk_172 (dk_at dksX1_isOwed_0 22 rfl rfl)
abbrev cX1_lambda_isOwed_6 : ByteArray := prog_1_method_106_code
def yX1_lambda_isOwed_6 : MethodName := ⟨RX1, "lambda$isOwed$6", "(IILClaimRegistry$Claim;)Z"⟩
def dkwX1_lambda_isOwed_6_0 : List UInt8 := [44, 180, 0, 197, 26, 160, 0, 15, 44, 180, 0, 200, 27, 160, 0, 7, 4, 167, 0, 4, 3, 172]
abbrev dktX1_lambda_isOwed_6_0 : List UInt8 := dkwX1_lambda_isOwed_6_0 ++ []
theorem dksX1_lambda_isOwed_6_0 : cX1_lambda_isOwed_6.data.toList.drop 0 = dktX1_lambda_isOwed_6_0 := by decide +kernel
theorem dX1_lambda_isOwed_6_0 : decode cX1_lambda_isOwed_6 0 = .ok (.aload_n 2, 1) := dk_44 (dk_at dksX1_lambda_isOwed_6_0 0 rfl rfl)
theorem dX1_lambda_isOwed_6_1 : decode cX1_lambda_isOwed_6 1 = .ok (.getfield 197, 3) := dk_180 0 197 (dk_at dksX1_lambda_isOwed_6_0 1 rfl rfl)
theorem dX1_lambda_isOwed_6_4 : decode cX1_lambda_isOwed_6 4 = .ok (.iload_n 0, 1) := dk_26 (dk_at dksX1_lambda_isOwed_6_0 4 rfl rfl)
theorem dX1_lambda_isOwed_6_5 : decode cX1_lambda_isOwed_6 5 = .ok (.if_icmp .ne 15, 3) := dk_160 0 15 (dk_at dksX1_lambda_isOwed_6_0 5 rfl rfl)
theorem dX1_lambda_isOwed_6_8 : decode cX1_lambda_isOwed_6 8 = .ok (.aload_n 2, 1) := dk_44 (dk_at dksX1_lambda_isOwed_6_0 8 rfl rfl)
theorem dX1_lambda_isOwed_6_9 : decode cX1_lambda_isOwed_6 9 = .ok (.getfield 200, 3) := dk_180 0 200 (dk_at dksX1_lambda_isOwed_6_0 9 rfl rfl)
theorem dX1_lambda_isOwed_6_12 : decode cX1_lambda_isOwed_6 12 = .ok (.iload_n 1, 1) := dk_27 (dk_at dksX1_lambda_isOwed_6_0 12 rfl rfl)
theorem dX1_lambda_isOwed_6_13 : decode cX1_lambda_isOwed_6 13 = .ok (.if_icmp .ne 7, 3) := dk_160 0 7 (dk_at dksX1_lambda_isOwed_6_0 13 rfl rfl)
theorem dX1_lambda_isOwed_6_16 : decode cX1_lambda_isOwed_6 16 = .ok (.iconst 1, 1) := dk_4 (dk_at dksX1_lambda_isOwed_6_0 16 rfl rfl)
theorem dX1_lambda_isOwed_6_17 : decode cX1_lambda_isOwed_6 17 = .ok (.goto 4, 3) := dk_167 0 4 (dk_at dksX1_lambda_isOwed_6_0 17 rfl rfl)
theorem dX1_lambda_isOwed_6_20 : decode cX1_lambda_isOwed_6 20 = .ok (.iconst 0, 1) := dk_3 (dk_at dksX1_lambda_isOwed_6_0 20 rfl rfl)
theorem dX1_lambda_isOwed_6_21 : decode cX1_lambda_isOwed_6 21 = .ok (.ireturn, 1) := dk_172 (dk_at dksX1_lambda_isOwed_6_0 21 rfl rfl)
abbrev cX1_pairBalance : ByteArray := prog_1_method_60_code
def yX1_pairBalance : MethodName := ⟨RX1, "pairBalance", "(II)I"⟩
def dkwX1_pairBalance_1 : List UInt8 := [27, 28, 186, 1, 13, 0, 0, 182, 0, 210, 54, 4, 29, 21, 4, 100, 172]
abbrev dktX1_pairBalance_1 : List UInt8 := dkwX1_pairBalance_1 ++ []
def dkwX1_pairBalance_0 : List UInt8 := [27, 28, 184, 1, 2, 42, 180, 0, 10, 28, 27, 186, 1, 10, 0, 0, 182, 0, 210, 62, 42, 180, 0, 10]
abbrev dktX1_pairBalance_0 : List UInt8 := dkwX1_pairBalance_0 ++ dktX1_pairBalance_1
theorem dksX1_pairBalance_0 : cX1_pairBalance.data.toList.drop 0 = dktX1_pairBalance_0 := by decide +kernel
theorem dksX1_pairBalance_1 : cX1_pairBalance.data.toList.drop 24 = dktX1_pairBalance_1 := dk_seg dksX1_pairBalance_0 24 rfl rfl
theorem dX1_pairBalance_0 : decode cX1_pairBalance 0 = .ok (.iload_n 1, 1) := dk_27 (dk_at dksX1_pairBalance_0 0 rfl rfl)
theorem dX1_pairBalance_1 : decode cX1_pairBalance 1 = .ok (.iload_n 2, 1) := dk_28 (dk_at dksX1_pairBalance_0 1 rfl rfl)
theorem dX1_pairBalance_2 : decode cX1_pairBalance 2 = .ok (.invokestatic 258, 3) := dk_184 1 2 (dk_at dksX1_pairBalance_0 2 rfl rfl)
theorem dX1_pairBalance_5 : decode cX1_pairBalance 5 = .ok (.aload_n 0, 1) := dk_42 (dk_at dksX1_pairBalance_0 5 rfl rfl)
theorem dX1_pairBalance_6 : decode cX1_pairBalance 6 = .ok (.getfield 10, 3) := dk_180 0 10 (dk_at dksX1_pairBalance_0 6 rfl rfl)
theorem dX1_pairBalance_9 : decode cX1_pairBalance 9 = .ok (.iload_n 2, 1) := dk_28 (dk_at dksX1_pairBalance_0 9 rfl rfl)
theorem dX1_pairBalance_10 : decode cX1_pairBalance 10 = .ok (.iload_n 1, 1) := dk_27 (dk_at dksX1_pairBalance_0 10 rfl rfl)
theorem dX1_pairBalance_11 : decode cX1_pairBalance 11 = .ok (.invokedynamic 266, 5) := by decide +kernel
theorem dX1_pairBalance_16 : decode cX1_pairBalance 16 = .ok (.invokevirtual 210, 3) := dk_182 0 210 (dk_at dksX1_pairBalance_0 16 rfl rfl)
theorem dX1_pairBalance_19 : decode cX1_pairBalance 19 = .ok (.istore_n 3, 1) := dk_62 (dk_at dksX1_pairBalance_0 19 rfl rfl)
theorem dX1_pairBalance_20 : decode cX1_pairBalance 20 = .ok (.aload_n 0, 1) := dk_42 (dk_at dksX1_pairBalance_0 20 rfl rfl)
theorem dX1_pairBalance_21 : decode cX1_pairBalance 21 = .ok (.getfield 10, 3) := dk_180 0 10 (dk_at dksX1_pairBalance_0 21 rfl rfl)
theorem dX1_pairBalance_24 : decode cX1_pairBalance 24 = .ok (.iload_n 1, 1) := dk_27 (dk_at dksX1_pairBalance_1 0 rfl rfl)
theorem dX1_pairBalance_25 : decode cX1_pairBalance 25 = .ok (.iload_n 2, 1) := dk_28 (dk_at dksX1_pairBalance_1 1 rfl rfl)
theorem dX1_pairBalance_26 : decode cX1_pairBalance 26 = .ok (.invokedynamic 269, 5) := by decide +kernel
theorem dX1_pairBalance_31 : decode cX1_pairBalance 31 = .ok (.invokevirtual 210, 3) := dk_182 0 210 (dk_at dksX1_pairBalance_1 7 rfl rfl)
theorem dX1_pairBalance_34 : decode cX1_pairBalance 34 = .ok (.istore 4, 2) := dk_54 4 (dk_at dksX1_pairBalance_1 10 rfl rfl)
theorem dX1_pairBalance_36 : decode cX1_pairBalance 36 = .ok (.iload_n 3, 1) := dk_29 (dk_at dksX1_pairBalance_1 12 rfl rfl)
theorem dX1_pairBalance_37 : decode cX1_pairBalance 37 = .ok (.iload 4, 2) := dk_21 4 (dk_at dksX1_pairBalance_1 13 rfl rfl)
theorem dX1_pairBalance_39 : decode cX1_pairBalance 39 = .ok (.isub, 1) := dk_100 (dk_at dksX1_pairBalance_1 15 rfl rfl)
theorem dX1_pairBalance_40 : decode cX1_pairBalance 40 = .ok (.ireturn, 1) := dk_172 (dk_at dksX1_pairBalance_1 16 rfl rfl)
abbrev cX1_lambda_pairBalance_7 : ByteArray := prog_1_method_105_code
def yX1_lambda_pairBalance_7 : MethodName := ⟨RX1, "lambda$pairBalance$7", "(IILClaimRegistry$Claim;)I"⟩
def dkwX1_lambda_pairBalance_7_1 : List UInt8 := [172]
abbrev dktX1_lambda_pairBalance_7_1 : List UInt8 := dkwX1_lambda_pairBalance_7_1 ++ []
def dkwX1_lambda_pairBalance_7_0 : List UInt8 := [44, 180, 0, 197, 26, 160, 0, 18, 44, 180, 0, 200, 27, 160, 0, 10, 44, 180, 0, 162, 167, 0, 4, 3]
abbrev dktX1_lambda_pairBalance_7_0 : List UInt8 := dkwX1_lambda_pairBalance_7_0 ++ dktX1_lambda_pairBalance_7_1
theorem dksX1_lambda_pairBalance_7_0 : cX1_lambda_pairBalance_7.data.toList.drop 0 = dktX1_lambda_pairBalance_7_0 := by decide +kernel
theorem dksX1_lambda_pairBalance_7_1 : cX1_lambda_pairBalance_7.data.toList.drop 24 = dktX1_lambda_pairBalance_7_1 := dk_seg dksX1_lambda_pairBalance_7_0 24 rfl rfl
theorem dX1_lambda_pairBalance_7_0 : decode cX1_lambda_pairBalance_7 0 = .ok (.aload_n 2, 1) := dk_44 (dk_at dksX1_lambda_pairBalance_7_0 0 rfl rfl)
theorem dX1_lambda_pairBalance_7_1 : decode cX1_lambda_pairBalance_7 1 = .ok (.getfield 197, 3) := dk_180 0 197 (dk_at dksX1_lambda_pairBalance_7_0 1 rfl rfl)
theorem dX1_lambda_pairBalance_7_4 : decode cX1_lambda_pairBalance_7 4 = .ok (.iload_n 0, 1) := dk_26 (dk_at dksX1_lambda_pairBalance_7_0 4 rfl rfl)
theorem dX1_lambda_pairBalance_7_5 : decode cX1_lambda_pairBalance_7 5 = .ok (.if_icmp .ne 18, 3) := dk_160 0 18 (dk_at dksX1_lambda_pairBalance_7_0 5 rfl rfl)
theorem dX1_lambda_pairBalance_7_8 : decode cX1_lambda_pairBalance_7 8 = .ok (.aload_n 2, 1) := dk_44 (dk_at dksX1_lambda_pairBalance_7_0 8 rfl rfl)
theorem dX1_lambda_pairBalance_7_9 : decode cX1_lambda_pairBalance_7 9 = .ok (.getfield 200, 3) := dk_180 0 200 (dk_at dksX1_lambda_pairBalance_7_0 9 rfl rfl)
theorem dX1_lambda_pairBalance_7_12 : decode cX1_lambda_pairBalance_7 12 = .ok (.iload_n 1, 1) := dk_27 (dk_at dksX1_lambda_pairBalance_7_0 12 rfl rfl)
theorem dX1_lambda_pairBalance_7_13 : decode cX1_lambda_pairBalance_7 13 = .ok (.if_icmp .ne 10, 3) := dk_160 0 10 (dk_at dksX1_lambda_pairBalance_7_0 13 rfl rfl)
theorem dX1_lambda_pairBalance_7_16 : decode cX1_lambda_pairBalance_7 16 = .ok (.aload_n 2, 1) := dk_44 (dk_at dksX1_lambda_pairBalance_7_0 16 rfl rfl)
theorem dX1_lambda_pairBalance_7_17 : decode cX1_lambda_pairBalance_7 17 = .ok (.getfield 162, 3) := dk_180 0 162 (dk_at dksX1_lambda_pairBalance_7_0 17 rfl rfl)
theorem dX1_lambda_pairBalance_7_20 : decode cX1_lambda_pairBalance_7 20 = .ok (.goto 4, 3) := dk_167 0 4 (dk_at dksX1_lambda_pairBalance_7_0 20 rfl rfl)
theorem dX1_lambda_pairBalance_7_23 : decode cX1_lambda_pairBalance_7 23 = .ok (.iconst 0, 1) := dk_3 (dk_at dksX1_lambda_pairBalance_7_0 23 rfl rfl)
theorem dX1_lambda_pairBalance_7_24 : decode cX1_lambda_pairBalance_7 24 = .ok (.ireturn, 1) := dk_172 (dk_at dksX1_lambda_pairBalance_7_1 0 rfl rfl)
abbrev cX1_lambda_pairBalance_8 : ByteArray := prog_1_method_104_code
def yX1_lambda_pairBalance_8 : MethodName := ⟨RX1, "lambda$pairBalance$8", "(IILClaimRegistry$Claim;)I"⟩
def dkwX1_lambda_pairBalance_8_1 : List UInt8 := [172]
abbrev dktX1_lambda_pairBalance_8_1 : List UInt8 := dkwX1_lambda_pairBalance_8_1 ++ []
def dkwX1_lambda_pairBalance_8_0 : List UInt8 := [44, 180, 0, 197, 26, 160, 0, 18, 44, 180, 0, 200, 27, 160, 0, 10, 44, 180, 0, 162, 167, 0, 4, 3]
abbrev dktX1_lambda_pairBalance_8_0 : List UInt8 := dkwX1_lambda_pairBalance_8_0 ++ dktX1_lambda_pairBalance_8_1
theorem dksX1_lambda_pairBalance_8_0 : cX1_lambda_pairBalance_8.data.toList.drop 0 = dktX1_lambda_pairBalance_8_0 := by decide +kernel
theorem dksX1_lambda_pairBalance_8_1 : cX1_lambda_pairBalance_8.data.toList.drop 24 = dktX1_lambda_pairBalance_8_1 := dk_seg dksX1_lambda_pairBalance_8_0 24 rfl rfl
theorem dX1_lambda_pairBalance_8_0 : decode cX1_lambda_pairBalance_8 0 = .ok (.aload_n 2, 1) := dk_44 (dk_at dksX1_lambda_pairBalance_8_0 0 rfl rfl)
theorem dX1_lambda_pairBalance_8_1 : decode cX1_lambda_pairBalance_8 1 = .ok (.getfield 197, 3) := dk_180 0 197 (dk_at dksX1_lambda_pairBalance_8_0 1 rfl rfl)
theorem dX1_lambda_pairBalance_8_4 : decode cX1_lambda_pairBalance_8 4 = .ok (.iload_n 0, 1) := dk_26 (dk_at dksX1_lambda_pairBalance_8_0 4 rfl rfl)
theorem dX1_lambda_pairBalance_8_5 : decode cX1_lambda_pairBalance_8 5 = .ok (.if_icmp .ne 18, 3) := dk_160 0 18 (dk_at dksX1_lambda_pairBalance_8_0 5 rfl rfl)
theorem dX1_lambda_pairBalance_8_8 : decode cX1_lambda_pairBalance_8 8 = .ok (.aload_n 2, 1) := dk_44 (dk_at dksX1_lambda_pairBalance_8_0 8 rfl rfl)
theorem dX1_lambda_pairBalance_8_9 : decode cX1_lambda_pairBalance_8 9 = .ok (.getfield 200, 3) := dk_180 0 200 (dk_at dksX1_lambda_pairBalance_8_0 9 rfl rfl)
theorem dX1_lambda_pairBalance_8_12 : decode cX1_lambda_pairBalance_8 12 = .ok (.iload_n 1, 1) := dk_27 (dk_at dksX1_lambda_pairBalance_8_0 12 rfl rfl)
theorem dX1_lambda_pairBalance_8_13 : decode cX1_lambda_pairBalance_8 13 = .ok (.if_icmp .ne 10, 3) := dk_160 0 10 (dk_at dksX1_lambda_pairBalance_8_0 13 rfl rfl)
theorem dX1_lambda_pairBalance_8_16 : decode cX1_lambda_pairBalance_8 16 = .ok (.aload_n 2, 1) := dk_44 (dk_at dksX1_lambda_pairBalance_8_0 16 rfl rfl)
theorem dX1_lambda_pairBalance_8_17 : decode cX1_lambda_pairBalance_8 17 = .ok (.getfield 162, 3) := dk_180 0 162 (dk_at dksX1_lambda_pairBalance_8_0 17 rfl rfl)
theorem dX1_lambda_pairBalance_8_20 : decode cX1_lambda_pairBalance_8 20 = .ok (.goto 4, 3) := dk_167 0 4 (dk_at dksX1_lambda_pairBalance_8_0 20 rfl rfl)
theorem dX1_lambda_pairBalance_8_23 : decode cX1_lambda_pairBalance_8 23 = .ok (.iconst 0, 1) := dk_3 (dk_at dksX1_lambda_pairBalance_8_0 23 rfl rfl)
theorem dX1_lambda_pairBalance_8_24 : decode cX1_lambda_pairBalance_8 24 = .ok (.ireturn, 1) := dk_172 (dk_at dksX1_lambda_pairBalance_8_1 0 rfl rfl)
abbrev cX1_chainLength : ByteArray := prog_1_method_64_code
def yX1_chainLength : MethodName := ⟨RX1, "chainLength", "(II)I"⟩
def dkwX1_chainLength_1 : List UInt8 := [184, 0, 80, 29, 172]
abbrev dktX1_chainLength_1 : List UInt8 := dkwX1_chainLength_1 ++ []
def dkwX1_chainLength_0 : List UInt8 := [27, 28, 184, 1, 2, 42, 27, 28, 182, 1, 22, 62, 29, 2, 159, 0, 7, 4, 167, 0, 4, 3]
abbrev dktX1_chainLength_0 : List UInt8 := dkwX1_chainLength_0 ++ dktX1_chainLength_1
theorem dksX1_chainLength_0 : cX1_chainLength.data.toList.drop 0 = dktX1_chainLength_0 := by decide +kernel
theorem dksX1_chainLength_1 : cX1_chainLength.data.toList.drop 22 = dktX1_chainLength_1 := dk_seg dksX1_chainLength_0 22 rfl rfl
theorem dX1_chainLength_0 : decode cX1_chainLength 0 = .ok (.iload_n 1, 1) := dk_27 (dk_at dksX1_chainLength_0 0 rfl rfl)
theorem dX1_chainLength_1 : decode cX1_chainLength 1 = .ok (.iload_n 2, 1) := dk_28 (dk_at dksX1_chainLength_0 1 rfl rfl)
theorem dX1_chainLength_2 : decode cX1_chainLength 2 = .ok (.invokestatic 258, 3) := dk_184 1 2 (dk_at dksX1_chainLength_0 2 rfl rfl)
theorem dX1_chainLength_5 : decode cX1_chainLength 5 = .ok (.aload_n 0, 1) := dk_42 (dk_at dksX1_chainLength_0 5 rfl rfl)
theorem dX1_chainLength_6 : decode cX1_chainLength 6 = .ok (.iload_n 1, 1) := dk_27 (dk_at dksX1_chainLength_0 6 rfl rfl)
theorem dX1_chainLength_7 : decode cX1_chainLength 7 = .ok (.iload_n 2, 1) := dk_28 (dk_at dksX1_chainLength_0 7 rfl rfl)
theorem dX1_chainLength_8 : decode cX1_chainLength 8 = .ok (.invokevirtual 278, 3) := dk_182 1 22 (dk_at dksX1_chainLength_0 8 rfl rfl)
theorem dX1_chainLength_11 : decode cX1_chainLength 11 = .ok (.istore_n 3, 1) := dk_62 (dk_at dksX1_chainLength_0 11 rfl rfl)
theorem dX1_chainLength_12 : decode cX1_chainLength 12 = .ok (.iload_n 3, 1) := dk_29 (dk_at dksX1_chainLength_0 12 rfl rfl)
theorem dX1_chainLength_13 : decode cX1_chainLength 13 = .ok (.iconst (-1), 1) := dk_2 (dk_at dksX1_chainLength_0 13 rfl rfl)
theorem dX1_chainLength_14 : decode cX1_chainLength 14 = .ok (.if_icmp .eq 7, 3) := dk_159 0 7 (dk_at dksX1_chainLength_0 14 rfl rfl)
theorem dX1_chainLength_17 : decode cX1_chainLength 17 = .ok (.iconst 1, 1) := dk_4 (dk_at dksX1_chainLength_0 17 rfl rfl)
theorem dX1_chainLength_18 : decode cX1_chainLength 18 = .ok (.goto 4, 3) := dk_167 0 4 (dk_at dksX1_chainLength_0 18 rfl rfl)
theorem dX1_chainLength_21 : decode cX1_chainLength 21 = .ok (.iconst 0, 1) := dk_3 (dk_at dksX1_chainLength_0 21 rfl rfl)
theorem dX1_chainLength_22 : decode cX1_chainLength 22 = .ok (.invokestatic 80, 3) := dk_184 0 80 (dk_at dksX1_chainLength_1 0 rfl rfl)
theorem dX1_chainLength_25 : decode cX1_chainLength 25 = .ok (.iload_n 3, 1) := dk_29 (dk_at dksX1_chainLength_1 3 rfl rfl)
theorem dX1_chainLength_26 : decode cX1_chainLength 26 = .ok (.ireturn, 1) := dk_172 (dk_at dksX1_chainLength_1 4 rfl rfl)
abbrev cX1_chainLengthByRounds : ByteArray := prog_1_method_65_code
def yX1_chainLengthByRounds : MethodName := ⟨RX1, "chainLengthByRounds", "(II)I"⟩
def dkwX1_chainLengthByRounds_1 : List UInt8 := [184, 0, 80, 29, 172]
abbrev dktX1_chainLengthByRounds_1 : List UInt8 := dkwX1_chainLengthByRounds_1 ++ []
def dkwX1_chainLengthByRounds_0 : List UInt8 := [27, 28, 184, 1, 2, 42, 27, 28, 182, 1, 26, 62, 29, 2, 159, 0, 7, 4, 167, 0, 4, 3]
abbrev dktX1_chainLengthByRounds_0 : List UInt8 := dkwX1_chainLengthByRounds_0 ++ dktX1_chainLengthByRounds_1
theorem dksX1_chainLengthByRounds_0 : cX1_chainLengthByRounds.data.toList.drop 0 = dktX1_chainLengthByRounds_0 := by decide +kernel
theorem dksX1_chainLengthByRounds_1 : cX1_chainLengthByRounds.data.toList.drop 22 = dktX1_chainLengthByRounds_1 := dk_seg dksX1_chainLengthByRounds_0 22 rfl rfl
theorem dX1_chainLengthByRounds_0 : decode cX1_chainLengthByRounds 0 = .ok (.iload_n 1, 1) := dk_27 (dk_at dksX1_chainLengthByRounds_0 0 rfl rfl)
theorem dX1_chainLengthByRounds_1 : decode cX1_chainLengthByRounds 1 = .ok (.iload_n 2, 1) := dk_28 (dk_at dksX1_chainLengthByRounds_0 1 rfl rfl)
theorem dX1_chainLengthByRounds_2 : decode cX1_chainLengthByRounds 2 = .ok (.invokestatic 258, 3) := dk_184 1 2 (dk_at dksX1_chainLengthByRounds_0 2 rfl rfl)
theorem dX1_chainLengthByRounds_5 : decode cX1_chainLengthByRounds 5 = .ok (.aload_n 0, 1) := dk_42 (dk_at dksX1_chainLengthByRounds_0 5 rfl rfl)
theorem dX1_chainLengthByRounds_6 : decode cX1_chainLengthByRounds 6 = .ok (.iload_n 1, 1) := dk_27 (dk_at dksX1_chainLengthByRounds_0 6 rfl rfl)
theorem dX1_chainLengthByRounds_7 : decode cX1_chainLengthByRounds 7 = .ok (.iload_n 2, 1) := dk_28 (dk_at dksX1_chainLengthByRounds_0 7 rfl rfl)
theorem dX1_chainLengthByRounds_8 : decode cX1_chainLengthByRounds 8 = .ok (.invokevirtual 282, 3) := dk_182 1 26 (dk_at dksX1_chainLengthByRounds_0 8 rfl rfl)
theorem dX1_chainLengthByRounds_11 : decode cX1_chainLengthByRounds 11 = .ok (.istore_n 3, 1) := dk_62 (dk_at dksX1_chainLengthByRounds_0 11 rfl rfl)
theorem dX1_chainLengthByRounds_12 : decode cX1_chainLengthByRounds 12 = .ok (.iload_n 3, 1) := dk_29 (dk_at dksX1_chainLengthByRounds_0 12 rfl rfl)
theorem dX1_chainLengthByRounds_13 : decode cX1_chainLengthByRounds 13 = .ok (.iconst (-1), 1) := dk_2 (dk_at dksX1_chainLengthByRounds_0 13 rfl rfl)
theorem dX1_chainLengthByRounds_14 : decode cX1_chainLengthByRounds 14 = .ok (.if_icmp .eq 7, 3) := dk_159 0 7 (dk_at dksX1_chainLengthByRounds_0 14 rfl rfl)
theorem dX1_chainLengthByRounds_17 : decode cX1_chainLengthByRounds 17 = .ok (.iconst 1, 1) := dk_4 (dk_at dksX1_chainLengthByRounds_0 17 rfl rfl)
theorem dX1_chainLengthByRounds_18 : decode cX1_chainLengthByRounds 18 = .ok (.goto 4, 3) := dk_167 0 4 (dk_at dksX1_chainLengthByRounds_0 18 rfl rfl)
theorem dX1_chainLengthByRounds_21 : decode cX1_chainLengthByRounds 21 = .ok (.iconst 0, 1) := dk_3 (dk_at dksX1_chainLengthByRounds_0 21 rfl rfl)
theorem dX1_chainLengthByRounds_22 : decode cX1_chainLengthByRounds 22 = .ok (.invokestatic 80, 3) := dk_184 0 80 (dk_at dksX1_chainLengthByRounds_1 0 rfl rfl)
theorem dX1_chainLengthByRounds_25 : decode cX1_chainLengthByRounds 25 = .ok (.iload_n 3, 1) := dk_29 (dk_at dksX1_chainLengthByRounds_1 3 rfl rfl)
theorem dX1_chainLengthByRounds_26 : decode cX1_chainLengthByRounds 26 = .ok (.ireturn, 1) := dk_172 (dk_at dksX1_chainLengthByRounds_1 4 rfl rfl)
abbrev cX1_reachableFrom : ByteArray := prog_1_method_66_code
def yX1_reachableFrom : MethodName := ⟨RX1, "reachableFrom", "(I)I"⟩
def dkwX1_reachableFrom_1 : List UInt8 := [159, 0, 9, 28, 4, 29, 120, 128, 61, 132, 3, 1, 167, 255, 231, 28, 172]
abbrev dktX1_reachableFrom_1 : List UInt8 := dkwX1_reachableFrom_1 ++ []
def dkwX1_reachableFrom_0 : List UInt8 := [27, 184, 0, 84, 184, 0, 88, 3, 61, 3, 62, 29, 16, 8, 162, 0, 25, 42, 27, 29, 182, 1, 22, 2]
abbrev dktX1_reachableFrom_0 : List UInt8 := dkwX1_reachableFrom_0 ++ dktX1_reachableFrom_1
theorem dksX1_reachableFrom_0 : cX1_reachableFrom.data.toList.drop 0 = dktX1_reachableFrom_0 := by decide +kernel
theorem dksX1_reachableFrom_1 : cX1_reachableFrom.data.toList.drop 24 = dktX1_reachableFrom_1 := dk_seg dksX1_reachableFrom_0 24 rfl rfl
theorem dX1_reachableFrom_0 : decode cX1_reachableFrom 0 = .ok (.iload_n 1, 1) := dk_27 (dk_at dksX1_reachableFrom_0 0 rfl rfl)
theorem dX1_reachableFrom_1 : decode cX1_reachableFrom 1 = .ok (.invokestatic 84, 3) := dk_184 0 84 (dk_at dksX1_reachableFrom_0 1 rfl rfl)
theorem dX1_reachableFrom_4 : decode cX1_reachableFrom 4 = .ok (.invokestatic 88, 3) := dk_184 0 88 (dk_at dksX1_reachableFrom_0 4 rfl rfl)
theorem dX1_reachableFrom_7 : decode cX1_reachableFrom 7 = .ok (.iconst 0, 1) := dk_3 (dk_at dksX1_reachableFrom_0 7 rfl rfl)
theorem dX1_reachableFrom_8 : decode cX1_reachableFrom 8 = .ok (.istore_n 2, 1) := dk_61 (dk_at dksX1_reachableFrom_0 8 rfl rfl)
theorem dX1_reachableFrom_9 : decode cX1_reachableFrom 9 = .ok (.iconst 0, 1) := dk_3 (dk_at dksX1_reachableFrom_0 9 rfl rfl)
theorem dX1_reachableFrom_10 : decode cX1_reachableFrom 10 = .ok (.istore_n 3, 1) := dk_62 (dk_at dksX1_reachableFrom_0 10 rfl rfl)
theorem dX1_reachableFrom_11 : decode cX1_reachableFrom 11 = .ok (.iload_n 3, 1) := dk_29 (dk_at dksX1_reachableFrom_0 11 rfl rfl)
theorem dX1_reachableFrom_12 : decode cX1_reachableFrom 12 = .ok (.bipush 8, 2) := dk_16 8 (dk_at dksX1_reachableFrom_0 12 rfl rfl)
theorem dX1_reachableFrom_14 : decode cX1_reachableFrom 14 = .ok (.if_icmp .ge 25, 3) := dk_162 0 25 (dk_at dksX1_reachableFrom_0 14 rfl rfl)
theorem dX1_reachableFrom_17 : decode cX1_reachableFrom 17 = .ok (.aload_n 0, 1) := dk_42 (dk_at dksX1_reachableFrom_0 17 rfl rfl)
theorem dX1_reachableFrom_18 : decode cX1_reachableFrom 18 = .ok (.iload_n 1, 1) := dk_27 (dk_at dksX1_reachableFrom_0 18 rfl rfl)
theorem dX1_reachableFrom_19 : decode cX1_reachableFrom 19 = .ok (.iload_n 3, 1) := dk_29 (dk_at dksX1_reachableFrom_0 19 rfl rfl)
theorem dX1_reachableFrom_20 : decode cX1_reachableFrom 20 = .ok (.invokevirtual 278, 3) := dk_182 1 22 (dk_at dksX1_reachableFrom_0 20 rfl rfl)
theorem dX1_reachableFrom_23 : decode cX1_reachableFrom 23 = .ok (.iconst (-1), 1) := dk_2 (dk_at dksX1_reachableFrom_0 23 rfl rfl)
theorem dX1_reachableFrom_24 : decode cX1_reachableFrom 24 = .ok (.if_icmp .eq 9, 3) := dk_159 0 9 (dk_at dksX1_reachableFrom_1 0 rfl rfl)
theorem dX1_reachableFrom_27 : decode cX1_reachableFrom 27 = .ok (.iload_n 2, 1) := dk_28 (dk_at dksX1_reachableFrom_1 3 rfl rfl)
theorem dX1_reachableFrom_28 : decode cX1_reachableFrom 28 = .ok (.iconst 1, 1) := dk_4 (dk_at dksX1_reachableFrom_1 4 rfl rfl)
theorem dX1_reachableFrom_29 : decode cX1_reachableFrom 29 = .ok (.iload_n 3, 1) := dk_29 (dk_at dksX1_reachableFrom_1 5 rfl rfl)
theorem dX1_reachableFrom_30 : decode cX1_reachableFrom 30 = .ok (.ishl, 1) := dk_120 (dk_at dksX1_reachableFrom_1 6 rfl rfl)
theorem dX1_reachableFrom_31 : decode cX1_reachableFrom 31 = .ok (.ior, 1) := dk_128 (dk_at dksX1_reachableFrom_1 7 rfl rfl)
theorem dX1_reachableFrom_32 : decode cX1_reachableFrom 32 = .ok (.istore_n 2, 1) := dk_61 (dk_at dksX1_reachableFrom_1 8 rfl rfl)
theorem dX1_reachableFrom_33 : decode cX1_reachableFrom 33 = .ok (.iinc 3 1, 3) := dk_132 3 1 (dk_at dksX1_reachableFrom_1 9 rfl rfl)
theorem dX1_reachableFrom_36 : decode cX1_reachableFrom 36 = .ok (.goto (-25), 3) := dk_167 255 231 (dk_at dksX1_reachableFrom_1 12 rfl rfl)
theorem dX1_reachableFrom_39 : decode cX1_reachableFrom 39 = .ok (.iload_n 2, 1) := dk_28 (dk_at dksX1_reachableFrom_1 15 rfl rfl)
theorem dX1_reachableFrom_40 : decode cX1_reachableFrom 40 = .ok (.ireturn, 1) := dk_172 (dk_at dksX1_reachableFrom_1 16 rfl rfl)
abbrev cX1_idByExpiry : ByteArray := prog_1_method_71_code
def yX1_idByExpiry : MethodName := ⟨RX1, "idByExpiry", "(I)I"⟩
def dkwX1_idByExpiry_1 : List UInt8 := [180, 0, 91, 184, 1, 37, 27, 182, 0, 190, 192, 0, 118, 180, 0, 194, 172]
abbrev dktX1_idByExpiry_1 : List UInt8 := dkwX1_idByExpiry_1 ++ []
def dkwX1_idByExpiry_0 : List UInt8 := [27, 3, 42, 180, 0, 10, 180, 0, 91, 182, 0, 95, 4, 100, 184, 0, 52, 184, 0, 187, 42, 180, 0, 10]
abbrev dktX1_idByExpiry_0 : List UInt8 := dkwX1_idByExpiry_0 ++ dktX1_idByExpiry_1
theorem dksX1_idByExpiry_0 : cX1_idByExpiry.data.toList.drop 0 = dktX1_idByExpiry_0 := by decide +kernel
theorem dksX1_idByExpiry_1 : cX1_idByExpiry.data.toList.drop 24 = dktX1_idByExpiry_1 := dk_seg dksX1_idByExpiry_0 24 rfl rfl
theorem dX1_idByExpiry_0 : decode cX1_idByExpiry 0 = .ok (.iload_n 1, 1) := dk_27 (dk_at dksX1_idByExpiry_0 0 rfl rfl)
theorem dX1_idByExpiry_1 : decode cX1_idByExpiry 1 = .ok (.iconst 0, 1) := dk_3 (dk_at dksX1_idByExpiry_0 1 rfl rfl)
theorem dX1_idByExpiry_2 : decode cX1_idByExpiry 2 = .ok (.aload_n 0, 1) := dk_42 (dk_at dksX1_idByExpiry_0 2 rfl rfl)
theorem dX1_idByExpiry_3 : decode cX1_idByExpiry 3 = .ok (.getfield 10, 3) := dk_180 0 10 (dk_at dksX1_idByExpiry_0 3 rfl rfl)
theorem dX1_idByExpiry_6 : decode cX1_idByExpiry 6 = .ok (.getfield 91, 3) := dk_180 0 91 (dk_at dksX1_idByExpiry_0 6 rfl rfl)
theorem dX1_idByExpiry_9 : decode cX1_idByExpiry 9 = .ok (.invokevirtual 95, 3) := dk_182 0 95 (dk_at dksX1_idByExpiry_0 9 rfl rfl)
theorem dX1_idByExpiry_12 : decode cX1_idByExpiry 12 = .ok (.iconst 1, 1) := dk_4 (dk_at dksX1_idByExpiry_0 12 rfl rfl)
theorem dX1_idByExpiry_13 : decode cX1_idByExpiry 13 = .ok (.isub, 1) := dk_100 (dk_at dksX1_idByExpiry_0 13 rfl rfl)
theorem dX1_idByExpiry_14 : decode cX1_idByExpiry 14 = .ok (.invokestatic 52, 3) := dk_184 0 52 (dk_at dksX1_idByExpiry_0 14 rfl rfl)
theorem dX1_idByExpiry_17 : decode cX1_idByExpiry 17 = .ok (.invokestatic 187, 3) := dk_184 0 187 (dk_at dksX1_idByExpiry_0 17 rfl rfl)
theorem dX1_idByExpiry_20 : decode cX1_idByExpiry 20 = .ok (.aload_n 0, 1) := dk_42 (dk_at dksX1_idByExpiry_0 20 rfl rfl)
theorem dX1_idByExpiry_21 : decode cX1_idByExpiry 21 = .ok (.getfield 10, 3) := dk_180 0 10 (dk_at dksX1_idByExpiry_0 21 rfl rfl)
theorem dX1_idByExpiry_24 : decode cX1_idByExpiry 24 = .ok (.getfield 91, 3) := dk_180 0 91 (dk_at dksX1_idByExpiry_1 0 rfl rfl)
theorem dX1_idByExpiry_27 : decode cX1_idByExpiry 27 = .ok (.invokestatic 293, 3) := dk_184 1 37 (dk_at dksX1_idByExpiry_1 3 rfl rfl)
theorem dX1_idByExpiry_30 : decode cX1_idByExpiry 30 = .ok (.iload_n 1, 1) := dk_27 (dk_at dksX1_idByExpiry_1 6 rfl rfl)
theorem dX1_idByExpiry_31 : decode cX1_idByExpiry 31 = .ok (.invokevirtual 190, 3) := dk_182 0 190 (dk_at dksX1_idByExpiry_1 7 rfl rfl)
theorem dX1_idByExpiry_34 : decode cX1_idByExpiry 34 = .ok (.checkcast 118, 3) := dk_192 0 118 (dk_at dksX1_idByExpiry_1 10 rfl rfl)
theorem dX1_idByExpiry_37 : decode cX1_idByExpiry 37 = .ok (.getfield 194, 3) := dk_180 0 194 (dk_at dksX1_idByExpiry_1 13 rfl rfl)
theorem dX1_idByExpiry_40 : decode cX1_idByExpiry 40 = .ok (.ireturn, 1) := dk_172 (dk_at dksX1_idByExpiry_1 16 rfl rfl)
abbrev cX1_sort : ByteArray := prog_1_method_70_code
def yX1_sort : MethodName := ⟨RX1, "sort", "(Ljava/util/LinkedList;)Ljava/util/LinkedList;"⟩
def dkwX1_sort_3 : List UInt8 := [167, 0, 9, 44, 25, 4, 182, 1, 36, 167, 255, 208, 43, 184, 1, 37, 44, 184, 1, 37, 184, 1, 41, 176]
abbrev dktX1_sort_3 : List UInt8 := dkwX1_sort_3 ++ []
def dkwX1_sort_2 : List UInt8 := [192, 0, 118, 58, 4, 43, 182, 0, 95, 42, 182, 0, 95, 5, 108, 162, 0, 12, 43, 25, 4, 182, 1, 36]
abbrev dktX1_sort_2 : List UInt8 := dkwX1_sort_2 ++ dktX1_sort_3
def dkwX1_sort_1 : List UInt8 := [183, 1, 29, 77, 42, 182, 1, 18, 78, 45, 185, 0, 247, 1, 0, 153, 0, 45, 45, 185, 0, 252, 1, 0]
abbrev dktX1_sort_1 : List UInt8 := dkwX1_sort_1 ++ dktX1_sort_2
def dkwX1_sort_0 : List UInt8 := [42, 182, 0, 95, 5, 162, 0, 5, 42, 176, 187, 0, 96, 89, 183, 1, 29, 76, 187, 0, 96, 89]
abbrev dktX1_sort_0 : List UInt8 := dkwX1_sort_0 ++ dktX1_sort_1
theorem dksX1_sort_0 : cX1_sort.data.toList.drop 0 = dktX1_sort_0 := by decide +kernel
theorem dksX1_sort_1 : cX1_sort.data.toList.drop 22 = dktX1_sort_1 := dk_seg dksX1_sort_0 22 rfl rfl
theorem dksX1_sort_2 : cX1_sort.data.toList.drop 46 = dktX1_sort_2 := dk_seg dksX1_sort_1 24 rfl rfl
theorem dksX1_sort_3 : cX1_sort.data.toList.drop 70 = dktX1_sort_3 := dk_seg dksX1_sort_2 24 rfl rfl
theorem dX1_sort_0 : decode cX1_sort 0 = .ok (.aload_n 0, 1) := dk_42 (dk_at dksX1_sort_0 0 rfl rfl)
theorem dX1_sort_1 : decode cX1_sort 1 = .ok (.invokevirtual 95, 3) := dk_182 0 95 (dk_at dksX1_sort_0 1 rfl rfl)
theorem dX1_sort_4 : decode cX1_sort 4 = .ok (.iconst 2, 1) := dk_5 (dk_at dksX1_sort_0 4 rfl rfl)
theorem dX1_sort_5 : decode cX1_sort 5 = .ok (.if_icmp .ge 5, 3) := dk_162 0 5 (dk_at dksX1_sort_0 5 rfl rfl)
theorem dX1_sort_8 : decode cX1_sort 8 = .ok (.aload_n 0, 1) := dk_42 (dk_at dksX1_sort_0 8 rfl rfl)
theorem dX1_sort_9 : decode cX1_sort 9 = .ok (.areturn, 1) := dk_176 (dk_at dksX1_sort_0 9 rfl rfl)
theorem dX1_sort_10 : decode cX1_sort 10 = .ok (.new 96, 3) := dk_187 0 96 (dk_at dksX1_sort_0 10 rfl rfl)
theorem dX1_sort_13 : decode cX1_sort 13 = .ok (.dup, 1) := dk_89 (dk_at dksX1_sort_0 13 rfl rfl)
theorem dX1_sort_14 : decode cX1_sort 14 = .ok (.invokespecial 285, 3) := dk_183 1 29 (dk_at dksX1_sort_0 14 rfl rfl)
theorem dX1_sort_17 : decode cX1_sort 17 = .ok (.astore_n 1, 1) := dk_76 (dk_at dksX1_sort_0 17 rfl rfl)
theorem dX1_sort_18 : decode cX1_sort 18 = .ok (.new 96, 3) := dk_187 0 96 (dk_at dksX1_sort_0 18 rfl rfl)
theorem dX1_sort_21 : decode cX1_sort 21 = .ok (.dup, 1) := dk_89 (dk_at dksX1_sort_0 21 rfl rfl)
theorem dX1_sort_22 : decode cX1_sort 22 = .ok (.invokespecial 285, 3) := dk_183 1 29 (dk_at dksX1_sort_1 0 rfl rfl)
theorem dX1_sort_25 : decode cX1_sort 25 = .ok (.astore_n 2, 1) := dk_77 (dk_at dksX1_sort_1 3 rfl rfl)
theorem dX1_sort_26 : decode cX1_sort 26 = .ok (.aload_n 0, 1) := dk_42 (dk_at dksX1_sort_1 4 rfl rfl)
theorem dX1_sort_27 : decode cX1_sort 27 = .ok (.invokevirtual 274, 3) := dk_182 1 18 (dk_at dksX1_sort_1 5 rfl rfl)
theorem dX1_sort_30 : decode cX1_sort 30 = .ok (.astore_n 3, 1) := dk_78 (dk_at dksX1_sort_1 8 rfl rfl)
theorem dX1_sort_31 : decode cX1_sort 31 = .ok (.aload_n 3, 1) := dk_45 (dk_at dksX1_sort_1 9 rfl rfl)
theorem dX1_sort_32 : decode cX1_sort 32 = .ok (.invokeinterface 247 1, 5) := by decide +kernel
theorem dX1_sort_37 : decode cX1_sort 37 = .ok (.ifCond .eq 45, 3) := dk_153 0 45 (dk_at dksX1_sort_1 15 rfl rfl)
theorem dX1_sort_40 : decode cX1_sort 40 = .ok (.aload_n 3, 1) := dk_45 (dk_at dksX1_sort_1 18 rfl rfl)
theorem dX1_sort_41 : decode cX1_sort 41 = .ok (.invokeinterface 252 1, 5) := by decide +kernel
theorem dX1_sort_46 : decode cX1_sort 46 = .ok (.checkcast 118, 3) := dk_192 0 118 (dk_at dksX1_sort_2 0 rfl rfl)
theorem dX1_sort_49 : decode cX1_sort 49 = .ok (.astore 4, 2) := dk_58 4 (dk_at dksX1_sort_2 3 rfl rfl)
theorem dX1_sort_51 : decode cX1_sort 51 = .ok (.aload_n 1, 1) := dk_43 (dk_at dksX1_sort_2 5 rfl rfl)
theorem dX1_sort_52 : decode cX1_sort 52 = .ok (.invokevirtual 95, 3) := dk_182 0 95 (dk_at dksX1_sort_2 6 rfl rfl)
theorem dX1_sort_55 : decode cX1_sort 55 = .ok (.aload_n 0, 1) := dk_42 (dk_at dksX1_sort_2 9 rfl rfl)
theorem dX1_sort_56 : decode cX1_sort 56 = .ok (.invokevirtual 95, 3) := dk_182 0 95 (dk_at dksX1_sort_2 10 rfl rfl)
theorem dX1_sort_59 : decode cX1_sort 59 = .ok (.iconst 2, 1) := dk_5 (dk_at dksX1_sort_2 13 rfl rfl)
theorem dX1_sort_60 : decode cX1_sort 60 = .ok (.idiv, 1) := dk_108 (dk_at dksX1_sort_2 14 rfl rfl)
theorem dX1_sort_61 : decode cX1_sort 61 = .ok (.if_icmp .ge 12, 3) := dk_162 0 12 (dk_at dksX1_sort_2 15 rfl rfl)
theorem dX1_sort_64 : decode cX1_sort 64 = .ok (.aload_n 1, 1) := dk_43 (dk_at dksX1_sort_2 18 rfl rfl)
theorem dX1_sort_65 : decode cX1_sort 65 = .ok (.aload 4, 2) := dk_25 4 (dk_at dksX1_sort_2 19 rfl rfl)
theorem dX1_sort_67 : decode cX1_sort 67 = .ok (.invokevirtual 292, 3) := dk_182 1 36 (dk_at dksX1_sort_2 21 rfl rfl)
theorem dX1_sort_70 : decode cX1_sort 70 = .ok (.goto 9, 3) := dk_167 0 9 (dk_at dksX1_sort_3 0 rfl rfl)
theorem dX1_sort_73 : decode cX1_sort 73 = .ok (.aload_n 2, 1) := dk_44 (dk_at dksX1_sort_3 3 rfl rfl)
theorem dX1_sort_74 : decode cX1_sort 74 = .ok (.aload 4, 2) := dk_25 4 (dk_at dksX1_sort_3 4 rfl rfl)
theorem dX1_sort_76 : decode cX1_sort 76 = .ok (.invokevirtual 292, 3) := dk_182 1 36 (dk_at dksX1_sort_3 6 rfl rfl)
theorem dX1_sort_79 : decode cX1_sort 79 = .ok (.goto (-48), 3) := dk_167 255 208 (dk_at dksX1_sort_3 9 rfl rfl)
theorem dX1_sort_82 : decode cX1_sort 82 = .ok (.aload_n 1, 1) := dk_43 (dk_at dksX1_sort_3 12 rfl rfl)
theorem dX1_sort_83 : decode cX1_sort 83 = .ok (.invokestatic 293, 3) := dk_184 1 37 (dk_at dksX1_sort_3 13 rfl rfl)
theorem dX1_sort_86 : decode cX1_sort 86 = .ok (.aload_n 2, 1) := dk_44 (dk_at dksX1_sort_3 16 rfl rfl)
theorem dX1_sort_87 : decode cX1_sort 87 = .ok (.invokestatic 293, 3) := dk_184 1 37 (dk_at dksX1_sort_3 17 rfl rfl)
theorem dX1_sort_90 : decode cX1_sort 90 = .ok (.invokestatic 297, 3) := dk_184 1 41 (dk_at dksX1_sort_3 20 rfl rfl)
theorem dX1_sort_93 : decode cX1_sort 93 = .ok (.areturn, 1) := dk_176 (dk_at dksX1_sort_3 23 rfl rfl)
abbrev cX1_merge : ByteArray := prog_1_method_69_code
def yX1_merge : MethodName := ⟨RX1, "merge", "(Ljava/util/LinkedList;Ljava/util/LinkedList;)Ljava/util/LinkedList;"⟩
def dkwX1_merge_4 : List UInt8 := [192, 0, 118, 58, 4, 44, 25, 4, 182, 1, 36, 167, 255, 230, 44, 176]
abbrev dktX1_merge_4 : List UInt8 := dkwX1_merge_4 ++ []
def dkwX1_merge_3 : List UInt8 := [167, 0, 4, 42, 182, 1, 18, 78, 45, 185, 0, 247, 1, 0, 153, 0, 23, 45, 185, 0, 252, 1, 0]
abbrev dktX1_merge_3 : List UInt8 := dkwX1_merge_3 ++ dktX1_merge_4
def dkwX1_merge_2 : List UInt8 := [78, 44, 45, 182, 1, 35, 192, 0, 118, 182, 1, 36, 167, 255, 205, 42, 182, 0, 219, 153, 0, 7, 43]
abbrev dktX1_merge_2 : List UInt8 := dkwX1_merge_2 ++ dktX1_merge_3
def dkwX1_merge_1 : List UInt8 := [182, 1, 30, 192, 0, 118, 43, 182, 1, 30, 192, 0, 118, 184, 1, 31, 153, 0, 7, 42, 167, 0, 4, 43]
abbrev dktX1_merge_1 : List UInt8 := dkwX1_merge_1 ++ dktX1_merge_2
def dkwX1_merge_0 : List UInt8 := [187, 0, 96, 89, 183, 1, 29, 77, 42, 182, 0, 219, 154, 0, 50, 43, 182, 0, 219, 154, 0, 43, 42]
abbrev dktX1_merge_0 : List UInt8 := dkwX1_merge_0 ++ dktX1_merge_1
theorem dksX1_merge_0 : cX1_merge.data.toList.drop 0 = dktX1_merge_0 := by decide +kernel
theorem dksX1_merge_1 : cX1_merge.data.toList.drop 23 = dktX1_merge_1 := dk_seg dksX1_merge_0 23 rfl rfl
theorem dksX1_merge_2 : cX1_merge.data.toList.drop 47 = dktX1_merge_2 := dk_seg dksX1_merge_1 24 rfl rfl
theorem dksX1_merge_3 : cX1_merge.data.toList.drop 70 = dktX1_merge_3 := dk_seg dksX1_merge_2 23 rfl rfl
theorem dksX1_merge_4 : cX1_merge.data.toList.drop 93 = dktX1_merge_4 := dk_seg dksX1_merge_3 23 rfl rfl
theorem dX1_merge_0 : decode cX1_merge 0 = .ok (.new 96, 3) := dk_187 0 96 (dk_at dksX1_merge_0 0 rfl rfl)
theorem dX1_merge_3 : decode cX1_merge 3 = .ok (.dup, 1) := dk_89 (dk_at dksX1_merge_0 3 rfl rfl)
theorem dX1_merge_4 : decode cX1_merge 4 = .ok (.invokespecial 285, 3) := dk_183 1 29 (dk_at dksX1_merge_0 4 rfl rfl)
theorem dX1_merge_7 : decode cX1_merge 7 = .ok (.astore_n 2, 1) := dk_77 (dk_at dksX1_merge_0 7 rfl rfl)
theorem dX1_merge_8 : decode cX1_merge 8 = .ok (.aload_n 0, 1) := dk_42 (dk_at dksX1_merge_0 8 rfl rfl)
theorem dX1_merge_9 : decode cX1_merge 9 = .ok (.invokevirtual 219, 3) := dk_182 0 219 (dk_at dksX1_merge_0 9 rfl rfl)
theorem dX1_merge_12 : decode cX1_merge 12 = .ok (.ifCond .ne 50, 3) := dk_154 0 50 (dk_at dksX1_merge_0 12 rfl rfl)
theorem dX1_merge_15 : decode cX1_merge 15 = .ok (.aload_n 1, 1) := dk_43 (dk_at dksX1_merge_0 15 rfl rfl)
theorem dX1_merge_16 : decode cX1_merge 16 = .ok (.invokevirtual 219, 3) := dk_182 0 219 (dk_at dksX1_merge_0 16 rfl rfl)
theorem dX1_merge_19 : decode cX1_merge 19 = .ok (.ifCond .ne 43, 3) := dk_154 0 43 (dk_at dksX1_merge_0 19 rfl rfl)
theorem dX1_merge_22 : decode cX1_merge 22 = .ok (.aload_n 0, 1) := dk_42 (dk_at dksX1_merge_0 22 rfl rfl)
theorem dX1_merge_23 : decode cX1_merge 23 = .ok (.invokevirtual 286, 3) := dk_182 1 30 (dk_at dksX1_merge_1 0 rfl rfl)
theorem dX1_merge_26 : decode cX1_merge 26 = .ok (.checkcast 118, 3) := dk_192 0 118 (dk_at dksX1_merge_1 3 rfl rfl)
theorem dX1_merge_29 : decode cX1_merge 29 = .ok (.aload_n 1, 1) := dk_43 (dk_at dksX1_merge_1 6 rfl rfl)
theorem dX1_merge_30 : decode cX1_merge 30 = .ok (.invokevirtual 286, 3) := dk_182 1 30 (dk_at dksX1_merge_1 7 rfl rfl)
theorem dX1_merge_33 : decode cX1_merge 33 = .ok (.checkcast 118, 3) := dk_192 0 118 (dk_at dksX1_merge_1 10 rfl rfl)
theorem dX1_merge_36 : decode cX1_merge 36 = .ok (.invokestatic 287, 3) := dk_184 1 31 (dk_at dksX1_merge_1 13 rfl rfl)
theorem dX1_merge_39 : decode cX1_merge 39 = .ok (.ifCond .eq 7, 3) := dk_153 0 7 (dk_at dksX1_merge_1 16 rfl rfl)
theorem dX1_merge_42 : decode cX1_merge 42 = .ok (.aload_n 0, 1) := dk_42 (dk_at dksX1_merge_1 19 rfl rfl)
theorem dX1_merge_43 : decode cX1_merge 43 = .ok (.goto 4, 3) := dk_167 0 4 (dk_at dksX1_merge_1 20 rfl rfl)
theorem dX1_merge_46 : decode cX1_merge 46 = .ok (.aload_n 1, 1) := dk_43 (dk_at dksX1_merge_1 23 rfl rfl)
theorem dX1_merge_47 : decode cX1_merge 47 = .ok (.astore_n 3, 1) := dk_78 (dk_at dksX1_merge_2 0 rfl rfl)
theorem dX1_merge_48 : decode cX1_merge 48 = .ok (.aload_n 2, 1) := dk_44 (dk_at dksX1_merge_2 1 rfl rfl)
theorem dX1_merge_49 : decode cX1_merge 49 = .ok (.aload_n 3, 1) := dk_45 (dk_at dksX1_merge_2 2 rfl rfl)
theorem dX1_merge_50 : decode cX1_merge 50 = .ok (.invokevirtual 291, 3) := dk_182 1 35 (dk_at dksX1_merge_2 3 rfl rfl)
theorem dX1_merge_53 : decode cX1_merge 53 = .ok (.checkcast 118, 3) := dk_192 0 118 (dk_at dksX1_merge_2 6 rfl rfl)
theorem dX1_merge_56 : decode cX1_merge 56 = .ok (.invokevirtual 292, 3) := dk_182 1 36 (dk_at dksX1_merge_2 9 rfl rfl)
theorem dX1_merge_59 : decode cX1_merge 59 = .ok (.goto (-51), 3) := dk_167 255 205 (dk_at dksX1_merge_2 12 rfl rfl)
theorem dX1_merge_62 : decode cX1_merge 62 = .ok (.aload_n 0, 1) := dk_42 (dk_at dksX1_merge_2 15 rfl rfl)
theorem dX1_merge_63 : decode cX1_merge 63 = .ok (.invokevirtual 219, 3) := dk_182 0 219 (dk_at dksX1_merge_2 16 rfl rfl)
theorem dX1_merge_66 : decode cX1_merge 66 = .ok (.ifCond .eq 7, 3) := dk_153 0 7 (dk_at dksX1_merge_2 19 rfl rfl)
theorem dX1_merge_69 : decode cX1_merge 69 = .ok (.aload_n 1, 1) := dk_43 (dk_at dksX1_merge_2 22 rfl rfl)
theorem dX1_merge_70 : decode cX1_merge 70 = .ok (.goto 4, 3) := dk_167 0 4 (dk_at dksX1_merge_3 0 rfl rfl)
theorem dX1_merge_73 : decode cX1_merge 73 = .ok (.aload_n 0, 1) := dk_42 (dk_at dksX1_merge_3 3 rfl rfl)
theorem dX1_merge_74 : decode cX1_merge 74 = .ok (.invokevirtual 274, 3) := dk_182 1 18 (dk_at dksX1_merge_3 4 rfl rfl)
theorem dX1_merge_77 : decode cX1_merge 77 = .ok (.astore_n 3, 1) := dk_78 (dk_at dksX1_merge_3 7 rfl rfl)
theorem dX1_merge_78 : decode cX1_merge 78 = .ok (.aload_n 3, 1) := dk_45 (dk_at dksX1_merge_3 8 rfl rfl)
theorem dX1_merge_79 : decode cX1_merge 79 = .ok (.invokeinterface 247 1, 5) := by decide +kernel
theorem dX1_merge_84 : decode cX1_merge 84 = .ok (.ifCond .eq 23, 3) := dk_153 0 23 (dk_at dksX1_merge_3 14 rfl rfl)
theorem dX1_merge_87 : decode cX1_merge 87 = .ok (.aload_n 3, 1) := dk_45 (dk_at dksX1_merge_3 17 rfl rfl)
theorem dX1_merge_88 : decode cX1_merge 88 = .ok (.invokeinterface 252 1, 5) := by decide +kernel
theorem dX1_merge_93 : decode cX1_merge 93 = .ok (.checkcast 118, 3) := dk_192 0 118 (dk_at dksX1_merge_4 0 rfl rfl)
theorem dX1_merge_96 : decode cX1_merge 96 = .ok (.astore 4, 2) := dk_58 4 (dk_at dksX1_merge_4 3 rfl rfl)
theorem dX1_merge_98 : decode cX1_merge 98 = .ok (.aload_n 2, 1) := dk_44 (dk_at dksX1_merge_4 5 rfl rfl)
theorem dX1_merge_99 : decode cX1_merge 99 = .ok (.aload 4, 2) := dk_25 4 (dk_at dksX1_merge_4 6 rfl rfl)
theorem dX1_merge_101 : decode cX1_merge 101 = .ok (.invokevirtual 292, 3) := dk_182 1 36 (dk_at dksX1_merge_4 8 rfl rfl)
theorem dX1_merge_104 : decode cX1_merge 104 = .ok (.goto (-26), 3) := dk_167 255 230 (dk_at dksX1_merge_4 11 rfl rfl)
theorem dX1_merge_107 : decode cX1_merge 107 = .ok (.aload_n 2, 1) := dk_44 (dk_at dksX1_merge_4 14 rfl rfl)
theorem dX1_merge_108 : decode cX1_merge 108 = .ok (.areturn, 1) := dk_176 (dk_at dksX1_merge_4 15 rfl rfl)
abbrev cX1_expiresBefore : ByteArray := prog_1_method_68_code
def yX1_expiresBefore : MethodName := ⟨RX1, "expiresBefore", "(LClaimRegistry$Claim;LClaimRegistry$Claim;)Z"⟩
def dkwX1_expiresBefore_3 : List UInt8 := [3, 172]
abbrev dktX1_expiresBefore_3 : List UInt8 := dkwX1_expiresBefore_3 ++ []
def dkwX1_expiresBefore_2 : List UInt8 := [164, 0, 7, 4, 167, 0, 4, 3, 172, 42, 180, 0, 194, 43, 180, 0, 194, 162, 0, 7, 4, 167, 0, 4]
abbrev dktX1_expiresBefore_2 : List UInt8 := dkwX1_expiresBefore_2 ++ dktX1_expiresBefore_3
def dkwX1_expiresBefore_1 : List UInt8 := [167, 0, 4, 3, 172, 42, 180, 0, 162, 43, 180, 0, 162, 159, 0, 20, 42, 180, 0, 162, 43, 180, 0, 162]
abbrev dktX1_expiresBefore_1 : List UInt8 := dkwX1_expiresBefore_1 ++ dktX1_expiresBefore_2
def dkwX1_expiresBefore_0 : List UInt8 := [42, 180, 0, 146, 43, 180, 0, 146, 159, 0, 20, 42, 180, 0, 146, 43, 180, 0, 146, 162, 0, 7, 4]
abbrev dktX1_expiresBefore_0 : List UInt8 := dkwX1_expiresBefore_0 ++ dktX1_expiresBefore_1
theorem dksX1_expiresBefore_0 : cX1_expiresBefore.data.toList.drop 0 = dktX1_expiresBefore_0 := by decide +kernel
theorem dksX1_expiresBefore_1 : cX1_expiresBefore.data.toList.drop 23 = dktX1_expiresBefore_1 := dk_seg dksX1_expiresBefore_0 23 rfl rfl
theorem dksX1_expiresBefore_2 : cX1_expiresBefore.data.toList.drop 47 = dktX1_expiresBefore_2 := dk_seg dksX1_expiresBefore_1 24 rfl rfl
theorem dksX1_expiresBefore_3 : cX1_expiresBefore.data.toList.drop 71 = dktX1_expiresBefore_3 := dk_seg dksX1_expiresBefore_2 24 rfl rfl
theorem dX1_expiresBefore_0 : decode cX1_expiresBefore 0 = .ok (.aload_n 0, 1) := dk_42 (dk_at dksX1_expiresBefore_0 0 rfl rfl)
theorem dX1_expiresBefore_1 : decode cX1_expiresBefore 1 = .ok (.getfield 146, 3) := dk_180 0 146 (dk_at dksX1_expiresBefore_0 1 rfl rfl)
theorem dX1_expiresBefore_4 : decode cX1_expiresBefore 4 = .ok (.aload_n 1, 1) := dk_43 (dk_at dksX1_expiresBefore_0 4 rfl rfl)
theorem dX1_expiresBefore_5 : decode cX1_expiresBefore 5 = .ok (.getfield 146, 3) := dk_180 0 146 (dk_at dksX1_expiresBefore_0 5 rfl rfl)
theorem dX1_expiresBefore_8 : decode cX1_expiresBefore 8 = .ok (.if_icmp .eq 20, 3) := dk_159 0 20 (dk_at dksX1_expiresBefore_0 8 rfl rfl)
theorem dX1_expiresBefore_11 : decode cX1_expiresBefore 11 = .ok (.aload_n 0, 1) := dk_42 (dk_at dksX1_expiresBefore_0 11 rfl rfl)
theorem dX1_expiresBefore_12 : decode cX1_expiresBefore 12 = .ok (.getfield 146, 3) := dk_180 0 146 (dk_at dksX1_expiresBefore_0 12 rfl rfl)
theorem dX1_expiresBefore_15 : decode cX1_expiresBefore 15 = .ok (.aload_n 1, 1) := dk_43 (dk_at dksX1_expiresBefore_0 15 rfl rfl)
theorem dX1_expiresBefore_16 : decode cX1_expiresBefore 16 = .ok (.getfield 146, 3) := dk_180 0 146 (dk_at dksX1_expiresBefore_0 16 rfl rfl)
theorem dX1_expiresBefore_19 : decode cX1_expiresBefore 19 = .ok (.if_icmp .ge 7, 3) := dk_162 0 7 (dk_at dksX1_expiresBefore_0 19 rfl rfl)
theorem dX1_expiresBefore_22 : decode cX1_expiresBefore 22 = .ok (.iconst 1, 1) := dk_4 (dk_at dksX1_expiresBefore_0 22 rfl rfl)
theorem dX1_expiresBefore_23 : decode cX1_expiresBefore 23 = .ok (.goto 4, 3) := dk_167 0 4 (dk_at dksX1_expiresBefore_1 0 rfl rfl)
theorem dX1_expiresBefore_26 : decode cX1_expiresBefore 26 = .ok (.iconst 0, 1) := dk_3 (dk_at dksX1_expiresBefore_1 3 rfl rfl)
theorem dX1_expiresBefore_27 : decode cX1_expiresBefore 27 = .ok (.ireturn, 1) := dk_172 (dk_at dksX1_expiresBefore_1 4 rfl rfl)
theorem dX1_expiresBefore_28 : decode cX1_expiresBefore 28 = .ok (.aload_n 0, 1) := dk_42 (dk_at dksX1_expiresBefore_1 5 rfl rfl)
theorem dX1_expiresBefore_29 : decode cX1_expiresBefore 29 = .ok (.getfield 162, 3) := dk_180 0 162 (dk_at dksX1_expiresBefore_1 6 rfl rfl)
theorem dX1_expiresBefore_32 : decode cX1_expiresBefore 32 = .ok (.aload_n 1, 1) := dk_43 (dk_at dksX1_expiresBefore_1 9 rfl rfl)
theorem dX1_expiresBefore_33 : decode cX1_expiresBefore 33 = .ok (.getfield 162, 3) := dk_180 0 162 (dk_at dksX1_expiresBefore_1 10 rfl rfl)
theorem dX1_expiresBefore_36 : decode cX1_expiresBefore 36 = .ok (.if_icmp .eq 20, 3) := dk_159 0 20 (dk_at dksX1_expiresBefore_1 13 rfl rfl)
theorem dX1_expiresBefore_39 : decode cX1_expiresBefore 39 = .ok (.aload_n 0, 1) := dk_42 (dk_at dksX1_expiresBefore_1 16 rfl rfl)
theorem dX1_expiresBefore_40 : decode cX1_expiresBefore 40 = .ok (.getfield 162, 3) := dk_180 0 162 (dk_at dksX1_expiresBefore_1 17 rfl rfl)
theorem dX1_expiresBefore_43 : decode cX1_expiresBefore 43 = .ok (.aload_n 1, 1) := dk_43 (dk_at dksX1_expiresBefore_1 20 rfl rfl)
theorem dX1_expiresBefore_44 : decode cX1_expiresBefore 44 = .ok (.getfield 162, 3) := dk_180 0 162 (dk_at dksX1_expiresBefore_1 21 rfl rfl)
theorem dX1_expiresBefore_47 : decode cX1_expiresBefore 47 = .ok (.if_icmp .le 7, 3) := dk_164 0 7 (dk_at dksX1_expiresBefore_2 0 rfl rfl)
theorem dX1_expiresBefore_50 : decode cX1_expiresBefore 50 = .ok (.iconst 1, 1) := dk_4 (dk_at dksX1_expiresBefore_2 3 rfl rfl)
theorem dX1_expiresBefore_51 : decode cX1_expiresBefore 51 = .ok (.goto 4, 3) := dk_167 0 4 (dk_at dksX1_expiresBefore_2 4 rfl rfl)
theorem dX1_expiresBefore_54 : decode cX1_expiresBefore 54 = .ok (.iconst 0, 1) := dk_3 (dk_at dksX1_expiresBefore_2 7 rfl rfl)
theorem dX1_expiresBefore_55 : decode cX1_expiresBefore 55 = .ok (.ireturn, 1) := dk_172 (dk_at dksX1_expiresBefore_2 8 rfl rfl)
theorem dX1_expiresBefore_56 : decode cX1_expiresBefore 56 = .ok (.aload_n 0, 1) := dk_42 (dk_at dksX1_expiresBefore_2 9 rfl rfl)
theorem dX1_expiresBefore_57 : decode cX1_expiresBefore 57 = .ok (.getfield 194, 3) := dk_180 0 194 (dk_at dksX1_expiresBefore_2 10 rfl rfl)
theorem dX1_expiresBefore_60 : decode cX1_expiresBefore 60 = .ok (.aload_n 1, 1) := dk_43 (dk_at dksX1_expiresBefore_2 13 rfl rfl)
theorem dX1_expiresBefore_61 : decode cX1_expiresBefore 61 = .ok (.getfield 194, 3) := dk_180 0 194 (dk_at dksX1_expiresBefore_2 14 rfl rfl)
theorem dX1_expiresBefore_64 : decode cX1_expiresBefore 64 = .ok (.if_icmp .ge 7, 3) := dk_162 0 7 (dk_at dksX1_expiresBefore_2 17 rfl rfl)
theorem dX1_expiresBefore_67 : decode cX1_expiresBefore 67 = .ok (.iconst 1, 1) := dk_4 (dk_at dksX1_expiresBefore_2 20 rfl rfl)
theorem dX1_expiresBefore_68 : decode cX1_expiresBefore 68 = .ok (.goto 4, 3) := dk_167 0 4 (dk_at dksX1_expiresBefore_2 21 rfl rfl)
theorem dX1_expiresBefore_71 : decode cX1_expiresBefore 71 = .ok (.iconst 0, 1) := dk_3 (dk_at dksX1_expiresBefore_3 0 rfl rfl)
theorem dX1_expiresBefore_72 : decode cX1_expiresBefore 72 = .ok (.ireturn, 1) := dk_172 (dk_at dksX1_expiresBefore_3 1 rfl rfl)
abbrev cX1_expiryRank : ByteArray := prog_1_method_72_code
def yX1_expiryRank : MethodName := ⟨RX1, "expiryRank", "(I)I"⟩
def dkwX1_expiryRank_0 : List UInt8 := [42, 27, 182, 0, 133, 77, 42, 180, 0, 10, 44, 186, 1, 45, 0, 0, 182, 0, 112, 172]
abbrev dktX1_expiryRank_0 : List UInt8 := dkwX1_expiryRank_0 ++ []
theorem dksX1_expiryRank_0 : cX1_expiryRank.data.toList.drop 0 = dktX1_expiryRank_0 := by decide +kernel
theorem dX1_expiryRank_0 : decode cX1_expiryRank 0 = .ok (.aload_n 0, 1) := dk_42 (dk_at dksX1_expiryRank_0 0 rfl rfl)
theorem dX1_expiryRank_1 : decode cX1_expiryRank 1 = .ok (.iload_n 1, 1) := dk_27 (dk_at dksX1_expiryRank_0 1 rfl rfl)
theorem dX1_expiryRank_2 : decode cX1_expiryRank 2 = .ok (.invokevirtual 133, 3) := dk_182 0 133 (dk_at dksX1_expiryRank_0 2 rfl rfl)
theorem dX1_expiryRank_5 : decode cX1_expiryRank 5 = .ok (.astore_n 2, 1) := dk_77 (dk_at dksX1_expiryRank_0 5 rfl rfl)
theorem dX1_expiryRank_6 : decode cX1_expiryRank 6 = .ok (.aload_n 0, 1) := dk_42 (dk_at dksX1_expiryRank_0 6 rfl rfl)
theorem dX1_expiryRank_7 : decode cX1_expiryRank 7 = .ok (.getfield 10, 3) := dk_180 0 10 (dk_at dksX1_expiryRank_0 7 rfl rfl)
theorem dX1_expiryRank_10 : decode cX1_expiryRank 10 = .ok (.aload_n 2, 1) := dk_44 (dk_at dksX1_expiryRank_0 10 rfl rfl)
theorem dX1_expiryRank_11 : decode cX1_expiryRank 11 = .ok (.invokedynamic 301, 5) := by decide +kernel
theorem dX1_expiryRank_16 : decode cX1_expiryRank 16 = .ok (.invokevirtual 112, 3) := dk_182 0 112 (dk_at dksX1_expiryRank_0 16 rfl rfl)
theorem dX1_expiryRank_19 : decode cX1_expiryRank 19 = .ok (.ireturn, 1) := dk_172 (dk_at dksX1_expiryRank_0 19 rfl rfl)
abbrev cX1_lambda_expiryRank_9 : ByteArray := prog_1_method_103_code
def yX1_lambda_expiryRank_9 : MethodName := ⟨RX1, "lambda$expiryRank$9", "(LClaimRegistry$Claim;LClaimRegistry$Claim;)Z"⟩
def dkwX1_lambda_expiryRank_9_0 : List UInt8 := [43, 42, 184, 1, 31, 172]
abbrev dktX1_lambda_expiryRank_9_0 : List UInt8 := dkwX1_lambda_expiryRank_9_0 ++ []
theorem dksX1_lambda_expiryRank_9_0 : cX1_lambda_expiryRank_9.data.toList.drop 0 = dktX1_lambda_expiryRank_9_0 := by decide +kernel
theorem dX1_lambda_expiryRank_9_0 : decode cX1_lambda_expiryRank_9 0 = .ok (.aload_n 1, 1) := dk_43 (dk_at dksX1_lambda_expiryRank_9_0 0 rfl rfl)
theorem dX1_lambda_expiryRank_9_1 : decode cX1_lambda_expiryRank_9 1 = .ok (.aload_n 0, 1) := dk_42 (dk_at dksX1_lambda_expiryRank_9_0 1 rfl rfl)
theorem dX1_lambda_expiryRank_9_2 : decode cX1_lambda_expiryRank_9 2 = .ok (.invokestatic 287, 3) := dk_184 1 31 (dk_at dksX1_lambda_expiryRank_9_0 2 rfl rfl)
theorem dX1_lambda_expiryRank_9_5 : decode cX1_lambda_expiryRank_9 5 = .ok (.ireturn, 1) := dk_172 (dk_at dksX1_lambda_expiryRank_9_0 5 rfl rfl)
abbrev cX1_expiringWithin : ByteArray := prog_1_method_76_code
def yX1_expiringWithin : MethodName := ⟨RX1, "expiringWithin", "(I)I"⟩
def dkwX1_expiringWithin_0 : List UInt8 := [27, 184, 1, 49, 184, 0, 88, 42, 27, 182, 1, 52, 172]
abbrev dktX1_expiringWithin_0 : List UInt8 := dkwX1_expiringWithin_0 ++ []
theorem dksX1_expiringWithin_0 : cX1_expiringWithin.data.toList.drop 0 = dktX1_expiringWithin_0 := by decide +kernel
theorem dX1_expiringWithin_0 : decode cX1_expiringWithin 0 = .ok (.iload_n 1, 1) := dk_27 (dk_at dksX1_expiringWithin_0 0 rfl rfl)
theorem dX1_expiringWithin_1 : decode cX1_expiringWithin 1 = .ok (.invokestatic 305, 3) := dk_184 1 49 (dk_at dksX1_expiringWithin_0 1 rfl rfl)
theorem dX1_expiringWithin_4 : decode cX1_expiringWithin 4 = .ok (.invokestatic 88, 3) := dk_184 0 88 (dk_at dksX1_expiringWithin_0 4 rfl rfl)
theorem dX1_expiringWithin_7 : decode cX1_expiringWithin 7 = .ok (.aload_n 0, 1) := dk_42 (dk_at dksX1_expiringWithin_0 7 rfl rfl)
theorem dX1_expiringWithin_8 : decode cX1_expiringWithin 8 = .ok (.iload_n 1, 1) := dk_27 (dk_at dksX1_expiringWithin_0 8 rfl rfl)
theorem dX1_expiringWithin_9 : decode cX1_expiringWithin 9 = .ok (.invokevirtual 308, 3) := dk_182 1 52 (dk_at dksX1_expiringWithin_0 9 rfl rfl)
theorem dX1_expiringWithin_12 : decode cX1_expiringWithin 12 = .ok (.ireturn, 1) := dk_172 (dk_at dksX1_expiringWithin_0 12 rfl rfl)
abbrev cX1_isForecast : ByteArray := prog_1_method_75_code
def yX1_isForecast : MethodName := ⟨RX1, "isForecast", "(I)Z"⟩
def dkwX1_isForecast_0 : List UInt8 := [26, 3, 16, 50, 184, 0, 52, 172]
abbrev dktX1_isForecast_0 : List UInt8 := dkwX1_isForecast_0 ++ []
theorem dksX1_isForecast_0 : cX1_isForecast.data.toList.drop 0 = dktX1_isForecast_0 := by decide +kernel
theorem dX1_isForecast_0 : decode cX1_isForecast 0 = .ok (.iload_n 0, 1) := dk_26 (dk_at dksX1_isForecast_0 0 rfl rfl)
theorem dX1_isForecast_1 : decode cX1_isForecast 1 = .ok (.iconst 0, 1) := dk_3 (dk_at dksX1_isForecast_0 1 rfl rfl)
theorem dX1_isForecast_2 : decode cX1_isForecast 2 = .ok (.bipush 50, 2) := dk_16 50 (dk_at dksX1_isForecast_0 2 rfl rfl)
theorem dX1_isForecast_4 : decode cX1_isForecast 4 = .ok (.invokestatic 52, 3) := dk_184 0 52 (dk_at dksX1_isForecast_0 4 rfl rfl)
theorem dX1_isForecast_7 : decode cX1_isForecast 7 = .ok (.ireturn, 1) := dk_172 (dk_at dksX1_isForecast_0 7 rfl rfl)
abbrev cX1_expiringBySimulation : ByteArray := prog_1_method_77_code
def yX1_expiringBySimulation : MethodName := ⟨RX1, "expiringBySimulation", "(I)I"⟩
def dkwX1_expiringBySimulation_0 : List UInt8 := [27, 184, 1, 49, 184, 0, 88, 42, 27, 182, 1, 55, 172]
abbrev dktX1_expiringBySimulation_0 : List UInt8 := dkwX1_expiringBySimulation_0 ++ []
theorem dksX1_expiringBySimulation_0 : cX1_expiringBySimulation.data.toList.drop 0 = dktX1_expiringBySimulation_0 := by decide +kernel
theorem dX1_expiringBySimulation_0 : decode cX1_expiringBySimulation 0 = .ok (.iload_n 1, 1) := dk_27 (dk_at dksX1_expiringBySimulation_0 0 rfl rfl)
theorem dX1_expiringBySimulation_1 : decode cX1_expiringBySimulation 1 = .ok (.invokestatic 305, 3) := dk_184 1 49 (dk_at dksX1_expiringBySimulation_0 1 rfl rfl)
theorem dX1_expiringBySimulation_4 : decode cX1_expiringBySimulation 4 = .ok (.invokestatic 88, 3) := dk_184 0 88 (dk_at dksX1_expiringBySimulation_0 4 rfl rfl)
theorem dX1_expiringBySimulation_7 : decode cX1_expiringBySimulation 7 = .ok (.aload_n 0, 1) := dk_42 (dk_at dksX1_expiringBySimulation_0 7 rfl rfl)
theorem dX1_expiringBySimulation_8 : decode cX1_expiringBySimulation 8 = .ok (.iload_n 1, 1) := dk_27 (dk_at dksX1_expiringBySimulation_0 8 rfl rfl)
theorem dX1_expiringBySimulation_9 : decode cX1_expiringBySimulation 9 = .ok (.invokevirtual 311, 3) := dk_182 1 55 (dk_at dksX1_expiringBySimulation_0 9 rfl rfl)
theorem dX1_expiringBySimulation_12 : decode cX1_expiringBySimulation 12 = .ok (.ireturn, 1) := dk_172 (dk_at dksX1_expiringBySimulation_0 12 rfl rfl)
abbrev cX1_weightAfter : ByteArray := prog_1_method_78_code
def yX1_weightAfter : MethodName := ⟨RX1, "weightAfter", "(II)I"⟩
def dkwX1_weightAfter_2 : List UInt8 := [46, 182, 1, 61, 87, 132, 4, 1, 167, 255, 221, 45, 180, 0, 162, 172]
abbrev dktX1_weightAfter_2 : List UInt8 := dkwX1_weightAfter_2 ++ []
def dkwX1_weightAfter_1 : List UInt8 := [163, 0, 35, 45, 42, 180, 0, 10, 180, 0, 177, 42, 180, 0, 10, 180, 0, 181, 21, 4, 96, 184, 0, 184]
abbrev dktX1_weightAfter_1 : List UInt8 := dkwX1_weightAfter_1 ++ dktX1_weightAfter_2
def dkwX1_weightAfter_0 : List UInt8 := [42, 27, 182, 0, 133, 182, 1, 58, 78, 28, 184, 1, 49, 184, 0, 88, 4, 54, 4, 21, 4, 28]
abbrev dktX1_weightAfter_0 : List UInt8 := dkwX1_weightAfter_0 ++ dktX1_weightAfter_1
theorem dksX1_weightAfter_0 : cX1_weightAfter.data.toList.drop 0 = dktX1_weightAfter_0 := by decide +kernel
theorem dksX1_weightAfter_1 : cX1_weightAfter.data.toList.drop 22 = dktX1_weightAfter_1 := dk_seg dksX1_weightAfter_0 22 rfl rfl
theorem dksX1_weightAfter_2 : cX1_weightAfter.data.toList.drop 46 = dktX1_weightAfter_2 := dk_seg dksX1_weightAfter_1 24 rfl rfl
theorem dX1_weightAfter_0 : decode cX1_weightAfter 0 = .ok (.aload_n 0, 1) := dk_42 (dk_at dksX1_weightAfter_0 0 rfl rfl)
theorem dX1_weightAfter_1 : decode cX1_weightAfter 1 = .ok (.iload_n 1, 1) := dk_27 (dk_at dksX1_weightAfter_0 1 rfl rfl)
theorem dX1_weightAfter_2 : decode cX1_weightAfter 2 = .ok (.invokevirtual 133, 3) := dk_182 0 133 (dk_at dksX1_weightAfter_0 2 rfl rfl)
theorem dX1_weightAfter_5 : decode cX1_weightAfter 5 = .ok (.invokevirtual 314, 3) := dk_182 1 58 (dk_at dksX1_weightAfter_0 5 rfl rfl)
theorem dX1_weightAfter_8 : decode cX1_weightAfter 8 = .ok (.astore_n 3, 1) := dk_78 (dk_at dksX1_weightAfter_0 8 rfl rfl)
theorem dX1_weightAfter_9 : decode cX1_weightAfter 9 = .ok (.iload_n 2, 1) := dk_28 (dk_at dksX1_weightAfter_0 9 rfl rfl)
theorem dX1_weightAfter_10 : decode cX1_weightAfter 10 = .ok (.invokestatic 305, 3) := dk_184 1 49 (dk_at dksX1_weightAfter_0 10 rfl rfl)
theorem dX1_weightAfter_13 : decode cX1_weightAfter 13 = .ok (.invokestatic 88, 3) := dk_184 0 88 (dk_at dksX1_weightAfter_0 13 rfl rfl)
theorem dX1_weightAfter_16 : decode cX1_weightAfter 16 = .ok (.iconst 1, 1) := dk_4 (dk_at dksX1_weightAfter_0 16 rfl rfl)
theorem dX1_weightAfter_17 : decode cX1_weightAfter 17 = .ok (.istore 4, 2) := dk_54 4 (dk_at dksX1_weightAfter_0 17 rfl rfl)
theorem dX1_weightAfter_19 : decode cX1_weightAfter 19 = .ok (.iload 4, 2) := dk_21 4 (dk_at dksX1_weightAfter_0 19 rfl rfl)
theorem dX1_weightAfter_21 : decode cX1_weightAfter 21 = .ok (.iload_n 2, 1) := dk_28 (dk_at dksX1_weightAfter_0 21 rfl rfl)
theorem dX1_weightAfter_22 : decode cX1_weightAfter 22 = .ok (.if_icmp .gt 35, 3) := dk_163 0 35 (dk_at dksX1_weightAfter_1 0 rfl rfl)
theorem dX1_weightAfter_25 : decode cX1_weightAfter 25 = .ok (.aload_n 3, 1) := dk_45 (dk_at dksX1_weightAfter_1 3 rfl rfl)
theorem dX1_weightAfter_26 : decode cX1_weightAfter 26 = .ok (.aload_n 0, 1) := dk_42 (dk_at dksX1_weightAfter_1 4 rfl rfl)
theorem dX1_weightAfter_27 : decode cX1_weightAfter 27 = .ok (.getfield 10, 3) := dk_180 0 10 (dk_at dksX1_weightAfter_1 5 rfl rfl)
theorem dX1_weightAfter_30 : decode cX1_weightAfter 30 = .ok (.getfield 177, 3) := dk_180 0 177 (dk_at dksX1_weightAfter_1 8 rfl rfl)
theorem dX1_weightAfter_33 : decode cX1_weightAfter 33 = .ok (.aload_n 0, 1) := dk_42 (dk_at dksX1_weightAfter_1 11 rfl rfl)
theorem dX1_weightAfter_34 : decode cX1_weightAfter 34 = .ok (.getfield 10, 3) := dk_180 0 10 (dk_at dksX1_weightAfter_1 12 rfl rfl)
theorem dX1_weightAfter_37 : decode cX1_weightAfter 37 = .ok (.getfield 181, 3) := dk_180 0 181 (dk_at dksX1_weightAfter_1 15 rfl rfl)
theorem dX1_weightAfter_40 : decode cX1_weightAfter 40 = .ok (.iload 4, 2) := dk_21 4 (dk_at dksX1_weightAfter_1 18 rfl rfl)
theorem dX1_weightAfter_42 : decode cX1_weightAfter 42 = .ok (.iadd, 1) := dk_96 (dk_at dksX1_weightAfter_1 20 rfl rfl)
theorem dX1_weightAfter_43 : decode cX1_weightAfter 43 = .ok (.invokestatic 184, 3) := dk_184 0 184 (dk_at dksX1_weightAfter_1 21 rfl rfl)
theorem dX1_weightAfter_46 : decode cX1_weightAfter 46 = .ok (.iaload, 1) := dk_46 (dk_at dksX1_weightAfter_2 0 rfl rfl)
theorem dX1_weightAfter_47 : decode cX1_weightAfter 47 = .ok (.invokevirtual 317, 3) := dk_182 1 61 (dk_at dksX1_weightAfter_2 1 rfl rfl)
theorem dX1_weightAfter_50 : decode cX1_weightAfter 50 = .ok (.pop, 1) := dk_87 (dk_at dksX1_weightAfter_2 4 rfl rfl)
theorem dX1_weightAfter_51 : decode cX1_weightAfter 51 = .ok (.iinc 4 1, 3) := dk_132 4 1 (dk_at dksX1_weightAfter_2 5 rfl rfl)
theorem dX1_weightAfter_54 : decode cX1_weightAfter 54 = .ok (.goto (-35), 3) := dk_167 255 221 (dk_at dksX1_weightAfter_2 8 rfl rfl)
theorem dX1_weightAfter_57 : decode cX1_weightAfter 57 = .ok (.aload_n 3, 1) := dk_45 (dk_at dksX1_weightAfter_2 11 rfl rfl)
theorem dX1_weightAfter_58 : decode cX1_weightAfter 58 = .ok (.getfield 162, 3) := dk_180 0 162 (dk_at dksX1_weightAfter_2 12 rfl rfl)
theorem dX1_weightAfter_61 : decode cX1_weightAfter 61 = .ok (.ireturn, 1) := dk_172 (dk_at dksX1_weightAfter_2 15 rfl rfl)
abbrev cX1_canSign : ByteArray := prog_1_method_41_code
def yX1_canSign : MethodName := ⟨RX1, "canSign", "(II)Z"⟩
def dkwX1_canSign_0 : List UInt8 := [42, 27, 182, 0, 133, 78, 28, 184, 0, 136, 184, 0, 88, 42, 45, 28, 182, 0, 139, 172]
abbrev dktX1_canSign_0 : List UInt8 := dkwX1_canSign_0 ++ []
theorem dksX1_canSign_0 : cX1_canSign.data.toList.drop 0 = dktX1_canSign_0 := by decide +kernel
theorem dX1_canSign_0 : decode cX1_canSign 0 = .ok (.aload_n 0, 1) := dk_42 (dk_at dksX1_canSign_0 0 rfl rfl)
theorem dX1_canSign_1 : decode cX1_canSign 1 = .ok (.iload_n 1, 1) := dk_27 (dk_at dksX1_canSign_0 1 rfl rfl)
theorem dX1_canSign_2 : decode cX1_canSign 2 = .ok (.invokevirtual 133, 3) := dk_182 0 133 (dk_at dksX1_canSign_0 2 rfl rfl)
theorem dX1_canSign_5 : decode cX1_canSign 5 = .ok (.astore_n 3, 1) := dk_78 (dk_at dksX1_canSign_0 5 rfl rfl)
theorem dX1_canSign_6 : decode cX1_canSign 6 = .ok (.iload_n 2, 1) := dk_28 (dk_at dksX1_canSign_0 6 rfl rfl)
theorem dX1_canSign_7 : decode cX1_canSign 7 = .ok (.invokestatic 136, 3) := dk_184 0 136 (dk_at dksX1_canSign_0 7 rfl rfl)
theorem dX1_canSign_10 : decode cX1_canSign 10 = .ok (.invokestatic 88, 3) := dk_184 0 88 (dk_at dksX1_canSign_0 10 rfl rfl)
theorem dX1_canSign_13 : decode cX1_canSign 13 = .ok (.aload_n 0, 1) := dk_42 (dk_at dksX1_canSign_0 13 rfl rfl)
theorem dX1_canSign_14 : decode cX1_canSign 14 = .ok (.aload_n 3, 1) := dk_45 (dk_at dksX1_canSign_0 14 rfl rfl)
theorem dX1_canSign_15 : decode cX1_canSign 15 = .ok (.iload_n 2, 1) := dk_28 (dk_at dksX1_canSign_0 15 rfl rfl)
theorem dX1_canSign_16 : decode cX1_canSign 16 = .ok (.invokevirtual 139, 3) := dk_182 0 139 (dk_at dksX1_canSign_0 16 rfl rfl)
theorem dX1_canSign_19 : decode cX1_canSign 19 = .ok (.ireturn, 1) := dk_172 (dk_at dksX1_canSign_0 19 rfl rfl)
abbrev cX1_canCountersign : ByteArray := prog_1_method_42_code
def yX1_canCountersign : MethodName := ⟨RX1, "canCountersign", "(II)Z"⟩
def dkwX1_canCountersign_0 : List UInt8 := [42, 27, 182, 0, 133, 78, 28, 184, 0, 149, 184, 0, 88, 42, 45, 28, 182, 0, 152, 172]
abbrev dktX1_canCountersign_0 : List UInt8 := dkwX1_canCountersign_0 ++ []
theorem dksX1_canCountersign_0 : cX1_canCountersign.data.toList.drop 0 = dktX1_canCountersign_0 := by decide +kernel
theorem dX1_canCountersign_0 : decode cX1_canCountersign 0 = .ok (.aload_n 0, 1) := dk_42 (dk_at dksX1_canCountersign_0 0 rfl rfl)
theorem dX1_canCountersign_1 : decode cX1_canCountersign 1 = .ok (.iload_n 1, 1) := dk_27 (dk_at dksX1_canCountersign_0 1 rfl rfl)
theorem dX1_canCountersign_2 : decode cX1_canCountersign 2 = .ok (.invokevirtual 133, 3) := dk_182 0 133 (dk_at dksX1_canCountersign_0 2 rfl rfl)
theorem dX1_canCountersign_5 : decode cX1_canCountersign 5 = .ok (.astore_n 3, 1) := dk_78 (dk_at dksX1_canCountersign_0 5 rfl rfl)
theorem dX1_canCountersign_6 : decode cX1_canCountersign 6 = .ok (.iload_n 2, 1) := dk_28 (dk_at dksX1_canCountersign_0 6 rfl rfl)
theorem dX1_canCountersign_7 : decode cX1_canCountersign 7 = .ok (.invokestatic 149, 3) := dk_184 0 149 (dk_at dksX1_canCountersign_0 7 rfl rfl)
theorem dX1_canCountersign_10 : decode cX1_canCountersign 10 = .ok (.invokestatic 88, 3) := dk_184 0 88 (dk_at dksX1_canCountersign_0 10 rfl rfl)
theorem dX1_canCountersign_13 : decode cX1_canCountersign 13 = .ok (.aload_n 0, 1) := dk_42 (dk_at dksX1_canCountersign_0 13 rfl rfl)
theorem dX1_canCountersign_14 : decode cX1_canCountersign 14 = .ok (.aload_n 3, 1) := dk_45 (dk_at dksX1_canCountersign_0 14 rfl rfl)
theorem dX1_canCountersign_15 : decode cX1_canCountersign 15 = .ok (.iload_n 2, 1) := dk_28 (dk_at dksX1_canCountersign_0 15 rfl rfl)
theorem dX1_canCountersign_16 : decode cX1_canCountersign 16 = .ok (.invokevirtual 152, 3) := dk_182 0 152 (dk_at dksX1_canCountersign_0 16 rfl rfl)
theorem dX1_canCountersign_19 : decode cX1_canCountersign 19 = .ok (.ireturn, 1) := dk_172 (dk_at dksX1_canCountersign_0 19 rfl rfl)
abbrev cX1_recentlyExpired : ByteArray := prog_1_method_79_code
def yX1_recentlyExpired : MethodName := ⟨RX1, "recentlyExpired", "(I)I"⟩
def dkwX1_recentlyExpired_2 : List UInt8 := [167, 255, 222, 187, 0, 46, 89, 183, 0, 48, 191]
abbrev dktX1_recentlyExpired_2 : List UInt8 := dkwX1_recentlyExpired_2 ++ []
def dkwX1_recentlyExpired_1 : List UInt8 := [185, 0, 252, 1, 0, 192, 0, 238, 182, 0, 240, 54, 4, 28, 27, 160, 0, 6, 21, 4, 172, 132, 2, 1]
abbrev dktX1_recentlyExpired_1 : List UInt8 := dkwX1_recentlyExpired_1 ++ dktX1_recentlyExpired_2
def dkwX1_recentlyExpired_0 : List UInt8 := [3, 61, 42, 180, 0, 10, 180, 1, 64, 182, 0, 243, 78, 45, 185, 0, 247, 1, 0, 153, 0, 31, 45]
abbrev dktX1_recentlyExpired_0 : List UInt8 := dkwX1_recentlyExpired_0 ++ dktX1_recentlyExpired_1
theorem dksX1_recentlyExpired_0 : cX1_recentlyExpired.data.toList.drop 0 = dktX1_recentlyExpired_0 := by decide +kernel
theorem dksX1_recentlyExpired_1 : cX1_recentlyExpired.data.toList.drop 23 = dktX1_recentlyExpired_1 := dk_seg dksX1_recentlyExpired_0 23 rfl rfl
theorem dksX1_recentlyExpired_2 : cX1_recentlyExpired.data.toList.drop 47 = dktX1_recentlyExpired_2 := dk_seg dksX1_recentlyExpired_1 24 rfl rfl
theorem dX1_recentlyExpired_0 : decode cX1_recentlyExpired 0 = .ok (.iconst 0, 1) := dk_3 (dk_at dksX1_recentlyExpired_0 0 rfl rfl)
theorem dX1_recentlyExpired_1 : decode cX1_recentlyExpired 1 = .ok (.istore_n 2, 1) := dk_61 (dk_at dksX1_recentlyExpired_0 1 rfl rfl)
theorem dX1_recentlyExpired_2 : decode cX1_recentlyExpired 2 = .ok (.aload_n 0, 1) := dk_42 (dk_at dksX1_recentlyExpired_0 2 rfl rfl)
theorem dX1_recentlyExpired_3 : decode cX1_recentlyExpired 3 = .ok (.getfield 10, 3) := dk_180 0 10 (dk_at dksX1_recentlyExpired_0 3 rfl rfl)
theorem dX1_recentlyExpired_6 : decode cX1_recentlyExpired 6 = .ok (.getfield 320, 3) := dk_180 1 64 (dk_at dksX1_recentlyExpired_0 6 rfl rfl)
theorem dX1_recentlyExpired_9 : decode cX1_recentlyExpired 9 = .ok (.invokevirtual 243, 3) := dk_182 0 243 (dk_at dksX1_recentlyExpired_0 9 rfl rfl)
theorem dX1_recentlyExpired_12 : decode cX1_recentlyExpired 12 = .ok (.astore_n 3, 1) := dk_78 (dk_at dksX1_recentlyExpired_0 12 rfl rfl)
theorem dX1_recentlyExpired_13 : decode cX1_recentlyExpired 13 = .ok (.aload_n 3, 1) := dk_45 (dk_at dksX1_recentlyExpired_0 13 rfl rfl)
theorem dX1_recentlyExpired_14 : decode cX1_recentlyExpired 14 = .ok (.invokeinterface 247 1, 5) := by decide +kernel
theorem dX1_recentlyExpired_19 : decode cX1_recentlyExpired 19 = .ok (.ifCond .eq 31, 3) := dk_153 0 31 (dk_at dksX1_recentlyExpired_0 19 rfl rfl)
theorem dX1_recentlyExpired_22 : decode cX1_recentlyExpired 22 = .ok (.aload_n 3, 1) := dk_45 (dk_at dksX1_recentlyExpired_0 22 rfl rfl)
theorem dX1_recentlyExpired_23 : decode cX1_recentlyExpired 23 = .ok (.invokeinterface 252 1, 5) := by decide +kernel
theorem dX1_recentlyExpired_28 : decode cX1_recentlyExpired 28 = .ok (.checkcast 238, 3) := dk_192 0 238 (dk_at dksX1_recentlyExpired_1 5 rfl rfl)
theorem dX1_recentlyExpired_31 : decode cX1_recentlyExpired 31 = .ok (.invokevirtual 240, 3) := dk_182 0 240 (dk_at dksX1_recentlyExpired_1 8 rfl rfl)
theorem dX1_recentlyExpired_34 : decode cX1_recentlyExpired 34 = .ok (.istore 4, 2) := dk_54 4 (dk_at dksX1_recentlyExpired_1 11 rfl rfl)
theorem dX1_recentlyExpired_36 : decode cX1_recentlyExpired 36 = .ok (.iload_n 2, 1) := dk_28 (dk_at dksX1_recentlyExpired_1 13 rfl rfl)
theorem dX1_recentlyExpired_37 : decode cX1_recentlyExpired 37 = .ok (.iload_n 1, 1) := dk_27 (dk_at dksX1_recentlyExpired_1 14 rfl rfl)
theorem dX1_recentlyExpired_38 : decode cX1_recentlyExpired 38 = .ok (.if_icmp .ne 6, 3) := dk_160 0 6 (dk_at dksX1_recentlyExpired_1 15 rfl rfl)
theorem dX1_recentlyExpired_41 : decode cX1_recentlyExpired 41 = .ok (.iload 4, 2) := dk_21 4 (dk_at dksX1_recentlyExpired_1 18 rfl rfl)
theorem dX1_recentlyExpired_43 : decode cX1_recentlyExpired 43 = .ok (.ireturn, 1) := dk_172 (dk_at dksX1_recentlyExpired_1 20 rfl rfl)
theorem dX1_recentlyExpired_44 : decode cX1_recentlyExpired 44 = .ok (.iinc 2 1, 3) := dk_132 2 1 (dk_at dksX1_recentlyExpired_1 21 rfl rfl)
theorem dX1_recentlyExpired_47 : decode cX1_recentlyExpired 47 = .ok (.goto (-34), 3) := dk_167 255 222 (dk_at dksX1_recentlyExpired_2 0 rfl rfl)
theorem dX1_recentlyExpired_50 : decode cX1_recentlyExpired 50 = .ok (.new 46, 3) := dk_187 0 46 (dk_at dksX1_recentlyExpired_2 3 rfl rfl)
theorem dX1_recentlyExpired_53 : decode cX1_recentlyExpired 53 = .ok (.dup, 1) := dk_89 (dk_at dksX1_recentlyExpired_2 6 rfl rfl)
theorem dX1_recentlyExpired_54 : decode cX1_recentlyExpired 54 = .ok (.invokespecial 48, 3) := dk_183 0 48 (dk_at dksX1_recentlyExpired_2 7 rfl rfl)
theorem dX1_recentlyExpired_57 : decode cX1_recentlyExpired 57 = .ok (.athrow, 1) := dk_191 (dk_at dksX1_recentlyExpired_2 10 rfl rfl)
abbrev cX1_format : ByteArray := prog_1_method_90_code
def yX1_format : MethodName := ⟨RX1, "format", "(I)I"⟩
def dkwX1_format_7 : List UInt8 := [180, 0, 30, 182, 1, 121, 172]
abbrev dktX1_format_7 : List UInt8 := dkwX1_format_7 ++ []
def dkwX1_format_6 : List UInt8 := [158, 0, 21, 42, 180, 0, 30, 19, 1, 119, 182, 1, 112, 44, 180, 0, 203, 182, 1, 107, 87, 42]
abbrev dktX1_format_6 : List UInt8 := dkwX1_format_6 ++ dktX1_format_7
def dkwX1_format_5 : List UInt8 := [42, 180, 0, 30, 19, 1, 117, 182, 1, 112, 44, 180, 0, 155, 182, 1, 107, 87, 44, 180, 0, 203]
abbrev dktX1_format_5 : List UInt8 := dkwX1_format_5 ++ dktX1_format_6
def dkwX1_format_4 : List UInt8 := [180, 0, 30, 19, 1, 115, 182, 1, 112, 44, 180, 0, 143, 182, 1, 107, 87, 44, 182, 0, 127, 153, 0, 21]
abbrev dktX1_format_4 : List UInt8 := dkwX1_format_4 ++ dktX1_format_5
def dkwX1_format_3 : List UInt8 := [19, 1, 110, 182, 1, 112, 44, 180, 0, 146, 182, 1, 107, 87, 44, 182, 0, 117, 153, 0, 21, 42]
abbrev dktX1_format_3 : List UInt8 := dkwX1_format_3 ++ dktX1_format_4
def dkwX1_format_2 : List UInt8 := [180, 0, 200, 182, 1, 107, 87, 42, 180, 0, 30, 16, 32, 182, 1, 103, 44, 180, 0, 162, 182, 1, 107]
abbrev dktX1_format_2 : List UInt8 := dkwX1_format_2 ++ dktX1_format_3
def dkwX1_format_1 : List UInt8 := [180, 0, 194, 182, 1, 107, 16, 32, 182, 1, 103, 44, 180, 0, 197, 182, 1, 107, 16, 62, 182, 1, 103, 44]
abbrev dktX1_format_1 : List UInt8 := dkwX1_format_1 ++ dktX1_format_2
def dkwX1_format_0 : List UInt8 := [42, 27, 182, 0, 133, 77, 42, 180, 0, 30, 3, 182, 1, 99, 42, 180, 0, 30, 16, 35, 182, 1, 103, 44]
abbrev dktX1_format_0 : List UInt8 := dkwX1_format_0 ++ dktX1_format_1
theorem dksX1_format_0 : cX1_format.data.toList.drop 0 = dktX1_format_0 := by decide +kernel
theorem dksX1_format_1 : cX1_format.data.toList.drop 24 = dktX1_format_1 := dk_seg dksX1_format_0 24 rfl rfl
theorem dksX1_format_2 : cX1_format.data.toList.drop 48 = dktX1_format_2 := dk_seg dksX1_format_1 24 rfl rfl
theorem dksX1_format_3 : cX1_format.data.toList.drop 71 = dktX1_format_3 := dk_seg dksX1_format_2 23 rfl rfl
theorem dksX1_format_4 : cX1_format.data.toList.drop 93 = dktX1_format_4 := dk_seg dksX1_format_3 22 rfl rfl
theorem dksX1_format_5 : cX1_format.data.toList.drop 117 = dktX1_format_5 := dk_seg dksX1_format_4 24 rfl rfl
theorem dksX1_format_6 : cX1_format.data.toList.drop 139 = dktX1_format_6 := dk_seg dksX1_format_5 22 rfl rfl
theorem dksX1_format_7 : cX1_format.data.toList.drop 161 = dktX1_format_7 := dk_seg dksX1_format_6 22 rfl rfl
theorem dX1_format_0 : decode cX1_format 0 = .ok (.aload_n 0, 1) := dk_42 (dk_at dksX1_format_0 0 rfl rfl)
theorem dX1_format_1 : decode cX1_format 1 = .ok (.iload_n 1, 1) := dk_27 (dk_at dksX1_format_0 1 rfl rfl)
theorem dX1_format_2 : decode cX1_format 2 = .ok (.invokevirtual 133, 3) := dk_182 0 133 (dk_at dksX1_format_0 2 rfl rfl)
theorem dX1_format_5 : decode cX1_format 5 = .ok (.astore_n 2, 1) := dk_77 (dk_at dksX1_format_0 5 rfl rfl)
theorem dX1_format_6 : decode cX1_format 6 = .ok (.aload_n 0, 1) := dk_42 (dk_at dksX1_format_0 6 rfl rfl)
theorem dX1_format_7 : decode cX1_format 7 = .ok (.getfield 30, 3) := dk_180 0 30 (dk_at dksX1_format_0 7 rfl rfl)
theorem dX1_format_10 : decode cX1_format 10 = .ok (.iconst 0, 1) := dk_3 (dk_at dksX1_format_0 10 rfl rfl)
theorem dX1_format_11 : decode cX1_format 11 = .ok (.invokevirtual 355, 3) := dk_182 1 99 (dk_at dksX1_format_0 11 rfl rfl)
theorem dX1_format_14 : decode cX1_format 14 = .ok (.aload_n 0, 1) := dk_42 (dk_at dksX1_format_0 14 rfl rfl)
theorem dX1_format_15 : decode cX1_format 15 = .ok (.getfield 30, 3) := dk_180 0 30 (dk_at dksX1_format_0 15 rfl rfl)
theorem dX1_format_18 : decode cX1_format 18 = .ok (.bipush 35, 2) := dk_16 35 (dk_at dksX1_format_0 18 rfl rfl)
theorem dX1_format_20 : decode cX1_format 20 = .ok (.invokevirtual 359, 3) := dk_182 1 103 (dk_at dksX1_format_0 20 rfl rfl)
theorem dX1_format_23 : decode cX1_format 23 = .ok (.aload_n 2, 1) := dk_44 (dk_at dksX1_format_0 23 rfl rfl)
theorem dX1_format_24 : decode cX1_format 24 = .ok (.getfield 194, 3) := dk_180 0 194 (dk_at dksX1_format_1 0 rfl rfl)
theorem dX1_format_27 : decode cX1_format 27 = .ok (.invokevirtual 363, 3) := dk_182 1 107 (dk_at dksX1_format_1 3 rfl rfl)
theorem dX1_format_30 : decode cX1_format 30 = .ok (.bipush 32, 2) := dk_16 32 (dk_at dksX1_format_1 6 rfl rfl)
theorem dX1_format_32 : decode cX1_format 32 = .ok (.invokevirtual 359, 3) := dk_182 1 103 (dk_at dksX1_format_1 8 rfl rfl)
theorem dX1_format_35 : decode cX1_format 35 = .ok (.aload_n 2, 1) := dk_44 (dk_at dksX1_format_1 11 rfl rfl)
theorem dX1_format_36 : decode cX1_format 36 = .ok (.getfield 197, 3) := dk_180 0 197 (dk_at dksX1_format_1 12 rfl rfl)
theorem dX1_format_39 : decode cX1_format 39 = .ok (.invokevirtual 363, 3) := dk_182 1 107 (dk_at dksX1_format_1 15 rfl rfl)
theorem dX1_format_42 : decode cX1_format 42 = .ok (.bipush 62, 2) := dk_16 62 (dk_at dksX1_format_1 18 rfl rfl)
theorem dX1_format_44 : decode cX1_format 44 = .ok (.invokevirtual 359, 3) := dk_182 1 103 (dk_at dksX1_format_1 20 rfl rfl)
theorem dX1_format_47 : decode cX1_format 47 = .ok (.aload_n 2, 1) := dk_44 (dk_at dksX1_format_1 23 rfl rfl)
theorem dX1_format_48 : decode cX1_format 48 = .ok (.getfield 200, 3) := dk_180 0 200 (dk_at dksX1_format_2 0 rfl rfl)
theorem dX1_format_51 : decode cX1_format 51 = .ok (.invokevirtual 363, 3) := dk_182 1 107 (dk_at dksX1_format_2 3 rfl rfl)
theorem dX1_format_54 : decode cX1_format 54 = .ok (.pop, 1) := dk_87 (dk_at dksX1_format_2 6 rfl rfl)
theorem dX1_format_55 : decode cX1_format 55 = .ok (.aload_n 0, 1) := dk_42 (dk_at dksX1_format_2 7 rfl rfl)
theorem dX1_format_56 : decode cX1_format 56 = .ok (.getfield 30, 3) := dk_180 0 30 (dk_at dksX1_format_2 8 rfl rfl)
theorem dX1_format_59 : decode cX1_format 59 = .ok (.bipush 32, 2) := dk_16 32 (dk_at dksX1_format_2 11 rfl rfl)
theorem dX1_format_61 : decode cX1_format 61 = .ok (.invokevirtual 359, 3) := dk_182 1 103 (dk_at dksX1_format_2 13 rfl rfl)
theorem dX1_format_64 : decode cX1_format 64 = .ok (.aload_n 2, 1) := dk_44 (dk_at dksX1_format_2 16 rfl rfl)
theorem dX1_format_65 : decode cX1_format 65 = .ok (.getfield 162, 3) := dk_180 0 162 (dk_at dksX1_format_2 17 rfl rfl)
theorem dX1_format_68 : decode cX1_format 68 = .ok (.invokevirtual 363, 3) := dk_182 1 107 (dk_at dksX1_format_2 20 rfl rfl)
theorem dX1_format_71 : decode cX1_format 71 = .ok (.ldc_w 366, 3) := dk_19 1 110 (dk_at dksX1_format_3 0 rfl rfl)
theorem dX1_format_74 : decode cX1_format 74 = .ok (.invokevirtual 368, 3) := dk_182 1 112 (dk_at dksX1_format_3 3 rfl rfl)
theorem dX1_format_77 : decode cX1_format 77 = .ok (.aload_n 2, 1) := dk_44 (dk_at dksX1_format_3 6 rfl rfl)
theorem dX1_format_78 : decode cX1_format 78 = .ok (.getfield 146, 3) := dk_180 0 146 (dk_at dksX1_format_3 7 rfl rfl)
theorem dX1_format_81 : decode cX1_format 81 = .ok (.invokevirtual 363, 3) := dk_182 1 107 (dk_at dksX1_format_3 10 rfl rfl)
theorem dX1_format_84 : decode cX1_format 84 = .ok (.pop, 1) := dk_87 (dk_at dksX1_format_3 13 rfl rfl)
theorem dX1_format_85 : decode cX1_format 85 = .ok (.aload_n 2, 1) := dk_44 (dk_at dksX1_format_3 14 rfl rfl)
theorem dX1_format_86 : decode cX1_format 86 = .ok (.invokevirtual 117, 3) := dk_182 0 117 (dk_at dksX1_format_3 15 rfl rfl)
theorem dX1_format_89 : decode cX1_format 89 = .ok (.ifCond .eq 21, 3) := dk_153 0 21 (dk_at dksX1_format_3 18 rfl rfl)
theorem dX1_format_92 : decode cX1_format 92 = .ok (.aload_n 0, 1) := dk_42 (dk_at dksX1_format_3 21 rfl rfl)
theorem dX1_format_93 : decode cX1_format 93 = .ok (.getfield 30, 3) := dk_180 0 30 (dk_at dksX1_format_4 0 rfl rfl)
theorem dX1_format_96 : decode cX1_format 96 = .ok (.ldc_w 371, 3) := dk_19 1 115 (dk_at dksX1_format_4 3 rfl rfl)
theorem dX1_format_99 : decode cX1_format 99 = .ok (.invokevirtual 368, 3) := dk_182 1 112 (dk_at dksX1_format_4 6 rfl rfl)
theorem dX1_format_102 : decode cX1_format 102 = .ok (.aload_n 2, 1) := dk_44 (dk_at dksX1_format_4 9 rfl rfl)
theorem dX1_format_103 : decode cX1_format 103 = .ok (.getfield 143, 3) := dk_180 0 143 (dk_at dksX1_format_4 10 rfl rfl)
theorem dX1_format_106 : decode cX1_format 106 = .ok (.invokevirtual 363, 3) := dk_182 1 107 (dk_at dksX1_format_4 13 rfl rfl)
theorem dX1_format_109 : decode cX1_format 109 = .ok (.pop, 1) := dk_87 (dk_at dksX1_format_4 16 rfl rfl)
theorem dX1_format_110 : decode cX1_format 110 = .ok (.aload_n 2, 1) := dk_44 (dk_at dksX1_format_4 17 rfl rfl)
theorem dX1_format_111 : decode cX1_format 111 = .ok (.invokevirtual 127, 3) := dk_182 0 127 (dk_at dksX1_format_4 18 rfl rfl)
theorem dX1_format_114 : decode cX1_format 114 = .ok (.ifCond .eq 21, 3) := dk_153 0 21 (dk_at dksX1_format_4 21 rfl rfl)
theorem dX1_format_117 : decode cX1_format 117 = .ok (.aload_n 0, 1) := dk_42 (dk_at dksX1_format_5 0 rfl rfl)
theorem dX1_format_118 : decode cX1_format 118 = .ok (.getfield 30, 3) := dk_180 0 30 (dk_at dksX1_format_5 1 rfl rfl)
theorem dX1_format_121 : decode cX1_format 121 = .ok (.ldc_w 373, 3) := dk_19 1 117 (dk_at dksX1_format_5 4 rfl rfl)
theorem dX1_format_124 : decode cX1_format 124 = .ok (.invokevirtual 368, 3) := dk_182 1 112 (dk_at dksX1_format_5 7 rfl rfl)
theorem dX1_format_127 : decode cX1_format 127 = .ok (.aload_n 2, 1) := dk_44 (dk_at dksX1_format_5 10 rfl rfl)
theorem dX1_format_128 : decode cX1_format 128 = .ok (.getfield 155, 3) := dk_180 0 155 (dk_at dksX1_format_5 11 rfl rfl)
theorem dX1_format_131 : decode cX1_format 131 = .ok (.invokevirtual 363, 3) := dk_182 1 107 (dk_at dksX1_format_5 14 rfl rfl)
theorem dX1_format_134 : decode cX1_format 134 = .ok (.pop, 1) := dk_87 (dk_at dksX1_format_5 17 rfl rfl)
theorem dX1_format_135 : decode cX1_format 135 = .ok (.aload_n 2, 1) := dk_44 (dk_at dksX1_format_5 18 rfl rfl)
theorem dX1_format_136 : decode cX1_format 136 = .ok (.getfield 203, 3) := dk_180 0 203 (dk_at dksX1_format_5 19 rfl rfl)
theorem dX1_format_139 : decode cX1_format 139 = .ok (.ifCond .le 21, 3) := dk_158 0 21 (dk_at dksX1_format_6 0 rfl rfl)
theorem dX1_format_142 : decode cX1_format 142 = .ok (.aload_n 0, 1) := dk_42 (dk_at dksX1_format_6 3 rfl rfl)
theorem dX1_format_143 : decode cX1_format 143 = .ok (.getfield 30, 3) := dk_180 0 30 (dk_at dksX1_format_6 4 rfl rfl)
theorem dX1_format_146 : decode cX1_format 146 = .ok (.ldc_w 375, 3) := dk_19 1 119 (dk_at dksX1_format_6 7 rfl rfl)
theorem dX1_format_149 : decode cX1_format 149 = .ok (.invokevirtual 368, 3) := dk_182 1 112 (dk_at dksX1_format_6 10 rfl rfl)
theorem dX1_format_152 : decode cX1_format 152 = .ok (.aload_n 2, 1) := dk_44 (dk_at dksX1_format_6 13 rfl rfl)
theorem dX1_format_153 : decode cX1_format 153 = .ok (.getfield 203, 3) := dk_180 0 203 (dk_at dksX1_format_6 14 rfl rfl)
theorem dX1_format_156 : decode cX1_format 156 = .ok (.invokevirtual 363, 3) := dk_182 1 107 (dk_at dksX1_format_6 17 rfl rfl)
theorem dX1_format_159 : decode cX1_format 159 = .ok (.pop, 1) := dk_87 (dk_at dksX1_format_6 20 rfl rfl)
theorem dX1_format_160 : decode cX1_format 160 = .ok (.aload_n 0, 1) := dk_42 (dk_at dksX1_format_6 21 rfl rfl)
theorem dX1_format_161 : decode cX1_format 161 = .ok (.getfield 30, 3) := dk_180 0 30 (dk_at dksX1_format_7 0 rfl rfl)
theorem dX1_format_164 : decode cX1_format 164 = .ok (.invokevirtual 377, 3) := dk_182 1 121 (dk_at dksX1_format_7 3 rfl rfl)
theorem dX1_format_167 : decode cX1_format 167 = .ok (.ireturn, 1) := dk_172 (dk_at dksX1_format_7 6 rfl rfl)
abbrev cX1_lineChar : ByteArray := prog_1_method_91_code
def yX1_lineChar : MethodName := ⟨RX1, "lineChar", "(I)C"⟩
def dkwX1_lineChar_1 : List UInt8 := [182, 1, 124, 172]
abbrev dktX1_lineChar_1 : List UInt8 := dkwX1_lineChar_1 ++ []
def dkwX1_lineChar_0 : List UInt8 := [27, 3, 42, 180, 0, 30, 182, 1, 121, 4, 100, 184, 0, 52, 184, 0, 187, 42, 180, 0, 30, 27]
abbrev dktX1_lineChar_0 : List UInt8 := dkwX1_lineChar_0 ++ dktX1_lineChar_1
theorem dksX1_lineChar_0 : cX1_lineChar.data.toList.drop 0 = dktX1_lineChar_0 := by decide +kernel
theorem dksX1_lineChar_1 : cX1_lineChar.data.toList.drop 22 = dktX1_lineChar_1 := dk_seg dksX1_lineChar_0 22 rfl rfl
theorem dX1_lineChar_0 : decode cX1_lineChar 0 = .ok (.iload_n 1, 1) := dk_27 (dk_at dksX1_lineChar_0 0 rfl rfl)
theorem dX1_lineChar_1 : decode cX1_lineChar 1 = .ok (.iconst 0, 1) := dk_3 (dk_at dksX1_lineChar_0 1 rfl rfl)
theorem dX1_lineChar_2 : decode cX1_lineChar 2 = .ok (.aload_n 0, 1) := dk_42 (dk_at dksX1_lineChar_0 2 rfl rfl)
theorem dX1_lineChar_3 : decode cX1_lineChar 3 = .ok (.getfield 30, 3) := dk_180 0 30 (dk_at dksX1_lineChar_0 3 rfl rfl)
theorem dX1_lineChar_6 : decode cX1_lineChar 6 = .ok (.invokevirtual 377, 3) := dk_182 1 121 (dk_at dksX1_lineChar_0 6 rfl rfl)
theorem dX1_lineChar_9 : decode cX1_lineChar 9 = .ok (.iconst 1, 1) := dk_4 (dk_at dksX1_lineChar_0 9 rfl rfl)
theorem dX1_lineChar_10 : decode cX1_lineChar 10 = .ok (.isub, 1) := dk_100 (dk_at dksX1_lineChar_0 10 rfl rfl)
theorem dX1_lineChar_11 : decode cX1_lineChar 11 = .ok (.invokestatic 52, 3) := dk_184 0 52 (dk_at dksX1_lineChar_0 11 rfl rfl)
theorem dX1_lineChar_14 : decode cX1_lineChar 14 = .ok (.invokestatic 187, 3) := dk_184 0 187 (dk_at dksX1_lineChar_0 14 rfl rfl)
theorem dX1_lineChar_17 : decode cX1_lineChar 17 = .ok (.aload_n 0, 1) := dk_42 (dk_at dksX1_lineChar_0 17 rfl rfl)
theorem dX1_lineChar_18 : decode cX1_lineChar 18 = .ok (.getfield 30, 3) := dk_180 0 30 (dk_at dksX1_lineChar_0 18 rfl rfl)
theorem dX1_lineChar_21 : decode cX1_lineChar 21 = .ok (.iload_n 1, 1) := dk_27 (dk_at dksX1_lineChar_0 21 rfl rfl)
theorem dX1_lineChar_22 : decode cX1_lineChar 22 = .ok (.invokevirtual 380, 3) := dk_182 1 124 (dk_at dksX1_lineChar_1 0 rfl rfl)
theorem dX1_lineChar_25 : decode cX1_lineChar 25 = .ok (.ireturn, 1) := dk_172 (dk_at dksX1_lineChar_1 3 rfl rfl)
abbrev cX1_append : ByteArray := prog_1_method_94_code
def yX1_append : MethodName := ⟨RX1, "append", "(C)I"⟩
def dkwX1_append_1 : List UInt8 := [167, 0, 4, 3, 184, 0, 98, 42, 180, 0, 26, 27, 182, 1, 103, 87, 42, 180, 0, 26, 182, 1, 121, 172]
abbrev dktX1_append_1 : List UInt8 := dkwX1_append_1 ++ []
def dkwX1_append_0 : List UInt8 := [27, 16, 32, 16, 126, 184, 0, 52, 184, 0, 88, 42, 180, 0, 26, 182, 1, 121, 16, 60, 162, 0, 7, 4]
abbrev dktX1_append_0 : List UInt8 := dkwX1_append_0 ++ dktX1_append_1
theorem dksX1_append_0 : cX1_append.data.toList.drop 0 = dktX1_append_0 := by decide +kernel
theorem dksX1_append_1 : cX1_append.data.toList.drop 24 = dktX1_append_1 := dk_seg dksX1_append_0 24 rfl rfl
theorem dX1_append_0 : decode cX1_append 0 = .ok (.iload_n 1, 1) := dk_27 (dk_at dksX1_append_0 0 rfl rfl)
theorem dX1_append_1 : decode cX1_append 1 = .ok (.bipush 32, 2) := dk_16 32 (dk_at dksX1_append_0 1 rfl rfl)
theorem dX1_append_3 : decode cX1_append 3 = .ok (.bipush 126, 2) := dk_16 126 (dk_at dksX1_append_0 3 rfl rfl)
theorem dX1_append_5 : decode cX1_append 5 = .ok (.invokestatic 52, 3) := dk_184 0 52 (dk_at dksX1_append_0 5 rfl rfl)
theorem dX1_append_8 : decode cX1_append 8 = .ok (.invokestatic 88, 3) := dk_184 0 88 (dk_at dksX1_append_0 8 rfl rfl)
theorem dX1_append_11 : decode cX1_append 11 = .ok (.aload_n 0, 1) := dk_42 (dk_at dksX1_append_0 11 rfl rfl)
theorem dX1_append_12 : decode cX1_append 12 = .ok (.getfield 26, 3) := dk_180 0 26 (dk_at dksX1_append_0 12 rfl rfl)
theorem dX1_append_15 : decode cX1_append 15 = .ok (.invokevirtual 377, 3) := dk_182 1 121 (dk_at dksX1_append_0 15 rfl rfl)
theorem dX1_append_18 : decode cX1_append 18 = .ok (.bipush 60, 2) := dk_16 60 (dk_at dksX1_append_0 18 rfl rfl)
theorem dX1_append_20 : decode cX1_append 20 = .ok (.if_icmp .ge 7, 3) := dk_162 0 7 (dk_at dksX1_append_0 20 rfl rfl)
theorem dX1_append_23 : decode cX1_append 23 = .ok (.iconst 1, 1) := dk_4 (dk_at dksX1_append_0 23 rfl rfl)
theorem dX1_append_24 : decode cX1_append 24 = .ok (.goto 4, 3) := dk_167 0 4 (dk_at dksX1_append_1 0 rfl rfl)
theorem dX1_append_27 : decode cX1_append 27 = .ok (.iconst 0, 1) := dk_3 (dk_at dksX1_append_1 3 rfl rfl)
theorem dX1_append_28 : decode cX1_append 28 = .ok (.invokestatic 98, 3) := dk_184 0 98 (dk_at dksX1_append_1 4 rfl rfl)
theorem dX1_append_31 : decode cX1_append 31 = .ok (.aload_n 0, 1) := dk_42 (dk_at dksX1_append_1 7 rfl rfl)
theorem dX1_append_32 : decode cX1_append 32 = .ok (.getfield 26, 3) := dk_180 0 26 (dk_at dksX1_append_1 8 rfl rfl)
theorem dX1_append_35 : decode cX1_append 35 = .ok (.iload_n 1, 1) := dk_27 (dk_at dksX1_append_1 11 rfl rfl)
theorem dX1_append_36 : decode cX1_append 36 = .ok (.invokevirtual 359, 3) := dk_182 1 103 (dk_at dksX1_append_1 12 rfl rfl)
theorem dX1_append_39 : decode cX1_append 39 = .ok (.pop, 1) := dk_87 (dk_at dksX1_append_1 15 rfl rfl)
theorem dX1_append_40 : decode cX1_append 40 = .ok (.aload_n 0, 1) := dk_42 (dk_at dksX1_append_1 16 rfl rfl)
theorem dX1_append_41 : decode cX1_append 41 = .ok (.getfield 26, 3) := dk_180 0 26 (dk_at dksX1_append_1 17 rfl rfl)
theorem dX1_append_44 : decode cX1_append 44 = .ok (.invokevirtual 377, 3) := dk_182 1 121 (dk_at dksX1_append_1 20 rfl rfl)
theorem dX1_append_47 : decode cX1_append 47 = .ok (.ireturn, 1) := dk_172 (dk_at dksX1_append_1 23 rfl rfl)
abbrev cX1_run : ByteArray := prog_1_method_95_code
def yX1_run : MethodName := ⟨RX1, "run", "()I"⟩
def dkwX1_run_2 : List UInt8 := [180, 1, 188, 182, 1, 192, 43, 180, 1, 188, 182, 1, 196, 172]
abbrev dktX1_run_2 : List UInt8 := dkwX1_run_2 ++ []
def dkwX1_run_1 : List UInt8 := [182, 1, 182, 154, 0, 19, 42, 43, 180, 1, 185, 181, 0, 33, 187, 0, 40, 89, 183, 0, 42, 191, 42, 43]
abbrev dktX1_run_1 : List UInt8 := dkwX1_run_1 ++ dktX1_run_2
def dkwX1_run_0 : List UInt8 := [187, 1, 173, 89, 42, 180, 0, 26, 182, 1, 175, 183, 1, 179, 76, 42, 180, 0, 26, 3, 182, 1, 99, 43]
abbrev dktX1_run_0 : List UInt8 := dkwX1_run_0 ++ dktX1_run_1
theorem dksX1_run_0 : cX1_run.data.toList.drop 0 = dktX1_run_0 := by decide +kernel
theorem dksX1_run_1 : cX1_run.data.toList.drop 24 = dktX1_run_1 := dk_seg dksX1_run_0 24 rfl rfl
theorem dksX1_run_2 : cX1_run.data.toList.drop 48 = dktX1_run_2 := dk_seg dksX1_run_1 24 rfl rfl
theorem dX1_run_0 : decode cX1_run 0 = .ok (.new 429, 3) := dk_187 1 173 (dk_at dksX1_run_0 0 rfl rfl)
theorem dX1_run_3 : decode cX1_run 3 = .ok (.dup, 1) := dk_89 (dk_at dksX1_run_0 3 rfl rfl)
theorem dX1_run_4 : decode cX1_run 4 = .ok (.aload_n 0, 1) := dk_42 (dk_at dksX1_run_0 4 rfl rfl)
theorem dX1_run_5 : decode cX1_run 5 = .ok (.getfield 26, 3) := dk_180 0 26 (dk_at dksX1_run_0 5 rfl rfl)
theorem dX1_run_8 : decode cX1_run 8 = .ok (.invokevirtual 431, 3) := dk_182 1 175 (dk_at dksX1_run_0 8 rfl rfl)
theorem dX1_run_11 : decode cX1_run 11 = .ok (.invokespecial 435, 3) := dk_183 1 179 (dk_at dksX1_run_0 11 rfl rfl)
theorem dX1_run_14 : decode cX1_run 14 = .ok (.astore_n 1, 1) := dk_76 (dk_at dksX1_run_0 14 rfl rfl)
theorem dX1_run_15 : decode cX1_run 15 = .ok (.aload_n 0, 1) := dk_42 (dk_at dksX1_run_0 15 rfl rfl)
theorem dX1_run_16 : decode cX1_run 16 = .ok (.getfield 26, 3) := dk_180 0 26 (dk_at dksX1_run_0 16 rfl rfl)
theorem dX1_run_19 : decode cX1_run 19 = .ok (.iconst 0, 1) := dk_3 (dk_at dksX1_run_0 19 rfl rfl)
theorem dX1_run_20 : decode cX1_run 20 = .ok (.invokevirtual 355, 3) := dk_182 1 99 (dk_at dksX1_run_0 20 rfl rfl)
theorem dX1_run_23 : decode cX1_run 23 = .ok (.aload_n 1, 1) := dk_43 (dk_at dksX1_run_0 23 rfl rfl)
theorem dX1_run_24 : decode cX1_run 24 = .ok (.invokevirtual 438, 3) := dk_182 1 182 (dk_at dksX1_run_1 0 rfl rfl)
theorem dX1_run_27 : decode cX1_run 27 = .ok (.ifCond .ne 19, 3) := dk_154 0 19 (dk_at dksX1_run_1 3 rfl rfl)
theorem dX1_run_30 : decode cX1_run 30 = .ok (.aload_n 0, 1) := dk_42 (dk_at dksX1_run_1 6 rfl rfl)
theorem dX1_run_31 : decode cX1_run 31 = .ok (.aload_n 1, 1) := dk_43 (dk_at dksX1_run_1 7 rfl rfl)
theorem dX1_run_32 : decode cX1_run 32 = .ok (.getfield 441, 3) := dk_180 1 185 (dk_at dksX1_run_1 8 rfl rfl)
theorem dX1_run_35 : decode cX1_run 35 = .ok (.putfield 33, 3) := dk_181 0 33 (dk_at dksX1_run_1 11 rfl rfl)
theorem dX1_run_38 : decode cX1_run 38 = .ok (.new 40, 3) := dk_187 0 40 (dk_at dksX1_run_1 14 rfl rfl)
theorem dX1_run_41 : decode cX1_run 41 = .ok (.dup, 1) := dk_89 (dk_at dksX1_run_1 17 rfl rfl)
theorem dX1_run_42 : decode cX1_run 42 = .ok (.invokespecial 42, 3) := dk_183 0 42 (dk_at dksX1_run_1 18 rfl rfl)
theorem dX1_run_45 : decode cX1_run 45 = .ok (.athrow, 1) := dk_191 (dk_at dksX1_run_1 21 rfl rfl)
theorem dX1_run_46 : decode cX1_run 46 = .ok (.aload_n 0, 1) := dk_42 (dk_at dksX1_run_1 22 rfl rfl)
theorem dX1_run_47 : decode cX1_run 47 = .ok (.aload_n 1, 1) := dk_43 (dk_at dksX1_run_1 23 rfl rfl)
theorem dX1_run_48 : decode cX1_run 48 = .ok (.getfield 444, 3) := dk_180 1 188 (dk_at dksX1_run_2 0 rfl rfl)
theorem dX1_run_51 : decode cX1_run 51 = .ok (.invokevirtual 448, 3) := dk_182 1 192 (dk_at dksX1_run_2 3 rfl rfl)
theorem dX1_run_54 : decode cX1_run 54 = .ok (.aload_n 1, 1) := dk_43 (dk_at dksX1_run_2 6 rfl rfl)
theorem dX1_run_55 : decode cX1_run 55 = .ok (.getfield 444, 3) := dk_180 1 188 (dk_at dksX1_run_2 7 rfl rfl)
theorem dX1_run_58 : decode cX1_run 58 = .ok (.invokevirtual 452, 3) := dk_182 1 196 (dk_at dksX1_run_2 10 rfl rfl)
theorem dX1_run_61 : decode cX1_run 61 = .ok (.ireturn, 1) := dk_172 (dk_at dksX1_run_2 13 rfl rfl)
abbrev cX1_executeAll : ByteArray := prog_1_method_93_code
def yX1_executeAll : MethodName := ⟨RX1, "executeAll", "(Ljava/util/ArrayList;)V"⟩
def dkwX1_executeAll_5 : List UInt8 := [177]
abbrev dktX1_executeAll_5 : List UInt8 := dkwX1_executeAll_5 ++ []
def dkwX1_executeAll_4 : List UInt8 := [25, 6, 191, 42, 180, 0, 10, 58, 4, 42, 44, 181, 0, 10, 42, 182, 0, 101, 42, 25, 4, 181, 0, 10]
abbrev dktX1_executeAll_4 : List UInt8 := dkwX1_executeAll_4 ++ dktX1_executeAll_5
def dkwX1_executeAll_3 : List UInt8 := [181, 0, 10, 42, 29, 181, 0, 37, 187, 0, 43, 89, 183, 0, 45, 191, 58, 6, 42, 3, 181, 0, 56]
abbrev dktX1_executeAll_3 : List UInt8 := dkwX1_executeAll_3 ++ dktX1_executeAll_4
def dkwX1_executeAll_2 : List UInt8 := [42, 25, 5, 182, 1, 169, 132, 3, 1, 167, 255, 225, 42, 3, 181, 0, 56, 167, 0, 33, 58, 4, 42, 44]
abbrev dktX1_executeAll_2 : List UInt8 := dkwX1_executeAll_2 ++ dktX1_executeAll_3
def dkwX1_executeAll_1 : List UInt8 := [58, 4, 25, 4, 185, 0, 247, 1, 0, 153, 0, 27, 25, 4, 185, 0, 252, 1, 0, 192, 1, 129, 58, 5]
abbrev dktX1_executeAll_1 : List UInt8 := dkwX1_executeAll_1 ++ dktX1_executeAll_2
def dkwX1_executeAll_0 : List UInt8 := [42, 180, 0, 10, 77, 3, 62, 42, 44, 182, 0, 60, 181, 0, 10, 42, 4, 181, 0, 56, 43, 182, 1, 166]
abbrev dktX1_executeAll_0 : List UInt8 := dkwX1_executeAll_0 ++ dktX1_executeAll_1
theorem dksX1_executeAll_0 : cX1_executeAll.data.toList.drop 0 = dktX1_executeAll_0 := by decide +kernel
theorem dksX1_executeAll_1 : cX1_executeAll.data.toList.drop 24 = dktX1_executeAll_1 := dk_seg dksX1_executeAll_0 24 rfl rfl
theorem dksX1_executeAll_2 : cX1_executeAll.data.toList.drop 48 = dktX1_executeAll_2 := dk_seg dksX1_executeAll_1 24 rfl rfl
theorem dksX1_executeAll_3 : cX1_executeAll.data.toList.drop 72 = dktX1_executeAll_3 := dk_seg dksX1_executeAll_2 24 rfl rfl
theorem dksX1_executeAll_4 : cX1_executeAll.data.toList.drop 95 = dktX1_executeAll_4 := dk_seg dksX1_executeAll_3 23 rfl rfl
theorem dksX1_executeAll_5 : cX1_executeAll.data.toList.drop 119 = dktX1_executeAll_5 := dk_seg dksX1_executeAll_4 24 rfl rfl
theorem dX1_executeAll_0 : decode cX1_executeAll 0 = .ok (.aload_n 0, 1) := dk_42 (dk_at dksX1_executeAll_0 0 rfl rfl)
theorem dX1_executeAll_1 : decode cX1_executeAll 1 = .ok (.getfield 10, 3) := dk_180 0 10 (dk_at dksX1_executeAll_0 1 rfl rfl)
theorem dX1_executeAll_4 : decode cX1_executeAll 4 = .ok (.astore_n 2, 1) := dk_77 (dk_at dksX1_executeAll_0 4 rfl rfl)
theorem dX1_executeAll_5 : decode cX1_executeAll 5 = .ok (.iconst 0, 1) := dk_3 (dk_at dksX1_executeAll_0 5 rfl rfl)
theorem dX1_executeAll_6 : decode cX1_executeAll 6 = .ok (.istore_n 3, 1) := dk_62 (dk_at dksX1_executeAll_0 6 rfl rfl)
theorem dX1_executeAll_7 : decode cX1_executeAll 7 = .ok (.aload_n 0, 1) := dk_42 (dk_at dksX1_executeAll_0 7 rfl rfl)
theorem dX1_executeAll_8 : decode cX1_executeAll 8 = .ok (.aload_n 2, 1) := dk_44 (dk_at dksX1_executeAll_0 8 rfl rfl)
theorem dX1_executeAll_9 : decode cX1_executeAll 9 = .ok (.invokevirtual 60, 3) := dk_182 0 60 (dk_at dksX1_executeAll_0 9 rfl rfl)
theorem dX1_executeAll_12 : decode cX1_executeAll 12 = .ok (.putfield 10, 3) := dk_181 0 10 (dk_at dksX1_executeAll_0 12 rfl rfl)
theorem dX1_executeAll_15 : decode cX1_executeAll 15 = .ok (.aload_n 0, 1) := dk_42 (dk_at dksX1_executeAll_0 15 rfl rfl)
theorem dX1_executeAll_16 : decode cX1_executeAll 16 = .ok (.iconst 1, 1) := dk_4 (dk_at dksX1_executeAll_0 16 rfl rfl)
theorem dX1_executeAll_17 : decode cX1_executeAll 17 = .ok (.putfield 56, 3) := dk_181 0 56 (dk_at dksX1_executeAll_0 17 rfl rfl)
theorem dX1_executeAll_20 : decode cX1_executeAll 20 = .ok (.aload_n 1, 1) := dk_43 (dk_at dksX1_executeAll_0 20 rfl rfl)
theorem dX1_executeAll_21 : decode cX1_executeAll 21 = .ok (.invokevirtual 422, 3) := dk_182 1 166 (dk_at dksX1_executeAll_0 21 rfl rfl)
theorem dX1_executeAll_24 : decode cX1_executeAll 24 = .ok (.astore 4, 2) := dk_58 4 (dk_at dksX1_executeAll_1 0 rfl rfl)
theorem dX1_executeAll_26 : decode cX1_executeAll 26 = .ok (.aload 4, 2) := dk_25 4 (dk_at dksX1_executeAll_1 2 rfl rfl)
theorem dX1_executeAll_28 : decode cX1_executeAll 28 = .ok (.invokeinterface 247 1, 5) := by decide +kernel
theorem dX1_executeAll_33 : decode cX1_executeAll 33 = .ok (.ifCond .eq 27, 3) := dk_153 0 27 (dk_at dksX1_executeAll_1 9 rfl rfl)
theorem dX1_executeAll_36 : decode cX1_executeAll 36 = .ok (.aload 4, 2) := dk_25 4 (dk_at dksX1_executeAll_1 12 rfl rfl)
theorem dX1_executeAll_38 : decode cX1_executeAll 38 = .ok (.invokeinterface 252 1, 5) := by decide +kernel
theorem dX1_executeAll_43 : decode cX1_executeAll 43 = .ok (.checkcast 385, 3) := dk_192 1 129 (dk_at dksX1_executeAll_1 19 rfl rfl)
theorem dX1_executeAll_46 : decode cX1_executeAll 46 = .ok (.astore 5, 2) := dk_58 5 (dk_at dksX1_executeAll_1 22 rfl rfl)
theorem dX1_executeAll_48 : decode cX1_executeAll 48 = .ok (.aload_n 0, 1) := dk_42 (dk_at dksX1_executeAll_2 0 rfl rfl)
theorem dX1_executeAll_49 : decode cX1_executeAll 49 = .ok (.aload 5, 2) := dk_25 5 (dk_at dksX1_executeAll_2 1 rfl rfl)
theorem dX1_executeAll_51 : decode cX1_executeAll 51 = .ok (.invokevirtual 425, 3) := dk_182 1 169 (dk_at dksX1_executeAll_2 3 rfl rfl)
theorem dX1_executeAll_54 : decode cX1_executeAll 54 = .ok (.iinc 3 1, 3) := dk_132 3 1 (dk_at dksX1_executeAll_2 6 rfl rfl)
theorem dX1_executeAll_57 : decode cX1_executeAll 57 = .ok (.goto (-31), 3) := dk_167 255 225 (dk_at dksX1_executeAll_2 9 rfl rfl)
theorem dX1_executeAll_60 : decode cX1_executeAll 60 = .ok (.aload_n 0, 1) := dk_42 (dk_at dksX1_executeAll_2 12 rfl rfl)
theorem dX1_executeAll_61 : decode cX1_executeAll 61 = .ok (.iconst 0, 1) := dk_3 (dk_at dksX1_executeAll_2 13 rfl rfl)
theorem dX1_executeAll_62 : decode cX1_executeAll 62 = .ok (.putfield 56, 3) := dk_181 0 56 (dk_at dksX1_executeAll_2 14 rfl rfl)
theorem dX1_executeAll_65 : decode cX1_executeAll 65 = .ok (.goto 33, 3) := dk_167 0 33 (dk_at dksX1_executeAll_2 17 rfl rfl)
theorem dX1_executeAll_68 : decode cX1_executeAll 68 = .ok (.astore 4, 2) := dk_58 4 (dk_at dksX1_executeAll_2 20 rfl rfl)
theorem dX1_executeAll_70 : decode cX1_executeAll 70 = .ok (.aload_n 0, 1) := dk_42 (dk_at dksX1_executeAll_2 22 rfl rfl)
theorem dX1_executeAll_71 : decode cX1_executeAll 71 = .ok (.aload_n 2, 1) := dk_44 (dk_at dksX1_executeAll_2 23 rfl rfl)
theorem dX1_executeAll_72 : decode cX1_executeAll 72 = .ok (.putfield 10, 3) := dk_181 0 10 (dk_at dksX1_executeAll_3 0 rfl rfl)
theorem dX1_executeAll_75 : decode cX1_executeAll 75 = .ok (.aload_n 0, 1) := dk_42 (dk_at dksX1_executeAll_3 3 rfl rfl)
theorem dX1_executeAll_76 : decode cX1_executeAll 76 = .ok (.iload_n 3, 1) := dk_29 (dk_at dksX1_executeAll_3 4 rfl rfl)
theorem dX1_executeAll_77 : decode cX1_executeAll 77 = .ok (.putfield 37, 3) := dk_181 0 37 (dk_at dksX1_executeAll_3 5 rfl rfl)
theorem dX1_executeAll_80 : decode cX1_executeAll 80 = .ok (.new 43, 3) := dk_187 0 43 (dk_at dksX1_executeAll_3 8 rfl rfl)
theorem dX1_executeAll_83 : decode cX1_executeAll 83 = .ok (.dup, 1) := dk_89 (dk_at dksX1_executeAll_3 11 rfl rfl)
theorem dX1_executeAll_84 : decode cX1_executeAll 84 = .ok (.invokespecial 45, 3) := dk_183 0 45 (dk_at dksX1_executeAll_3 12 rfl rfl)
theorem dX1_executeAll_87 : decode cX1_executeAll 87 = .ok (.athrow, 1) := dk_191 (dk_at dksX1_executeAll_3 15 rfl rfl)
theorem dX1_executeAll_88 : decode cX1_executeAll 88 = .ok (.astore 6, 2) := dk_58 6 (dk_at dksX1_executeAll_3 16 rfl rfl)
theorem dX1_executeAll_90 : decode cX1_executeAll 90 = .ok (.aload_n 0, 1) := dk_42 (dk_at dksX1_executeAll_3 18 rfl rfl)
theorem dX1_executeAll_91 : decode cX1_executeAll 91 = .ok (.iconst 0, 1) := dk_3 (dk_at dksX1_executeAll_3 19 rfl rfl)
theorem dX1_executeAll_92 : decode cX1_executeAll 92 = .ok (.putfield 56, 3) := dk_181 0 56 (dk_at dksX1_executeAll_3 20 rfl rfl)
theorem dX1_executeAll_95 : decode cX1_executeAll 95 = .ok (.aload 6, 2) := dk_25 6 (dk_at dksX1_executeAll_4 0 rfl rfl)
theorem dX1_executeAll_97 : decode cX1_executeAll 97 = .ok (.athrow, 1) := dk_191 (dk_at dksX1_executeAll_4 2 rfl rfl)
theorem dX1_executeAll_98 : decode cX1_executeAll 98 = .ok (.aload_n 0, 1) := dk_42 (dk_at dksX1_executeAll_4 3 rfl rfl)
theorem dX1_executeAll_99 : decode cX1_executeAll 99 = .ok (.getfield 10, 3) := dk_180 0 10 (dk_at dksX1_executeAll_4 4 rfl rfl)
theorem dX1_executeAll_102 : decode cX1_executeAll 102 = .ok (.astore 4, 2) := dk_58 4 (dk_at dksX1_executeAll_4 7 rfl rfl)
theorem dX1_executeAll_104 : decode cX1_executeAll 104 = .ok (.aload_n 0, 1) := dk_42 (dk_at dksX1_executeAll_4 9 rfl rfl)
theorem dX1_executeAll_105 : decode cX1_executeAll 105 = .ok (.aload_n 2, 1) := dk_44 (dk_at dksX1_executeAll_4 10 rfl rfl)
theorem dX1_executeAll_106 : decode cX1_executeAll 106 = .ok (.putfield 10, 3) := dk_181 0 10 (dk_at dksX1_executeAll_4 11 rfl rfl)
theorem dX1_executeAll_109 : decode cX1_executeAll 109 = .ok (.aload_n 0, 1) := dk_42 (dk_at dksX1_executeAll_4 14 rfl rfl)
theorem dX1_executeAll_110 : decode cX1_executeAll 110 = .ok (.invokevirtual 101, 3) := dk_182 0 101 (dk_at dksX1_executeAll_4 15 rfl rfl)
theorem dX1_executeAll_113 : decode cX1_executeAll 113 = .ok (.aload_n 0, 1) := dk_42 (dk_at dksX1_executeAll_4 18 rfl rfl)
theorem dX1_executeAll_114 : decode cX1_executeAll 114 = .ok (.aload 4, 2) := dk_25 4 (dk_at dksX1_executeAll_4 19 rfl rfl)
theorem dX1_executeAll_116 : decode cX1_executeAll 116 = .ok (.putfield 10, 3) := dk_181 0 10 (dk_at dksX1_executeAll_4 21 rfl rfl)
theorem dX1_executeAll_119 : decode cX1_executeAll 119 = .ok (.return_, 1) := dk_177 (dk_at dksX1_executeAll_5 0 rfl rfl)
abbrev cX1_execute : ByteArray := prog_1_method_92_code
def yX1_execute : MethodName := ⟨RX1, "execute", "(LClaimRegistry$Command;)V"⟩
def dkwX1_execute_11 : List UInt8 := [3, 46, 182, 1, 162, 87, 167, 0, 14, 42, 44, 3, 46, 44, 4, 46, 182, 1, 163, 87, 177]
abbrev dktX1_execute_11 : List UInt8 := dkwX1_execute_11 ++ []
def dkwX1_execute_10 : List UInt8 := [42, 44, 3, 46, 182, 1, 159, 87, 167, 0, 36, 42, 44, 3, 46, 182, 1, 161, 87, 167, 0, 25, 42, 44]
abbrev dktX1_execute_10 : List UInt8 := dkwX1_execute_10 ++ dktX1_execute_11
def dkwX1_execute_9 : List UInt8 := [44, 4, 46, 182, 1, 155, 87, 167, 0, 61, 42, 44, 3, 46, 44, 4, 46, 182, 1, 157, 87, 167, 0, 47]
abbrev dktX1_execute_9 : List UInt8 := dkwX1_execute_9 ++ dktX1_execute_10
def dkwX1_execute_8 : List UInt8 := [42, 44, 3, 46, 44, 4, 46, 44, 5, 46, 44, 6, 46, 182, 1, 154, 87, 167, 0, 75, 42, 44, 3, 46]
abbrev dktX1_execute_8 : List UInt8 := dkwX1_execute_8 ++ dktX1_execute_9
def dkwX1_execute_7 : List UInt8 := [170, 0, 0, 0, 118, 0, 0, 0, 0, 0, 0, 0, 5, 0, 0, 0, 37, 0, 0, 0, 57, 0, 0, 0, 71, 0, 0, 0, 85, 0, 0, 0, 96, 0, 0, 0, 107]
abbrev dktX1_execute_7 : List UInt8 := dkwX1_execute_7 ++ dktX1_execute_8
def dkwX1_execute_6 : List UInt8 := [54, 4, 21, 4]
abbrev dktX1_execute_6 : List UInt8 := dkwX1_execute_6 ++ dktX1_execute_7
def dkwX1_execute_5 : List UInt8 := [182, 1, 143, 153, 0, 22, 7, 54, 4, 167, 0, 16, 45, 19, 1, 153, 182, 1, 143, 153, 0, 6, 8]
abbrev dktX1_execute_5 : List UInt8 := dkwX1_execute_5 ++ dktX1_execute_6
def dkwX1_execute_4 : List UInt8 := [167, 0, 48, 45, 19, 1, 151, 182, 1, 143, 153, 0, 38, 6, 54, 4, 167, 0, 32, 45, 19, 1, 152]
abbrev dktX1_execute_4 : List UInt8 := dkwX1_execute_4 ++ dktX1_execute_5
def dkwX1_execute_3 : List UInt8 := [153, 0, 70, 4, 54, 4, 167, 0, 64, 45, 19, 1, 149, 182, 1, 143, 153, 0, 54, 5, 54, 4]
abbrev dktX1_execute_3 : List UInt8 := dkwX1_execute_3 ++ dktX1_execute_4
def dkwX1_execute_2 : List UInt8 := [45, 19, 1, 142, 182, 1, 143, 153, 0, 86, 3, 54, 4, 167, 0, 80, 45, 19, 1, 147, 182, 1, 143]
abbrev dktX1_execute_2 : List UInt8 := dkwX1_execute_2 ++ dktX1_execute_3
def dkwX1_execute_1 : List UInt8 := [171, 0, 0, 0, 0, 0, 152, 0, 0, 0, 6, 145, 121, 213, 185, 0, 0, 0, 91, 202, 3, 17, 75, 0, 0, 0, 107, 0, 1, 120, 161, 0, 0, 0, 59, 0, 53, 221, 189, 0, 0, 0, 75, 0, 54, 81, 157, 0, 0, 0, 123, 5, 141, 155, 219, 0, 0, 0, 139]
abbrev dktX1_execute_1 : List UInt8 := dkwX1_execute_1 ++ dktX1_execute_2
def dkwX1_execute_0 : List UInt8 := [43, 180, 1, 128, 77, 43, 180, 1, 133, 78, 2, 54, 4, 45, 182, 1, 137]
abbrev dktX1_execute_0 : List UInt8 := dkwX1_execute_0 ++ dktX1_execute_1
theorem dksX1_execute_0 : cX1_execute.data.toList.drop 0 = dktX1_execute_0 := by decide +kernel
theorem dksX1_execute_1 : cX1_execute.data.toList.drop 17 = dktX1_execute_1 := dk_seg dksX1_execute_0 17 rfl rfl
theorem dksX1_execute_2 : cX1_execute.data.toList.drop 76 = dktX1_execute_2 := dk_seg dksX1_execute_1 59 rfl rfl
theorem dksX1_execute_3 : cX1_execute.data.toList.drop 99 = dktX1_execute_3 := dk_seg dksX1_execute_2 23 rfl rfl
theorem dksX1_execute_4 : cX1_execute.data.toList.drop 121 = dktX1_execute_4 := dk_seg dksX1_execute_3 22 rfl rfl
theorem dksX1_execute_5 : cX1_execute.data.toList.drop 144 = dktX1_execute_5 := dk_seg dksX1_execute_4 23 rfl rfl
theorem dksX1_execute_6 : cX1_execute.data.toList.drop 167 = dktX1_execute_6 := dk_seg dksX1_execute_5 23 rfl rfl
theorem dksX1_execute_7 : cX1_execute.data.toList.drop 171 = dktX1_execute_7 := dk_seg dksX1_execute_6 4 rfl rfl
theorem dksX1_execute_8 : cX1_execute.data.toList.drop 208 = dktX1_execute_8 := dk_seg dksX1_execute_7 37 rfl rfl
theorem dksX1_execute_9 : cX1_execute.data.toList.drop 232 = dktX1_execute_9 := dk_seg dksX1_execute_8 24 rfl rfl
theorem dksX1_execute_10 : cX1_execute.data.toList.drop 256 = dktX1_execute_10 := dk_seg dksX1_execute_9 24 rfl rfl
theorem dksX1_execute_11 : cX1_execute.data.toList.drop 280 = dktX1_execute_11 := dk_seg dksX1_execute_10 24 rfl rfl
theorem dX1_execute_0 : decode cX1_execute 0 = .ok (.aload_n 1, 1) := dk_43 (dk_at dksX1_execute_0 0 rfl rfl)
theorem dX1_execute_1 : decode cX1_execute 1 = .ok (.getfield 384, 3) := dk_180 1 128 (dk_at dksX1_execute_0 1 rfl rfl)
theorem dX1_execute_4 : decode cX1_execute 4 = .ok (.astore_n 2, 1) := dk_77 (dk_at dksX1_execute_0 4 rfl rfl)
theorem dX1_execute_5 : decode cX1_execute 5 = .ok (.aload_n 1, 1) := dk_43 (dk_at dksX1_execute_0 5 rfl rfl)
theorem dX1_execute_6 : decode cX1_execute 6 = .ok (.getfield 389, 3) := dk_180 1 133 (dk_at dksX1_execute_0 6 rfl rfl)
theorem dX1_execute_9 : decode cX1_execute 9 = .ok (.astore_n 3, 1) := dk_78 (dk_at dksX1_execute_0 9 rfl rfl)
theorem dX1_execute_10 : decode cX1_execute 10 = .ok (.iconst (-1), 1) := dk_2 (dk_at dksX1_execute_0 10 rfl rfl)
theorem dX1_execute_11 : decode cX1_execute 11 = .ok (.istore 4, 2) := dk_54 4 (dk_at dksX1_execute_0 11 rfl rfl)
theorem dX1_execute_13 : decode cX1_execute 13 = .ok (.aload_n 3, 1) := dk_45 (dk_at dksX1_execute_0 13 rfl rfl)
theorem dX1_execute_14 : decode cX1_execute 14 = .ok (.invokevirtual 393, 3) := dk_182 1 137 (dk_at dksX1_execute_0 14 rfl rfl)
theorem dX1_execute_17 : decode cX1_execute 17 = .ok (.lookupswitch 152 #[(-1854286407, 91), (-905768629, 107), (96417, 59), (3530173, 75), (3559837, 123), (93166555, 139)], 59) := by decide +kernel
theorem dX1_execute_76 : decode cX1_execute 76 = .ok (.aload_n 3, 1) := dk_45 (dk_at dksX1_execute_2 0 rfl rfl)
theorem dX1_execute_77 : decode cX1_execute 77 = .ok (.ldc_w 398, 3) := dk_19 1 142 (dk_at dksX1_execute_2 1 rfl rfl)
theorem dX1_execute_80 : decode cX1_execute 80 = .ok (.invokevirtual 399, 3) := dk_182 1 143 (dk_at dksX1_execute_2 4 rfl rfl)
theorem dX1_execute_83 : decode cX1_execute 83 = .ok (.ifCond .eq 86, 3) := dk_153 0 86 (dk_at dksX1_execute_2 7 rfl rfl)
theorem dX1_execute_86 : decode cX1_execute 86 = .ok (.iconst 0, 1) := dk_3 (dk_at dksX1_execute_2 10 rfl rfl)
theorem dX1_execute_87 : decode cX1_execute 87 = .ok (.istore 4, 2) := dk_54 4 (dk_at dksX1_execute_2 11 rfl rfl)
theorem dX1_execute_89 : decode cX1_execute 89 = .ok (.goto 80, 3) := dk_167 0 80 (dk_at dksX1_execute_2 13 rfl rfl)
theorem dX1_execute_92 : decode cX1_execute 92 = .ok (.aload_n 3, 1) := dk_45 (dk_at dksX1_execute_2 16 rfl rfl)
theorem dX1_execute_93 : decode cX1_execute 93 = .ok (.ldc_w 403, 3) := dk_19 1 147 (dk_at dksX1_execute_2 17 rfl rfl)
theorem dX1_execute_96 : decode cX1_execute 96 = .ok (.invokevirtual 399, 3) := dk_182 1 143 (dk_at dksX1_execute_2 20 rfl rfl)
theorem dX1_execute_99 : decode cX1_execute 99 = .ok (.ifCond .eq 70, 3) := dk_153 0 70 (dk_at dksX1_execute_3 0 rfl rfl)
theorem dX1_execute_102 : decode cX1_execute 102 = .ok (.iconst 1, 1) := dk_4 (dk_at dksX1_execute_3 3 rfl rfl)
theorem dX1_execute_103 : decode cX1_execute 103 = .ok (.istore 4, 2) := dk_54 4 (dk_at dksX1_execute_3 4 rfl rfl)
theorem dX1_execute_105 : decode cX1_execute 105 = .ok (.goto 64, 3) := dk_167 0 64 (dk_at dksX1_execute_3 6 rfl rfl)
theorem dX1_execute_108 : decode cX1_execute 108 = .ok (.aload_n 3, 1) := dk_45 (dk_at dksX1_execute_3 9 rfl rfl)
theorem dX1_execute_109 : decode cX1_execute 109 = .ok (.ldc_w 405, 3) := dk_19 1 149 (dk_at dksX1_execute_3 10 rfl rfl)
theorem dX1_execute_112 : decode cX1_execute 112 = .ok (.invokevirtual 399, 3) := dk_182 1 143 (dk_at dksX1_execute_3 13 rfl rfl)
theorem dX1_execute_115 : decode cX1_execute 115 = .ok (.ifCond .eq 54, 3) := dk_153 0 54 (dk_at dksX1_execute_3 16 rfl rfl)
theorem dX1_execute_118 : decode cX1_execute 118 = .ok (.iconst 2, 1) := dk_5 (dk_at dksX1_execute_3 19 rfl rfl)
theorem dX1_execute_119 : decode cX1_execute 119 = .ok (.istore 4, 2) := dk_54 4 (dk_at dksX1_execute_3 20 rfl rfl)
theorem dX1_execute_121 : decode cX1_execute 121 = .ok (.goto 48, 3) := dk_167 0 48 (dk_at dksX1_execute_4 0 rfl rfl)
theorem dX1_execute_124 : decode cX1_execute 124 = .ok (.aload_n 3, 1) := dk_45 (dk_at dksX1_execute_4 3 rfl rfl)
theorem dX1_execute_125 : decode cX1_execute 125 = .ok (.ldc_w 407, 3) := dk_19 1 151 (dk_at dksX1_execute_4 4 rfl rfl)
theorem dX1_execute_128 : decode cX1_execute 128 = .ok (.invokevirtual 399, 3) := dk_182 1 143 (dk_at dksX1_execute_4 7 rfl rfl)
theorem dX1_execute_131 : decode cX1_execute 131 = .ok (.ifCond .eq 38, 3) := dk_153 0 38 (dk_at dksX1_execute_4 10 rfl rfl)
theorem dX1_execute_134 : decode cX1_execute 134 = .ok (.iconst 3, 1) := dk_6 (dk_at dksX1_execute_4 13 rfl rfl)
theorem dX1_execute_135 : decode cX1_execute 135 = .ok (.istore 4, 2) := dk_54 4 (dk_at dksX1_execute_4 14 rfl rfl)
theorem dX1_execute_137 : decode cX1_execute 137 = .ok (.goto 32, 3) := dk_167 0 32 (dk_at dksX1_execute_4 16 rfl rfl)
theorem dX1_execute_140 : decode cX1_execute 140 = .ok (.aload_n 3, 1) := dk_45 (dk_at dksX1_execute_4 19 rfl rfl)
theorem dX1_execute_141 : decode cX1_execute 141 = .ok (.ldc_w 408, 3) := dk_19 1 152 (dk_at dksX1_execute_4 20 rfl rfl)
theorem dX1_execute_144 : decode cX1_execute 144 = .ok (.invokevirtual 399, 3) := dk_182 1 143 (dk_at dksX1_execute_5 0 rfl rfl)
theorem dX1_execute_147 : decode cX1_execute 147 = .ok (.ifCond .eq 22, 3) := dk_153 0 22 (dk_at dksX1_execute_5 3 rfl rfl)
theorem dX1_execute_150 : decode cX1_execute 150 = .ok (.iconst 4, 1) := dk_7 (dk_at dksX1_execute_5 6 rfl rfl)
theorem dX1_execute_151 : decode cX1_execute 151 = .ok (.istore 4, 2) := dk_54 4 (dk_at dksX1_execute_5 7 rfl rfl)
theorem dX1_execute_153 : decode cX1_execute 153 = .ok (.goto 16, 3) := dk_167 0 16 (dk_at dksX1_execute_5 9 rfl rfl)
theorem dX1_execute_156 : decode cX1_execute 156 = .ok (.aload_n 3, 1) := dk_45 (dk_at dksX1_execute_5 12 rfl rfl)
theorem dX1_execute_157 : decode cX1_execute 157 = .ok (.ldc_w 409, 3) := dk_19 1 153 (dk_at dksX1_execute_5 13 rfl rfl)
theorem dX1_execute_160 : decode cX1_execute 160 = .ok (.invokevirtual 399, 3) := dk_182 1 143 (dk_at dksX1_execute_5 16 rfl rfl)
theorem dX1_execute_163 : decode cX1_execute 163 = .ok (.ifCond .eq 6, 3) := dk_153 0 6 (dk_at dksX1_execute_5 19 rfl rfl)
theorem dX1_execute_166 : decode cX1_execute 166 = .ok (.iconst 5, 1) := dk_8 (dk_at dksX1_execute_5 22 rfl rfl)
theorem dX1_execute_167 : decode cX1_execute 167 = .ok (.istore 4, 2) := dk_54 4 (dk_at dksX1_execute_6 0 rfl rfl)
theorem dX1_execute_169 : decode cX1_execute 169 = .ok (.iload 4, 2) := dk_21 4 (dk_at dksX1_execute_6 2 rfl rfl)
theorem dX1_execute_171 : decode cX1_execute 171 = .ok (.tableswitch 118 0 5 #[37, 57, 71, 85, 96, 107], 37) := by decide +kernel
theorem dX1_execute_208 : decode cX1_execute 208 = .ok (.aload_n 0, 1) := dk_42 (dk_at dksX1_execute_8 0 rfl rfl)
theorem dX1_execute_209 : decode cX1_execute 209 = .ok (.aload_n 2, 1) := dk_44 (dk_at dksX1_execute_8 1 rfl rfl)
theorem dX1_execute_210 : decode cX1_execute 210 = .ok (.iconst 0, 1) := dk_3 (dk_at dksX1_execute_8 2 rfl rfl)
theorem dX1_execute_211 : decode cX1_execute 211 = .ok (.iaload, 1) := dk_46 (dk_at dksX1_execute_8 3 rfl rfl)
theorem dX1_execute_212 : decode cX1_execute 212 = .ok (.aload_n 2, 1) := dk_44 (dk_at dksX1_execute_8 4 rfl rfl)
theorem dX1_execute_213 : decode cX1_execute 213 = .ok (.iconst 1, 1) := dk_4 (dk_at dksX1_execute_8 5 rfl rfl)
theorem dX1_execute_214 : decode cX1_execute 214 = .ok (.iaload, 1) := dk_46 (dk_at dksX1_execute_8 6 rfl rfl)
theorem dX1_execute_215 : decode cX1_execute 215 = .ok (.aload_n 2, 1) := dk_44 (dk_at dksX1_execute_8 7 rfl rfl)
theorem dX1_execute_216 : decode cX1_execute 216 = .ok (.iconst 2, 1) := dk_5 (dk_at dksX1_execute_8 8 rfl rfl)
theorem dX1_execute_217 : decode cX1_execute 217 = .ok (.iaload, 1) := dk_46 (dk_at dksX1_execute_8 9 rfl rfl)
theorem dX1_execute_218 : decode cX1_execute 218 = .ok (.aload_n 2, 1) := dk_44 (dk_at dksX1_execute_8 10 rfl rfl)
theorem dX1_execute_219 : decode cX1_execute 219 = .ok (.iconst 3, 1) := dk_6 (dk_at dksX1_execute_8 11 rfl rfl)
theorem dX1_execute_220 : decode cX1_execute 220 = .ok (.iaload, 1) := dk_46 (dk_at dksX1_execute_8 12 rfl rfl)
theorem dX1_execute_221 : decode cX1_execute 221 = .ok (.invokevirtual 410, 3) := dk_182 1 154 (dk_at dksX1_execute_8 13 rfl rfl)
theorem dX1_execute_224 : decode cX1_execute 224 = .ok (.pop, 1) := dk_87 (dk_at dksX1_execute_8 16 rfl rfl)
theorem dX1_execute_225 : decode cX1_execute 225 = .ok (.goto 75, 3) := dk_167 0 75 (dk_at dksX1_execute_8 17 rfl rfl)
theorem dX1_execute_228 : decode cX1_execute 228 = .ok (.aload_n 0, 1) := dk_42 (dk_at dksX1_execute_8 20 rfl rfl)
theorem dX1_execute_229 : decode cX1_execute 229 = .ok (.aload_n 2, 1) := dk_44 (dk_at dksX1_execute_8 21 rfl rfl)
theorem dX1_execute_230 : decode cX1_execute 230 = .ok (.iconst 0, 1) := dk_3 (dk_at dksX1_execute_8 22 rfl rfl)
theorem dX1_execute_231 : decode cX1_execute 231 = .ok (.iaload, 1) := dk_46 (dk_at dksX1_execute_8 23 rfl rfl)
theorem dX1_execute_232 : decode cX1_execute 232 = .ok (.aload_n 2, 1) := dk_44 (dk_at dksX1_execute_9 0 rfl rfl)
theorem dX1_execute_233 : decode cX1_execute 233 = .ok (.iconst 1, 1) := dk_4 (dk_at dksX1_execute_9 1 rfl rfl)
theorem dX1_execute_234 : decode cX1_execute 234 = .ok (.iaload, 1) := dk_46 (dk_at dksX1_execute_9 2 rfl rfl)
theorem dX1_execute_235 : decode cX1_execute 235 = .ok (.invokevirtual 411, 3) := dk_182 1 155 (dk_at dksX1_execute_9 3 rfl rfl)
theorem dX1_execute_238 : decode cX1_execute 238 = .ok (.pop, 1) := dk_87 (dk_at dksX1_execute_9 6 rfl rfl)
theorem dX1_execute_239 : decode cX1_execute 239 = .ok (.goto 61, 3) := dk_167 0 61 (dk_at dksX1_execute_9 7 rfl rfl)
theorem dX1_execute_242 : decode cX1_execute 242 = .ok (.aload_n 0, 1) := dk_42 (dk_at dksX1_execute_9 10 rfl rfl)
theorem dX1_execute_243 : decode cX1_execute 243 = .ok (.aload_n 2, 1) := dk_44 (dk_at dksX1_execute_9 11 rfl rfl)
theorem dX1_execute_244 : decode cX1_execute 244 = .ok (.iconst 0, 1) := dk_3 (dk_at dksX1_execute_9 12 rfl rfl)
theorem dX1_execute_245 : decode cX1_execute 245 = .ok (.iaload, 1) := dk_46 (dk_at dksX1_execute_9 13 rfl rfl)
theorem dX1_execute_246 : decode cX1_execute 246 = .ok (.aload_n 2, 1) := dk_44 (dk_at dksX1_execute_9 14 rfl rfl)
theorem dX1_execute_247 : decode cX1_execute 247 = .ok (.iconst 1, 1) := dk_4 (dk_at dksX1_execute_9 15 rfl rfl)
theorem dX1_execute_248 : decode cX1_execute 248 = .ok (.iaload, 1) := dk_46 (dk_at dksX1_execute_9 16 rfl rfl)
theorem dX1_execute_249 : decode cX1_execute 249 = .ok (.invokevirtual 413, 3) := dk_182 1 157 (dk_at dksX1_execute_9 17 rfl rfl)
theorem dX1_execute_252 : decode cX1_execute 252 = .ok (.pop, 1) := dk_87 (dk_at dksX1_execute_9 20 rfl rfl)
theorem dX1_execute_253 : decode cX1_execute 253 = .ok (.goto 47, 3) := dk_167 0 47 (dk_at dksX1_execute_9 21 rfl rfl)
theorem dX1_execute_256 : decode cX1_execute 256 = .ok (.aload_n 0, 1) := dk_42 (dk_at dksX1_execute_10 0 rfl rfl)
theorem dX1_execute_257 : decode cX1_execute 257 = .ok (.aload_n 2, 1) := dk_44 (dk_at dksX1_execute_10 1 rfl rfl)
theorem dX1_execute_258 : decode cX1_execute 258 = .ok (.iconst 0, 1) := dk_3 (dk_at dksX1_execute_10 2 rfl rfl)
theorem dX1_execute_259 : decode cX1_execute 259 = .ok (.iaload, 1) := dk_46 (dk_at dksX1_execute_10 3 rfl rfl)
theorem dX1_execute_260 : decode cX1_execute 260 = .ok (.invokevirtual 415, 3) := dk_182 1 159 (dk_at dksX1_execute_10 4 rfl rfl)
theorem dX1_execute_263 : decode cX1_execute 263 = .ok (.pop, 1) := dk_87 (dk_at dksX1_execute_10 7 rfl rfl)
theorem dX1_execute_264 : decode cX1_execute 264 = .ok (.goto 36, 3) := dk_167 0 36 (dk_at dksX1_execute_10 8 rfl rfl)
theorem dX1_execute_267 : decode cX1_execute 267 = .ok (.aload_n 0, 1) := dk_42 (dk_at dksX1_execute_10 11 rfl rfl)
theorem dX1_execute_268 : decode cX1_execute 268 = .ok (.aload_n 2, 1) := dk_44 (dk_at dksX1_execute_10 12 rfl rfl)
theorem dX1_execute_269 : decode cX1_execute 269 = .ok (.iconst 0, 1) := dk_3 (dk_at dksX1_execute_10 13 rfl rfl)
theorem dX1_execute_270 : decode cX1_execute 270 = .ok (.iaload, 1) := dk_46 (dk_at dksX1_execute_10 14 rfl rfl)
theorem dX1_execute_271 : decode cX1_execute 271 = .ok (.invokevirtual 417, 3) := dk_182 1 161 (dk_at dksX1_execute_10 15 rfl rfl)
theorem dX1_execute_274 : decode cX1_execute 274 = .ok (.pop, 1) := dk_87 (dk_at dksX1_execute_10 18 rfl rfl)
theorem dX1_execute_275 : decode cX1_execute 275 = .ok (.goto 25, 3) := dk_167 0 25 (dk_at dksX1_execute_10 19 rfl rfl)
theorem dX1_execute_278 : decode cX1_execute 278 = .ok (.aload_n 0, 1) := dk_42 (dk_at dksX1_execute_10 22 rfl rfl)
theorem dX1_execute_279 : decode cX1_execute 279 = .ok (.aload_n 2, 1) := dk_44 (dk_at dksX1_execute_10 23 rfl rfl)
theorem dX1_execute_280 : decode cX1_execute 280 = .ok (.iconst 0, 1) := dk_3 (dk_at dksX1_execute_11 0 rfl rfl)
theorem dX1_execute_281 : decode cX1_execute 281 = .ok (.iaload, 1) := dk_46 (dk_at dksX1_execute_11 1 rfl rfl)
theorem dX1_execute_282 : decode cX1_execute 282 = .ok (.invokevirtual 418, 3) := dk_182 1 162 (dk_at dksX1_execute_11 2 rfl rfl)
theorem dX1_execute_285 : decode cX1_execute 285 = .ok (.pop, 1) := dk_87 (dk_at dksX1_execute_11 5 rfl rfl)
theorem dX1_execute_286 : decode cX1_execute 286 = .ok (.goto 14, 3) := dk_167 0 14 (dk_at dksX1_execute_11 6 rfl rfl)
theorem dX1_execute_289 : decode cX1_execute 289 = .ok (.aload_n 0, 1) := dk_42 (dk_at dksX1_execute_11 9 rfl rfl)
theorem dX1_execute_290 : decode cX1_execute 290 = .ok (.aload_n 2, 1) := dk_44 (dk_at dksX1_execute_11 10 rfl rfl)
theorem dX1_execute_291 : decode cX1_execute 291 = .ok (.iconst 0, 1) := dk_3 (dk_at dksX1_execute_11 11 rfl rfl)
theorem dX1_execute_292 : decode cX1_execute 292 = .ok (.iaload, 1) := dk_46 (dk_at dksX1_execute_11 12 rfl rfl)
theorem dX1_execute_293 : decode cX1_execute 293 = .ok (.aload_n 2, 1) := dk_44 (dk_at dksX1_execute_11 13 rfl rfl)
theorem dX1_execute_294 : decode cX1_execute 294 = .ok (.iconst 1, 1) := dk_4 (dk_at dksX1_execute_11 14 rfl rfl)
theorem dX1_execute_295 : decode cX1_execute 295 = .ok (.iaload, 1) := dk_46 (dk_at dksX1_execute_11 15 rfl rfl)
theorem dX1_execute_296 : decode cX1_execute 296 = .ok (.invokevirtual 419, 3) := dk_182 1 163 (dk_at dksX1_execute_11 16 rfl rfl)
theorem dX1_execute_299 : decode cX1_execute 299 = .ok (.pop, 1) := dk_87 (dk_at dksX1_execute_11 19 rfl rfl)
theorem dX1_execute_300 : decode cX1_execute 300 = .ok (.return_, 1) := dk_177 (dk_at dksX1_execute_11 20 rfl rfl)
abbrev cX1_errorPosition : ByteArray := prog_1_method_96_code
def yX1_errorPosition : MethodName := ⟨RX1, "errorPosition", "()I"⟩
def dkwX1_errorPosition_0 : List UInt8 := [42, 180, 0, 33, 2, 159, 0, 7, 4, 167, 0, 4, 3, 184, 0, 80, 42, 180, 0, 33, 172]
abbrev dktX1_errorPosition_0 : List UInt8 := dkwX1_errorPosition_0 ++ []
theorem dksX1_errorPosition_0 : cX1_errorPosition.data.toList.drop 0 = dktX1_errorPosition_0 := by decide +kernel
theorem dX1_errorPosition_0 : decode cX1_errorPosition 0 = .ok (.aload_n 0, 1) := dk_42 (dk_at dksX1_errorPosition_0 0 rfl rfl)
theorem dX1_errorPosition_1 : decode cX1_errorPosition 1 = .ok (.getfield 33, 3) := dk_180 0 33 (dk_at dksX1_errorPosition_0 1 rfl rfl)
theorem dX1_errorPosition_4 : decode cX1_errorPosition 4 = .ok (.iconst (-1), 1) := dk_2 (dk_at dksX1_errorPosition_0 4 rfl rfl)
theorem dX1_errorPosition_5 : decode cX1_errorPosition 5 = .ok (.if_icmp .eq 7, 3) := dk_159 0 7 (dk_at dksX1_errorPosition_0 5 rfl rfl)
theorem dX1_errorPosition_8 : decode cX1_errorPosition 8 = .ok (.iconst 1, 1) := dk_4 (dk_at dksX1_errorPosition_0 8 rfl rfl)
theorem dX1_errorPosition_9 : decode cX1_errorPosition 9 = .ok (.goto 4, 3) := dk_167 0 4 (dk_at dksX1_errorPosition_0 9 rfl rfl)
theorem dX1_errorPosition_12 : decode cX1_errorPosition 12 = .ok (.iconst 0, 1) := dk_3 (dk_at dksX1_errorPosition_0 12 rfl rfl)
theorem dX1_errorPosition_13 : decode cX1_errorPosition 13 = .ok (.invokestatic 80, 3) := dk_184 0 80 (dk_at dksX1_errorPosition_0 13 rfl rfl)
theorem dX1_errorPosition_16 : decode cX1_errorPosition 16 = .ok (.aload_n 0, 1) := dk_42 (dk_at dksX1_errorPosition_0 16 rfl rfl)
theorem dX1_errorPosition_17 : decode cX1_errorPosition 17 = .ok (.getfield 33, 3) := dk_180 0 33 (dk_at dksX1_errorPosition_0 17 rfl rfl)
theorem dX1_errorPosition_20 : decode cX1_errorPosition 20 = .ok (.ireturn, 1) := dk_172 (dk_at dksX1_errorPosition_0 20 rfl rfl)
abbrev cX1_failedCommand : ByteArray := prog_1_method_97_code
def yX1_failedCommand : MethodName := ⟨RX1, "failedCommand", "()I"⟩
def dkwX1_failedCommand_0 : List UInt8 := [42, 180, 0, 37, 2, 159, 0, 7, 4, 167, 0, 4, 3, 184, 0, 80, 42, 180, 0, 37, 172]
abbrev dktX1_failedCommand_0 : List UInt8 := dkwX1_failedCommand_0 ++ []
theorem dksX1_failedCommand_0 : cX1_failedCommand.data.toList.drop 0 = dktX1_failedCommand_0 := by decide +kernel
theorem dX1_failedCommand_0 : decode cX1_failedCommand 0 = .ok (.aload_n 0, 1) := dk_42 (dk_at dksX1_failedCommand_0 0 rfl rfl)
theorem dX1_failedCommand_1 : decode cX1_failedCommand 1 = .ok (.getfield 37, 3) := dk_180 0 37 (dk_at dksX1_failedCommand_0 1 rfl rfl)
theorem dX1_failedCommand_4 : decode cX1_failedCommand 4 = .ok (.iconst (-1), 1) := dk_2 (dk_at dksX1_failedCommand_0 4 rfl rfl)
theorem dX1_failedCommand_5 : decode cX1_failedCommand 5 = .ok (.if_icmp .eq 7, 3) := dk_159 0 7 (dk_at dksX1_failedCommand_0 5 rfl rfl)
theorem dX1_failedCommand_8 : decode cX1_failedCommand 8 = .ok (.iconst 1, 1) := dk_4 (dk_at dksX1_failedCommand_0 8 rfl rfl)
theorem dX1_failedCommand_9 : decode cX1_failedCommand 9 = .ok (.goto 4, 3) := dk_167 0 4 (dk_at dksX1_failedCommand_0 9 rfl rfl)
theorem dX1_failedCommand_12 : decode cX1_failedCommand 12 = .ok (.iconst 0, 1) := dk_3 (dk_at dksX1_failedCommand_0 12 rfl rfl)
theorem dX1_failedCommand_13 : decode cX1_failedCommand 13 = .ok (.invokestatic 80, 3) := dk_184 0 80 (dk_at dksX1_failedCommand_0 13 rfl rfl)
theorem dX1_failedCommand_16 : decode cX1_failedCommand 16 = .ok (.aload_n 0, 1) := dk_42 (dk_at dksX1_failedCommand_0 16 rfl rfl)
theorem dX1_failedCommand_17 : decode cX1_failedCommand 17 = .ok (.getfield 37, 3) := dk_180 0 37 (dk_at dksX1_failedCommand_0 17 rfl rfl)
theorem dX1_failedCommand_20 : decode cX1_failedCommand 20 = .ok (.ireturn, 1) := dk_172 (dk_at dksX1_failedCommand_0 20 rfl rfl)
abbrev cX1_undo : ByteArray := prog_1_method_99_code
def yX1_undo : MethodName := ⟨RX1, "undo", "()I"⟩
def dkwX1_undo_1 : List UInt8 := [182, 1, 197, 192, 0, 7, 181, 0, 10, 42, 180, 0, 19, 182, 0, 68, 172]
abbrev dktX1_undo_1 : List UInt8 := dkwX1_undo_1 ++ []
def dkwX1_undo_0 : List UInt8 := [42, 180, 0, 19, 182, 0, 234, 154, 0, 7, 4, 167, 0, 4, 3, 184, 0, 98, 42, 42, 180, 0, 19]
abbrev dktX1_undo_0 : List UInt8 := dkwX1_undo_0 ++ dktX1_undo_1
theorem dksX1_undo_0 : cX1_undo.data.toList.drop 0 = dktX1_undo_0 := by decide +kernel
theorem dksX1_undo_1 : cX1_undo.data.toList.drop 23 = dktX1_undo_1 := dk_seg dksX1_undo_0 23 rfl rfl
theorem dX1_undo_0 : decode cX1_undo 0 = .ok (.aload_n 0, 1) := dk_42 (dk_at dksX1_undo_0 0 rfl rfl)
theorem dX1_undo_1 : decode cX1_undo 1 = .ok (.getfield 19, 3) := dk_180 0 19 (dk_at dksX1_undo_0 1 rfl rfl)
theorem dX1_undo_4 : decode cX1_undo 4 = .ok (.invokevirtual 234, 3) := dk_182 0 234 (dk_at dksX1_undo_0 4 rfl rfl)
theorem dX1_undo_7 : decode cX1_undo 7 = .ok (.ifCond .ne 7, 3) := dk_154 0 7 (dk_at dksX1_undo_0 7 rfl rfl)
theorem dX1_undo_10 : decode cX1_undo 10 = .ok (.iconst 1, 1) := dk_4 (dk_at dksX1_undo_0 10 rfl rfl)
theorem dX1_undo_11 : decode cX1_undo 11 = .ok (.goto 4, 3) := dk_167 0 4 (dk_at dksX1_undo_0 11 rfl rfl)
theorem dX1_undo_14 : decode cX1_undo 14 = .ok (.iconst 0, 1) := dk_3 (dk_at dksX1_undo_0 14 rfl rfl)
theorem dX1_undo_15 : decode cX1_undo 15 = .ok (.invokestatic 98, 3) := dk_184 0 98 (dk_at dksX1_undo_0 15 rfl rfl)
theorem dX1_undo_18 : decode cX1_undo 18 = .ok (.aload_n 0, 1) := dk_42 (dk_at dksX1_undo_0 18 rfl rfl)
theorem dX1_undo_19 : decode cX1_undo 19 = .ok (.aload_n 0, 1) := dk_42 (dk_at dksX1_undo_0 19 rfl rfl)
theorem dX1_undo_20 : decode cX1_undo 20 = .ok (.getfield 19, 3) := dk_180 0 19 (dk_at dksX1_undo_0 20 rfl rfl)
theorem dX1_undo_23 : decode cX1_undo 23 = .ok (.invokevirtual 453, 3) := dk_182 1 197 (dk_at dksX1_undo_1 0 rfl rfl)
theorem dX1_undo_26 : decode cX1_undo 26 = .ok (.checkcast 7, 3) := dk_192 0 7 (dk_at dksX1_undo_1 3 rfl rfl)
theorem dX1_undo_29 : decode cX1_undo 29 = .ok (.putfield 10, 3) := dk_181 0 10 (dk_at dksX1_undo_1 6 rfl rfl)
theorem dX1_undo_32 : decode cX1_undo 32 = .ok (.aload_n 0, 1) := dk_42 (dk_at dksX1_undo_1 9 rfl rfl)
theorem dX1_undo_33 : decode cX1_undo 33 = .ok (.getfield 19, 3) := dk_180 0 19 (dk_at dksX1_undo_1 10 rfl rfl)
theorem dX1_undo_36 : decode cX1_undo 36 = .ok (.invokevirtual 68, 3) := dk_182 0 68 (dk_at dksX1_undo_1 13 rfl rfl)
theorem dX1_undo_39 : decode cX1_undo 39 = .ok (.ireturn, 1) := dk_172 (dk_at dksX1_undo_1 16 rfl rfl)
abbrev cX1_restore : ByteArray := prog_1_method_101_code
def yX1_restore : MethodName := ⟨RX1, "restore", "()I"⟩
def dkwX1_restore_1 : List UInt8 := [181, 0, 10, 42, 180, 0, 19, 182, 1, 203, 42, 180, 0, 10, 180, 0, 91, 182, 0, 95, 172]
abbrev dktX1_restore_1 : List UInt8 := dkwX1_restore_1 ++ []
def dkwX1_restore_0 : List UInt8 := [42, 180, 1, 200, 198, 0, 7, 4, 167, 0, 4, 3, 184, 0, 98, 42, 42, 180, 1, 200, 182, 0, 60]
abbrev dktX1_restore_0 : List UInt8 := dkwX1_restore_0 ++ dktX1_restore_1
theorem dksX1_restore_0 : cX1_restore.data.toList.drop 0 = dktX1_restore_0 := by decide +kernel
theorem dksX1_restore_1 : cX1_restore.data.toList.drop 23 = dktX1_restore_1 := dk_seg dksX1_restore_0 23 rfl rfl
theorem dX1_restore_0 : decode cX1_restore 0 = .ok (.aload_n 0, 1) := dk_42 (dk_at dksX1_restore_0 0 rfl rfl)
theorem dX1_restore_1 : decode cX1_restore 1 = .ok (.getfield 456, 3) := dk_180 1 200 (dk_at dksX1_restore_0 1 rfl rfl)
theorem dX1_restore_4 : decode cX1_restore 4 = .ok (.ifnull 7, 3) := dk_198 0 7 (dk_at dksX1_restore_0 4 rfl rfl)
theorem dX1_restore_7 : decode cX1_restore 7 = .ok (.iconst 1, 1) := dk_4 (dk_at dksX1_restore_0 7 rfl rfl)
theorem dX1_restore_8 : decode cX1_restore 8 = .ok (.goto 4, 3) := dk_167 0 4 (dk_at dksX1_restore_0 8 rfl rfl)
theorem dX1_restore_11 : decode cX1_restore 11 = .ok (.iconst 0, 1) := dk_3 (dk_at dksX1_restore_0 11 rfl rfl)
theorem dX1_restore_12 : decode cX1_restore 12 = .ok (.invokestatic 98, 3) := dk_184 0 98 (dk_at dksX1_restore_0 12 rfl rfl)
theorem dX1_restore_15 : decode cX1_restore 15 = .ok (.aload_n 0, 1) := dk_42 (dk_at dksX1_restore_0 15 rfl rfl)
theorem dX1_restore_16 : decode cX1_restore 16 = .ok (.aload_n 0, 1) := dk_42 (dk_at dksX1_restore_0 16 rfl rfl)
theorem dX1_restore_17 : decode cX1_restore 17 = .ok (.getfield 456, 3) := dk_180 1 200 (dk_at dksX1_restore_0 17 rfl rfl)
theorem dX1_restore_20 : decode cX1_restore 20 = .ok (.invokevirtual 60, 3) := dk_182 0 60 (dk_at dksX1_restore_0 20 rfl rfl)
theorem dX1_restore_23 : decode cX1_restore 23 = .ok (.putfield 10, 3) := dk_181 0 10 (dk_at dksX1_restore_1 0 rfl rfl)
theorem dX1_restore_26 : decode cX1_restore 26 = .ok (.aload_n 0, 1) := dk_42 (dk_at dksX1_restore_1 3 rfl rfl)
theorem dX1_restore_27 : decode cX1_restore 27 = .ok (.getfield 19, 3) := dk_180 0 19 (dk_at dksX1_restore_1 4 rfl rfl)
theorem dX1_restore_30 : decode cX1_restore 30 = .ok (.invokevirtual 459, 3) := dk_182 1 203 (dk_at dksX1_restore_1 7 rfl rfl)
theorem dX1_restore_33 : decode cX1_restore 33 = .ok (.aload_n 0, 1) := dk_42 (dk_at dksX1_restore_1 10 rfl rfl)
theorem dX1_restore_34 : decode cX1_restore 34 = .ok (.getfield 10, 3) := dk_180 0 10 (dk_at dksX1_restore_1 11 rfl rfl)
theorem dX1_restore_37 : decode cX1_restore 37 = .ok (.getfield 91, 3) := dk_180 0 91 (dk_at dksX1_restore_1 14 rfl rfl)
theorem dX1_restore_40 : decode cX1_restore 40 = .ok (.invokevirtual 95, 3) := dk_182 0 95 (dk_at dksX1_restore_1 17 rfl rfl)
theorem dX1_restore_43 : decode cX1_restore 43 = .ok (.ireturn, 1) := dk_172 (dk_at dksX1_restore_1 20 rfl rfl)
theorem q95 : (Jvm.Cond.initialized "ClaimRegistry") ∈ lw_all := lw_g (lw_at lw_m1 1 rfl) rfl
theorem q146 : (Jvm.Cond.instantiable "ClaimRegistry" (8 : Nat)) ∈ lw_all := lw_g (lw_at lw_m1 52 rfl) rfl
theorem q148 : (Jvm.Cond.instanceMethod ({ cls := "ClaimRegistry", name := "<init>", desc := "()V" } : Jvm.MethodName)) ∈ lw_all := lw_g (lw_at lw_m1 54 rfl) rfl
theorem q149 : (Jvm.Cond.code ({ cls := "ClaimRegistry", name := "<init>", desc := "()V" } : Jvm.MethodName) prog_1_method_1_code (1 : Nat) (Option.none : Option Jvm.ClassFile.FieldType)) ∈ lw_all := lw_g (lw_at lw_m1 55 rfl) rfl
theorem q150 : (Jvm.Cond.methodLink "ClaimRegistry" (1 : Nat) ({ cls := "java/lang/Object", name := "<init>", desc := "()V" } : Jvm.MethodName)) ∈ lw_all := lw_g (lw_at lw_m1 56 rfl) rfl
theorem q153 : (Jvm.Cond.classLink "ClaimRegistry" (7 : Nat) "ClaimRegistry$State") ∈ lw_all := lw_g (lw_at lw_m1 59 rfl) rfl
theorem q155 : (Jvm.Cond.methodLink "ClaimRegistry" (9 : Nat) ({ cls := "ClaimRegistry$State", name := "<init>", desc := "()V" } : Jvm.MethodName)) ∈ lw_all := lw_g (lw_at lw_m1 61 rfl) rfl
theorem q216 : (Jvm.Cond.fieldLinkNest "ClaimRegistry" (91 : Nat) "ClaimRegistry$State" "claims" "Ljava/util/LinkedList;" "ClaimRegistry") ∈ lw_tbl := lw_at lw_m1 122 rfl
theorem q218 : (Jvm.Cond.fieldLinkNest "ClaimRegistry" (231 : Nat) "ClaimRegistry$State" "auditQueue" "Ljava/util/ArrayDeque;" "ClaimRegistry") ∈ lw_tbl := lw_at lw_m1 124 rfl
theorem q220 : (Jvm.Cond.fieldLinkNest "ClaimRegistry" (320 : Nat) "ClaimRegistry$State" "recentlyExpired" "Ljava/util/ArrayDeque;" "ClaimRegistry") ∈ lw_tbl := lw_at lw_m1 126 rfl
theorem q222 : (Jvm.Cond.fieldLinkNest "ClaimRegistry" (177 : Nat) "ClaimRegistry$State" "rates" "[I" "ClaimRegistry") ∈ lw_tbl := lw_at lw_m1 128 rfl
theorem q225 : (Jvm.Cond.fieldLinkNest "ClaimRegistry" (181 : Nat) "ClaimRegistry$State" "time" "I" "ClaimRegistry") ∈ lw_tbl := lw_at lw_m1 131 rfl
theorem q227 : (Jvm.Cond.fieldLinkNest "ClaimRegistry" (323 : Nat) "ClaimRegistry$State" "expiredCount" "I" "ClaimRegistry") ∈ lw_tbl := lw_at lw_m1 133 rfl
theorem q229 : (Jvm.Cond.fieldLinkNest "ClaimRegistry" (326 : Nat) "ClaimRegistry$State" "settledCount" "I" "ClaimRegistry") ∈ lw_tbl := lw_at lw_m1 135 rfl
theorem q231 : (Jvm.Cond.fieldLinkNest "ClaimRegistry" (329 : Nat) "ClaimRegistry$State" "voidedCount" "I" "ClaimRegistry") ∈ lw_tbl := lw_at lw_m1 137 rfl
theorem q233 : (Jvm.Cond.fieldLinkNest "ClaimRegistry" (343 : Nat) "ClaimRegistry$State" "addedWeight" "J" "ClaimRegistry") ∈ lw_tbl := lw_at lw_m1 139 rfl
theorem q235 : (Jvm.Cond.fieldLinkNest "ClaimRegistry" (332 : Nat) "ClaimRegistry$State" "interest" "J" "ClaimRegistry") ∈ lw_tbl := lw_at lw_m1 141 rfl
theorem q237 : (Jvm.Cond.fieldLinkNest "ClaimRegistry" (340 : Nat) "ClaimRegistry$State" "closedWeight" "J" "ClaimRegistry") ∈ lw_tbl := lw_at lw_m1 143 rfl
theorem q264 : (Jvm.Cond.classLink "ClaimRegistry" (16 : Nat) "java/util/ArrayDeque") ∈ lw_all := lw_g (lw_at lw_m1 170 rfl) rfl
theorem q265 : (Jvm.Cond.methodLink "ClaimRegistry" (18 : Nat) ({ cls := "java/util/ArrayDeque", name := "<init>", desc := "()V" } : Jvm.MethodName)) ∈ lw_all := lw_g (lw_at lw_m1 171 rfl) rfl
theorem q266 : (Jvm.Cond.classLink "ClaimRegistry" (23 : Nat) "java/lang/StringBuilder") ∈ lw_all := lw_g (lw_at lw_m1 172 rfl) rfl
theorem q268 : (Jvm.Cond.methodLink "ClaimRegistry" (25 : Nat) ({ cls := "java/lang/StringBuilder", name := "<init>", desc := "()V" } : Jvm.MethodName)) ∈ lw_all := lw_g (lw_at lw_m1 174 rfl) rfl
theorem q299 : (Jvm.Cond.fieldLink "ClaimRegistry" (10 : Nat) "ClaimRegistry" "state" "LClaimRegistry$State;") ∈ lw_all := lw_g (lw_at lw_m1 205 rfl) rfl
theorem q300 : (Jvm.Cond.fieldLink "ClaimRegistry" (456 : Nat) "ClaimRegistry" "saved" "LClaimRegistry$State;") ∈ lw_all := lw_g (lw_at lw_m1 206 rfl) rfl
theorem q301 : (Jvm.Cond.fieldLink "ClaimRegistry" (19 : Nat) "ClaimRegistry" "history" "Ljava/util/ArrayDeque;") ∈ lw_all := lw_g (lw_at lw_m1 207 rfl) rfl
theorem q302 : (Jvm.Cond.fieldLink "ClaimRegistry" (26 : Nat) "ClaimRegistry" "input" "Ljava/lang/StringBuilder;") ∈ lw_all := lw_g (lw_at lw_m1 208 rfl) rfl
theorem q303 : (Jvm.Cond.fieldLink "ClaimRegistry" (30 : Nat) "ClaimRegistry" "line" "Ljava/lang/StringBuilder;") ∈ lw_all := lw_g (lw_at lw_m1 209 rfl) rfl
theorem q304 : (Jvm.Cond.fieldLink "ClaimRegistry" (56 : Nat) "ClaimRegistry" "isExecuting" "Z") ∈ lw_all := lw_g (lw_at lw_m1 210 rfl) rfl
theorem q305 : (Jvm.Cond.fieldLink "ClaimRegistry" (33 : Nat) "ClaimRegistry" "errorPosition" "I") ∈ lw_all := lw_g (lw_at lw_m1 211 rfl) rfl
theorem q306 : (Jvm.Cond.fieldLink "ClaimRegistry" (37 : Nat) "ClaimRegistry" "failedCommand" "I") ∈ lw_all := lw_g (lw_at lw_m1 212 rfl) rfl
theorem q307 : (Jvm.Cond.lays "ClaimRegistry" "ClaimRegistry" "state" "LClaimRegistry$State;") ∈ lw_all := lw_g (lw_at lw_m1 213 rfl) rfl
theorem q308 : (Jvm.Cond.soleField "ClaimRegistry" "state") ∈ lw_all := lw_g (lw_at lw_m1 214 rfl) rfl
theorem q309 : (Jvm.Cond.lays "ClaimRegistry" "ClaimRegistry" "saved" "LClaimRegistry$State;") ∈ lw_all := lw_g (lw_at lw_m1 215 rfl) rfl
theorem q310 : (Jvm.Cond.soleField "ClaimRegistry" "saved") ∈ lw_all := lw_g (lw_at lw_m1 216 rfl) rfl
theorem q311 : (Jvm.Cond.laysFinal "ClaimRegistry" "ClaimRegistry" "history" "Ljava/util/ArrayDeque;") ∈ lw_all := lw_g (lw_at lw_m1 217 rfl) rfl
theorem q312 : (Jvm.Cond.soleField "ClaimRegistry" "history") ∈ lw_all := lw_g (lw_at lw_m1 218 rfl) rfl
theorem q313 : (Jvm.Cond.laysFinal "ClaimRegistry" "ClaimRegistry" "input" "Ljava/lang/StringBuilder;") ∈ lw_all := lw_g (lw_at lw_m1 219 rfl) rfl
theorem q314 : (Jvm.Cond.soleField "ClaimRegistry" "input") ∈ lw_all := lw_g (lw_at lw_m1 220 rfl) rfl
theorem q315 : (Jvm.Cond.laysFinal "ClaimRegistry" "ClaimRegistry" "line" "Ljava/lang/StringBuilder;") ∈ lw_all := lw_g (lw_at lw_m1 221 rfl) rfl
theorem q316 : (Jvm.Cond.soleField "ClaimRegistry" "line") ∈ lw_all := lw_g (lw_at lw_m1 222 rfl) rfl
theorem q317 : (Jvm.Cond.lays "ClaimRegistry" "ClaimRegistry" "isExecuting" "Z") ∈ lw_all := lw_g (lw_at lw_m1 223 rfl) rfl
theorem q318 : (Jvm.Cond.soleField "ClaimRegistry" "isExecuting") ∈ lw_all := lw_g (lw_at lw_m1 224 rfl) rfl
theorem q319 : (Jvm.Cond.lays "ClaimRegistry" "ClaimRegistry" "errorPosition" "I") ∈ lw_all := lw_g (lw_at lw_m1 225 rfl) rfl
theorem q320 : (Jvm.Cond.soleField "ClaimRegistry" "errorPosition") ∈ lw_all := lw_g (lw_at lw_m1 226 rfl) rfl
theorem q321 : (Jvm.Cond.lays "ClaimRegistry" "ClaimRegistry" "failedCommand" "I") ∈ lw_all := lw_g (lw_at lw_m1 227 rfl) rfl
theorem q322 : (Jvm.Cond.soleField "ClaimRegistry" "failedCommand") ∈ lw_all := lw_g (lw_at lw_m1 228 rfl) rfl
theorem q323 : (Jvm.Cond.superclass "ClaimRegistry" "java/lang/Object") ∈ lw_all := lw_g (lw_at lw_m1 229 rfl) rfl
theorem q325 : (Jvm.Cond.instanceMethod ({ cls := "ClaimRegistry", name := "tick", desc := "()I" } : Jvm.MethodName)) ∈ lw_all := lw_g (lw_at lw_m1 231 rfl) rfl
theorem q326 : (Jvm.Cond.selects "ClaimRegistry" ({ cls := "ClaimRegistry", name := "tick", desc := "()I" } : Jvm.MethodName) ({ cls := "ClaimRegistry", name := "tick", desc := "()I" } : Jvm.MethodName)) ∈ lw_all := lw_g (lw_at lw_m1 232 rfl) rfl
theorem q327 : (Jvm.Cond.code ({ cls := "ClaimRegistry", name := "tick", desc := "()I" } : Jvm.MethodName) prog_1_method_22_code (1 : Nat) (Option.some Jvm.ClassFile.FieldType.int)) ∈ lw_all := lw_g (lw_at lw_m1 233 rfl) rfl
theorem q328 : (Jvm.Cond.methodLink "ClaimRegistry" (101 : Nat) ({ cls := "ClaimRegistry", name := "beginChange", desc := "()V" } : Jvm.MethodName)) ∈ lw_all := lw_g (lw_at lw_m1 234 rfl) rfl
theorem q329 : (Jvm.Cond.privateMethod ({ cls := "ClaimRegistry", name := "beginChange", desc := "()V" } : Jvm.MethodName)) ∈ lw_tbl := lw_at lw_m1 235 rfl
theorem q330 : (Jvm.Cond.instanceMethod ({ cls := "ClaimRegistry", name := "beginChange", desc := "()V" } : Jvm.MethodName)) ∈ lw_all := lw_g (lw_at lw_m1 236 rfl) rfl
theorem q331 : (Jvm.Cond.code ({ cls := "ClaimRegistry", name := "beginChange", desc := "()V" } : Jvm.MethodName) prog_1_method_12_code (1 : Nat) (Option.none : Option Jvm.ClassFile.FieldType)) ∈ lw_all := lw_g (lw_at lw_m1 237 rfl) rfl
theorem q332 : (Jvm.Cond.methodLink "ClaimRegistry" (60 : Nat) ({ cls := "ClaimRegistry$State", name := "copy", desc := "()LClaimRegistry$State;" } : Jvm.MethodName)) ∈ lw_all := lw_g (lw_at lw_m1 238 rfl) rfl
theorem q868 : (Jvm.Cond.selects "ClaimRegistry" ({ cls := "java/lang/Object", name := "getClass", desc := "()Ljava/lang/Class;" } : Jvm.MethodName) ({ cls := "java/lang/Object", name := "getClass", desc := "()Ljava/lang/Class;" } : Jvm.MethodName)) ∈ lw_all := lw_g (lw_at lw_m4 54 rfl) rfl
theorem q1045 : (Jvm.Cond.fieldLinkNest "ClaimRegistry" (194 : Nat) "ClaimRegistry$Claim" "id" "I" "ClaimRegistry") ∈ lw_tbl := lw_at lw_m4 231 rfl
theorem q1047 : (Jvm.Cond.fieldLinkNest "ClaimRegistry" (197 : Nat) "ClaimRegistry$Claim" "debtor" "I" "ClaimRegistry") ∈ lw_tbl := lw_at lw_m4 233 rfl
theorem q1049 : (Jvm.Cond.fieldLinkNest "ClaimRegistry" (200 : Nat) "ClaimRegistry$Claim" "creditor" "I" "ClaimRegistry") ∈ lw_tbl := lw_at lw_m4 235 rfl
theorem q1052 : (Jvm.Cond.fieldLinkNest "ClaimRegistry" (162 : Nat) "ClaimRegistry$Claim" "weight" "I" "ClaimRegistry") ∈ lw_tbl := lw_at lw_m4 238 rfl
theorem q1055 : (Jvm.Cond.fieldLinkNest "ClaimRegistry" (146 : Nat) "ClaimRegistry$Claim" "expiry" "I" "ClaimRegistry") ∈ lw_tbl := lw_at lw_m5 1 rfl
theorem q1057 : (Jvm.Cond.fieldLinkNest "ClaimRegistry" (143 : Nat) "ClaimRegistry$Claim" "wave" "I" "ClaimRegistry") ∈ lw_tbl := lw_at lw_m5 3 rfl
theorem q1059 : (Jvm.Cond.fieldLinkNest "ClaimRegistry" (155 : Nat) "ClaimRegistry$Claim" "rock" "I" "ClaimRegistry") ∈ lw_tbl := lw_at lw_m5 5 rfl
theorem q1061 : (Jvm.Cond.fieldLinkNest "ClaimRegistry" (203 : Nat) "ClaimRegistry$Claim" "strikes" "I" "ClaimRegistry") ∈ lw_tbl := lw_at lw_m5 7 rfl
theorem q1204 : (Jvm.Cond.methodLink "ClaimRegistry" (64 : Nat) ({ cls := "java/util/ArrayDeque", name := "addLast", desc := "(Ljava/lang/Object;)V" } : Jvm.MethodName)) ∈ lw_all := lw_g (lw_at lw_m5 150 rfl) rfl
theorem q1205 : (Jvm.Cond.methodLink "ClaimRegistry" (68 : Nat) ({ cls := "java/util/ArrayDeque", name := "size", desc := "()I" } : Jvm.MethodName)) ∈ lw_all := lw_g (lw_at lw_m5 151 rfl) rfl
theorem q1206 : (Jvm.Cond.methodLink "ClaimRegistry" (72 : Nat) ({ cls := "java/util/ArrayDeque", name := "removeFirst", desc := "()Ljava/lang/Object;" } : Jvm.MethodName)) ∈ lw_all := lw_g (lw_at lw_m5 152 rfl) rfl
theorem q1219 : (Jvm.Cond.methodLink "ClaimRegistry" (165 : Nat) ({ cls := "ClaimRegistry$State", name := "tick", desc := "()I" } : Jvm.MethodName)) ∈ lw_all := lw_g (lw_at lw_m5 165 rfl) rfl
theorem q1228 : (Jvm.Cond.static ({ cls := "ClaimRegistry", name := "phaseAt", desc := "(I)I" } : Jvm.MethodName)) ∈ lw_all := lw_g (lw_at lw_m5 174 rfl) rfl
theorem q1229 : (Jvm.Cond.code ({ cls := "ClaimRegistry", name := "phaseAt", desc := "(I)I" } : Jvm.MethodName) prog_1_method_11_code (1 : Nat) (Option.some Jvm.ClassFile.FieldType.int)) ∈ lw_all := lw_g (lw_at lw_m5 175 rfl) rfl
theorem q1357 : (Jvm.Cond.instanceMethod ({ cls := "ClaimRegistry", name := "time", desc := "()I" } : Jvm.MethodName)) ∈ lw_all := lw_g (lw_at lw_m6 63 rfl) rfl
theorem q1358 : (Jvm.Cond.selects "ClaimRegistry" ({ cls := "ClaimRegistry", name := "time", desc := "()I" } : Jvm.MethodName) ({ cls := "ClaimRegistry", name := "time", desc := "()I" } : Jvm.MethodName)) ∈ lw_all := lw_g (lw_at lw_m6 64 rfl) rfl
theorem q1359 : (Jvm.Cond.code ({ cls := "ClaimRegistry", name := "time", desc := "()I" } : Jvm.MethodName) prog_1_method_26_code (1 : Nat) (Option.some Jvm.ClassFile.FieldType.int)) ∈ lw_all := lw_g (lw_at lw_m6 65 rfl) rfl
theorem q1361 : (Jvm.Cond.instanceMethod ({ cls := "ClaimRegistry", name := "phase", desc := "()I" } : Jvm.MethodName)) ∈ lw_all := lw_g (lw_at lw_m6 67 rfl) rfl
theorem q1362 : (Jvm.Cond.selects "ClaimRegistry" ({ cls := "ClaimRegistry", name := "phase", desc := "()I" } : Jvm.MethodName) ({ cls := "ClaimRegistry", name := "phase", desc := "()I" } : Jvm.MethodName)) ∈ lw_all := lw_g (lw_at lw_m6 68 rfl) rfl
theorem q1363 : (Jvm.Cond.code ({ cls := "ClaimRegistry", name := "phase", desc := "()I" } : Jvm.MethodName) prog_1_method_27_code (1 : Nat) (Option.some Jvm.ClassFile.FieldType.int)) ∈ lw_all := lw_g (lw_at lw_m6 69 rfl) rfl
theorem q1364 : (Jvm.Cond.methodLink "ClaimRegistry" (184 : Nat) ({ cls := "ClaimRegistry", name := "phaseAt", desc := "(I)I" } : Jvm.MethodName)) ∈ lw_all := lw_g (lw_at lw_m6 70 rfl) rfl
theorem q1366 : (Jvm.Cond.instanceMethod ({ cls := "ClaimRegistry", name := "activeCount", desc := "()I" } : Jvm.MethodName)) ∈ lw_all := lw_g (lw_at lw_m6 72 rfl) rfl
theorem q1367 : (Jvm.Cond.selects "ClaimRegistry" ({ cls := "ClaimRegistry", name := "activeCount", desc := "()I" } : Jvm.MethodName) ({ cls := "ClaimRegistry", name := "activeCount", desc := "()I" } : Jvm.MethodName)) ∈ lw_all := lw_g (lw_at lw_m6 73 rfl) rfl
theorem q1368 : (Jvm.Cond.code ({ cls := "ClaimRegistry", name := "activeCount", desc := "()I" } : Jvm.MethodName) prog_1_method_29_code (1 : Nat) (Option.some Jvm.ClassFile.FieldType.int)) ∈ lw_all := lw_g (lw_at lw_m6 74 rfl) rfl
theorem q1369 : (Jvm.Cond.methodLink "ClaimRegistry" (95 : Nat) ({ cls := "java/util/LinkedList", name := "size", desc := "()I" } : Jvm.MethodName)) ∈ lw_all := lw_g (lw_at lw_m6 75 rfl) rfl
theorem q1371 : (Jvm.Cond.instanceMethod ({ cls := "ClaimRegistry", name := "isActive", desc := "(I)Z" } : Jvm.MethodName)) ∈ lw_all := lw_g (lw_at lw_m6 77 rfl) rfl
theorem q1372 : (Jvm.Cond.selects "ClaimRegistry" ({ cls := "ClaimRegistry", name := "isActive", desc := "(I)Z" } : Jvm.MethodName) ({ cls := "ClaimRegistry", name := "isActive", desc := "(I)Z" } : Jvm.MethodName)) ∈ lw_all := lw_g (lw_at lw_m6 78 rfl) rfl
theorem q1373 : (Jvm.Cond.code ({ cls := "ClaimRegistry", name := "isActive", desc := "(I)Z" } : Jvm.MethodName) prog_1_method_30_code (2 : Nat) (Option.some Jvm.ClassFile.FieldType.boolean)) ∈ lw_all := lw_g (lw_at lw_m6 79 rfl) rfl
theorem q1374 : (Jvm.Cond.methodLink "ClaimRegistry" (76 : Nat) ({ cls := "ClaimRegistry$State", name := "find", desc := "(I)LClaimRegistry$Claim;" } : Jvm.MethodName)) ∈ lw_all := lw_g (lw_at lw_m6 80 rfl) rfl
theorem q1379 : (Jvm.Cond.instanceMethod ({ cls := "ClaimRegistry", name := "hasCycle", desc := "()Z" } : Jvm.MethodName)) ∈ lw_all := lw_g (lw_at lw_m6 85 rfl) rfl
theorem q1380 : (Jvm.Cond.selects "ClaimRegistry" ({ cls := "ClaimRegistry", name := "hasCycle", desc := "()Z" } : Jvm.MethodName) ({ cls := "ClaimRegistry", name := "hasCycle", desc := "()Z" } : Jvm.MethodName)) ∈ lw_all := lw_g (lw_at lw_m6 86 rfl) rfl
theorem q1381 : (Jvm.Cond.code ({ cls := "ClaimRegistry", name := "hasCycle", desc := "()Z" } : Jvm.MethodName) prog_1_method_67_code (2 : Nat) (Option.some Jvm.ClassFile.FieldType.boolean)) ∈ lw_all := lw_g (lw_at lw_m6 87 rfl) rfl
theorem q1382 : (Jvm.Cond.methodLink "ClaimRegistry" (278 : Nat) ({ cls := "ClaimRegistry", name := "shortestChain", desc := "(II)I" } : Jvm.MethodName)) ∈ lw_all := lw_g (lw_at lw_m6 88 rfl) rfl
theorem q1383 : (Jvm.Cond.privateMethod ({ cls := "ClaimRegistry", name := "shortestChain", desc := "(II)I" } : Jvm.MethodName)) ∈ lw_tbl := lw_at lw_m6 89 rfl
theorem q1384 : (Jvm.Cond.instanceMethod ({ cls := "ClaimRegistry", name := "shortestChain", desc := "(II)I" } : Jvm.MethodName)) ∈ lw_all := lw_g (lw_at lw_m6 90 rfl) rfl
theorem q1385 : (Jvm.Cond.code ({ cls := "ClaimRegistry", name := "shortestChain", desc := "(II)I" } : Jvm.MethodName) prog_1_method_61_code (10 : Nat) (Option.some Jvm.ClassFile.FieldType.int)) ∈ lw_all := lw_g (lw_at lw_m6 91 rfl) rfl
theorem q1386 : (Jvm.Cond.methodLink "ClaimRegistry" (270 : Nat) ({ cls := "java/lang/Integer", name := "valueOf", desc := "(I)Ljava/lang/Integer;" } : Jvm.MethodName)) ∈ lw_all := lw_g (lw_at lw_m6 92 rfl) rfl
theorem q1387 : (Jvm.Cond.methodLink "ClaimRegistry" (234 : Nat) ({ cls := "java/util/ArrayDeque", name := "isEmpty", desc := "()Z" } : Jvm.MethodName)) ∈ lw_all := lw_g (lw_at lw_m6 93 rfl) rfl
theorem q1391 : (Jvm.Cond.classLink "ClaimRegistry" (238 : Nat) "java/lang/Integer") ∈ lw_all := lw_g (lw_at lw_m6 97 rfl) rfl
theorem q1392 : (Jvm.Cond.methodLink "ClaimRegistry" (240 : Nat) ({ cls := "java/lang/Integer", name := "intValue", desc := "()I" } : Jvm.MethodName)) ∈ lw_all := lw_g (lw_at lw_m6 98 rfl) rfl
theorem q1393 : (Jvm.Cond.methodLink "ClaimRegistry" (274 : Nat) ({ cls := "java/util/LinkedList", name := "iterator", desc := "()Ljava/util/Iterator;" } : Jvm.MethodName)) ∈ lw_all := lw_g (lw_at lw_m6 99 rfl) rfl
theorem q1394 : (Jvm.Cond.interfaceEntry "ClaimRegistry" (247 : Nat)) ∈ lw_tbl := lw_at lw_m6 100 rfl
theorem q1395 : (Jvm.Cond.methodLink "ClaimRegistry" (247 : Nat) ({ cls := "java/util/Iterator", name := "hasNext", desc := "()Z" } : Jvm.MethodName)) ∈ lw_all := lw_g (lw_at lw_m6 101 rfl) rfl
theorem q1396 : (Jvm.Cond.interfaceEntry "ClaimRegistry" (252 : Nat)) ∈ lw_tbl := lw_at lw_m6 102 rfl
theorem q1397 : (Jvm.Cond.methodLink "ClaimRegistry" (252 : Nat) ({ cls := "java/util/Iterator", name := "next", desc := "()Ljava/lang/Object;" } : Jvm.MethodName)) ∈ lw_all := lw_g (lw_at lw_m6 103 rfl) rfl
theorem q1398 : (Jvm.Cond.classLink "ClaimRegistry" (118 : Nat) "ClaimRegistry$Claim") ∈ lw_all := lw_g (lw_at lw_m6 104 rfl) rfl
theorem q1400 : (Jvm.Cond.instanceMethod ({ cls := "ClaimRegistry", name := "expiredCount", desc := "()I" } : Jvm.MethodName)) ∈ lw_all := lw_g (lw_at lw_m6 106 rfl) rfl
theorem q1401 : (Jvm.Cond.selects "ClaimRegistry" ({ cls := "ClaimRegistry", name := "expiredCount", desc := "()I" } : Jvm.MethodName) ({ cls := "ClaimRegistry", name := "expiredCount", desc := "()I" } : Jvm.MethodName)) ∈ lw_all := lw_g (lw_at lw_m6 107 rfl) rfl
theorem q1402 : (Jvm.Cond.code ({ cls := "ClaimRegistry", name := "expiredCount", desc := "()I" } : Jvm.MethodName) prog_1_method_80_code (1 : Nat) (Option.some Jvm.ClassFile.FieldType.int)) ∈ lw_all := lw_g (lw_at lw_m6 108 rfl) rfl
theorem q1404 : (Jvm.Cond.instanceMethod ({ cls := "ClaimRegistry", name := "settledCount", desc := "()I" } : Jvm.MethodName)) ∈ lw_all := lw_g (lw_at lw_m6 110 rfl) rfl
theorem q1405 : (Jvm.Cond.selects "ClaimRegistry" ({ cls := "ClaimRegistry", name := "settledCount", desc := "()I" } : Jvm.MethodName) ({ cls := "ClaimRegistry", name := "settledCount", desc := "()I" } : Jvm.MethodName)) ∈ lw_all := lw_g (lw_at lw_m6 111 rfl) rfl
theorem q1406 : (Jvm.Cond.code ({ cls := "ClaimRegistry", name := "settledCount", desc := "()I" } : Jvm.MethodName) prog_1_method_81_code (1 : Nat) (Option.some Jvm.ClassFile.FieldType.int)) ∈ lw_all := lw_g (lw_at lw_m6 112 rfl) rfl
theorem q1408 : (Jvm.Cond.instanceMethod ({ cls := "ClaimRegistry", name := "voidedCount", desc := "()I" } : Jvm.MethodName)) ∈ lw_all := lw_g (lw_at lw_m6 114 rfl) rfl
theorem q1409 : (Jvm.Cond.selects "ClaimRegistry" ({ cls := "ClaimRegistry", name := "voidedCount", desc := "()I" } : Jvm.MethodName) ({ cls := "ClaimRegistry", name := "voidedCount", desc := "()I" } : Jvm.MethodName)) ∈ lw_all := lw_g (lw_at lw_m6 115 rfl) rfl
theorem q1410 : (Jvm.Cond.code ({ cls := "ClaimRegistry", name := "voidedCount", desc := "()I" } : Jvm.MethodName) prog_1_method_82_code (1 : Nat) (Option.some Jvm.ClassFile.FieldType.int)) ∈ lw_all := lw_g (lw_at lw_m6 116 rfl) rfl
theorem q1412 : (Jvm.Cond.instanceMethod ({ cls := "ClaimRegistry", name := "interestTotal", desc := "()J" } : Jvm.MethodName)) ∈ lw_all := lw_g (lw_at lw_m6 118 rfl) rfl
theorem q1413 : (Jvm.Cond.selects "ClaimRegistry" ({ cls := "ClaimRegistry", name := "interestTotal", desc := "()J" } : Jvm.MethodName) ({ cls := "ClaimRegistry", name := "interestTotal", desc := "()J" } : Jvm.MethodName)) ∈ lw_all := lw_g (lw_at lw_m6 119 rfl) rfl
theorem q1414 : (Jvm.Cond.code ({ cls := "ClaimRegistry", name := "interestTotal", desc := "()J" } : Jvm.MethodName) prog_1_method_83_code (1 : Nat) (Option.some Jvm.ClassFile.FieldType.long)) ∈ lw_all := lw_g (lw_at lw_m6 120 rfl) rfl
theorem q1416 : (Jvm.Cond.instanceMethod ({ cls := "ClaimRegistry", name := "activeWeight", desc := "()J" } : Jvm.MethodName)) ∈ lw_all := lw_g (lw_at lw_m6 122 rfl) rfl
theorem q1417 : (Jvm.Cond.selects "ClaimRegistry" ({ cls := "ClaimRegistry", name := "activeWeight", desc := "()J" } : Jvm.MethodName) ({ cls := "ClaimRegistry", name := "activeWeight", desc := "()J" } : Jvm.MethodName)) ∈ lw_all := lw_g (lw_at lw_m6 123 rfl) rfl
theorem q1418 : (Jvm.Cond.code ({ cls := "ClaimRegistry", name := "activeWeight", desc := "()J" } : Jvm.MethodName) prog_1_method_84_code (1 : Nat) (Option.some Jvm.ClassFile.FieldType.long)) ∈ lw_all := lw_g (lw_at lw_m6 124 rfl) rfl
theorem q1419 : (Jvm.Cond.methodLink "ClaimRegistry" (336 : Nat) ({ cls := "ClaimRegistry$State", name := "activeWeight", desc := "()J" } : Jvm.MethodName)) ∈ lw_all := lw_g (lw_at lw_m6 125 rfl) rfl
theorem q1434 : (Jvm.Cond.instanceMethod ({ cls := "ClaimRegistry", name := "closedWeight", desc := "()J" } : Jvm.MethodName)) ∈ lw_all := lw_g (lw_at lw_m6 140 rfl) rfl
theorem q1435 : (Jvm.Cond.selects "ClaimRegistry" ({ cls := "ClaimRegistry", name := "closedWeight", desc := "()J" } : Jvm.MethodName) ({ cls := "ClaimRegistry", name := "closedWeight", desc := "()J" } : Jvm.MethodName)) ∈ lw_all := lw_g (lw_at lw_m6 141 rfl) rfl
theorem q1436 : (Jvm.Cond.code ({ cls := "ClaimRegistry", name := "closedWeight", desc := "()J" } : Jvm.MethodName) prog_1_method_85_code (1 : Nat) (Option.some Jvm.ClassFile.FieldType.long)) ∈ lw_all := lw_g (lw_at lw_m6 142 rfl) rfl
theorem q1438 : (Jvm.Cond.instanceMethod ({ cls := "ClaimRegistry", name := "isConsistent", desc := "()Z" } : Jvm.MethodName)) ∈ lw_all := lw_g (lw_at lw_m6 144 rfl) rfl
theorem q1439 : (Jvm.Cond.selects "ClaimRegistry" ({ cls := "ClaimRegistry", name := "isConsistent", desc := "()Z" } : Jvm.MethodName) ({ cls := "ClaimRegistry", name := "isConsistent", desc := "()Z" } : Jvm.MethodName)) ∈ lw_all := lw_g (lw_at lw_m6 145 rfl) rfl
theorem q1440 : (Jvm.Cond.code ({ cls := "ClaimRegistry", name := "isConsistent", desc := "()Z" } : Jvm.MethodName) prog_1_method_89_code (3 : Nat) (Option.some Jvm.ClassFile.FieldType.boolean)) ∈ lw_all := lw_g (lw_at lw_m6 146 rfl) rfl
theorem q1441 : (Jvm.Cond.methodLink "ClaimRegistry" (346 : Nat) ({ cls := "ClaimRegistry", name := "areForecastsEqual", desc := "(I)Z" } : Jvm.MethodName)) ∈ lw_all := lw_g (lw_at lw_m6 147 rfl) rfl
theorem q1442 : (Jvm.Cond.privateMethod ({ cls := "ClaimRegistry", name := "areForecastsEqual", desc := "(I)Z" } : Jvm.MethodName)) ∈ lw_tbl := lw_at lw_m6 148 rfl
theorem q1443 : (Jvm.Cond.instanceMethod ({ cls := "ClaimRegistry", name := "areForecastsEqual", desc := "(I)Z" } : Jvm.MethodName)) ∈ lw_all := lw_g (lw_at lw_m6 149 rfl) rfl
theorem q1444 : (Jvm.Cond.code ({ cls := "ClaimRegistry", name := "areForecastsEqual", desc := "(I)Z" } : Jvm.MethodName) prog_1_method_86_code (2 : Nat) (Option.some Jvm.ClassFile.FieldType.boolean)) ∈ lw_all := lw_g (lw_at lw_m6 150 rfl) rfl
theorem q1445 : (Jvm.Cond.methodLink "ClaimRegistry" (308 : Nat) ({ cls := "ClaimRegistry", name := "expiringByComparison", desc := "(I)I" } : Jvm.MethodName)) ∈ lw_all := lw_g (lw_at lw_m6 151 rfl) rfl
theorem q1446 : (Jvm.Cond.privateMethod ({ cls := "ClaimRegistry", name := "expiringByComparison", desc := "(I)I" } : Jvm.MethodName)) ∈ lw_tbl := lw_at lw_m6 152 rfl
theorem q1447 : (Jvm.Cond.instanceMethod ({ cls := "ClaimRegistry", name := "expiringByComparison", desc := "(I)I" } : Jvm.MethodName)) ∈ lw_all := lw_g (lw_at lw_m6 153 rfl) rfl
theorem q1448 : (Jvm.Cond.code ({ cls := "ClaimRegistry", name := "expiringByComparison", desc := "(I)I" } : Jvm.MethodName) prog_1_method_73_code (3 : Nat) (Option.some Jvm.ClassFile.FieldType.int)) ∈ lw_all := lw_g (lw_at lw_m6 154 rfl) rfl
theorem q1449 : (Jvm.Cond.static ({ cls := "ClaimRegistry", name := "lambda$expiringByComparison$10", desc := "(ILClaimRegistry$Claim;)Z" } : Jvm.MethodName)) ∈ lw_all := lw_g (lw_at lw_m6 155 rfl) rfl
theorem q1450 : (Jvm.Cond.code ({ cls := "ClaimRegistry", name := "lambda$expiringByComparison$10", desc := "(ILClaimRegistry$Claim;)Z" } : Jvm.MethodName) prog_1_method_102_code (2 : Nat) (Option.some Jvm.ClassFile.FieldType.boolean)) ∈ lw_all := lw_g (lw_at lw_m6 156 rfl) rfl
theorem q1451 : (Jvm.Cond.methodLink "ClaimRegistry" (112 : Nat) ({ cls := "ClaimRegistry$State", name := "count", desc := "(LClaimRegistry$ClaimTest;)I" } : Jvm.MethodName)) ∈ lw_all := lw_g (lw_at lw_m6 157 rfl) rfl
theorem q1459 : (Jvm.Cond.methodLink "ClaimRegistry" (311 : Nat) ({ cls := "ClaimRegistry", name := "expiringByCopy", desc := "(I)I" } : Jvm.MethodName)) ∈ lw_all := lw_g (lw_at lw_m6 165 rfl) rfl
theorem q1460 : (Jvm.Cond.privateMethod ({ cls := "ClaimRegistry", name := "expiringByCopy", desc := "(I)I" } : Jvm.MethodName)) ∈ lw_tbl := lw_at lw_m6 166 rfl
theorem q1461 : (Jvm.Cond.instanceMethod ({ cls := "ClaimRegistry", name := "expiringByCopy", desc := "(I)I" } : Jvm.MethodName)) ∈ lw_all := lw_g (lw_at lw_m6 167 rfl) rfl
theorem q1462 : (Jvm.Cond.code ({ cls := "ClaimRegistry", name := "expiringByCopy", desc := "(I)I" } : Jvm.MethodName) prog_1_method_74_code (2 : Nat) (Option.some Jvm.ClassFile.FieldType.int)) ∈ lw_all := lw_g (lw_at lw_m6 168 rfl) rfl
theorem q1463 : (Jvm.Cond.methodLink "ClaimRegistry" (168 : Nat) ({ cls := "ClaimRegistry$State", name := "advance", desc := "(I)I" } : Jvm.MethodName)) ∈ lw_all := lw_g (lw_at lw_m6 169 rfl) rfl
theorem q1468 : (Jvm.Cond.methodLink "ClaimRegistry" (349 : Nat) ({ cls := "ClaimRegistry", name := "areChainsEqual", desc := "()Z" } : Jvm.MethodName)) ∈ lw_all := lw_g (lw_at lw_m6 174 rfl) rfl
theorem q1469 : (Jvm.Cond.privateMethod ({ cls := "ClaimRegistry", name := "areChainsEqual", desc := "()Z" } : Jvm.MethodName)) ∈ lw_tbl := lw_at lw_m6 175 rfl
theorem q1470 : (Jvm.Cond.instanceMethod ({ cls := "ClaimRegistry", name := "areChainsEqual", desc := "()Z" } : Jvm.MethodName)) ∈ lw_all := lw_g (lw_at lw_m6 176 rfl) rfl
theorem q1471 : (Jvm.Cond.code ({ cls := "ClaimRegistry", name := "areChainsEqual", desc := "()Z" } : Jvm.MethodName) prog_1_method_88_code (3 : Nat) (Option.some Jvm.ClassFile.FieldType.boolean)) ∈ lw_all := lw_g (lw_at lw_m6 177 rfl) rfl
theorem q1472 : (Jvm.Cond.methodLink "ClaimRegistry" (282 : Nat) ({ cls := "ClaimRegistry", name := "shortestChainByRounds", desc := "(II)I" } : Jvm.MethodName)) ∈ lw_all := lw_g (lw_at lw_m6 178 rfl) rfl
theorem q1473 : (Jvm.Cond.privateMethod ({ cls := "ClaimRegistry", name := "shortestChainByRounds", desc := "(II)I" } : Jvm.MethodName)) ∈ lw_tbl := lw_at lw_m6 179 rfl
theorem q1474 : (Jvm.Cond.instanceMethod ({ cls := "ClaimRegistry", name := "shortestChainByRounds", desc := "(II)I" } : Jvm.MethodName)) ∈ lw_all := lw_g (lw_at lw_m6 180 rfl) rfl
theorem q1475 : (Jvm.Cond.code ({ cls := "ClaimRegistry", name := "shortestChainByRounds", desc := "(II)I" } : Jvm.MethodName) prog_1_method_63_code (6 : Nat) (Option.some Jvm.ClassFile.FieldType.int)) ∈ lw_all := lw_g (lw_at lw_m6 181 rfl) rfl
theorem q1476 : (Jvm.Cond.methodLink "ClaimRegistry" (275 : Nat) ({ cls := "ClaimRegistry", name := "creditorsOf", desc := "(I)I" } : Jvm.MethodName)) ∈ lw_all := lw_g (lw_at lw_m6 182 rfl) rfl
theorem q1477 : (Jvm.Cond.privateMethod ({ cls := "ClaimRegistry", name := "creditorsOf", desc := "(I)I" } : Jvm.MethodName)) ∈ lw_tbl := lw_at lw_m6 183 rfl
theorem q1478 : (Jvm.Cond.instanceMethod ({ cls := "ClaimRegistry", name := "creditorsOf", desc := "(I)I" } : Jvm.MethodName)) ∈ lw_all := lw_g (lw_at lw_m6 184 rfl) rfl
theorem q1479 : (Jvm.Cond.code ({ cls := "ClaimRegistry", name := "creditorsOf", desc := "(I)I" } : Jvm.MethodName) prog_1_method_62_code (5 : Nat) (Option.some Jvm.ClassFile.FieldType.int)) ∈ lw_all := lw_g (lw_at lw_m6 185 rfl) rfl
theorem q1480 : (Jvm.Cond.methodLink "ClaimRegistry" (352 : Nat) ({ cls := "ClaimRegistry", name := "sumOfBalances", desc := "()I" } : Jvm.MethodName)) ∈ lw_all := lw_g (lw_at lw_m6 186 rfl) rfl
theorem q1481 : (Jvm.Cond.privateMethod ({ cls := "ClaimRegistry", name := "sumOfBalances", desc := "()I" } : Jvm.MethodName)) ∈ lw_tbl := lw_at lw_m6 187 rfl
theorem q1482 : (Jvm.Cond.instanceMethod ({ cls := "ClaimRegistry", name := "sumOfBalances", desc := "()I" } : Jvm.MethodName)) ∈ lw_all := lw_g (lw_at lw_m6 188 rfl) rfl
theorem q1483 : (Jvm.Cond.code ({ cls := "ClaimRegistry", name := "sumOfBalances", desc := "()I" } : Jvm.MethodName) prog_1_method_87_code (3 : Nat) (Option.some Jvm.ClassFile.FieldType.int)) ∈ lw_all := lw_g (lw_at lw_m6 189 rfl) rfl
theorem q1484 : (Jvm.Cond.methodLink "ClaimRegistry" (216 : Nat) ({ cls := "ClaimRegistry", name := "balanceOf", desc := "(I)I" } : Jvm.MethodName)) ∈ lw_all := lw_g (lw_at lw_m6 190 rfl) rfl
theorem q1485 : (Jvm.Cond.privateMethod ({ cls := "ClaimRegistry", name := "balanceOf", desc := "(I)I" } : Jvm.MethodName)) ∈ lw_tbl := lw_at lw_m6 191 rfl
theorem q1486 : (Jvm.Cond.instanceMethod ({ cls := "ClaimRegistry", name := "balanceOf", desc := "(I)I" } : Jvm.MethodName)) ∈ lw_all := lw_g (lw_at lw_m6 192 rfl) rfl
theorem q1487 : (Jvm.Cond.code ({ cls := "ClaimRegistry", name := "balanceOf", desc := "(I)I" } : Jvm.MethodName) prog_1_method_47_code (2 : Nat) (Option.some Jvm.ClassFile.FieldType.int)) ∈ lw_all := lw_g (lw_at lw_m6 193 rfl) rfl
theorem q1488 : (Jvm.Cond.static ({ cls := "ClaimRegistry", name := "lambda$balanceOf$4", desc := "(ILClaimRegistry$Claim;)I" } : Jvm.MethodName)) ∈ lw_all := lw_g (lw_at lw_m6 194 rfl) rfl
theorem q1489 : (Jvm.Cond.code ({ cls := "ClaimRegistry", name := "lambda$balanceOf$4", desc := "(ILClaimRegistry$Claim;)I" } : Jvm.MethodName) prog_1_method_108_code (2 : Nat) (Option.some Jvm.ClassFile.FieldType.int)) ∈ lw_all := lw_g (lw_at lw_m6 195 rfl) rfl
theorem q1490 : (Jvm.Cond.methodLink "ClaimRegistry" (462 : Nat) ({ cls := "ClaimRegistry", name := "signOf", desc := "(LClaimRegistry$Claim;I)I" } : Jvm.MethodName)) ∈ lw_all := lw_g (lw_at lw_m6 196 rfl) rfl
theorem q1491 : (Jvm.Cond.static ({ cls := "ClaimRegistry", name := "signOf", desc := "(LClaimRegistry$Claim;I)I" } : Jvm.MethodName)) ∈ lw_all := lw_g (lw_at lw_m6 197 rfl) rfl
theorem q1492 : (Jvm.Cond.code ({ cls := "ClaimRegistry", name := "signOf", desc := "(LClaimRegistry$Claim;I)I" } : Jvm.MethodName) prog_1_method_48_code (2 : Nat) (Option.some Jvm.ClassFile.FieldType.int)) ∈ lw_all := lw_g (lw_at lw_m6 198 rfl) rfl
theorem q1493 : (Jvm.Cond.methodLink "ClaimRegistry" (210 : Nat) ({ cls := "ClaimRegistry$State", name := "sum", desc := "(LClaimRegistry$ClaimValue;)I" } : Jvm.MethodName)) ∈ lw_all := lw_g (lw_at lw_m6 199 rfl) rfl
theorem q1495 : (Jvm.Cond.instanceMethod ({ cls := "ClaimRegistry", name := "undoableCount", desc := "()I" } : Jvm.MethodName)) ∈ lw_all := lw_g (lw_at lw_m6 201 rfl) rfl
theorem q1496 : (Jvm.Cond.selects "ClaimRegistry" ({ cls := "ClaimRegistry", name := "undoableCount", desc := "()I" } : Jvm.MethodName) ({ cls := "ClaimRegistry", name := "undoableCount", desc := "()I" } : Jvm.MethodName)) ∈ lw_all := lw_g (lw_at lw_m6 202 rfl) rfl
theorem q1497 : (Jvm.Cond.code ({ cls := "ClaimRegistry", name := "undoableCount", desc := "()I" } : Jvm.MethodName) prog_1_method_98_code (1 : Nat) (Option.some Jvm.ClassFile.FieldType.int)) ∈ lw_all := lw_g (lw_at lw_m6 203 rfl) rfl
theorem q1499 : (Jvm.Cond.instanceMethod ({ cls := "ClaimRegistry", name := "save", desc := "()I" } : Jvm.MethodName)) ∈ lw_all := lw_g (lw_at lw_m6 205 rfl) rfl
theorem q1500 : (Jvm.Cond.selects "ClaimRegistry" ({ cls := "ClaimRegistry", name := "save", desc := "()I" } : Jvm.MethodName) ({ cls := "ClaimRegistry", name := "save", desc := "()I" } : Jvm.MethodName)) ∈ lw_all := lw_g (lw_at lw_m6 206 rfl) rfl
theorem q1501 : (Jvm.Cond.code ({ cls := "ClaimRegistry", name := "save", desc := "()I" } : Jvm.MethodName) prog_1_method_100_code (1 : Nat) (Option.some Jvm.ClassFile.FieldType.int)) ∈ lw_all := lw_g (lw_at lw_m6 207 rfl) rfl
theorem q1508 : (Jvm.Cond.instanceMethod ({ cls := "ClaimRegistry", name := "add", desc := "(IIII)I" } : Jvm.MethodName)) ∈ lw_all := lw_g (lw_at lw_m6 214 rfl) rfl
theorem q1509 : (Jvm.Cond.selects "ClaimRegistry" ({ cls := "ClaimRegistry", name := "add", desc := "(IIII)I" } : Jvm.MethodName) ({ cls := "ClaimRegistry", name := "add", desc := "(IIII)I" } : Jvm.MethodName)) ∈ lw_all := lw_g (lw_at lw_m6 215 rfl) rfl
theorem q1510 : (Jvm.Cond.code ({ cls := "ClaimRegistry", name := "add", desc := "(IIII)I" } : Jvm.MethodName) prog_1_method_14_code (5 : Nat) (Option.some Jvm.ClassFile.FieldType.int)) ∈ lw_all := lw_g (lw_at lw_m6 216 rfl) rfl
theorem q1511 : (Jvm.Cond.methodLink "ClaimRegistry" (84 : Nat) ({ cls := "ClaimRegistry", name := "isPerson", desc := "(I)Z" } : Jvm.MethodName)) ∈ lw_all := lw_g (lw_at lw_m6 217 rfl) rfl
theorem q1512 : (Jvm.Cond.static ({ cls := "ClaimRegistry", name := "isPerson", desc := "(I)Z" } : Jvm.MethodName)) ∈ lw_all := lw_g (lw_at lw_m6 218 rfl) rfl
theorem q1513 : (Jvm.Cond.code ({ cls := "ClaimRegistry", name := "isPerson", desc := "(I)Z" } : Jvm.MethodName) prog_1_method_7_code (1 : Nat) (Option.some Jvm.ClassFile.FieldType.boolean)) ∈ lw_all := lw_g (lw_at lw_m6 219 rfl) rfl
theorem q1514 : (Jvm.Cond.methodLink "ClaimRegistry" (52 : Nat) ({ cls := "ClaimRegistry", name := "isBetween", desc := "(III)Z" } : Jvm.MethodName)) ∈ lw_all := lw_g (lw_at lw_m6 220 rfl) rfl
theorem q1515 : (Jvm.Cond.static ({ cls := "ClaimRegistry", name := "isBetween", desc := "(III)Z" } : Jvm.MethodName)) ∈ lw_all := lw_g (lw_at lw_m6 221 rfl) rfl
theorem q1516 : (Jvm.Cond.code ({ cls := "ClaimRegistry", name := "isBetween", desc := "(III)Z" } : Jvm.MethodName) prog_1_method_6_code (3 : Nat) (Option.some Jvm.ClassFile.FieldType.boolean)) ∈ lw_all := lw_g (lw_at lw_m6 222 rfl) rfl
theorem q1517 : (Jvm.Cond.methodLink "ClaimRegistry" (88 : Nat) ({ cls := "ClaimRegistry", name := "checkArgument", desc := "(Z)V" } : Jvm.MethodName)) ∈ lw_all := lw_g (lw_at lw_m6 223 rfl) rfl
theorem q1518 : (Jvm.Cond.static ({ cls := "ClaimRegistry", name := "checkArgument", desc := "(Z)V" } : Jvm.MethodName)) ∈ lw_all := lw_g (lw_at lw_m6 224 rfl) rfl
theorem q1519 : (Jvm.Cond.code ({ cls := "ClaimRegistry", name := "checkArgument", desc := "(Z)V" } : Jvm.MethodName) prog_1_method_2_code (1 : Nat) (Option.none : Option Jvm.ClassFile.FieldType)) ∈ lw_all := lw_g (lw_at lw_m6 225 rfl) rfl
theorem q1520 : (Jvm.Cond.classLink "ClaimRegistry" (40 : Nat) "java/lang/IllegalArgumentException") ∈ lw_all := lw_g (lw_at lw_m6 226 rfl) rfl
theorem q1521 : (Jvm.Cond.methodLink "ClaimRegistry" (42 : Nat) ({ cls := "java/lang/IllegalArgumentException", name := "<init>", desc := "()V" } : Jvm.MethodName)) ∈ lw_all := lw_g (lw_at lw_m6 227 rfl) rfl
theorem q1525 : (Jvm.Cond.methodLink "ClaimRegistry" (98 : Nat) ({ cls := "ClaimRegistry", name := "checkState", desc := "(Z)V" } : Jvm.MethodName)) ∈ lw_all := lw_g (lw_at lw_m6 231 rfl) rfl
theorem q1526 : (Jvm.Cond.static ({ cls := "ClaimRegistry", name := "checkState", desc := "(Z)V" } : Jvm.MethodName)) ∈ lw_all := lw_g (lw_at lw_m6 232 rfl) rfl
theorem q1527 : (Jvm.Cond.code ({ cls := "ClaimRegistry", name := "checkState", desc := "(Z)V" } : Jvm.MethodName) prog_1_method_3_code (1 : Nat) (Option.none : Option Jvm.ClassFile.FieldType)) ∈ lw_all := lw_g (lw_at lw_m6 233 rfl) rfl
theorem q1528 : (Jvm.Cond.classLink "ClaimRegistry" (43 : Nat) "java/lang/IllegalStateException") ∈ lw_all := lw_g (lw_at lw_m6 234 rfl) rfl
theorem q1529 : (Jvm.Cond.methodLink "ClaimRegistry" (45 : Nat) ({ cls := "java/lang/IllegalStateException", name := "<init>", desc := "()V" } : Jvm.MethodName)) ∈ lw_all := lw_g (lw_at lw_m6 235 rfl) rfl
theorem q1530 : (Jvm.Cond.methodLink "ClaimRegistry" (104 : Nat) ({ cls := "ClaimRegistry$State", name := "add", desc := "(IIII)I" } : Jvm.MethodName)) ∈ lw_all := lw_g (lw_at lw_m6 236 rfl) rfl
theorem q1540 : (Jvm.Cond.instanceMethod ({ cls := "ClaimRegistry", name := "sign", desc := "(II)I" } : Jvm.MethodName)) ∈ lw_all := lw_g (lw_at lw_m7 6 rfl) rfl
theorem q1541 : (Jvm.Cond.selects "ClaimRegistry" ({ cls := "ClaimRegistry", name := "sign", desc := "(II)I" } : Jvm.MethodName) ({ cls := "ClaimRegistry", name := "sign", desc := "(II)I" } : Jvm.MethodName)) ∈ lw_all := lw_g (lw_at lw_m7 7 rfl) rfl
theorem q1542 : (Jvm.Cond.code ({ cls := "ClaimRegistry", name := "sign", desc := "(II)I" } : Jvm.MethodName) prog_1_method_19_code (4 : Nat) (Option.some Jvm.ClassFile.FieldType.int)) ∈ lw_all := lw_g (lw_at lw_m7 8 rfl) rfl
theorem q1543 : (Jvm.Cond.methodLink "ClaimRegistry" (133 : Nat) ({ cls := "ClaimRegistry", name := "claim", desc := "(I)LClaimRegistry$Claim;" } : Jvm.MethodName)) ∈ lw_all := lw_g (lw_at lw_m7 9 rfl) rfl
theorem q1544 : (Jvm.Cond.privateMethod ({ cls := "ClaimRegistry", name := "claim", desc := "(I)LClaimRegistry$Claim;" } : Jvm.MethodName)) ∈ lw_tbl := lw_at lw_m7 10 rfl
theorem q1545 : (Jvm.Cond.instanceMethod ({ cls := "ClaimRegistry", name := "claim", desc := "(I)LClaimRegistry$Claim;" } : Jvm.MethodName)) ∈ lw_all := lw_g (lw_at lw_m7 11 rfl) rfl
theorem q1546 : (Jvm.Cond.code ({ cls := "ClaimRegistry", name := "claim", desc := "(I)LClaimRegistry$Claim;" } : Jvm.MethodName) prog_1_method_13_code (3 : Nat) (Option.some (Jvm.ClassFile.FieldType.object "ClaimRegistry$Claim"))) ∈ lw_all := lw_g (lw_at lw_m7 12 rfl) rfl
theorem q1547 : (Jvm.Cond.methodLink "ClaimRegistry" (80 : Nat) ({ cls := "ClaimRegistry", name := "checkElement", desc := "(Z)V" } : Jvm.MethodName)) ∈ lw_all := lw_g (lw_at lw_m7 13 rfl) rfl
theorem q1548 : (Jvm.Cond.static ({ cls := "ClaimRegistry", name := "checkElement", desc := "(Z)V" } : Jvm.MethodName)) ∈ lw_all := lw_g (lw_at lw_m7 14 rfl) rfl
theorem q1549 : (Jvm.Cond.code ({ cls := "ClaimRegistry", name := "checkElement", desc := "(Z)V" } : Jvm.MethodName) prog_1_method_4_code (1 : Nat) (Option.none : Option Jvm.ClassFile.FieldType)) ∈ lw_all := lw_g (lw_at lw_m7 15 rfl) rfl
theorem q1550 : (Jvm.Cond.classLink "ClaimRegistry" (46 : Nat) "java/util/NoSuchElementException") ∈ lw_all := lw_g (lw_at lw_m7 16 rfl) rfl
theorem q1551 : (Jvm.Cond.methodLink "ClaimRegistry" (48 : Nat) ({ cls := "java/util/NoSuchElementException", name := "<init>", desc := "()V" } : Jvm.MethodName)) ∈ lw_all := lw_g (lw_at lw_m7 17 rfl) rfl
theorem q1552 : (Jvm.Cond.methodLink "ClaimRegistry" (136 : Nat) ({ cls := "ClaimRegistry", name := "isWave", desc := "(I)Z" } : Jvm.MethodName)) ∈ lw_all := lw_g (lw_at lw_m7 18 rfl) rfl
theorem q1553 : (Jvm.Cond.static ({ cls := "ClaimRegistry", name := "isWave", desc := "(I)Z" } : Jvm.MethodName)) ∈ lw_all := lw_g (lw_at lw_m7 19 rfl) rfl
theorem q1554 : (Jvm.Cond.code ({ cls := "ClaimRegistry", name := "isWave", desc := "(I)Z" } : Jvm.MethodName) prog_1_method_8_code (1 : Nat) (Option.some Jvm.ClassFile.FieldType.boolean)) ∈ lw_all := lw_g (lw_at lw_m7 20 rfl) rfl
theorem q1555 : (Jvm.Cond.methodLink "ClaimRegistry" (139 : Nat) ({ cls := "ClaimRegistry", name := "isSignable", desc := "(LClaimRegistry$Claim;I)Z" } : Jvm.MethodName)) ∈ lw_all := lw_g (lw_at lw_m7 21 rfl) rfl
theorem q1556 : (Jvm.Cond.privateMethod ({ cls := "ClaimRegistry", name := "isSignable", desc := "(LClaimRegistry$Claim;I)Z" } : Jvm.MethodName)) ∈ lw_tbl := lw_at lw_m7 22 rfl
theorem q1557 : (Jvm.Cond.instanceMethod ({ cls := "ClaimRegistry", name := "isSignable", desc := "(LClaimRegistry$Claim;I)Z" } : Jvm.MethodName)) ∈ lw_all := lw_g (lw_at lw_m7 23 rfl) rfl
theorem q1558 : (Jvm.Cond.code ({ cls := "ClaimRegistry", name := "isSignable", desc := "(LClaimRegistry$Claim;I)Z" } : Jvm.MethodName) prog_1_method_17_code (3 : Nat) (Option.some Jvm.ClassFile.FieldType.boolean)) ∈ lw_all := lw_g (lw_at lw_m7 24 rfl) rfl
theorem q1559 : (Jvm.Cond.methodLink "ClaimRegistry" (117 : Nat) ({ cls := "ClaimRegistry$Claim", name := "isSigned", desc := "()Z" } : Jvm.MethodName)) ∈ lw_all := lw_g (lw_at lw_m7 25 rfl) rfl
theorem q1560 : (Jvm.Cond.methodLink "ClaimRegistry" (123 : Nat) ({ cls := "ClaimRegistry", name := "signatures", desc := "(I)I" } : Jvm.MethodName)) ∈ lw_all := lw_g (lw_at lw_m7 26 rfl) rfl
theorem q1561 : (Jvm.Cond.privateMethod ({ cls := "ClaimRegistry", name := "signatures", desc := "(I)I" } : Jvm.MethodName)) ∈ lw_tbl := lw_at lw_m7 27 rfl
theorem q1562 : (Jvm.Cond.instanceMethod ({ cls := "ClaimRegistry", name := "signatures", desc := "(I)I" } : Jvm.MethodName)) ∈ lw_all := lw_g (lw_at lw_m7 28 rfl) rfl
theorem q1563 : (Jvm.Cond.code ({ cls := "ClaimRegistry", name := "signatures", desc := "(I)I" } : Jvm.MethodName) prog_1_method_15_code (2 : Nat) (Option.some Jvm.ClassFile.FieldType.int)) ∈ lw_all := lw_g (lw_at lw_m7 29 rfl) rfl
theorem q1564 : (Jvm.Cond.static ({ cls := "ClaimRegistry", name := "lambda$signatures$0", desc := "(ILClaimRegistry$Claim;)Z" } : Jvm.MethodName)) ∈ lw_all := lw_g (lw_at lw_m7 30 rfl) rfl
theorem q1565 : (Jvm.Cond.code ({ cls := "ClaimRegistry", name := "lambda$signatures$0", desc := "(ILClaimRegistry$Claim;)Z" } : Jvm.MethodName) prog_1_method_112_code (2 : Nat) (Option.some Jvm.ClassFile.FieldType.boolean)) ∈ lw_all := lw_g (lw_at lw_m7 31 rfl) rfl
theorem q1570 : (Jvm.Cond.instanceMethod ({ cls := "ClaimRegistry", name := "countersign", desc := "(II)I" } : Jvm.MethodName)) ∈ lw_all := lw_g (lw_at lw_m7 36 rfl) rfl
theorem q1571 : (Jvm.Cond.selects "ClaimRegistry" ({ cls := "ClaimRegistry", name := "countersign", desc := "(II)I" } : Jvm.MethodName) ({ cls := "ClaimRegistry", name := "countersign", desc := "(II)I" } : Jvm.MethodName)) ∈ lw_all := lw_g (lw_at lw_m7 37 rfl) rfl
theorem q1572 : (Jvm.Cond.code ({ cls := "ClaimRegistry", name := "countersign", desc := "(II)I" } : Jvm.MethodName) prog_1_method_20_code (4 : Nat) (Option.some Jvm.ClassFile.FieldType.int)) ∈ lw_all := lw_g (lw_at lw_m7 38 rfl) rfl
theorem q1573 : (Jvm.Cond.methodLink "ClaimRegistry" (149 : Nat) ({ cls := "ClaimRegistry", name := "isRock", desc := "(I)Z" } : Jvm.MethodName)) ∈ lw_all := lw_g (lw_at lw_m7 39 rfl) rfl
theorem q1574 : (Jvm.Cond.static ({ cls := "ClaimRegistry", name := "isRock", desc := "(I)Z" } : Jvm.MethodName)) ∈ lw_all := lw_g (lw_at lw_m7 40 rfl) rfl
theorem q1575 : (Jvm.Cond.code ({ cls := "ClaimRegistry", name := "isRock", desc := "(I)Z" } : Jvm.MethodName) prog_1_method_9_code (1 : Nat) (Option.some Jvm.ClassFile.FieldType.boolean)) ∈ lw_all := lw_g (lw_at lw_m7 41 rfl) rfl
theorem q1576 : (Jvm.Cond.methodLink "ClaimRegistry" (152 : Nat) ({ cls := "ClaimRegistry", name := "isCountersignable", desc := "(LClaimRegistry$Claim;I)Z" } : Jvm.MethodName)) ∈ lw_all := lw_g (lw_at lw_m7 42 rfl) rfl
theorem q1577 : (Jvm.Cond.privateMethod ({ cls := "ClaimRegistry", name := "isCountersignable", desc := "(LClaimRegistry$Claim;I)Z" } : Jvm.MethodName)) ∈ lw_tbl := lw_at lw_m7 43 rfl
theorem q1578 : (Jvm.Cond.instanceMethod ({ cls := "ClaimRegistry", name := "isCountersignable", desc := "(LClaimRegistry$Claim;I)Z" } : Jvm.MethodName)) ∈ lw_all := lw_g (lw_at lw_m7 44 rfl) rfl
theorem q1579 : (Jvm.Cond.code ({ cls := "ClaimRegistry", name := "isCountersignable", desc := "(LClaimRegistry$Claim;I)Z" } : Jvm.MethodName) prog_1_method_18_code (3 : Nat) (Option.some Jvm.ClassFile.FieldType.boolean)) ∈ lw_all := lw_g (lw_at lw_m7 45 rfl) rfl
theorem q1580 : (Jvm.Cond.methodLink "ClaimRegistry" (127 : Nat) ({ cls := "ClaimRegistry$Claim", name := "isCountersigned", desc := "()Z" } : Jvm.MethodName)) ∈ lw_all := lw_g (lw_at lw_m7 46 rfl) rfl
theorem q1584 : (Jvm.Cond.methodLink "ClaimRegistry" (130 : Nat) ({ cls := "ClaimRegistry", name := "countersignatures", desc := "(I)I" } : Jvm.MethodName)) ∈ lw_all := lw_g (lw_at lw_m7 50 rfl) rfl
theorem q1585 : (Jvm.Cond.privateMethod ({ cls := "ClaimRegistry", name := "countersignatures", desc := "(I)I" } : Jvm.MethodName)) ∈ lw_tbl := lw_at lw_m7 51 rfl
theorem q1586 : (Jvm.Cond.instanceMethod ({ cls := "ClaimRegistry", name := "countersignatures", desc := "(I)I" } : Jvm.MethodName)) ∈ lw_all := lw_g (lw_at lw_m7 52 rfl) rfl
theorem q1587 : (Jvm.Cond.code ({ cls := "ClaimRegistry", name := "countersignatures", desc := "(I)I" } : Jvm.MethodName) prog_1_method_16_code (2 : Nat) (Option.some Jvm.ClassFile.FieldType.int)) ∈ lw_all := lw_g (lw_at lw_m7 53 rfl) rfl
theorem q1588 : (Jvm.Cond.static ({ cls := "ClaimRegistry", name := "lambda$countersignatures$1", desc := "(ILClaimRegistry$Claim;)Z" } : Jvm.MethodName)) ∈ lw_all := lw_g (lw_at lw_m7 54 rfl) rfl
theorem q1589 : (Jvm.Cond.code ({ cls := "ClaimRegistry", name := "lambda$countersignatures$1", desc := "(ILClaimRegistry$Claim;)Z" } : Jvm.MethodName) prog_1_method_111_code (2 : Nat) (Option.some Jvm.ClassFile.FieldType.boolean)) ∈ lw_all := lw_g (lw_at lw_m7 55 rfl) rfl
theorem q1594 : (Jvm.Cond.instanceMethod ({ cls := "ClaimRegistry", name := "settle", desc := "(I)I" } : Jvm.MethodName)) ∈ lw_all := lw_g (lw_at lw_m7 60 rfl) rfl
theorem q1595 : (Jvm.Cond.selects "ClaimRegistry" ({ cls := "ClaimRegistry", name := "settle", desc := "(I)I" } : Jvm.MethodName) ({ cls := "ClaimRegistry", name := "settle", desc := "(I)I" } : Jvm.MethodName)) ∈ lw_all := lw_g (lw_at lw_m7 61 rfl) rfl
theorem q1596 : (Jvm.Cond.code ({ cls := "ClaimRegistry", name := "settle", desc := "(I)I" } : Jvm.MethodName) prog_1_method_21_code (3 : Nat) (Option.some Jvm.ClassFile.FieldType.int)) ∈ lw_all := lw_g (lw_at lw_m7 62 rfl) rfl
theorem q1597 : (Jvm.Cond.methodLink "ClaimRegistry" (158 : Nat) ({ cls := "ClaimRegistry$State", name := "settle", desc := "(LClaimRegistry$Claim;)V" } : Jvm.MethodName)) ∈ lw_all := lw_g (lw_at lw_m7 63 rfl) rfl
theorem q1609 : (Jvm.Cond.instanceMethod ({ cls := "ClaimRegistry", name := "advance", desc := "(I)I" } : Jvm.MethodName)) ∈ lw_all := lw_g (lw_at lw_m7 75 rfl) rfl
theorem q1610 : (Jvm.Cond.selects "ClaimRegistry" ({ cls := "ClaimRegistry", name := "advance", desc := "(I)I" } : Jvm.MethodName) ({ cls := "ClaimRegistry", name := "advance", desc := "(I)I" } : Jvm.MethodName)) ∈ lw_all := lw_g (lw_at lw_m7 76 rfl) rfl
theorem q1611 : (Jvm.Cond.code ({ cls := "ClaimRegistry", name := "advance", desc := "(I)I" } : Jvm.MethodName) prog_1_method_23_code (2 : Nat) (Option.some Jvm.ClassFile.FieldType.int)) ∈ lw_all := lw_g (lw_at lw_m7 77 rfl) rfl
theorem q1616 : (Jvm.Cond.instanceMethod ({ cls := "ClaimRegistry", name := "audit", desc := "(I)I" } : Jvm.MethodName)) ∈ lw_all := lw_g (lw_at lw_m7 82 rfl) rfl
theorem q1617 : (Jvm.Cond.selects "ClaimRegistry" ({ cls := "ClaimRegistry", name := "audit", desc := "(I)I" } : Jvm.MethodName) ({ cls := "ClaimRegistry", name := "audit", desc := "(I)I" } : Jvm.MethodName)) ∈ lw_all := lw_g (lw_at lw_m7 83 rfl) rfl
theorem q1618 : (Jvm.Cond.code ({ cls := "ClaimRegistry", name := "audit", desc := "(I)I" } : Jvm.MethodName) prog_1_method_24_code (2 : Nat) (Option.some Jvm.ClassFile.FieldType.int)) ∈ lw_all := lw_g (lw_at lw_m7 84 rfl) rfl
theorem q1619 : (Jvm.Cond.methodLink "ClaimRegistry" (171 : Nat) ({ cls := "ClaimRegistry$State", name := "audit", desc := "(I)I" } : Jvm.MethodName)) ∈ lw_all := lw_g (lw_at lw_m7 85 rfl) rfl
theorem q1640 : (Jvm.Cond.instanceMethod ({ cls := "ClaimRegistry", name := "setRate", desc := "(II)I" } : Jvm.MethodName)) ∈ lw_all := lw_g (lw_at lw_m7 106 rfl) rfl
theorem q1641 : (Jvm.Cond.selects "ClaimRegistry" ({ cls := "ClaimRegistry", name := "setRate", desc := "(II)I" } : Jvm.MethodName) ({ cls := "ClaimRegistry", name := "setRate", desc := "(II)I" } : Jvm.MethodName)) ∈ lw_all := lw_g (lw_at lw_m7 107 rfl) rfl
theorem q1642 : (Jvm.Cond.code ({ cls := "ClaimRegistry", name := "setRate", desc := "(II)I" } : Jvm.MethodName) prog_1_method_25_code (4 : Nat) (Option.some Jvm.ClassFile.FieldType.int)) ∈ lw_all := lw_g (lw_at lw_m7 108 rfl) rfl
theorem q1643 : (Jvm.Cond.methodLink "ClaimRegistry" (174 : Nat) ({ cls := "ClaimRegistry", name := "isPhase", desc := "(I)Z" } : Jvm.MethodName)) ∈ lw_all := lw_g (lw_at lw_m7 109 rfl) rfl
theorem q1644 : (Jvm.Cond.static ({ cls := "ClaimRegistry", name := "isPhase", desc := "(I)Z" } : Jvm.MethodName)) ∈ lw_all := lw_g (lw_at lw_m7 110 rfl) rfl
theorem q1645 : (Jvm.Cond.code ({ cls := "ClaimRegistry", name := "isPhase", desc := "(I)Z" } : Jvm.MethodName) prog_1_method_10_code (1 : Nat) (Option.some Jvm.ClassFile.FieldType.boolean)) ∈ lw_all := lw_g (lw_at lw_m7 111 rfl) rfl
theorem q1650 : (Jvm.Cond.instanceMethod ({ cls := "ClaimRegistry", name := "rate", desc := "(I)I" } : Jvm.MethodName)) ∈ lw_all := lw_g (lw_at lw_m7 116 rfl) rfl
theorem q1651 : (Jvm.Cond.selects "ClaimRegistry" ({ cls := "ClaimRegistry", name := "rate", desc := "(I)I" } : Jvm.MethodName) ({ cls := "ClaimRegistry", name := "rate", desc := "(I)I" } : Jvm.MethodName)) ∈ lw_all := lw_g (lw_at lw_m7 117 rfl) rfl
theorem q1652 : (Jvm.Cond.code ({ cls := "ClaimRegistry", name := "rate", desc := "(I)I" } : Jvm.MethodName) prog_1_method_28_code (2 : Nat) (Option.some Jvm.ClassFile.FieldType.int)) ∈ lw_all := lw_g (lw_at lw_m7 118 rfl) rfl
theorem q1673 : (Jvm.Cond.instanceMethod ({ cls := "ClaimRegistry", name := "idAt", desc := "(I)I" } : Jvm.MethodName)) ∈ lw_all := lw_g (lw_at lw_m7 139 rfl) rfl
theorem q1674 : (Jvm.Cond.selects "ClaimRegistry" ({ cls := "ClaimRegistry", name := "idAt", desc := "(I)I" } : Jvm.MethodName) ({ cls := "ClaimRegistry", name := "idAt", desc := "(I)I" } : Jvm.MethodName)) ∈ lw_all := lw_g (lw_at lw_m7 140 rfl) rfl
theorem q1675 : (Jvm.Cond.code ({ cls := "ClaimRegistry", name := "idAt", desc := "(I)I" } : Jvm.MethodName) prog_1_method_31_code (2 : Nat) (Option.some Jvm.ClassFile.FieldType.int)) ∈ lw_all := lw_g (lw_at lw_m7 141 rfl) rfl
theorem q1676 : (Jvm.Cond.methodLink "ClaimRegistry" (187 : Nat) ({ cls := "ClaimRegistry", name := "checkIndex", desc := "(Z)V" } : Jvm.MethodName)) ∈ lw_all := lw_g (lw_at lw_m7 142 rfl) rfl
theorem q1677 : (Jvm.Cond.static ({ cls := "ClaimRegistry", name := "checkIndex", desc := "(Z)V" } : Jvm.MethodName)) ∈ lw_all := lw_g (lw_at lw_m7 143 rfl) rfl
theorem q1678 : (Jvm.Cond.code ({ cls := "ClaimRegistry", name := "checkIndex", desc := "(Z)V" } : Jvm.MethodName) prog_1_method_5_code (1 : Nat) (Option.none : Option Jvm.ClassFile.FieldType)) ∈ lw_all := lw_g (lw_at lw_m7 144 rfl) rfl
theorem q1679 : (Jvm.Cond.classLink "ClaimRegistry" (49 : Nat) "java/lang/IndexOutOfBoundsException") ∈ lw_all := lw_g (lw_at lw_m7 145 rfl) rfl
theorem q1680 : (Jvm.Cond.methodLink "ClaimRegistry" (51 : Nat) ({ cls := "java/lang/IndexOutOfBoundsException", name := "<init>", desc := "()V" } : Jvm.MethodName)) ∈ lw_all := lw_g (lw_at lw_m7 146 rfl) rfl
theorem q1684 : (Jvm.Cond.methodLink "ClaimRegistry" (190 : Nat) ({ cls := "java/util/LinkedList", name := "get", desc := "(I)Ljava/lang/Object;" } : Jvm.MethodName)) ∈ lw_all := lw_g (lw_at lw_m7 150 rfl) rfl
theorem q1689 : (Jvm.Cond.instanceMethod ({ cls := "ClaimRegistry", name := "debtor", desc := "(I)I" } : Jvm.MethodName)) ∈ lw_all := lw_g (lw_at lw_m7 155 rfl) rfl
theorem q1690 : (Jvm.Cond.selects "ClaimRegistry" ({ cls := "ClaimRegistry", name := "debtor", desc := "(I)I" } : Jvm.MethodName) ({ cls := "ClaimRegistry", name := "debtor", desc := "(I)I" } : Jvm.MethodName)) ∈ lw_all := lw_g (lw_at lw_m7 156 rfl) rfl
theorem q1691 : (Jvm.Cond.code ({ cls := "ClaimRegistry", name := "debtor", desc := "(I)I" } : Jvm.MethodName) prog_1_method_32_code (2 : Nat) (Option.some Jvm.ClassFile.FieldType.int)) ∈ lw_all := lw_g (lw_at lw_m7 157 rfl) rfl
theorem q1696 : (Jvm.Cond.instanceMethod ({ cls := "ClaimRegistry", name := "creditor", desc := "(I)I" } : Jvm.MethodName)) ∈ lw_all := lw_g (lw_at lw_m7 162 rfl) rfl
theorem q1697 : (Jvm.Cond.selects "ClaimRegistry" ({ cls := "ClaimRegistry", name := "creditor", desc := "(I)I" } : Jvm.MethodName) ({ cls := "ClaimRegistry", name := "creditor", desc := "(I)I" } : Jvm.MethodName)) ∈ lw_all := lw_g (lw_at lw_m7 163 rfl) rfl
theorem q1698 : (Jvm.Cond.code ({ cls := "ClaimRegistry", name := "creditor", desc := "(I)I" } : Jvm.MethodName) prog_1_method_33_code (2 : Nat) (Option.some Jvm.ClassFile.FieldType.int)) ∈ lw_all := lw_g (lw_at lw_m7 164 rfl) rfl
theorem q1703 : (Jvm.Cond.instanceMethod ({ cls := "ClaimRegistry", name := "weight", desc := "(I)I" } : Jvm.MethodName)) ∈ lw_all := lw_g (lw_at lw_m7 169 rfl) rfl
theorem q1704 : (Jvm.Cond.selects "ClaimRegistry" ({ cls := "ClaimRegistry", name := "weight", desc := "(I)I" } : Jvm.MethodName) ({ cls := "ClaimRegistry", name := "weight", desc := "(I)I" } : Jvm.MethodName)) ∈ lw_all := lw_g (lw_at lw_m7 170 rfl) rfl
theorem q1705 : (Jvm.Cond.code ({ cls := "ClaimRegistry", name := "weight", desc := "(I)I" } : Jvm.MethodName) prog_1_method_34_code (2 : Nat) (Option.some Jvm.ClassFile.FieldType.int)) ∈ lw_all := lw_g (lw_at lw_m7 171 rfl) rfl
theorem q1710 : (Jvm.Cond.instanceMethod ({ cls := "ClaimRegistry", name := "expiry", desc := "(I)I" } : Jvm.MethodName)) ∈ lw_all := lw_g (lw_at lw_m7 176 rfl) rfl
theorem q1711 : (Jvm.Cond.selects "ClaimRegistry" ({ cls := "ClaimRegistry", name := "expiry", desc := "(I)I" } : Jvm.MethodName) ({ cls := "ClaimRegistry", name := "expiry", desc := "(I)I" } : Jvm.MethodName)) ∈ lw_all := lw_g (lw_at lw_m7 177 rfl) rfl
theorem q1712 : (Jvm.Cond.code ({ cls := "ClaimRegistry", name := "expiry", desc := "(I)I" } : Jvm.MethodName) prog_1_method_35_code (2 : Nat) (Option.some Jvm.ClassFile.FieldType.int)) ∈ lw_all := lw_g (lw_at lw_m7 178 rfl) rfl
theorem q1717 : (Jvm.Cond.instanceMethod ({ cls := "ClaimRegistry", name := "strikes", desc := "(I)I" } : Jvm.MethodName)) ∈ lw_all := lw_g (lw_at lw_m7 183 rfl) rfl
theorem q1718 : (Jvm.Cond.selects "ClaimRegistry" ({ cls := "ClaimRegistry", name := "strikes", desc := "(I)I" } : Jvm.MethodName) ({ cls := "ClaimRegistry", name := "strikes", desc := "(I)I" } : Jvm.MethodName)) ∈ lw_all := lw_g (lw_at lw_m7 184 rfl) rfl
theorem q1719 : (Jvm.Cond.code ({ cls := "ClaimRegistry", name := "strikes", desc := "(I)I" } : Jvm.MethodName) prog_1_method_36_code (2 : Nat) (Option.some Jvm.ClassFile.FieldType.int)) ∈ lw_all := lw_g (lw_at lw_m7 185 rfl) rfl
theorem q1724 : (Jvm.Cond.instanceMethod ({ cls := "ClaimRegistry", name := "isSigned", desc := "(I)Z" } : Jvm.MethodName)) ∈ lw_all := lw_g (lw_at lw_m7 190 rfl) rfl
theorem q1725 : (Jvm.Cond.selects "ClaimRegistry" ({ cls := "ClaimRegistry", name := "isSigned", desc := "(I)Z" } : Jvm.MethodName) ({ cls := "ClaimRegistry", name := "isSigned", desc := "(I)Z" } : Jvm.MethodName)) ∈ lw_all := lw_g (lw_at lw_m7 191 rfl) rfl
theorem q1726 : (Jvm.Cond.code ({ cls := "ClaimRegistry", name := "isSigned", desc := "(I)Z" } : Jvm.MethodName) prog_1_method_37_code (2 : Nat) (Option.some Jvm.ClassFile.FieldType.boolean)) ∈ lw_all := lw_g (lw_at lw_m7 192 rfl) rfl
theorem q1731 : (Jvm.Cond.instanceMethod ({ cls := "ClaimRegistry", name := "isCountersigned", desc := "(I)Z" } : Jvm.MethodName)) ∈ lw_all := lw_g (lw_at lw_m7 197 rfl) rfl
theorem q1732 : (Jvm.Cond.selects "ClaimRegistry" ({ cls := "ClaimRegistry", name := "isCountersigned", desc := "(I)Z" } : Jvm.MethodName) ({ cls := "ClaimRegistry", name := "isCountersigned", desc := "(I)Z" } : Jvm.MethodName)) ∈ lw_all := lw_g (lw_at lw_m7 198 rfl) rfl
theorem q1733 : (Jvm.Cond.code ({ cls := "ClaimRegistry", name := "isCountersigned", desc := "(I)Z" } : Jvm.MethodName) prog_1_method_38_code (2 : Nat) (Option.some Jvm.ClassFile.FieldType.boolean)) ∈ lw_all := lw_g (lw_at lw_m7 199 rfl) rfl
theorem q1738 : (Jvm.Cond.instanceMethod ({ cls := "ClaimRegistry", name := "signer", desc := "(I)I" } : Jvm.MethodName)) ∈ lw_all := lw_g (lw_at lw_m7 204 rfl) rfl
theorem q1739 : (Jvm.Cond.selects "ClaimRegistry" ({ cls := "ClaimRegistry", name := "signer", desc := "(I)I" } : Jvm.MethodName) ({ cls := "ClaimRegistry", name := "signer", desc := "(I)I" } : Jvm.MethodName)) ∈ lw_all := lw_g (lw_at lw_m7 205 rfl) rfl
theorem q1740 : (Jvm.Cond.code ({ cls := "ClaimRegistry", name := "signer", desc := "(I)I" } : Jvm.MethodName) prog_1_method_39_code (3 : Nat) (Option.some Jvm.ClassFile.FieldType.int)) ∈ lw_all := lw_g (lw_at lw_m7 206 rfl) rfl
theorem q1745 : (Jvm.Cond.instanceMethod ({ cls := "ClaimRegistry", name := "countersigner", desc := "(I)I" } : Jvm.MethodName)) ∈ lw_all := lw_g (lw_at lw_m7 211 rfl) rfl
theorem q1746 : (Jvm.Cond.selects "ClaimRegistry" ({ cls := "ClaimRegistry", name := "countersigner", desc := "(I)I" } : Jvm.MethodName) ({ cls := "ClaimRegistry", name := "countersigner", desc := "(I)I" } : Jvm.MethodName)) ∈ lw_all := lw_g (lw_at lw_m7 212 rfl) rfl
theorem q1747 : (Jvm.Cond.code ({ cls := "ClaimRegistry", name := "countersigner", desc := "(I)I" } : Jvm.MethodName) prog_1_method_40_code (3 : Nat) (Option.some Jvm.ClassFile.FieldType.int)) ∈ lw_all := lw_g (lw_at lw_m7 213 rfl) rfl
theorem q1752 : (Jvm.Cond.instanceMethod ({ cls := "ClaimRegistry", name := "signaturesOf", desc := "(I)I" } : Jvm.MethodName)) ∈ lw_all := lw_g (lw_at lw_m7 218 rfl) rfl
theorem q1753 : (Jvm.Cond.selects "ClaimRegistry" ({ cls := "ClaimRegistry", name := "signaturesOf", desc := "(I)I" } : Jvm.MethodName) ({ cls := "ClaimRegistry", name := "signaturesOf", desc := "(I)I" } : Jvm.MethodName)) ∈ lw_all := lw_g (lw_at lw_m7 219 rfl) rfl
theorem q1754 : (Jvm.Cond.code ({ cls := "ClaimRegistry", name := "signaturesOf", desc := "(I)I" } : Jvm.MethodName) prog_1_method_43_code (2 : Nat) (Option.some Jvm.ClassFile.FieldType.int)) ∈ lw_all := lw_g (lw_at lw_m7 220 rfl) rfl
theorem q1759 : (Jvm.Cond.instanceMethod ({ cls := "ClaimRegistry", name := "countersignaturesOf", desc := "(I)I" } : Jvm.MethodName)) ∈ lw_all := lw_g (lw_at lw_m7 225 rfl) rfl
theorem q1760 : (Jvm.Cond.selects "ClaimRegistry" ({ cls := "ClaimRegistry", name := "countersignaturesOf", desc := "(I)I" } : Jvm.MethodName) ({ cls := "ClaimRegistry", name := "countersignaturesOf", desc := "(I)I" } : Jvm.MethodName)) ∈ lw_all := lw_g (lw_at lw_m7 226 rfl) rfl
theorem q1761 : (Jvm.Cond.code ({ cls := "ClaimRegistry", name := "countersignaturesOf", desc := "(I)I" } : Jvm.MethodName) prog_1_method_44_code (2 : Nat) (Option.some Jvm.ClassFile.FieldType.int)) ∈ lw_all := lw_g (lw_at lw_m7 227 rfl) rfl
theorem q1766 : (Jvm.Cond.instanceMethod ({ cls := "ClaimRegistry", name := "owedBy", desc := "(I)I" } : Jvm.MethodName)) ∈ lw_all := lw_g (lw_at lw_m7 232 rfl) rfl
theorem q1767 : (Jvm.Cond.selects "ClaimRegistry" ({ cls := "ClaimRegistry", name := "owedBy", desc := "(I)I" } : Jvm.MethodName) ({ cls := "ClaimRegistry", name := "owedBy", desc := "(I)I" } : Jvm.MethodName)) ∈ lw_all := lw_g (lw_at lw_m7 233 rfl) rfl
theorem q1768 : (Jvm.Cond.code ({ cls := "ClaimRegistry", name := "owedBy", desc := "(I)I" } : Jvm.MethodName) prog_1_method_45_code (2 : Nat) (Option.some Jvm.ClassFile.FieldType.int)) ∈ lw_all := lw_g (lw_at lw_m7 234 rfl) rfl
theorem q1769 : (Jvm.Cond.static ({ cls := "ClaimRegistry", name := "lambda$owedBy$2", desc := "(ILClaimRegistry$Claim;)I" } : Jvm.MethodName)) ∈ lw_all := lw_g (lw_at lw_m7 235 rfl) rfl
theorem q1770 : (Jvm.Cond.code ({ cls := "ClaimRegistry", name := "lambda$owedBy$2", desc := "(ILClaimRegistry$Claim;)I" } : Jvm.MethodName) prog_1_method_110_code (2 : Nat) (Option.some Jvm.ClassFile.FieldType.int)) ∈ lw_all := lw_g (lw_at lw_m7 236 rfl) rfl
theorem q1775 : (Jvm.Cond.instanceMethod ({ cls := "ClaimRegistry", name := "owedTo", desc := "(I)I" } : Jvm.MethodName)) ∈ lw_all := lw_g (lw_at lw_m8 1 rfl) rfl
theorem q1776 : (Jvm.Cond.selects "ClaimRegistry" ({ cls := "ClaimRegistry", name := "owedTo", desc := "(I)I" } : Jvm.MethodName) ({ cls := "ClaimRegistry", name := "owedTo", desc := "(I)I" } : Jvm.MethodName)) ∈ lw_all := lw_g (lw_at lw_m8 2 rfl) rfl
theorem q1777 : (Jvm.Cond.code ({ cls := "ClaimRegistry", name := "owedTo", desc := "(I)I" } : Jvm.MethodName) prog_1_method_46_code (2 : Nat) (Option.some Jvm.ClassFile.FieldType.int)) ∈ lw_all := lw_g (lw_at lw_m8 3 rfl) rfl
theorem q1778 : (Jvm.Cond.static ({ cls := "ClaimRegistry", name := "lambda$owedTo$3", desc := "(ILClaimRegistry$Claim;)I" } : Jvm.MethodName)) ∈ lw_all := lw_g (lw_at lw_m8 4 rfl) rfl
theorem q1779 : (Jvm.Cond.code ({ cls := "ClaimRegistry", name := "lambda$owedTo$3", desc := "(ILClaimRegistry$Claim;)I" } : Jvm.MethodName) prog_1_method_109_code (2 : Nat) (Option.some Jvm.ClassFile.FieldType.int)) ∈ lw_all := lw_g (lw_at lw_m8 5 rfl) rfl
theorem q1784 : (Jvm.Cond.instanceMethod ({ cls := "ClaimRegistry", name := "balance", desc := "(I)I" } : Jvm.MethodName)) ∈ lw_all := lw_g (lw_at lw_m8 10 rfl) rfl
theorem q1785 : (Jvm.Cond.selects "ClaimRegistry" ({ cls := "ClaimRegistry", name := "balance", desc := "(I)I" } : Jvm.MethodName) ({ cls := "ClaimRegistry", name := "balance", desc := "(I)I" } : Jvm.MethodName)) ∈ lw_all := lw_g (lw_at lw_m8 11 rfl) rfl
theorem q1786 : (Jvm.Cond.code ({ cls := "ClaimRegistry", name := "balance", desc := "(I)I" } : Jvm.MethodName) prog_1_method_49_code (2 : Nat) (Option.some Jvm.ClassFile.FieldType.int)) ∈ lw_all := lw_g (lw_at lw_m8 12 rfl) rfl
theorem q1791 : (Jvm.Cond.instanceMethod ({ cls := "ClaimRegistry", name := "mostIndebted", desc := "()I" } : Jvm.MethodName)) ∈ lw_all := lw_g (lw_at lw_m8 17 rfl) rfl
theorem q1792 : (Jvm.Cond.selects "ClaimRegistry" ({ cls := "ClaimRegistry", name := "mostIndebted", desc := "()I" } : Jvm.MethodName) ({ cls := "ClaimRegistry", name := "mostIndebted", desc := "()I" } : Jvm.MethodName)) ∈ lw_all := lw_g (lw_at lw_m8 18 rfl) rfl
theorem q1793 : (Jvm.Cond.code ({ cls := "ClaimRegistry", name := "mostIndebted", desc := "()I" } : Jvm.MethodName) prog_1_method_50_code (3 : Nat) (Option.some Jvm.ClassFile.FieldType.int)) ∈ lw_all := lw_g (lw_at lw_m8 19 rfl) rfl
theorem q1794 : (Jvm.Cond.methodLink "ClaimRegistry" (219 : Nat) ({ cls := "java/util/LinkedList", name := "isEmpty", desc := "()Z" } : Jvm.MethodName)) ∈ lw_all := lw_g (lw_at lw_m8 20 rfl) rfl
theorem q1805 : (Jvm.Cond.instanceMethod ({ cls := "ClaimRegistry", name := "heaviest", desc := "()I" } : Jvm.MethodName)) ∈ lw_all := lw_g (lw_at lw_m8 31 rfl) rfl
theorem q1806 : (Jvm.Cond.selects "ClaimRegistry" ({ cls := "ClaimRegistry", name := "heaviest", desc := "()I" } : Jvm.MethodName) ({ cls := "ClaimRegistry", name := "heaviest", desc := "()I" } : Jvm.MethodName)) ∈ lw_all := lw_g (lw_at lw_m8 32 rfl) rfl
theorem q1807 : (Jvm.Cond.code ({ cls := "ClaimRegistry", name := "heaviest", desc := "()I" } : Jvm.MethodName) prog_1_method_53_code (1 : Nat) (Option.some Jvm.ClassFile.FieldType.int)) ∈ lw_all := lw_g (lw_at lw_m8 33 rfl) rfl
theorem q1808 : (Jvm.Cond.static ({ cls := "ClaimRegistry", name := "lambda$heaviest$5", desc := "(LClaimRegistry$Claim;)I" } : Jvm.MethodName)) ∈ lw_all := lw_g (lw_at lw_m8 34 rfl) rfl
theorem q1809 : (Jvm.Cond.code ({ cls := "ClaimRegistry", name := "lambda$heaviest$5", desc := "(LClaimRegistry$Claim;)I" } : Jvm.MethodName) prog_1_method_107_code (1 : Nat) (Option.some Jvm.ClassFile.FieldType.int)) ∈ lw_all := lw_g (lw_at lw_m8 35 rfl) rfl
theorem q1810 : (Jvm.Cond.methodLink "ClaimRegistry" (229 : Nat) ({ cls := "ClaimRegistry", name := "lowest", desc := "(LClaimRegistry$ClaimValue;)LClaimRegistry$Claim;" } : Jvm.MethodName)) ∈ lw_all := lw_g (lw_at lw_m8 36 rfl) rfl
theorem q1811 : (Jvm.Cond.privateMethod ({ cls := "ClaimRegistry", name := "lowest", desc := "(LClaimRegistry$ClaimValue;)LClaimRegistry$Claim;" } : Jvm.MethodName)) ∈ lw_tbl := lw_at lw_m8 37 rfl
theorem q1812 : (Jvm.Cond.instanceMethod ({ cls := "ClaimRegistry", name := "lowest", desc := "(LClaimRegistry$ClaimValue;)LClaimRegistry$Claim;" } : Jvm.MethodName)) ∈ lw_all := lw_g (lw_at lw_m8 38 rfl) rfl
theorem q1813 : (Jvm.Cond.code ({ cls := "ClaimRegistry", name := "lowest", desc := "(LClaimRegistry$ClaimValue;)LClaimRegistry$Claim;" } : Jvm.MethodName) prog_1_method_51_code (3 : Nat) (Option.some (Jvm.ClassFile.FieldType.object "ClaimRegistry$Claim"))) ∈ lw_all := lw_g (lw_at lw_m8 39 rfl) rfl
theorem q1814 : (Jvm.Cond.methodLink "ClaimRegistry" (222 : Nat) ({ cls := "ClaimRegistry$State", name := "lowest", desc := "(LClaimRegistry$ClaimValue;)LClaimRegistry$Claim;" } : Jvm.MethodName)) ∈ lw_all := lw_g (lw_at lw_m8 40 rfl) rfl
theorem q1822 : (Jvm.Cond.instanceMethod ({ cls := "ClaimRegistry", name := "nextExpiry", desc := "()I" } : Jvm.MethodName)) ∈ lw_all := lw_g (lw_at lw_m8 48 rfl) rfl
theorem q1823 : (Jvm.Cond.selects "ClaimRegistry" ({ cls := "ClaimRegistry", name := "nextExpiry", desc := "()I" } : Jvm.MethodName) ({ cls := "ClaimRegistry", name := "nextExpiry", desc := "()I" } : Jvm.MethodName)) ∈ lw_all := lw_g (lw_at lw_m8 49 rfl) rfl
theorem q1824 : (Jvm.Cond.code ({ cls := "ClaimRegistry", name := "nextExpiry", desc := "()I" } : Jvm.MethodName) prog_1_method_54_code (1 : Nat) (Option.some Jvm.ClassFile.FieldType.int)) ∈ lw_all := lw_g (lw_at lw_m8 50 rfl) rfl
theorem q1825 : (Jvm.Cond.static ({ cls := "ClaimRegistry", name := "expiryOf", desc := "(LClaimRegistry$Claim;)I" } : Jvm.MethodName)) ∈ lw_all := lw_g (lw_at lw_m8 51 rfl) rfl
theorem q1826 : (Jvm.Cond.code ({ cls := "ClaimRegistry", name := "expiryOf", desc := "(LClaimRegistry$Claim;)I" } : Jvm.MethodName) prog_1_method_52_code (1 : Nat) (Option.some Jvm.ClassFile.FieldType.int)) ∈ lw_all := lw_g (lw_at lw_m8 52 rfl) rfl
theorem q1831 : (Jvm.Cond.instanceMethod ({ cls := "ClaimRegistry", name := "nextToAudit", desc := "()I" } : Jvm.MethodName)) ∈ lw_all := lw_g (lw_at lw_m8 57 rfl) rfl
theorem q1832 : (Jvm.Cond.selects "ClaimRegistry" ({ cls := "ClaimRegistry", name := "nextToAudit", desc := "()I" } : Jvm.MethodName) ({ cls := "ClaimRegistry", name := "nextToAudit", desc := "()I" } : Jvm.MethodName)) ∈ lw_all := lw_g (lw_at lw_m8 58 rfl) rfl
theorem q1833 : (Jvm.Cond.code ({ cls := "ClaimRegistry", name := "nextToAudit", desc := "()I" } : Jvm.MethodName) prog_1_method_55_code (1 : Nat) (Option.some Jvm.ClassFile.FieldType.int)) ∈ lw_all := lw_g (lw_at lw_m8 59 rfl) rfl
theorem q1834 : (Jvm.Cond.methodLink "ClaimRegistry" (235 : Nat) ({ cls := "java/util/ArrayDeque", name := "getFirst", desc := "()Ljava/lang/Object;" } : Jvm.MethodName)) ∈ lw_all := lw_g (lw_at lw_m8 60 rfl) rfl
theorem q1839 : (Jvm.Cond.instanceMethod ({ cls := "ClaimRegistry", name := "auditPosition", desc := "(I)I" } : Jvm.MethodName)) ∈ lw_all := lw_g (lw_at lw_m8 65 rfl) rfl
theorem q1840 : (Jvm.Cond.selects "ClaimRegistry" ({ cls := "ClaimRegistry", name := "auditPosition", desc := "(I)I" } : Jvm.MethodName) ({ cls := "ClaimRegistry", name := "auditPosition", desc := "(I)I" } : Jvm.MethodName)) ∈ lw_all := lw_g (lw_at lw_m8 66 rfl) rfl
theorem q1841 : (Jvm.Cond.code ({ cls := "ClaimRegistry", name := "auditPosition", desc := "(I)I" } : Jvm.MethodName) prog_1_method_56_code (5 : Nat) (Option.some Jvm.ClassFile.FieldType.int)) ∈ lw_all := lw_g (lw_at lw_m8 67 rfl) rfl
theorem q1842 : (Jvm.Cond.methodLink "ClaimRegistry" (243 : Nat) ({ cls := "java/util/ArrayDeque", name := "iterator", desc := "()Ljava/util/Iterator;" } : Jvm.MethodName)) ∈ lw_all := lw_g (lw_at lw_m8 68 rfl) rfl
theorem q1847 : (Jvm.Cond.instanceMethod ({ cls := "ClaimRegistry", name := "owes", desc := "(II)Z" } : Jvm.MethodName)) ∈ lw_all := lw_g (lw_at lw_m8 73 rfl) rfl
theorem q1848 : (Jvm.Cond.selects "ClaimRegistry" ({ cls := "ClaimRegistry", name := "owes", desc := "(II)Z" } : Jvm.MethodName) ({ cls := "ClaimRegistry", name := "owes", desc := "(II)Z" } : Jvm.MethodName)) ∈ lw_all := lw_g (lw_at lw_m8 74 rfl) rfl
theorem q1849 : (Jvm.Cond.code ({ cls := "ClaimRegistry", name := "owes", desc := "(II)Z" } : Jvm.MethodName) prog_1_method_59_code (3 : Nat) (Option.some Jvm.ClassFile.FieldType.boolean)) ∈ lw_all := lw_g (lw_at lw_m8 75 rfl) rfl
theorem q1850 : (Jvm.Cond.methodLink "ClaimRegistry" (258 : Nat) ({ cls := "ClaimRegistry", name := "checkPersons", desc := "(II)V" } : Jvm.MethodName)) ∈ lw_all := lw_g (lw_at lw_m8 76 rfl) rfl
theorem q1851 : (Jvm.Cond.static ({ cls := "ClaimRegistry", name := "checkPersons", desc := "(II)V" } : Jvm.MethodName)) ∈ lw_all := lw_g (lw_at lw_m8 77 rfl) rfl
theorem q1852 : (Jvm.Cond.code ({ cls := "ClaimRegistry", name := "checkPersons", desc := "(II)V" } : Jvm.MethodName) prog_1_method_57_code (2 : Nat) (Option.none : Option Jvm.ClassFile.FieldType)) ∈ lw_all := lw_g (lw_at lw_m8 78 rfl) rfl
theorem q1853 : (Jvm.Cond.methodLink "ClaimRegistry" (262 : Nat) ({ cls := "ClaimRegistry", name := "isOwed", desc := "(II)Z" } : Jvm.MethodName)) ∈ lw_all := lw_g (lw_at lw_m8 79 rfl) rfl
theorem q1854 : (Jvm.Cond.privateMethod ({ cls := "ClaimRegistry", name := "isOwed", desc := "(II)Z" } : Jvm.MethodName)) ∈ lw_tbl := lw_at lw_m8 80 rfl
theorem q1855 : (Jvm.Cond.instanceMethod ({ cls := "ClaimRegistry", name := "isOwed", desc := "(II)Z" } : Jvm.MethodName)) ∈ lw_all := lw_g (lw_at lw_m8 81 rfl) rfl
theorem q1856 : (Jvm.Cond.code ({ cls := "ClaimRegistry", name := "isOwed", desc := "(II)Z" } : Jvm.MethodName) prog_1_method_58_code (3 : Nat) (Option.some Jvm.ClassFile.FieldType.boolean)) ∈ lw_all := lw_g (lw_at lw_m8 82 rfl) rfl
theorem q1857 : (Jvm.Cond.static ({ cls := "ClaimRegistry", name := "lambda$isOwed$6", desc := "(IILClaimRegistry$Claim;)Z" } : Jvm.MethodName)) ∈ lw_all := lw_g (lw_at lw_m8 83 rfl) rfl
theorem q1858 : (Jvm.Cond.code ({ cls := "ClaimRegistry", name := "lambda$isOwed$6", desc := "(IILClaimRegistry$Claim;)Z" } : Jvm.MethodName) prog_1_method_106_code (3 : Nat) (Option.some Jvm.ClassFile.FieldType.boolean)) ∈ lw_all := lw_g (lw_at lw_m8 84 rfl) rfl
theorem q1863 : (Jvm.Cond.instanceMethod ({ cls := "ClaimRegistry", name := "pairBalance", desc := "(II)I" } : Jvm.MethodName)) ∈ lw_all := lw_g (lw_at lw_m8 89 rfl) rfl
theorem q1864 : (Jvm.Cond.selects "ClaimRegistry" ({ cls := "ClaimRegistry", name := "pairBalance", desc := "(II)I" } : Jvm.MethodName) ({ cls := "ClaimRegistry", name := "pairBalance", desc := "(II)I" } : Jvm.MethodName)) ∈ lw_all := lw_g (lw_at lw_m8 90 rfl) rfl
theorem q1865 : (Jvm.Cond.code ({ cls := "ClaimRegistry", name := "pairBalance", desc := "(II)I" } : Jvm.MethodName) prog_1_method_60_code (5 : Nat) (Option.some Jvm.ClassFile.FieldType.int)) ∈ lw_all := lw_g (lw_at lw_m8 91 rfl) rfl
theorem q1866 : (Jvm.Cond.static ({ cls := "ClaimRegistry", name := "lambda$pairBalance$7", desc := "(IILClaimRegistry$Claim;)I" } : Jvm.MethodName)) ∈ lw_all := lw_g (lw_at lw_m8 92 rfl) rfl
theorem q1867 : (Jvm.Cond.code ({ cls := "ClaimRegistry", name := "lambda$pairBalance$7", desc := "(IILClaimRegistry$Claim;)I" } : Jvm.MethodName) prog_1_method_105_code (3 : Nat) (Option.some Jvm.ClassFile.FieldType.int)) ∈ lw_all := lw_g (lw_at lw_m8 93 rfl) rfl
theorem q1868 : (Jvm.Cond.static ({ cls := "ClaimRegistry", name := "lambda$pairBalance$8", desc := "(IILClaimRegistry$Claim;)I" } : Jvm.MethodName)) ∈ lw_all := lw_g (lw_at lw_m8 94 rfl) rfl
theorem q1869 : (Jvm.Cond.code ({ cls := "ClaimRegistry", name := "lambda$pairBalance$8", desc := "(IILClaimRegistry$Claim;)I" } : Jvm.MethodName) prog_1_method_104_code (3 : Nat) (Option.some Jvm.ClassFile.FieldType.int)) ∈ lw_all := lw_g (lw_at lw_m8 95 rfl) rfl
theorem q1874 : (Jvm.Cond.instanceMethod ({ cls := "ClaimRegistry", name := "chainLength", desc := "(II)I" } : Jvm.MethodName)) ∈ lw_all := lw_g (lw_at lw_m8 100 rfl) rfl
theorem q1875 : (Jvm.Cond.selects "ClaimRegistry" ({ cls := "ClaimRegistry", name := "chainLength", desc := "(II)I" } : Jvm.MethodName) ({ cls := "ClaimRegistry", name := "chainLength", desc := "(II)I" } : Jvm.MethodName)) ∈ lw_all := lw_g (lw_at lw_m8 101 rfl) rfl
theorem q1876 : (Jvm.Cond.code ({ cls := "ClaimRegistry", name := "chainLength", desc := "(II)I" } : Jvm.MethodName) prog_1_method_64_code (4 : Nat) (Option.some Jvm.ClassFile.FieldType.int)) ∈ lw_all := lw_g (lw_at lw_m8 102 rfl) rfl
theorem q1881 : (Jvm.Cond.instanceMethod ({ cls := "ClaimRegistry", name := "chainLengthByRounds", desc := "(II)I" } : Jvm.MethodName)) ∈ lw_all := lw_g (lw_at lw_m8 107 rfl) rfl
theorem q1882 : (Jvm.Cond.selects "ClaimRegistry" ({ cls := "ClaimRegistry", name := "chainLengthByRounds", desc := "(II)I" } : Jvm.MethodName) ({ cls := "ClaimRegistry", name := "chainLengthByRounds", desc := "(II)I" } : Jvm.MethodName)) ∈ lw_all := lw_g (lw_at lw_m8 108 rfl) rfl
theorem q1883 : (Jvm.Cond.code ({ cls := "ClaimRegistry", name := "chainLengthByRounds", desc := "(II)I" } : Jvm.MethodName) prog_1_method_65_code (4 : Nat) (Option.some Jvm.ClassFile.FieldType.int)) ∈ lw_all := lw_g (lw_at lw_m8 109 rfl) rfl
theorem q1888 : (Jvm.Cond.instanceMethod ({ cls := "ClaimRegistry", name := "reachableFrom", desc := "(I)I" } : Jvm.MethodName)) ∈ lw_all := lw_g (lw_at lw_m8 114 rfl) rfl
theorem q1889 : (Jvm.Cond.selects "ClaimRegistry" ({ cls := "ClaimRegistry", name := "reachableFrom", desc := "(I)I" } : Jvm.MethodName) ({ cls := "ClaimRegistry", name := "reachableFrom", desc := "(I)I" } : Jvm.MethodName)) ∈ lw_all := lw_g (lw_at lw_m8 115 rfl) rfl
theorem q1890 : (Jvm.Cond.code ({ cls := "ClaimRegistry", name := "reachableFrom", desc := "(I)I" } : Jvm.MethodName) prog_1_method_66_code (4 : Nat) (Option.some Jvm.ClassFile.FieldType.int)) ∈ lw_all := lw_g (lw_at lw_m8 116 rfl) rfl
theorem q1895 : (Jvm.Cond.instanceMethod ({ cls := "ClaimRegistry", name := "idByExpiry", desc := "(I)I" } : Jvm.MethodName)) ∈ lw_all := lw_g (lw_at lw_m8 121 rfl) rfl
theorem q1896 : (Jvm.Cond.selects "ClaimRegistry" ({ cls := "ClaimRegistry", name := "idByExpiry", desc := "(I)I" } : Jvm.MethodName) ({ cls := "ClaimRegistry", name := "idByExpiry", desc := "(I)I" } : Jvm.MethodName)) ∈ lw_all := lw_g (lw_at lw_m8 122 rfl) rfl
theorem q1897 : (Jvm.Cond.code ({ cls := "ClaimRegistry", name := "idByExpiry", desc := "(I)I" } : Jvm.MethodName) prog_1_method_71_code (2 : Nat) (Option.some Jvm.ClassFile.FieldType.int)) ∈ lw_all := lw_g (lw_at lw_m8 123 rfl) rfl
theorem q1898 : (Jvm.Cond.methodLink "ClaimRegistry" (293 : Nat) ({ cls := "ClaimRegistry", name := "sort", desc := "(Ljava/util/LinkedList;)Ljava/util/LinkedList;" } : Jvm.MethodName)) ∈ lw_all := lw_g (lw_at lw_m8 124 rfl) rfl
theorem q1899 : (Jvm.Cond.static ({ cls := "ClaimRegistry", name := "sort", desc := "(Ljava/util/LinkedList;)Ljava/util/LinkedList;" } : Jvm.MethodName)) ∈ lw_all := lw_g (lw_at lw_m8 125 rfl) rfl
theorem q1900 : (Jvm.Cond.code ({ cls := "ClaimRegistry", name := "sort", desc := "(Ljava/util/LinkedList;)Ljava/util/LinkedList;" } : Jvm.MethodName) prog_1_method_70_code (5 : Nat) (Option.some (Jvm.ClassFile.FieldType.object "java/util/LinkedList"))) ∈ lw_all := lw_g (lw_at lw_m8 126 rfl) rfl
theorem q1901 : (Jvm.Cond.classLink "ClaimRegistry" (96 : Nat) "java/util/LinkedList") ∈ lw_all := lw_g (lw_at lw_m8 127 rfl) rfl
theorem q1902 : (Jvm.Cond.methodLink "ClaimRegistry" (285 : Nat) ({ cls := "java/util/LinkedList", name := "<init>", desc := "()V" } : Jvm.MethodName)) ∈ lw_all := lw_g (lw_at lw_m8 128 rfl) rfl
theorem q1903 : (Jvm.Cond.methodLink "ClaimRegistry" (292 : Nat) ({ cls := "java/util/LinkedList", name := "addLast", desc := "(Ljava/lang/Object;)V" } : Jvm.MethodName)) ∈ lw_all := lw_g (lw_at lw_m8 129 rfl) rfl
theorem q1904 : (Jvm.Cond.methodLink "ClaimRegistry" (297 : Nat) ({ cls := "ClaimRegistry", name := "merge", desc := "(Ljava/util/LinkedList;Ljava/util/LinkedList;)Ljava/util/LinkedList;" } : Jvm.MethodName)) ∈ lw_all := lw_g (lw_at lw_m8 130 rfl) rfl
theorem q1905 : (Jvm.Cond.static ({ cls := "ClaimRegistry", name := "merge", desc := "(Ljava/util/LinkedList;Ljava/util/LinkedList;)Ljava/util/LinkedList;" } : Jvm.MethodName)) ∈ lw_all := lw_g (lw_at lw_m8 131 rfl) rfl
theorem q1906 : (Jvm.Cond.code ({ cls := "ClaimRegistry", name := "merge", desc := "(Ljava/util/LinkedList;Ljava/util/LinkedList;)Ljava/util/LinkedList;" } : Jvm.MethodName) prog_1_method_69_code (5 : Nat) (Option.some (Jvm.ClassFile.FieldType.object "java/util/LinkedList"))) ∈ lw_all := lw_g (lw_at lw_m8 132 rfl) rfl
theorem q1907 : (Jvm.Cond.methodLink "ClaimRegistry" (286 : Nat) ({ cls := "java/util/LinkedList", name := "getFirst", desc := "()Ljava/lang/Object;" } : Jvm.MethodName)) ∈ lw_all := lw_g (lw_at lw_m8 133 rfl) rfl
theorem q1913 : (Jvm.Cond.methodLink "ClaimRegistry" (287 : Nat) ({ cls := "ClaimRegistry", name := "expiresBefore", desc := "(LClaimRegistry$Claim;LClaimRegistry$Claim;)Z" } : Jvm.MethodName)) ∈ lw_all := lw_g (lw_at lw_m8 139 rfl) rfl
theorem q1914 : (Jvm.Cond.static ({ cls := "ClaimRegistry", name := "expiresBefore", desc := "(LClaimRegistry$Claim;LClaimRegistry$Claim;)Z" } : Jvm.MethodName)) ∈ lw_all := lw_g (lw_at lw_m8 140 rfl) rfl
theorem q1915 : (Jvm.Cond.code ({ cls := "ClaimRegistry", name := "expiresBefore", desc := "(LClaimRegistry$Claim;LClaimRegistry$Claim;)Z" } : Jvm.MethodName) prog_1_method_68_code (2 : Nat) (Option.some Jvm.ClassFile.FieldType.boolean)) ∈ lw_all := lw_g (lw_at lw_m8 141 rfl) rfl
theorem q1916 : (Jvm.Cond.methodLink "ClaimRegistry" (291 : Nat) ({ cls := "java/util/LinkedList", name := "removeFirst", desc := "()Ljava/lang/Object;" } : Jvm.MethodName)) ∈ lw_all := lw_g (lw_at lw_m8 142 rfl) rfl
theorem q1928 : (Jvm.Cond.instanceMethod ({ cls := "ClaimRegistry", name := "expiryRank", desc := "(I)I" } : Jvm.MethodName)) ∈ lw_all := lw_g (lw_at lw_m8 154 rfl) rfl
theorem q1929 : (Jvm.Cond.selects "ClaimRegistry" ({ cls := "ClaimRegistry", name := "expiryRank", desc := "(I)I" } : Jvm.MethodName) ({ cls := "ClaimRegistry", name := "expiryRank", desc := "(I)I" } : Jvm.MethodName)) ∈ lw_all := lw_g (lw_at lw_m8 155 rfl) rfl
theorem q1930 : (Jvm.Cond.code ({ cls := "ClaimRegistry", name := "expiryRank", desc := "(I)I" } : Jvm.MethodName) prog_1_method_72_code (3 : Nat) (Option.some Jvm.ClassFile.FieldType.int)) ∈ lw_all := lw_g (lw_at lw_m8 156 rfl) rfl
theorem q1931 : (Jvm.Cond.static ({ cls := "ClaimRegistry", name := "lambda$expiryRank$9", desc := "(LClaimRegistry$Claim;LClaimRegistry$Claim;)Z" } : Jvm.MethodName)) ∈ lw_all := lw_g (lw_at lw_m8 157 rfl) rfl
theorem q1932 : (Jvm.Cond.code ({ cls := "ClaimRegistry", name := "lambda$expiryRank$9", desc := "(LClaimRegistry$Claim;LClaimRegistry$Claim;)Z" } : Jvm.MethodName) prog_1_method_103_code (2 : Nat) (Option.some Jvm.ClassFile.FieldType.boolean)) ∈ lw_all := lw_g (lw_at lw_m8 158 rfl) rfl
theorem q1937 : (Jvm.Cond.instanceMethod ({ cls := "ClaimRegistry", name := "expiringWithin", desc := "(I)I" } : Jvm.MethodName)) ∈ lw_all := lw_g (lw_at lw_m8 163 rfl) rfl
theorem q1938 : (Jvm.Cond.selects "ClaimRegistry" ({ cls := "ClaimRegistry", name := "expiringWithin", desc := "(I)I" } : Jvm.MethodName) ({ cls := "ClaimRegistry", name := "expiringWithin", desc := "(I)I" } : Jvm.MethodName)) ∈ lw_all := lw_g (lw_at lw_m8 164 rfl) rfl
theorem q1939 : (Jvm.Cond.code ({ cls := "ClaimRegistry", name := "expiringWithin", desc := "(I)I" } : Jvm.MethodName) prog_1_method_76_code (2 : Nat) (Option.some Jvm.ClassFile.FieldType.int)) ∈ lw_all := lw_g (lw_at lw_m8 165 rfl) rfl
theorem q1940 : (Jvm.Cond.methodLink "ClaimRegistry" (305 : Nat) ({ cls := "ClaimRegistry", name := "isForecast", desc := "(I)Z" } : Jvm.MethodName)) ∈ lw_all := lw_g (lw_at lw_m8 166 rfl) rfl
theorem q1941 : (Jvm.Cond.static ({ cls := "ClaimRegistry", name := "isForecast", desc := "(I)Z" } : Jvm.MethodName)) ∈ lw_all := lw_g (lw_at lw_m8 167 rfl) rfl
theorem q1942 : (Jvm.Cond.code ({ cls := "ClaimRegistry", name := "isForecast", desc := "(I)Z" } : Jvm.MethodName) prog_1_method_75_code (1 : Nat) (Option.some Jvm.ClassFile.FieldType.boolean)) ∈ lw_all := lw_g (lw_at lw_m8 168 rfl) rfl
theorem q1947 : (Jvm.Cond.instanceMethod ({ cls := "ClaimRegistry", name := "expiringBySimulation", desc := "(I)I" } : Jvm.MethodName)) ∈ lw_all := lw_g (lw_at lw_m8 173 rfl) rfl
theorem q1948 : (Jvm.Cond.selects "ClaimRegistry" ({ cls := "ClaimRegistry", name := "expiringBySimulation", desc := "(I)I" } : Jvm.MethodName) ({ cls := "ClaimRegistry", name := "expiringBySimulation", desc := "(I)I" } : Jvm.MethodName)) ∈ lw_all := lw_g (lw_at lw_m8 174 rfl) rfl
theorem q1949 : (Jvm.Cond.code ({ cls := "ClaimRegistry", name := "expiringBySimulation", desc := "(I)I" } : Jvm.MethodName) prog_1_method_77_code (2 : Nat) (Option.some Jvm.ClassFile.FieldType.int)) ∈ lw_all := lw_g (lw_at lw_m8 175 rfl) rfl
theorem q1954 : (Jvm.Cond.instanceMethod ({ cls := "ClaimRegistry", name := "weightAfter", desc := "(II)I" } : Jvm.MethodName)) ∈ lw_all := lw_g (lw_at lw_m8 180 rfl) rfl
theorem q1955 : (Jvm.Cond.selects "ClaimRegistry" ({ cls := "ClaimRegistry", name := "weightAfter", desc := "(II)I" } : Jvm.MethodName) ({ cls := "ClaimRegistry", name := "weightAfter", desc := "(II)I" } : Jvm.MethodName)) ∈ lw_all := lw_g (lw_at lw_m8 181 rfl) rfl
theorem q1956 : (Jvm.Cond.code ({ cls := "ClaimRegistry", name := "weightAfter", desc := "(II)I" } : Jvm.MethodName) prog_1_method_78_code (5 : Nat) (Option.some Jvm.ClassFile.FieldType.int)) ∈ lw_all := lw_g (lw_at lw_m8 182 rfl) rfl
theorem q1957 : (Jvm.Cond.methodLink "ClaimRegistry" (314 : Nat) ({ cls := "ClaimRegistry$Claim", name := "copy", desc := "()LClaimRegistry$Claim;" } : Jvm.MethodName)) ∈ lw_all := lw_g (lw_at lw_m8 183 rfl) rfl
theorem q1958 : (Jvm.Cond.methodLink "ClaimRegistry" (317 : Nat) ({ cls := "ClaimRegistry$Claim", name := "addInterest", desc := "(I)I" } : Jvm.MethodName)) ∈ lw_all := lw_g (lw_at lw_m8 184 rfl) rfl
theorem q1963 : (Jvm.Cond.instanceMethod ({ cls := "ClaimRegistry", name := "canSign", desc := "(II)Z" } : Jvm.MethodName)) ∈ lw_all := lw_g (lw_at lw_m8 189 rfl) rfl
theorem q1964 : (Jvm.Cond.selects "ClaimRegistry" ({ cls := "ClaimRegistry", name := "canSign", desc := "(II)Z" } : Jvm.MethodName) ({ cls := "ClaimRegistry", name := "canSign", desc := "(II)Z" } : Jvm.MethodName)) ∈ lw_all := lw_g (lw_at lw_m8 190 rfl) rfl
theorem q1965 : (Jvm.Cond.code ({ cls := "ClaimRegistry", name := "canSign", desc := "(II)Z" } : Jvm.MethodName) prog_1_method_41_code (4 : Nat) (Option.some Jvm.ClassFile.FieldType.boolean)) ∈ lw_all := lw_g (lw_at lw_m8 191 rfl) rfl
theorem q1970 : (Jvm.Cond.instanceMethod ({ cls := "ClaimRegistry", name := "canCountersign", desc := "(II)Z" } : Jvm.MethodName)) ∈ lw_all := lw_g (lw_at lw_m8 196 rfl) rfl
theorem q1971 : (Jvm.Cond.selects "ClaimRegistry" ({ cls := "ClaimRegistry", name := "canCountersign", desc := "(II)Z" } : Jvm.MethodName) ({ cls := "ClaimRegistry", name := "canCountersign", desc := "(II)Z" } : Jvm.MethodName)) ∈ lw_all := lw_g (lw_at lw_m8 197 rfl) rfl
theorem q1972 : (Jvm.Cond.code ({ cls := "ClaimRegistry", name := "canCountersign", desc := "(II)Z" } : Jvm.MethodName) prog_1_method_42_code (4 : Nat) (Option.some Jvm.ClassFile.FieldType.boolean)) ∈ lw_all := lw_g (lw_at lw_m8 198 rfl) rfl
theorem q1977 : (Jvm.Cond.instanceMethod ({ cls := "ClaimRegistry", name := "recentlyExpired", desc := "(I)I" } : Jvm.MethodName)) ∈ lw_all := lw_g (lw_at lw_m8 203 rfl) rfl
theorem q1978 : (Jvm.Cond.selects "ClaimRegistry" ({ cls := "ClaimRegistry", name := "recentlyExpired", desc := "(I)I" } : Jvm.MethodName) ({ cls := "ClaimRegistry", name := "recentlyExpired", desc := "(I)I" } : Jvm.MethodName)) ∈ lw_all := lw_g (lw_at lw_m8 204 rfl) rfl
theorem q1979 : (Jvm.Cond.code ({ cls := "ClaimRegistry", name := "recentlyExpired", desc := "(I)I" } : Jvm.MethodName) prog_1_method_79_code (5 : Nat) (Option.some Jvm.ClassFile.FieldType.int)) ∈ lw_all := lw_g (lw_at lw_m8 205 rfl) rfl
theorem q1984 : (Jvm.Cond.instanceMethod ({ cls := "ClaimRegistry", name := "format", desc := "(I)I" } : Jvm.MethodName)) ∈ lw_all := lw_g (lw_at lw_m8 210 rfl) rfl
theorem q1985 : (Jvm.Cond.selects "ClaimRegistry" ({ cls := "ClaimRegistry", name := "format", desc := "(I)I" } : Jvm.MethodName) ({ cls := "ClaimRegistry", name := "format", desc := "(I)I" } : Jvm.MethodName)) ∈ lw_all := lw_g (lw_at lw_m8 211 rfl) rfl
theorem q1986 : (Jvm.Cond.code ({ cls := "ClaimRegistry", name := "format", desc := "(I)I" } : Jvm.MethodName) prog_1_method_90_code (3 : Nat) (Option.some Jvm.ClassFile.FieldType.int)) ∈ lw_all := lw_g (lw_at lw_m8 212 rfl) rfl
theorem q1987 : (Jvm.Cond.methodLink "ClaimRegistry" (355 : Nat) ({ cls := "java/lang/StringBuilder", name := "setLength", desc := "(I)V" } : Jvm.MethodName)) ∈ lw_all := lw_g (lw_at lw_m8 213 rfl) rfl
theorem q2039 : (Jvm.Cond.methodLink "ClaimRegistry" (359 : Nat) ({ cls := "java/lang/StringBuilder", name := "append", desc := "(C)Ljava/lang/StringBuilder;" } : Jvm.MethodName)) ∈ lw_all := lw_g (lw_at lw_m9 25 rfl) rfl
theorem q2059 : (Jvm.Cond.methodLink "ClaimRegistry" (363 : Nat) ({ cls := "java/lang/StringBuilder", name := "append", desc := "(I)Ljava/lang/StringBuilder;" } : Jvm.MethodName)) ∈ lw_all := lw_g (lw_at lw_m9 45 rfl) rfl
theorem q2060 : (Jvm.Cond.stringRef "ClaimRegistry" (366 : Nat) " @") ∈ lw_tbl := lw_at lw_m9 46 rfl
theorem q2061 : (Jvm.Cond.methodLink "ClaimRegistry" (368 : Nat) ({ cls := "java/lang/StringBuilder", name := "append", desc := "(Ljava/lang/String;)Ljava/lang/StringBuilder;" } : Jvm.MethodName)) ∈ lw_all := lw_g (lw_at lw_m9 47 rfl) rfl
theorem q2062 : (Jvm.Cond.stringRef "ClaimRegistry" (371 : Nat) " s") ∈ lw_tbl := lw_at lw_m9 48 rfl
theorem q2063 : (Jvm.Cond.stringRef "ClaimRegistry" (373 : Nat) " c") ∈ lw_tbl := lw_at lw_m9 49 rfl
theorem q2064 : (Jvm.Cond.stringRef "ClaimRegistry" (375 : Nat) " !") ∈ lw_tbl := lw_at lw_m9 50 rfl
theorem q2065 : (Jvm.Cond.methodLink "ClaimRegistry" (377 : Nat) ({ cls := "java/lang/StringBuilder", name := "length", desc := "()I" } : Jvm.MethodName)) ∈ lw_all := lw_g (lw_at lw_m9 51 rfl) rfl
theorem q2070 : (Jvm.Cond.instanceMethod ({ cls := "ClaimRegistry", name := "lineChar", desc := "(I)C" } : Jvm.MethodName)) ∈ lw_all := lw_g (lw_at lw_m9 56 rfl) rfl
theorem q2071 : (Jvm.Cond.selects "ClaimRegistry" ({ cls := "ClaimRegistry", name := "lineChar", desc := "(I)C" } : Jvm.MethodName) ({ cls := "ClaimRegistry", name := "lineChar", desc := "(I)C" } : Jvm.MethodName)) ∈ lw_all := lw_g (lw_at lw_m9 57 rfl) rfl
theorem q2072 : (Jvm.Cond.code ({ cls := "ClaimRegistry", name := "lineChar", desc := "(I)C" } : Jvm.MethodName) prog_1_method_91_code (2 : Nat) (Option.some Jvm.ClassFile.FieldType.char)) ∈ lw_all := lw_g (lw_at lw_m9 58 rfl) rfl
theorem q2073 : (Jvm.Cond.methodLink "ClaimRegistry" (380 : Nat) ({ cls := "java/lang/StringBuilder", name := "charAt", desc := "(I)C" } : Jvm.MethodName)) ∈ lw_all := lw_g (lw_at lw_m9 59 rfl) rfl
theorem q2087 : (Jvm.Cond.instanceMethod ({ cls := "ClaimRegistry", name := "append", desc := "(C)I" } : Jvm.MethodName)) ∈ lw_all := lw_g (lw_at lw_m9 73 rfl) rfl
theorem q2088 : (Jvm.Cond.selects "ClaimRegistry" ({ cls := "ClaimRegistry", name := "append", desc := "(C)I" } : Jvm.MethodName) ({ cls := "ClaimRegistry", name := "append", desc := "(C)I" } : Jvm.MethodName)) ∈ lw_all := lw_g (lw_at lw_m9 74 rfl) rfl
theorem q2089 : (Jvm.Cond.code ({ cls := "ClaimRegistry", name := "append", desc := "(C)I" } : Jvm.MethodName) prog_1_method_94_code (2 : Nat) (Option.some Jvm.ClassFile.FieldType.int)) ∈ lw_all := lw_g (lw_at lw_m9 75 rfl) rfl
theorem q2094 : (Jvm.Cond.instanceMethod ({ cls := "ClaimRegistry", name := "run", desc := "()I" } : Jvm.MethodName)) ∈ lw_all := lw_g (lw_at lw_m9 80 rfl) rfl
theorem q2095 : (Jvm.Cond.selects "ClaimRegistry" ({ cls := "ClaimRegistry", name := "run", desc := "()I" } : Jvm.MethodName) ({ cls := "ClaimRegistry", name := "run", desc := "()I" } : Jvm.MethodName)) ∈ lw_all := lw_g (lw_at lw_m9 81 rfl) rfl
theorem q2096 : (Jvm.Cond.code ({ cls := "ClaimRegistry", name := "run", desc := "()I" } : Jvm.MethodName) prog_1_method_95_code (2 : Nat) (Option.some Jvm.ClassFile.FieldType.int)) ∈ lw_all := lw_g (lw_at lw_m9 82 rfl) rfl
theorem q2097 : (Jvm.Cond.classLink "ClaimRegistry" (429 : Nat) "ClaimRegistry$Parser") ∈ lw_all := lw_g (lw_at lw_m9 83 rfl) rfl
theorem q2099 : (Jvm.Cond.methodLink "ClaimRegistry" (431 : Nat) ({ cls := "java/lang/StringBuilder", name := "toString", desc := "()Ljava/lang/String;" } : Jvm.MethodName)) ∈ lw_all := lw_g (lw_at lw_m9 85 rfl) rfl
theorem q2100 : (Jvm.Cond.methodLink "ClaimRegistry" (435 : Nat) ({ cls := "ClaimRegistry$Parser", name := "<init>", desc := "(Ljava/lang/String;)V" } : Jvm.MethodName)) ∈ lw_all := lw_g (lw_at lw_m9 86 rfl) rfl
theorem q2183 : (Jvm.Cond.fieldLinkNest "ClaimRegistry" (444 : Nat) "ClaimRegistry$Parser" "commands" "Ljava/util/ArrayList;" "ClaimRegistry") ∈ lw_tbl := lw_at lw_m9 169 rfl
theorem q2185 : (Jvm.Cond.fieldLinkNest "ClaimRegistry" (441 : Nat) "ClaimRegistry$Parser" "position" "I" "ClaimRegistry") ∈ lw_tbl := lw_at lw_m9 171 rfl
theorem q2198 : (Jvm.Cond.methodLink "ClaimRegistry" (438 : Nat) ({ cls := "ClaimRegistry$Parser", name := "parse", desc := "()Z" } : Jvm.MethodName)) ∈ lw_all := lw_g (lw_at lw_m9 184 rfl) rfl
theorem q2335 : (Jvm.Cond.selects "ClaimRegistry" ({ cls := "java/lang/Object", name := "equals", desc := "(Ljava/lang/Object;)Z" } : Jvm.MethodName) ({ cls := "java/lang/Object", name := "equals", desc := "(Ljava/lang/Object;)Z" } : Jvm.MethodName)) ∈ lw_all := lw_g (lw_at lw_m10 81 rfl) rfl
theorem q2396 : (Jvm.Cond.fieldLinkNest "ClaimRegistry" (389 : Nat) "ClaimRegistry$Command" "keyword" "Ljava/lang/String;" "ClaimRegistry") ∈ lw_tbl := lw_at lw_m10 142 rfl
theorem q2399 : (Jvm.Cond.fieldLinkNest "ClaimRegistry" (384 : Nat) "ClaimRegistry$Command" "arguments" "[I" "ClaimRegistry") ∈ lw_tbl := lw_at lw_m10 145 rfl
theorem q2511 : (Jvm.Cond.methodLink "ClaimRegistry" (448 : Nat) ({ cls := "ClaimRegistry", name := "executeAll", desc := "(Ljava/util/ArrayList;)V" } : Jvm.MethodName)) ∈ lw_all := lw_g (lw_at lw_m11 17 rfl) rfl
theorem q2512 : (Jvm.Cond.privateMethod ({ cls := "ClaimRegistry", name := "executeAll", desc := "(Ljava/util/ArrayList;)V" } : Jvm.MethodName)) ∈ lw_tbl := lw_at lw_m11 18 rfl
theorem q2513 : (Jvm.Cond.instanceMethod ({ cls := "ClaimRegistry", name := "executeAll", desc := "(Ljava/util/ArrayList;)V" } : Jvm.MethodName)) ∈ lw_all := lw_g (lw_at lw_m11 19 rfl) rfl
theorem q2514 : (Jvm.Cond.codeWith ({ cls := "ClaimRegistry", name := "executeAll", desc := "(Ljava/util/ArrayList;)V" } : Jvm.MethodName) prog_1_method_93_code (7 : Nat) (Option.none : Option Jvm.ClassFile.FieldType) [((20 : Nat), (60 : Nat), (68 : Nat), (40 : Nat)), ((20 : Nat), (60 : Nat), (68 : Nat), (43 : Nat)), ((20 : Nat), (60 : Nat), (68 : Nat), (46 : Nat)), ((20 : Nat), (60 : Nat), (88 : Nat), (0 : Nat)), ((68 : Nat), (90 : Nat), (88 : Nat), (0 : Nat))]) ∈ lw_all := lw_g (lw_at lw_m11 20 rfl) rfl
theorem q2515 : (Jvm.Cond.methodLink "ClaimRegistry" (422 : Nat) ({ cls := "java/util/ArrayList", name := "iterator", desc := "()Ljava/util/Iterator;" } : Jvm.MethodName)) ∈ lw_all := lw_g (lw_at lw_m11 21 rfl) rfl
theorem q2516 : (Jvm.Cond.classLink "ClaimRegistry" (385 : Nat) "ClaimRegistry$Command") ∈ lw_all := lw_g (lw_at lw_m11 22 rfl) rfl
theorem q2517 : (Jvm.Cond.methodLink "ClaimRegistry" (425 : Nat) ({ cls := "ClaimRegistry", name := "execute", desc := "(LClaimRegistry$Command;)V" } : Jvm.MethodName)) ∈ lw_all := lw_g (lw_at lw_m11 23 rfl) rfl
theorem q2518 : (Jvm.Cond.privateMethod ({ cls := "ClaimRegistry", name := "execute", desc := "(LClaimRegistry$Command;)V" } : Jvm.MethodName)) ∈ lw_tbl := lw_at lw_m11 24 rfl
theorem q2519 : (Jvm.Cond.instanceMethod ({ cls := "ClaimRegistry", name := "execute", desc := "(LClaimRegistry$Command;)V" } : Jvm.MethodName)) ∈ lw_all := lw_g (lw_at lw_m11 25 rfl) rfl
theorem q2520 : (Jvm.Cond.code ({ cls := "ClaimRegistry", name := "execute", desc := "(LClaimRegistry$Command;)V" } : Jvm.MethodName) prog_1_method_92_code (5 : Nat) (Option.none : Option Jvm.ClassFile.FieldType)) ∈ lw_all := lw_g (lw_at lw_m11 26 rfl) rfl
theorem q2521 : (Jvm.Cond.methodLink "ClaimRegistry" (393 : Nat) ({ cls := "java/lang/String", name := "hashCode", desc := "()I" } : Jvm.MethodName)) ∈ lw_all := lw_g (lw_at lw_m11 27 rfl) rfl
theorem q2522 : (Jvm.Cond.stringRef "ClaimRegistry" (398 : Nat) "add") ∈ lw_tbl := lw_at lw_m11 28 rfl
theorem q2523 : (Jvm.Cond.methodLink "ClaimRegistry" (399 : Nat) ({ cls := "java/lang/String", name := "equals", desc := "(Ljava/lang/Object;)Z" } : Jvm.MethodName)) ∈ lw_all := lw_g (lw_at lw_m11 29 rfl) rfl
theorem q2524 : (Jvm.Cond.stringRef "ClaimRegistry" (403 : Nat) "sign") ∈ lw_tbl := lw_at lw_m11 30 rfl
theorem q2525 : (Jvm.Cond.stringRef "ClaimRegistry" (405 : Nat) "countersign") ∈ lw_tbl := lw_at lw_m11 31 rfl
theorem q2526 : (Jvm.Cond.stringRef "ClaimRegistry" (407 : Nat) "settle") ∈ lw_tbl := lw_at lw_m11 32 rfl
theorem q2527 : (Jvm.Cond.stringRef "ClaimRegistry" (408 : Nat) "tick") ∈ lw_tbl := lw_at lw_m11 33 rfl
theorem q2528 : (Jvm.Cond.stringRef "ClaimRegistry" (409 : Nat) "audit") ∈ lw_tbl := lw_at lw_m11 34 rfl
theorem q2529 : (Jvm.Cond.methodLink "ClaimRegistry" (410 : Nat) ({ cls := "ClaimRegistry", name := "add", desc := "(IIII)I" } : Jvm.MethodName)) ∈ lw_all := lw_g (lw_at lw_m11 35 rfl) rfl
theorem q2530 : (Jvm.Cond.methodLink "ClaimRegistry" (411 : Nat) ({ cls := "ClaimRegistry", name := "sign", desc := "(II)I" } : Jvm.MethodName)) ∈ lw_all := lw_g (lw_at lw_m11 36 rfl) rfl
theorem q2531 : (Jvm.Cond.methodLink "ClaimRegistry" (413 : Nat) ({ cls := "ClaimRegistry", name := "countersign", desc := "(II)I" } : Jvm.MethodName)) ∈ lw_all := lw_g (lw_at lw_m11 37 rfl) rfl
theorem q2532 : (Jvm.Cond.methodLink "ClaimRegistry" (415 : Nat) ({ cls := "ClaimRegistry", name := "settle", desc := "(I)I" } : Jvm.MethodName)) ∈ lw_all := lw_g (lw_at lw_m11 38 rfl) rfl
theorem q2533 : (Jvm.Cond.methodLink "ClaimRegistry" (417 : Nat) ({ cls := "ClaimRegistry", name := "advance", desc := "(I)I" } : Jvm.MethodName)) ∈ lw_all := lw_g (lw_at lw_m11 39 rfl) rfl
theorem q2534 : (Jvm.Cond.methodLink "ClaimRegistry" (418 : Nat) ({ cls := "ClaimRegistry", name := "audit", desc := "(I)I" } : Jvm.MethodName)) ∈ lw_all := lw_g (lw_at lw_m11 40 rfl) rfl
theorem q2535 : (Jvm.Cond.methodLink "ClaimRegistry" (419 : Nat) ({ cls := "ClaimRegistry", name := "setRate", desc := "(II)I" } : Jvm.MethodName)) ∈ lw_all := lw_g (lw_at lw_m11 41 rfl) rfl
theorem q2536 : (Jvm.Cond.methodLink "ClaimRegistry" (452 : Nat) ({ cls := "java/util/ArrayList", name := "size", desc := "()I" } : Jvm.MethodName)) ∈ lw_all := lw_g (lw_at lw_m11 42 rfl) rfl
theorem q2541 : (Jvm.Cond.instanceMethod ({ cls := "ClaimRegistry", name := "errorPosition", desc := "()I" } : Jvm.MethodName)) ∈ lw_all := lw_g (lw_at lw_m11 47 rfl) rfl
theorem q2542 : (Jvm.Cond.selects "ClaimRegistry" ({ cls := "ClaimRegistry", name := "errorPosition", desc := "()I" } : Jvm.MethodName) ({ cls := "ClaimRegistry", name := "errorPosition", desc := "()I" } : Jvm.MethodName)) ∈ lw_all := lw_g (lw_at lw_m11 48 rfl) rfl
theorem q2543 : (Jvm.Cond.code ({ cls := "ClaimRegistry", name := "errorPosition", desc := "()I" } : Jvm.MethodName) prog_1_method_96_code (1 : Nat) (Option.some Jvm.ClassFile.FieldType.int)) ∈ lw_all := lw_g (lw_at lw_m11 49 rfl) rfl
theorem q2548 : (Jvm.Cond.instanceMethod ({ cls := "ClaimRegistry", name := "failedCommand", desc := "()I" } : Jvm.MethodName)) ∈ lw_all := lw_g (lw_at lw_m11 54 rfl) rfl
theorem q2549 : (Jvm.Cond.selects "ClaimRegistry" ({ cls := "ClaimRegistry", name := "failedCommand", desc := "()I" } : Jvm.MethodName) ({ cls := "ClaimRegistry", name := "failedCommand", desc := "()I" } : Jvm.MethodName)) ∈ lw_all := lw_g (lw_at lw_m11 55 rfl) rfl
theorem q2550 : (Jvm.Cond.code ({ cls := "ClaimRegistry", name := "failedCommand", desc := "()I" } : Jvm.MethodName) prog_1_method_97_code (1 : Nat) (Option.some Jvm.ClassFile.FieldType.int)) ∈ lw_all := lw_g (lw_at lw_m11 56 rfl) rfl
theorem q2555 : (Jvm.Cond.instanceMethod ({ cls := "ClaimRegistry", name := "undo", desc := "()I" } : Jvm.MethodName)) ∈ lw_all := lw_g (lw_at lw_m11 61 rfl) rfl
theorem q2556 : (Jvm.Cond.selects "ClaimRegistry" ({ cls := "ClaimRegistry", name := "undo", desc := "()I" } : Jvm.MethodName) ({ cls := "ClaimRegistry", name := "undo", desc := "()I" } : Jvm.MethodName)) ∈ lw_all := lw_g (lw_at lw_m11 62 rfl) rfl
theorem q2557 : (Jvm.Cond.code ({ cls := "ClaimRegistry", name := "undo", desc := "()I" } : Jvm.MethodName) prog_1_method_99_code (1 : Nat) (Option.some Jvm.ClassFile.FieldType.int)) ∈ lw_all := lw_g (lw_at lw_m11 63 rfl) rfl
theorem q2558 : (Jvm.Cond.methodLink "ClaimRegistry" (453 : Nat) ({ cls := "java/util/ArrayDeque", name := "removeLast", desc := "()Ljava/lang/Object;" } : Jvm.MethodName)) ∈ lw_all := lw_g (lw_at lw_m11 64 rfl) rfl
theorem q2563 : (Jvm.Cond.instanceMethod ({ cls := "ClaimRegistry", name := "restore", desc := "()I" } : Jvm.MethodName)) ∈ lw_all := lw_g (lw_at lw_m11 69 rfl) rfl
theorem q2564 : (Jvm.Cond.selects "ClaimRegistry" ({ cls := "ClaimRegistry", name := "restore", desc := "()I" } : Jvm.MethodName) ({ cls := "ClaimRegistry", name := "restore", desc := "()I" } : Jvm.MethodName)) ∈ lw_all := lw_g (lw_at lw_m11 70 rfl) rfl
theorem q2565 : (Jvm.Cond.code ({ cls := "ClaimRegistry", name := "restore", desc := "()I" } : Jvm.MethodName) prog_1_method_101_code (1 : Nat) (Option.some Jvm.ClassFile.FieldType.int)) ∈ lw_all := lw_g (lw_at lw_m11 71 rfl) rfl
theorem q2566 : (Jvm.Cond.methodLink "ClaimRegistry" (459 : Nat) ({ cls := "java/util/ArrayDeque", name := "clear", desc := "()V" } : Jvm.MethodName)) ∈ lw_all := lw_g (lw_at lw_m11 72 rfl) rfl
theorem q3103 : (Jvm.Cond.castable "ClaimRegistry" "java/lang/Object") ∈ lw_tbl := lw_at lw_m13 129 rfl
theorem in_X1 : ∀ w ∈ wsX10, w ∈ lw_all := lw_in wsX10 [307, 309, 311, 313, 315, 317, 319, 321] (by decide +kernel) (by decide +kernel)
