/-! java/util/AbstractCollection -/
set_option maxRecDepth 100000
def RJ0 : String := "java/util/AbstractCollection"
abbrev cJ0_init : ByteArray := prog_37_method_1_code
def yJ0_init : MethodName := ⟨RJ0, "<init>", "()V"⟩
theorem dJ0_init_0 : decode cJ0_init 0 = .ok (.aload_n 0, 1) := by decide +kernel
theorem dJ0_init_1 : decode cJ0_init 1 = .ok (.invokespecial 1, 3) := by decide +kernel
theorem dJ0_init_4 : decode cJ0_init 4 = .ok (.return_, 1) := by decide +kernel
abbrev cJ0_isEmpty : ByteArray := prog_37_method_4_code
def yJ0_isEmpty : MethodName := ⟨RJ0, "isEmpty", "()Z"⟩
def dkwJ0_isEmpty_0 : List UInt8 := [42, 182, 0, 7, 154, 0, 7, 4, 167, 0, 4, 3, 172]
abbrev dktJ0_isEmpty_0 : List UInt8 := dkwJ0_isEmpty_0 ++ []
theorem dksJ0_isEmpty_0 : cJ0_isEmpty.data.toList.drop 0 = dktJ0_isEmpty_0 := by decide +kernel
theorem dJ0_isEmpty_0 : decode cJ0_isEmpty 0 = .ok (.aload_n 0, 1) := dk_42 (dk_at dksJ0_isEmpty_0 0 rfl rfl)
theorem dJ0_isEmpty_1 : decode cJ0_isEmpty 1 = .ok (.invokevirtual 7, 3) := dk_182 0 7 (dk_at dksJ0_isEmpty_0 1 rfl rfl)
theorem dJ0_isEmpty_4 : decode cJ0_isEmpty 4 = .ok (.ifCond .ne 7, 3) := dk_154 0 7 (dk_at dksJ0_isEmpty_0 4 rfl rfl)
theorem dJ0_isEmpty_7 : decode cJ0_isEmpty 7 = .ok (.iconst 1, 1) := dk_4 (dk_at dksJ0_isEmpty_0 7 rfl rfl)
theorem dJ0_isEmpty_8 : decode cJ0_isEmpty 8 = .ok (.goto 4, 3) := dk_167 0 4 (dk_at dksJ0_isEmpty_0 8 rfl rfl)
theorem dJ0_isEmpty_11 : decode cJ0_isEmpty 11 = .ok (.iconst 0, 1) := dk_3 (dk_at dksJ0_isEmpty_0 11 rfl rfl)
theorem dJ0_isEmpty_12 : decode cJ0_isEmpty 12 = .ok (.ireturn, 1) := dk_172 (dk_at dksJ0_isEmpty_0 12 rfl rfl)
theorem q97 : (Jvm.Cond.initialized "java/util/AbstractCollection") ∈ lw_all := lw_g (lw_at lw_m1 3 rfl) rfl
theorem q171 : (Jvm.Cond.instanceMethod ({ cls := "java/util/AbstractCollection", name := "<init>", desc := "()V" } : Jvm.MethodName)) ∈ lw_all := lw_g (lw_at lw_m1 77 rfl) rfl
theorem q172 : (Jvm.Cond.code ({ cls := "java/util/AbstractCollection", name := "<init>", desc := "()V" } : Jvm.MethodName) prog_37_method_1_code (1 : Nat) (Option.none : Option Jvm.ClassFile.FieldType)) ∈ lw_all := lw_g (lw_at lw_m1 78 rfl) rfl
theorem q173 : (Jvm.Cond.methodLink "java/util/AbstractCollection" (1 : Nat) ({ cls := "java/lang/Object", name := "<init>", desc := "()V" } : Jvm.MethodName)) ∈ lw_all := lw_g (lw_at lw_m1 79 rfl) rfl
theorem q757 : (Jvm.Cond.declares ({ cls := "java/util/AbstractCollection", name := "size", desc := "()I" } : Jvm.MethodName)) ∈ lw_tbl := lw_at lw_m3 183 rfl
theorem q1796 : (Jvm.Cond.declares ({ cls := "java/util/AbstractCollection", name := "isEmpty", desc := "()Z" } : Jvm.MethodName)) ∈ lw_tbl := lw_at lw_m8 22 rfl
theorem q1798 : (Jvm.Cond.instanceMethod ({ cls := "java/util/AbstractCollection", name := "isEmpty", desc := "()Z" } : Jvm.MethodName)) ∈ lw_all := lw_g (lw_at lw_m8 24 rfl) rfl
theorem q1799 : (Jvm.Cond.code ({ cls := "java/util/AbstractCollection", name := "isEmpty", desc := "()Z" } : Jvm.MethodName) prog_37_method_4_code (1 : Nat) (Option.some Jvm.ClassFile.FieldType.boolean)) ∈ lw_all := lw_g (lw_at lw_m8 25 rfl) rfl
theorem q1800 : (Jvm.Cond.methodLink "java/util/AbstractCollection" (7 : Nat) ({ cls := "java/util/AbstractCollection", name := "size", desc := "()I" } : Jvm.MethodName)) ∈ lw_all := lw_g (lw_at lw_m8 26 rfl) rfl
theorem q3086 : (Jvm.Cond.sameMethod "java/util/AbstractCollection" "java/util/AbstractCollection" "size" "()I") ∈ lw_all := lw_g (lw_at lw_m13 112 rfl) rfl

/-! java/util/AbstractList -/
set_option maxRecDepth 100000
def RJ1 : String := "java/util/AbstractList"
abbrev cJ1_init : ByteArray := prog_38_method_1_code
def yJ1_init : MethodName := ⟨RJ1, "<init>", "()V"⟩
def dkwJ1_init_0 : List UInt8 := [42, 183, 0, 1, 42, 3, 181, 0, 7, 177]
abbrev dktJ1_init_0 : List UInt8 := dkwJ1_init_0 ++ []
theorem dksJ1_init_0 : cJ1_init.data.toList.drop 0 = dktJ1_init_0 := by decide +kernel
theorem dJ1_init_0 : decode cJ1_init 0 = .ok (.aload_n 0, 1) := dk_42 (dk_at dksJ1_init_0 0 rfl rfl)
theorem dJ1_init_1 : decode cJ1_init 1 = .ok (.invokespecial 1, 3) := dk_183 0 1 (dk_at dksJ1_init_0 1 rfl rfl)
theorem dJ1_init_4 : decode cJ1_init 4 = .ok (.aload_n 0, 1) := dk_42 (dk_at dksJ1_init_0 4 rfl rfl)
theorem dJ1_init_5 : decode cJ1_init 5 = .ok (.iconst 0, 1) := dk_3 (dk_at dksJ1_init_0 5 rfl rfl)
theorem dJ1_init_6 : decode cJ1_init 6 = .ok (.putfield 7, 3) := dk_181 0 7 (dk_at dksJ1_init_0 6 rfl rfl)
theorem dJ1_init_9 : decode cJ1_init 9 = .ok (.return_, 1) := dk_177 (dk_at dksJ1_init_0 9 rfl rfl)
abbrev cJ1_listIterator : ByteArray := prog_38_method_12_code
def yJ1_listIterator : MethodName := ⟨RJ1, "listIterator", "()Ljava/util/ListIterator;"⟩
def dkwJ1_listIterator_0 : List UInt8 := [42, 3, 182, 0, 47, 176]
abbrev dktJ1_listIterator_0 : List UInt8 := dkwJ1_listIterator_0 ++ []
theorem dksJ1_listIterator_0 : cJ1_listIterator.data.toList.drop 0 = dktJ1_listIterator_0 := by decide +kernel
theorem dJ1_listIterator_0 : decode cJ1_listIterator 0 = .ok (.aload_n 0, 1) := dk_42 (dk_at dksJ1_listIterator_0 0 rfl rfl)
theorem dJ1_listIterator_1 : decode cJ1_listIterator 1 = .ok (.iconst 0, 1) := dk_3 (dk_at dksJ1_listIterator_0 1 rfl rfl)
theorem dJ1_listIterator_2 : decode cJ1_listIterator 2 = .ok (.invokevirtual 47, 3) := dk_182 0 47 (dk_at dksJ1_listIterator_0 2 rfl rfl)
theorem dJ1_listIterator_5 : decode cJ1_listIterator 5 = .ok (.areturn, 1) := dk_176 (dk_at dksJ1_listIterator_0 5 rfl rfl)
theorem q98 : (Jvm.Cond.initialized "java/util/AbstractList") ∈ lw_all := lw_g (lw_at lw_m1 4 rfl) rfl
theorem q168 : (Jvm.Cond.instanceMethod ({ cls := "java/util/AbstractList", name := "<init>", desc := "()V" } : Jvm.MethodName)) ∈ lw_all := lw_g (lw_at lw_m1 74 rfl) rfl
theorem q169 : (Jvm.Cond.code ({ cls := "java/util/AbstractList", name := "<init>", desc := "()V" } : Jvm.MethodName) prog_38_method_1_code (1 : Nat) (Option.none : Option Jvm.ClassFile.FieldType)) ∈ lw_all := lw_g (lw_at lw_m1 75 rfl) rfl
theorem q170 : (Jvm.Cond.methodLink "java/util/AbstractList" (1 : Nat) ({ cls := "java/util/AbstractCollection", name := "<init>", desc := "()V" } : Jvm.MethodName)) ∈ lw_all := lw_g (lw_at lw_m1 76 rfl) rfl
theorem q178 : (Jvm.Cond.fieldLink "java/util/AbstractList" (7 : Nat) "java/util/AbstractList" "modCount" "I") ∈ lw_all := lw_g (lw_at lw_m1 84 rfl) rfl
theorem q193 : (Jvm.Cond.soleField "java/util/AbstractList" "modCount") ∈ lw_all := lw_g (lw_at lw_m1 99 rfl) rfl
theorem q346 : (Jvm.Cond.declares ({ cls := "java/util/AbstractList", name := "listIterator", desc := "()Ljava/util/ListIterator;" } : Jvm.MethodName)) ∈ lw_tbl := lw_at lw_m2 12 rfl
theorem q348 : (Jvm.Cond.instanceMethod ({ cls := "java/util/AbstractList", name := "listIterator", desc := "()Ljava/util/ListIterator;" } : Jvm.MethodName)) ∈ lw_all := lw_g (lw_at lw_m2 14 rfl) rfl
theorem q349 : (Jvm.Cond.code ({ cls := "java/util/AbstractList", name := "listIterator", desc := "()Ljava/util/ListIterator;" } : Jvm.MethodName) prog_38_method_12_code (1 : Nat) (Option.some (Jvm.ClassFile.FieldType.object "java/util/ListIterator"))) ∈ lw_all := lw_g (lw_at lw_m2 15 rfl) rfl
theorem q350 : (Jvm.Cond.methodLink "java/util/AbstractList" (47 : Nat) ({ cls := "java/util/AbstractList", name := "listIterator", desc := "(I)Ljava/util/ListIterator;" } : Jvm.MethodName)) ∈ lw_all := lw_g (lw_at lw_m2 16 rfl) rfl
theorem q351 : (Jvm.Cond.instanceMethod ({ cls := "java/util/AbstractList", name := "listIterator", desc := "(I)Ljava/util/ListIterator;" } : Jvm.MethodName)) ∈ lw_all := lw_g (lw_at lw_m2 17 rfl) rfl
theorem q352 : (Jvm.Cond.sameMethod "java/util/AbstractList" "java/util/AbstractList" "listIterator" "(I)Ljava/util/ListIterator;") ∈ lw_all := lw_g (lw_at lw_m2 18 rfl) rfl
theorem q744 : (Jvm.Cond.declares ({ cls := "java/util/AbstractList", name := "listIterator", desc := "(I)Ljava/util/ListIterator;" } : Jvm.MethodName)) ∈ lw_tbl := lw_at lw_m3 170 rfl
theorem q756 : (Jvm.Cond.sameMethod "java/util/AbstractList" "java/util/AbstractCollection" "size" "()I") ∈ lw_all := lw_g (lw_at lw_m3 182 rfl) rfl
theorem q806 : (Jvm.Cond.declares ({ cls := "java/util/AbstractList", name := "get", desc := "(I)Ljava/lang/Object;" } : Jvm.MethodName)) ∈ lw_tbl := lw_at lw_m3 232 rfl
theorem q807 : (Jvm.Cond.sameMethod "java/util/AbstractList" "java/util/AbstractList" "get" "(I)Ljava/lang/Object;") ∈ lw_all := lw_g (lw_at lw_m3 233 rfl) rfl
theorem q1258 : (Jvm.Cond.instanceMethod ({ cls := "java/util/AbstractList", name := "remove", desc := "(I)Ljava/lang/Object;" } : Jvm.MethodName)) ∈ lw_all := lw_g (lw_at lw_m5 204 rfl) rfl
theorem q1259 : (Jvm.Cond.sameMethod "java/util/AbstractList" "java/util/AbstractList" "remove" "(I)Ljava/lang/Object;") ∈ lw_all := lw_g (lw_at lw_m5 205 rfl) rfl
theorem q1275 : (Jvm.Cond.declares ({ cls := "java/util/AbstractList", name := "remove", desc := "(I)Ljava/lang/Object;" } : Jvm.MethodName)) ∈ lw_tbl := lw_at lw_m5 221 rfl

/-! java/lang/Exception -/
set_option maxRecDepth 100000
def RJ10 : String := "java/lang/Exception"
abbrev cJ10_init : ByteArray := prog_17_method_2_code
def yJ10_init : MethodName := ⟨RJ10, "<init>", "(Ljava/lang/String;)V"⟩
def dkwJ10_init_0 : List UInt8 := [42, 43, 183, 0, 7, 177]
abbrev dktJ10_init_0 : List UInt8 := dkwJ10_init_0 ++ []
theorem dksJ10_init_0 : cJ10_init.data.toList.drop 0 = dktJ10_init_0 := by decide +kernel
theorem dJ10_init_0 : decode cJ10_init 0 = .ok (.aload_n 0, 1) := dk_42 (dk_at dksJ10_init_0 0 rfl rfl)
theorem dJ10_init_1 : decode cJ10_init 1 = .ok (.aload_n 1, 1) := dk_43 (dk_at dksJ10_init_0 1 rfl rfl)
theorem dJ10_init_2 : decode cJ10_init 2 = .ok (.invokespecial 7, 3) := dk_183 0 7 (dk_at dksJ10_init_0 2 rfl rfl)
theorem dJ10_init_5 : decode cJ10_init 5 = .ok (.return_, 1) := dk_177 (dk_at dksJ10_init_0 5 rfl rfl)
abbrev cJ10_init_2 : ByteArray := prog_17_method_4_code
def yJ10_init_2 : MethodName := ⟨RJ10, "<init>", "(Ljava/lang/Throwable;)V"⟩
def dkwJ10_init_2_0 : List UInt8 := [42, 43, 183, 0, 13, 177]
abbrev dktJ10_init_2_0 : List UInt8 := dkwJ10_init_2_0 ++ []
theorem dksJ10_init_2_0 : cJ10_init_2.data.toList.drop 0 = dktJ10_init_2_0 := by decide +kernel
theorem dJ10_init_2_0 : decode cJ10_init_2 0 = .ok (.aload_n 0, 1) := dk_42 (dk_at dksJ10_init_2_0 0 rfl rfl)
theorem dJ10_init_2_1 : decode cJ10_init_2 1 = .ok (.aload_n 1, 1) := dk_43 (dk_at dksJ10_init_2_0 1 rfl rfl)
theorem dJ10_init_2_2 : decode cJ10_init_2 2 = .ok (.invokespecial 13, 3) := dk_183 0 13 (dk_at dksJ10_init_2_0 2 rfl rfl)
theorem dJ10_init_2_5 : decode cJ10_init_2 5 = .ok (.return_, 1) := dk_177 (dk_at dksJ10_init_2_0 5 rfl rfl)
abbrev cJ10_init_3 : ByteArray := prog_17_method_1_code
def yJ10_init_3 : MethodName := ⟨RJ10, "<init>", "()V"⟩
theorem dJ10_init_3_0 : decode cJ10_init_3 0 = .ok (.aload_n 0, 1) := by decide +kernel
theorem dJ10_init_3_1 : decode cJ10_init_3 1 = .ok (.invokespecial 1, 3) := by decide +kernel
theorem dJ10_init_3_4 : decode cJ10_init_3 4 = .ok (.return_, 1) := by decide +kernel
theorem q108 : (Jvm.Cond.initialized "java/lang/Exception") ∈ lw_all := lw_g (lw_at lw_m1 14 rfl) rfl
theorem q366 : (Jvm.Cond.declares ({ cls := "java/lang/Exception", name := "<init>", desc := "()V" } : Jvm.MethodName)) ∈ lw_tbl := lw_at lw_m2 32 rfl
theorem q367 : (Jvm.Cond.declares ({ cls := "java/lang/Exception", name := "<init>", desc := "(Ljava/lang/String;)V" } : Jvm.MethodName)) ∈ lw_tbl := lw_at lw_m2 33 rfl
theorem q617 : (Jvm.Cond.instanceMethod ({ cls := "java/lang/Exception", name := "<init>", desc := "(Ljava/lang/String;)V" } : Jvm.MethodName)) ∈ lw_all := lw_g (lw_at lw_m3 43 rfl) rfl
theorem q618 : (Jvm.Cond.code ({ cls := "java/lang/Exception", name := "<init>", desc := "(Ljava/lang/String;)V" } : Jvm.MethodName) prog_17_method_2_code (2 : Nat) (Option.none : Option Jvm.ClassFile.FieldType)) ∈ lw_all := lw_g (lw_at lw_m3 44 rfl) rfl
theorem q619 : (Jvm.Cond.methodLink "java/lang/Exception" (7 : Nat) ({ cls := "java/lang/Throwable", name := "<init>", desc := "(Ljava/lang/String;)V" } : Jvm.MethodName)) ∈ lw_all := lw_g (lw_at lw_m3 45 rfl) rfl
theorem q849 : (Jvm.Cond.instanceMethod ({ cls := "java/lang/Exception", name := "<init>", desc := "(Ljava/lang/Throwable;)V" } : Jvm.MethodName)) ∈ lw_all := lw_g (lw_at lw_m4 35 rfl) rfl
theorem q850 : (Jvm.Cond.code ({ cls := "java/lang/Exception", name := "<init>", desc := "(Ljava/lang/Throwable;)V" } : Jvm.MethodName) prog_17_method_4_code (2 : Nat) (Option.none : Option Jvm.ClassFile.FieldType)) ∈ lw_all := lw_g (lw_at lw_m4 36 rfl) rfl
theorem q851 : (Jvm.Cond.methodLink "java/lang/Exception" (13 : Nat) ({ cls := "java/lang/Throwable", name := "<init>", desc := "(Ljava/lang/Throwable;)V" } : Jvm.MethodName)) ∈ lw_all := lw_g (lw_at lw_m4 37 rfl) rfl
theorem q940 : (Jvm.Cond.instanceMethod ({ cls := "java/lang/Exception", name := "<init>", desc := "()V" } : Jvm.MethodName)) ∈ lw_all := lw_g (lw_at lw_m4 126 rfl) rfl
theorem q941 : (Jvm.Cond.code ({ cls := "java/lang/Exception", name := "<init>", desc := "()V" } : Jvm.MethodName) prog_17_method_1_code (1 : Nat) (Option.none : Option Jvm.ClassFile.FieldType)) ∈ lw_all := lw_g (lw_at lw_m4 127 rfl) rfl
theorem q942 : (Jvm.Cond.methodLink "java/lang/Exception" (1 : Nat) ({ cls := "java/lang/Throwable", name := "<init>", desc := "()V" } : Jvm.MethodName)) ∈ lw_all := lw_g (lw_at lw_m4 128 rfl) rfl

/-! java/lang/RuntimeException -/
set_option maxRecDepth 100000
def RJ11 : String := "java/lang/RuntimeException"
abbrev cJ11_init : ByteArray := prog_26_method_2_code
def yJ11_init : MethodName := ⟨RJ11, "<init>", "(Ljava/lang/String;)V"⟩
def dkwJ11_init_0 : List UInt8 := [42, 43, 183, 0, 7, 177]
abbrev dktJ11_init_0 : List UInt8 := dkwJ11_init_0 ++ []
theorem dksJ11_init_0 : cJ11_init.data.toList.drop 0 = dktJ11_init_0 := by decide +kernel
theorem dJ11_init_0 : decode cJ11_init 0 = .ok (.aload_n 0, 1) := dk_42 (dk_at dksJ11_init_0 0 rfl rfl)
theorem dJ11_init_1 : decode cJ11_init 1 = .ok (.aload_n 1, 1) := dk_43 (dk_at dksJ11_init_0 1 rfl rfl)
theorem dJ11_init_2 : decode cJ11_init 2 = .ok (.invokespecial 7, 3) := dk_183 0 7 (dk_at dksJ11_init_0 2 rfl rfl)
theorem dJ11_init_5 : decode cJ11_init 5 = .ok (.return_, 1) := dk_177 (dk_at dksJ11_init_0 5 rfl rfl)
abbrev cJ11_init_2 : ByteArray := prog_26_method_4_code
def yJ11_init_2 : MethodName := ⟨RJ11, "<init>", "(Ljava/lang/Throwable;)V"⟩
def dkwJ11_init_2_0 : List UInt8 := [42, 43, 183, 0, 13, 177]
abbrev dktJ11_init_2_0 : List UInt8 := dkwJ11_init_2_0 ++ []
theorem dksJ11_init_2_0 : cJ11_init_2.data.toList.drop 0 = dktJ11_init_2_0 := by decide +kernel
theorem dJ11_init_2_0 : decode cJ11_init_2 0 = .ok (.aload_n 0, 1) := dk_42 (dk_at dksJ11_init_2_0 0 rfl rfl)
theorem dJ11_init_2_1 : decode cJ11_init_2 1 = .ok (.aload_n 1, 1) := dk_43 (dk_at dksJ11_init_2_0 1 rfl rfl)
theorem dJ11_init_2_2 : decode cJ11_init_2 2 = .ok (.invokespecial 13, 3) := dk_183 0 13 (dk_at dksJ11_init_2_0 2 rfl rfl)
theorem dJ11_init_2_5 : decode cJ11_init_2 5 = .ok (.return_, 1) := dk_177 (dk_at dksJ11_init_2_0 5 rfl rfl)
abbrev cJ11_init_3 : ByteArray := prog_26_method_1_code
def yJ11_init_3 : MethodName := ⟨RJ11, "<init>", "()V"⟩
theorem dJ11_init_3_0 : decode cJ11_init_3 0 = .ok (.aload_n 0, 1) := by decide +kernel
theorem dJ11_init_3_1 : decode cJ11_init_3 1 = .ok (.invokespecial 1, 3) := by decide +kernel
theorem dJ11_init_3_4 : decode cJ11_init_3 4 = .ok (.return_, 1) := by decide +kernel
theorem q109 : (Jvm.Cond.initialized "java/lang/RuntimeException") ∈ lw_all := lw_g (lw_at lw_m1 15 rfl) rfl
theorem q364 : (Jvm.Cond.declares ({ cls := "java/lang/RuntimeException", name := "<init>", desc := "()V" } : Jvm.MethodName)) ∈ lw_tbl := lw_at lw_m2 30 rfl
theorem q365 : (Jvm.Cond.declares ({ cls := "java/lang/RuntimeException", name := "<init>", desc := "(Ljava/lang/String;)V" } : Jvm.MethodName)) ∈ lw_tbl := lw_at lw_m2 31 rfl
theorem q614 : (Jvm.Cond.instanceMethod ({ cls := "java/lang/RuntimeException", name := "<init>", desc := "(Ljava/lang/String;)V" } : Jvm.MethodName)) ∈ lw_all := lw_g (lw_at lw_m3 40 rfl) rfl
theorem q615 : (Jvm.Cond.code ({ cls := "java/lang/RuntimeException", name := "<init>", desc := "(Ljava/lang/String;)V" } : Jvm.MethodName) prog_26_method_2_code (2 : Nat) (Option.none : Option Jvm.ClassFile.FieldType)) ∈ lw_all := lw_g (lw_at lw_m3 41 rfl) rfl
theorem q616 : (Jvm.Cond.methodLink "java/lang/RuntimeException" (7 : Nat) ({ cls := "java/lang/Exception", name := "<init>", desc := "(Ljava/lang/String;)V" } : Jvm.MethodName)) ∈ lw_all := lw_g (lw_at lw_m3 42 rfl) rfl
theorem q846 : (Jvm.Cond.instanceMethod ({ cls := "java/lang/RuntimeException", name := "<init>", desc := "(Ljava/lang/Throwable;)V" } : Jvm.MethodName)) ∈ lw_all := lw_g (lw_at lw_m4 32 rfl) rfl
theorem q847 : (Jvm.Cond.code ({ cls := "java/lang/RuntimeException", name := "<init>", desc := "(Ljava/lang/Throwable;)V" } : Jvm.MethodName) prog_26_method_4_code (2 : Nat) (Option.none : Option Jvm.ClassFile.FieldType)) ∈ lw_all := lw_g (lw_at lw_m4 33 rfl) rfl
theorem q848 : (Jvm.Cond.methodLink "java/lang/RuntimeException" (13 : Nat) ({ cls := "java/lang/Exception", name := "<init>", desc := "(Ljava/lang/Throwable;)V" } : Jvm.MethodName)) ∈ lw_all := lw_g (lw_at lw_m4 34 rfl) rfl
theorem q937 : (Jvm.Cond.instanceMethod ({ cls := "java/lang/RuntimeException", name := "<init>", desc := "()V" } : Jvm.MethodName)) ∈ lw_all := lw_g (lw_at lw_m4 123 rfl) rfl
theorem q938 : (Jvm.Cond.code ({ cls := "java/lang/RuntimeException", name := "<init>", desc := "()V" } : Jvm.MethodName) prog_26_method_1_code (1 : Nat) (Option.none : Option Jvm.ClassFile.FieldType)) ∈ lw_all := lw_g (lw_at lw_m4 124 rfl) rfl
theorem q939 : (Jvm.Cond.methodLink "java/lang/RuntimeException" (1 : Nat) ({ cls := "java/lang/Exception", name := "<init>", desc := "()V" } : Jvm.MethodName)) ∈ lw_all := lw_g (lw_at lw_m4 125 rfl) rfl

/-! java/lang/IllegalArgumentException -/
set_option maxRecDepth 100000
def RJ12 : String := "java/lang/IllegalArgumentException"
def TJ12 : u_T := fun k => match k with
  | 0 => ("java/lang/Throwable", "cause", "Ljava/lang/Throwable;", false)
  | 1 => ("java/lang/Throwable", "stackTrace", "[Ljava/lang/StackTraceElement;", false)
  | 2 => ("java/lang/Throwable", "suppressedExceptions", "Ljava/util/List;", false)
  | 3 => ("java/lang/Throwable", "detailMessage", "Ljava/lang/String;", false)
  | 4 => ("java/lang/Throwable", "backtrace", "Ljava/lang/Object;", false)
  | _ => ("java/lang/Throwable", "depth", "I", false)
def tyJ12 : Nat → FieldType := fun k => match k with
  | 0 => .object "java/lang/Throwable"
  | 1 => .array (.object "java/lang/StackTraceElement")
  | 2 => .object "java/util/List"
  | 3 => .object "java/lang/String"
  | 4 => .object "java/lang/Object"
  | _ => .int
abbrev wsJ120 : List Cond := u_ws RJ12 TJ12 6
theorem nmJ12 : ∀ a, a < 6 → ∀ b, b < 6 → a ≠ b → (TJ12 a).2.1 ≠ (TJ12 b).2.1 := by decide +kernel
theorem tyJ12_ok : ∀ k, k < 6 → parseFieldDescriptor (TJ12 k).2.2.1 = some (tyJ12 k) := by decide +kernel
abbrev cJ12_init : ByteArray := prog_18_method_2_code
def yJ12_init : MethodName := ⟨RJ12, "<init>", "(Ljava/lang/String;)V"⟩
def dkwJ12_init_0 : List UInt8 := [42, 43, 183, 0, 7, 177]
abbrev dktJ12_init_0 : List UInt8 := dkwJ12_init_0 ++ []
theorem dksJ12_init_0 : cJ12_init.data.toList.drop 0 = dktJ12_init_0 := by decide +kernel
theorem dJ12_init_0 : decode cJ12_init 0 = .ok (.aload_n 0, 1) := dk_42 (dk_at dksJ12_init_0 0 rfl rfl)
theorem dJ12_init_1 : decode cJ12_init 1 = .ok (.aload_n 1, 1) := dk_43 (dk_at dksJ12_init_0 1 rfl rfl)
theorem dJ12_init_2 : decode cJ12_init 2 = .ok (.invokespecial 7, 3) := dk_183 0 7 (dk_at dksJ12_init_0 2 rfl rfl)
theorem dJ12_init_5 : decode cJ12_init 5 = .ok (.return_, 1) := dk_177 (dk_at dksJ12_init_0 5 rfl rfl)
abbrev cJ12_init_2 : ByteArray := prog_18_method_1_code
def yJ12_init_2 : MethodName := ⟨RJ12, "<init>", "()V"⟩
theorem dJ12_init_2_0 : decode cJ12_init_2 0 = .ok (.aload_n 0, 1) := by decide +kernel
theorem dJ12_init_2_1 : decode cJ12_init_2 1 = .ok (.invokespecial 1, 3) := by decide +kernel
theorem dJ12_init_2_4 : decode cJ12_init_2 4 = .ok (.return_, 1) := by decide +kernel
theorem q110 : (Jvm.Cond.initialized "java/lang/IllegalArgumentException") ∈ lw_all := lw_g (lw_at lw_m1 16 rfl) rfl
theorem q395 : (Jvm.Cond.selects "java/lang/IllegalArgumentException" ({ cls := "java/lang/Throwable", name := "fillInStackTrace", desc := "()Ljava/lang/Throwable;" } : Jvm.MethodName) ({ cls := "java/lang/Throwable", name := "fillInStackTrace", desc := "()Ljava/lang/Throwable;" } : Jvm.MethodName)) ∈ lw_all := lw_g (lw_at lw_m2 61 rfl) rfl
theorem q596 : (Jvm.Cond.instantiable "java/lang/IllegalArgumentException" (6 : Nat)) ∈ lw_all := lw_g (lw_at lw_m3 22 rfl) rfl
theorem q597 : (Jvm.Cond.castable "java/lang/IllegalArgumentException" "java/lang/IllegalArgumentException") ∈ lw_tbl := lw_at lw_m3 23 rfl
theorem q598 : (Jvm.Cond.selects "java/lang/IllegalArgumentException" ({ cls := "java/lang/Throwable", name := "fillInStackTrace", desc := "(I)Ljava/lang/Throwable;" } : Jvm.MethodName) ({ cls := "java/lang/Throwable", name := "fillInStackTrace", desc := "(I)Ljava/lang/Throwable;" } : Jvm.MethodName)) ∈ lw_all := lw_g (lw_at lw_m3 24 rfl) rfl
theorem q599 : (Jvm.Cond.lays "java/lang/IllegalArgumentException" "java/lang/Throwable" "cause" "Ljava/lang/Throwable;") ∈ lw_all := lw_g (lw_at lw_m3 25 rfl) rfl
theorem q600 : (Jvm.Cond.lays "java/lang/IllegalArgumentException" "java/lang/Throwable" "stackTrace" "[Ljava/lang/StackTraceElement;") ∈ lw_all := lw_g (lw_at lw_m3 26 rfl) rfl
theorem q601 : (Jvm.Cond.lays "java/lang/IllegalArgumentException" "java/lang/Throwable" "suppressedExceptions" "Ljava/util/List;") ∈ lw_all := lw_g (lw_at lw_m3 27 rfl) rfl
theorem q602 : (Jvm.Cond.lays "java/lang/IllegalArgumentException" "java/lang/Throwable" "detailMessage" "Ljava/lang/String;") ∈ lw_all := lw_g (lw_at lw_m3 28 rfl) rfl
theorem q603 : (Jvm.Cond.lays "java/lang/IllegalArgumentException" "java/lang/Throwable" "backtrace" "Ljava/lang/Object;") ∈ lw_all := lw_g (lw_at lw_m3 29 rfl) rfl
theorem q611 : (Jvm.Cond.instanceMethod ({ cls := "java/lang/IllegalArgumentException", name := "<init>", desc := "(Ljava/lang/String;)V" } : Jvm.MethodName)) ∈ lw_all := lw_g (lw_at lw_m3 37 rfl) rfl
theorem q612 : (Jvm.Cond.code ({ cls := "java/lang/IllegalArgumentException", name := "<init>", desc := "(Ljava/lang/String;)V" } : Jvm.MethodName) prog_18_method_2_code (2 : Nat) (Option.none : Option Jvm.ClassFile.FieldType)) ∈ lw_all := lw_g (lw_at lw_m3 38 rfl) rfl
theorem q613 : (Jvm.Cond.methodLink "java/lang/IllegalArgumentException" (7 : Nat) ({ cls := "java/lang/RuntimeException", name := "<init>", desc := "(Ljava/lang/String;)V" } : Jvm.MethodName)) ∈ lw_all := lw_g (lw_at lw_m3 39 rfl) rfl
theorem q631 : (Jvm.Cond.lays "java/lang/IllegalArgumentException" "java/lang/Throwable" "depth" "I") ∈ lw_all := lw_g (lw_at lw_m3 57 rfl) rfl
theorem q634 : (Jvm.Cond.superclass "java/lang/IllegalArgumentException" "java/lang/RuntimeException") ∈ lw_all := lw_g (lw_at lw_m3 60 rfl) rfl
theorem q858 : (Jvm.Cond.selects "java/lang/IllegalArgumentException" ({ cls := "java/lang/Throwable", name := "toString", desc := "()Ljava/lang/String;" } : Jvm.MethodName) ({ cls := "java/lang/Throwable", name := "toString", desc := "()Ljava/lang/String;" } : Jvm.MethodName)) ∈ lw_all := lw_g (lw_at lw_m4 44 rfl) rfl
theorem q875 : (Jvm.Cond.selects "java/lang/IllegalArgumentException" ({ cls := "java/lang/Object", name := "getClass", desc := "()Ljava/lang/Class;" } : Jvm.MethodName) ({ cls := "java/lang/Object", name := "getClass", desc := "()Ljava/lang/Class;" } : Jvm.MethodName)) ∈ lw_all := lw_g (lw_at lw_m4 61 rfl) rfl
theorem q902 : (Jvm.Cond.selects "java/lang/IllegalArgumentException" ({ cls := "java/lang/Throwable", name := "getLocalizedMessage", desc := "()Ljava/lang/String;" } : Jvm.MethodName) ({ cls := "java/lang/Throwable", name := "getLocalizedMessage", desc := "()Ljava/lang/String;" } : Jvm.MethodName)) ∈ lw_all := lw_g (lw_at lw_m4 88 rfl) rfl
theorem q913 : (Jvm.Cond.selects "java/lang/IllegalArgumentException" ({ cls := "java/lang/Throwable", name := "getMessage", desc := "()Ljava/lang/String;" } : Jvm.MethodName) ({ cls := "java/lang/Throwable", name := "getMessage", desc := "()Ljava/lang/String;" } : Jvm.MethodName)) ∈ lw_all := lw_g (lw_at lw_m4 99 rfl) rfl
theorem q1522 : (Jvm.Cond.instanceMethod ({ cls := "java/lang/IllegalArgumentException", name := "<init>", desc := "()V" } : Jvm.MethodName)) ∈ lw_all := lw_g (lw_at lw_m6 228 rfl) rfl
theorem q1523 : (Jvm.Cond.code ({ cls := "java/lang/IllegalArgumentException", name := "<init>", desc := "()V" } : Jvm.MethodName) prog_18_method_1_code (1 : Nat) (Option.none : Option Jvm.ClassFile.FieldType)) ∈ lw_all := lw_g (lw_at lw_m6 229 rfl) rfl
theorem q1524 : (Jvm.Cond.methodLink "java/lang/IllegalArgumentException" (1 : Nat) ({ cls := "java/lang/RuntimeException", name := "<init>", desc := "()V" } : Jvm.MethodName)) ∈ lw_all := lw_g (lw_at lw_m6 230 rfl) rfl
theorem q2342 : (Jvm.Cond.selects "java/lang/IllegalArgumentException" ({ cls := "java/lang/Object", name := "equals", desc := "(Ljava/lang/Object;)Z" } : Jvm.MethodName) ({ cls := "java/lang/Object", name := "equals", desc := "(Ljava/lang/Object;)Z" } : Jvm.MethodName)) ∈ lw_all := lw_g (lw_at lw_m10 88 rfl) rfl
theorem q3109 : (Jvm.Cond.castable "java/lang/IllegalArgumentException" "java/lang/Object") ∈ lw_tbl := lw_at lw_m13 135 rfl
theorem in_J12 : ∀ w ∈ wsJ120, w ∈ lw_all := lw_in wsJ120 [599, 600, 601, 602, 603, 631] (by decide +kernel) (by decide +kernel)

/-! java/lang/IllegalStateException -/
set_option maxRecDepth 100000
def RJ13 : String := "java/lang/IllegalStateException"
def TJ13 : u_T := fun k => match k with
  | 0 => ("java/lang/Throwable", "cause", "Ljava/lang/Throwable;", false)
  | 1 => ("java/lang/Throwable", "stackTrace", "[Ljava/lang/StackTraceElement;", false)
  | 2 => ("java/lang/Throwable", "suppressedExceptions", "Ljava/util/List;", false)
  | 3 => ("java/lang/Throwable", "detailMessage", "Ljava/lang/String;", false)
  | 4 => ("java/lang/Throwable", "backtrace", "Ljava/lang/Object;", false)
  | _ => ("java/lang/Throwable", "depth", "I", false)
def tyJ13 : Nat → FieldType := fun k => match k with
  | 0 => .object "java/lang/Throwable"
  | 1 => .array (.object "java/lang/StackTraceElement")
  | 2 => .object "java/util/List"
  | 3 => .object "java/lang/String"
  | 4 => .object "java/lang/Object"
  | _ => .int
abbrev wsJ130 : List Cond := u_ws RJ13 TJ13 6
theorem nmJ13 : ∀ a, a < 6 → ∀ b, b < 6 → a ≠ b → (TJ13 a).2.1 ≠ (TJ13 b).2.1 := by decide +kernel
theorem tyJ13_ok : ∀ k, k < 6 → parseFieldDescriptor (TJ13 k).2.2.1 = some (tyJ13 k) := by decide +kernel
abbrev cJ13_init : ByteArray := prog_19_method_2_code
def yJ13_init : MethodName := ⟨RJ13, "<init>", "(Ljava/lang/String;)V"⟩
def dkwJ13_init_0 : List UInt8 := [42, 43, 183, 0, 7, 177]
abbrev dktJ13_init_0 : List UInt8 := dkwJ13_init_0 ++ []
theorem dksJ13_init_0 : cJ13_init.data.toList.drop 0 = dktJ13_init_0 := by decide +kernel
theorem dJ13_init_0 : decode cJ13_init 0 = .ok (.aload_n 0, 1) := dk_42 (dk_at dksJ13_init_0 0 rfl rfl)
theorem dJ13_init_1 : decode cJ13_init 1 = .ok (.aload_n 1, 1) := dk_43 (dk_at dksJ13_init_0 1 rfl rfl)
theorem dJ13_init_2 : decode cJ13_init 2 = .ok (.invokespecial 7, 3) := dk_183 0 7 (dk_at dksJ13_init_0 2 rfl rfl)
theorem dJ13_init_5 : decode cJ13_init 5 = .ok (.return_, 1) := dk_177 (dk_at dksJ13_init_0 5 rfl rfl)
abbrev cJ13_init_2 : ByteArray := prog_19_method_1_code
def yJ13_init_2 : MethodName := ⟨RJ13, "<init>", "()V"⟩
theorem dJ13_init_2_0 : decode cJ13_init_2 0 = .ok (.aload_n 0, 1) := by decide +kernel
theorem dJ13_init_2_1 : decode cJ13_init_2 1 = .ok (.invokespecial 1, 3) := by decide +kernel
theorem dJ13_init_2_4 : decode cJ13_init_2 4 = .ok (.return_, 1) := by decide +kernel
theorem q111 : (Jvm.Cond.initialized "java/lang/IllegalStateException") ∈ lw_all := lw_g (lw_at lw_m1 17 rfl) rfl
theorem q396 : (Jvm.Cond.selects "java/lang/IllegalStateException" ({ cls := "java/lang/Throwable", name := "fillInStackTrace", desc := "()Ljava/lang/Throwable;" } : Jvm.MethodName) ({ cls := "java/lang/Throwable", name := "fillInStackTrace", desc := "()Ljava/lang/Throwable;" } : Jvm.MethodName)) ∈ lw_all := lw_g (lw_at lw_m2 62 rfl) rfl
theorem q859 : (Jvm.Cond.selects "java/lang/IllegalStateException" ({ cls := "java/lang/Throwable", name := "toString", desc := "()Ljava/lang/String;" } : Jvm.MethodName) ({ cls := "java/lang/Throwable", name := "toString", desc := "()Ljava/lang/String;" } : Jvm.MethodName)) ∈ lw_all := lw_g (lw_at lw_m4 45 rfl) rfl
theorem q876 : (Jvm.Cond.selects "java/lang/IllegalStateException" ({ cls := "java/lang/Object", name := "getClass", desc := "()Ljava/lang/Class;" } : Jvm.MethodName) ({ cls := "java/lang/Object", name := "getClass", desc := "()Ljava/lang/Class;" } : Jvm.MethodName)) ∈ lw_all := lw_g (lw_at lw_m4 62 rfl) rfl
theorem q903 : (Jvm.Cond.selects "java/lang/IllegalStateException" ({ cls := "java/lang/Throwable", name := "getLocalizedMessage", desc := "()Ljava/lang/String;" } : Jvm.MethodName) ({ cls := "java/lang/Throwable", name := "getLocalizedMessage", desc := "()Ljava/lang/String;" } : Jvm.MethodName)) ∈ lw_all := lw_g (lw_at lw_m4 89 rfl) rfl
theorem q914 : (Jvm.Cond.selects "java/lang/IllegalStateException" ({ cls := "java/lang/Throwable", name := "getMessage", desc := "()Ljava/lang/String;" } : Jvm.MethodName) ({ cls := "java/lang/Throwable", name := "getMessage", desc := "()Ljava/lang/String;" } : Jvm.MethodName)) ∈ lw_all := lw_g (lw_at lw_m4 100 rfl) rfl
theorem q1178 : (Jvm.Cond.instantiable "java/lang/IllegalStateException" (6 : Nat)) ∈ lw_all := lw_g (lw_at lw_m5 124 rfl) rfl
theorem q1179 : (Jvm.Cond.castable "java/lang/IllegalStateException" "java/lang/IllegalStateException") ∈ lw_tbl := lw_at lw_m5 125 rfl
theorem q1180 : (Jvm.Cond.selects "java/lang/IllegalStateException" ({ cls := "java/lang/Throwable", name := "fillInStackTrace", desc := "(I)Ljava/lang/Throwable;" } : Jvm.MethodName) ({ cls := "java/lang/Throwable", name := "fillInStackTrace", desc := "(I)Ljava/lang/Throwable;" } : Jvm.MethodName)) ∈ lw_all := lw_g (lw_at lw_m5 126 rfl) rfl
theorem q1181 : (Jvm.Cond.lays "java/lang/IllegalStateException" "java/lang/Throwable" "cause" "Ljava/lang/Throwable;") ∈ lw_all := lw_g (lw_at lw_m5 127 rfl) rfl
theorem q1182 : (Jvm.Cond.lays "java/lang/IllegalStateException" "java/lang/Throwable" "stackTrace" "[Ljava/lang/StackTraceElement;") ∈ lw_all := lw_g (lw_at lw_m5 128 rfl) rfl
theorem q1183 : (Jvm.Cond.lays "java/lang/IllegalStateException" "java/lang/Throwable" "suppressedExceptions" "Ljava/util/List;") ∈ lw_all := lw_g (lw_at lw_m5 129 rfl) rfl
theorem q1184 : (Jvm.Cond.lays "java/lang/IllegalStateException" "java/lang/Throwable" "detailMessage" "Ljava/lang/String;") ∈ lw_all := lw_g (lw_at lw_m5 130 rfl) rfl
theorem q1185 : (Jvm.Cond.lays "java/lang/IllegalStateException" "java/lang/Throwable" "backtrace" "Ljava/lang/Object;") ∈ lw_all := lw_g (lw_at lw_m5 131 rfl) rfl
theorem q1188 : (Jvm.Cond.instanceMethod ({ cls := "java/lang/IllegalStateException", name := "<init>", desc := "(Ljava/lang/String;)V" } : Jvm.MethodName)) ∈ lw_all := lw_g (lw_at lw_m5 134 rfl) rfl
theorem q1189 : (Jvm.Cond.code ({ cls := "java/lang/IllegalStateException", name := "<init>", desc := "(Ljava/lang/String;)V" } : Jvm.MethodName) prog_19_method_2_code (2 : Nat) (Option.none : Option Jvm.ClassFile.FieldType)) ∈ lw_all := lw_g (lw_at lw_m5 135 rfl) rfl
theorem q1190 : (Jvm.Cond.methodLink "java/lang/IllegalStateException" (7 : Nat) ({ cls := "java/lang/RuntimeException", name := "<init>", desc := "(Ljava/lang/String;)V" } : Jvm.MethodName)) ∈ lw_all := lw_g (lw_at lw_m5 136 rfl) rfl
theorem q1191 : (Jvm.Cond.lays "java/lang/IllegalStateException" "java/lang/Throwable" "depth" "I") ∈ lw_all := lw_g (lw_at lw_m5 137 rfl) rfl
theorem q1192 : (Jvm.Cond.superclass "java/lang/IllegalStateException" "java/lang/RuntimeException") ∈ lw_all := lw_g (lw_at lw_m5 138 rfl) rfl
theorem q1254 : (Jvm.Cond.instanceMethod ({ cls := "java/lang/IllegalStateException", name := "<init>", desc := "()V" } : Jvm.MethodName)) ∈ lw_all := lw_g (lw_at lw_m5 200 rfl) rfl
theorem q1255 : (Jvm.Cond.code ({ cls := "java/lang/IllegalStateException", name := "<init>", desc := "()V" } : Jvm.MethodName) prog_19_method_1_code (1 : Nat) (Option.none : Option Jvm.ClassFile.FieldType)) ∈ lw_all := lw_g (lw_at lw_m5 201 rfl) rfl
theorem q1256 : (Jvm.Cond.methodLink "java/lang/IllegalStateException" (1 : Nat) ({ cls := "java/lang/RuntimeException", name := "<init>", desc := "()V" } : Jvm.MethodName)) ∈ lw_all := lw_g (lw_at lw_m5 202 rfl) rfl
theorem q2343 : (Jvm.Cond.selects "java/lang/IllegalStateException" ({ cls := "java/lang/Object", name := "equals", desc := "(Ljava/lang/Object;)Z" } : Jvm.MethodName) ({ cls := "java/lang/Object", name := "equals", desc := "(Ljava/lang/Object;)Z" } : Jvm.MethodName)) ∈ lw_all := lw_g (lw_at lw_m10 89 rfl) rfl
theorem q3110 : (Jvm.Cond.castable "java/lang/IllegalStateException" "java/lang/Object") ∈ lw_tbl := lw_at lw_m13 136 rfl
theorem in_J13 : ∀ w ∈ wsJ130, w ∈ lw_all := lw_in wsJ130 [1181, 1182, 1183, 1184, 1185, 1191] (by decide +kernel) (by decide +kernel)

/-! java/lang/IndexOutOfBoundsException -/
set_option maxRecDepth 100000
def RJ14 : String := "java/lang/IndexOutOfBoundsException"
def TJ14 : u_T := fun k => match k with
  | 0 => ("java/lang/Throwable", "cause", "Ljava/lang/Throwable;", false)
  | 1 => ("java/lang/Throwable", "stackTrace", "[Ljava/lang/StackTraceElement;", false)
  | 2 => ("java/lang/Throwable", "suppressedExceptions", "Ljava/util/List;", false)
  | 3 => ("java/lang/Throwable", "detailMessage", "Ljava/lang/String;", false)
  | 4 => ("java/lang/Throwable", "backtrace", "Ljava/lang/Object;", false)
  | _ => ("java/lang/Throwable", "depth", "I", false)
def tyJ14 : Nat → FieldType := fun k => match k with
  | 0 => .object "java/lang/Throwable"
  | 1 => .array (.object "java/lang/StackTraceElement")
  | 2 => .object "java/util/List"
  | 3 => .object "java/lang/String"
  | 4 => .object "java/lang/Object"
  | _ => .int
abbrev wsJ140 : List Cond := u_ws RJ14 TJ14 6
theorem nmJ14 : ∀ a, a < 6 → ∀ b, b < 6 → a ≠ b → (TJ14 a).2.1 ≠ (TJ14 b).2.1 := by decide +kernel
theorem tyJ14_ok : ∀ k, k < 6 → parseFieldDescriptor (TJ14 k).2.2.1 = some (tyJ14 k) := by decide +kernel
abbrev cJ14_init : ByteArray := prog_20_method_2_code
def yJ14_init : MethodName := ⟨RJ14, "<init>", "(Ljava/lang/String;)V"⟩
def dkwJ14_init_0 : List UInt8 := [42, 43, 183, 0, 7, 177]
abbrev dktJ14_init_0 : List UInt8 := dkwJ14_init_0 ++ []
theorem dksJ14_init_0 : cJ14_init.data.toList.drop 0 = dktJ14_init_0 := by decide +kernel
theorem dJ14_init_0 : decode cJ14_init 0 = .ok (.aload_n 0, 1) := dk_42 (dk_at dksJ14_init_0 0 rfl rfl)
theorem dJ14_init_1 : decode cJ14_init 1 = .ok (.aload_n 1, 1) := dk_43 (dk_at dksJ14_init_0 1 rfl rfl)
theorem dJ14_init_2 : decode cJ14_init 2 = .ok (.invokespecial 7, 3) := dk_183 0 7 (dk_at dksJ14_init_0 2 rfl rfl)
theorem dJ14_init_5 : decode cJ14_init 5 = .ok (.return_, 1) := dk_177 (dk_at dksJ14_init_0 5 rfl rfl)
abbrev cJ14_init_2 : ByteArray := prog_20_method_1_code
def yJ14_init_2 : MethodName := ⟨RJ14, "<init>", "()V"⟩
theorem dJ14_init_2_0 : decode cJ14_init_2 0 = .ok (.aload_n 0, 1) := by decide +kernel
theorem dJ14_init_2_1 : decode cJ14_init_2 1 = .ok (.invokespecial 1, 3) := by decide +kernel
theorem dJ14_init_2_4 : decode cJ14_init_2 4 = .ok (.return_, 1) := by decide +kernel
theorem q112 : (Jvm.Cond.initialized "java/lang/IndexOutOfBoundsException") ∈ lw_all := lw_g (lw_at lw_m1 18 rfl) rfl
theorem q362 : (Jvm.Cond.instantiable "java/lang/IndexOutOfBoundsException" (6 : Nat)) ∈ lw_all := lw_g (lw_at lw_m2 28 rfl) rfl
theorem q363 : (Jvm.Cond.castable "java/lang/IndexOutOfBoundsException" "java/lang/IndexOutOfBoundsException") ∈ lw_tbl := lw_at lw_m2 29 rfl
theorem q370 : (Jvm.Cond.selects "java/lang/IndexOutOfBoundsException" ({ cls := "java/lang/Throwable", name := "fillInStackTrace", desc := "(I)Ljava/lang/Throwable;" } : Jvm.MethodName) ({ cls := "java/lang/Throwable", name := "fillInStackTrace", desc := "(I)Ljava/lang/Throwable;" } : Jvm.MethodName)) ∈ lw_all := lw_g (lw_at lw_m2 36 rfl) rfl
theorem q371 : (Jvm.Cond.selects "java/lang/IndexOutOfBoundsException" ({ cls := "java/lang/Throwable", name := "fillInStackTrace", desc := "()Ljava/lang/Throwable;" } : Jvm.MethodName) ({ cls := "java/lang/Throwable", name := "fillInStackTrace", desc := "()Ljava/lang/Throwable;" } : Jvm.MethodName)) ∈ lw_all := lw_g (lw_at lw_m2 37 rfl) rfl
theorem q372 : (Jvm.Cond.lays "java/lang/IndexOutOfBoundsException" "java/lang/Throwable" "cause" "Ljava/lang/Throwable;") ∈ lw_all := lw_g (lw_at lw_m2 38 rfl) rfl
theorem q374 : (Jvm.Cond.lays "java/lang/IndexOutOfBoundsException" "java/lang/Throwable" "stackTrace" "[Ljava/lang/StackTraceElement;") ∈ lw_all := lw_g (lw_at lw_m2 40 rfl) rfl
theorem q376 : (Jvm.Cond.lays "java/lang/IndexOutOfBoundsException" "java/lang/Throwable" "suppressedExceptions" "Ljava/util/List;") ∈ lw_all := lw_g (lw_at lw_m2 42 rfl) rfl
theorem q378 : (Jvm.Cond.lays "java/lang/IndexOutOfBoundsException" "java/lang/Throwable" "detailMessage" "Ljava/lang/String;") ∈ lw_all := lw_g (lw_at lw_m2 44 rfl) rfl
theorem q380 : (Jvm.Cond.lays "java/lang/IndexOutOfBoundsException" "java/lang/Throwable" "backtrace" "Ljava/lang/Object;") ∈ lw_all := lw_g (lw_at lw_m2 46 rfl) rfl
theorem q662 : (Jvm.Cond.instanceMethod ({ cls := "java/lang/IndexOutOfBoundsException", name := "<init>", desc := "(Ljava/lang/String;)V" } : Jvm.MethodName)) ∈ lw_all := lw_g (lw_at lw_m3 88 rfl) rfl
theorem q663 : (Jvm.Cond.code ({ cls := "java/lang/IndexOutOfBoundsException", name := "<init>", desc := "(Ljava/lang/String;)V" } : Jvm.MethodName) prog_20_method_2_code (2 : Nat) (Option.none : Option Jvm.ClassFile.FieldType)) ∈ lw_all := lw_g (lw_at lw_m3 89 rfl) rfl
theorem q664 : (Jvm.Cond.methodLink "java/lang/IndexOutOfBoundsException" (7 : Nat) ({ cls := "java/lang/RuntimeException", name := "<init>", desc := "(Ljava/lang/String;)V" } : Jvm.MethodName)) ∈ lw_all := lw_g (lw_at lw_m3 90 rfl) rfl
theorem q665 : (Jvm.Cond.lays "java/lang/IndexOutOfBoundsException" "java/lang/Throwable" "depth" "I") ∈ lw_all := lw_g (lw_at lw_m3 91 rfl) rfl
theorem q666 : (Jvm.Cond.superclass "java/lang/IndexOutOfBoundsException" "java/lang/RuntimeException") ∈ lw_all := lw_g (lw_at lw_m3 92 rfl) rfl
theorem q860 : (Jvm.Cond.selects "java/lang/IndexOutOfBoundsException" ({ cls := "java/lang/Throwable", name := "toString", desc := "()Ljava/lang/String;" } : Jvm.MethodName) ({ cls := "java/lang/Throwable", name := "toString", desc := "()Ljava/lang/String;" } : Jvm.MethodName)) ∈ lw_all := lw_g (lw_at lw_m4 46 rfl) rfl
theorem q877 : (Jvm.Cond.selects "java/lang/IndexOutOfBoundsException" ({ cls := "java/lang/Object", name := "getClass", desc := "()Ljava/lang/Class;" } : Jvm.MethodName) ({ cls := "java/lang/Object", name := "getClass", desc := "()Ljava/lang/Class;" } : Jvm.MethodName)) ∈ lw_all := lw_g (lw_at lw_m4 63 rfl) rfl
theorem q904 : (Jvm.Cond.selects "java/lang/IndexOutOfBoundsException" ({ cls := "java/lang/Throwable", name := "getLocalizedMessage", desc := "()Ljava/lang/String;" } : Jvm.MethodName) ({ cls := "java/lang/Throwable", name := "getLocalizedMessage", desc := "()Ljava/lang/String;" } : Jvm.MethodName)) ∈ lw_all := lw_g (lw_at lw_m4 90 rfl) rfl
theorem q915 : (Jvm.Cond.selects "java/lang/IndexOutOfBoundsException" ({ cls := "java/lang/Throwable", name := "getMessage", desc := "()Ljava/lang/String;" } : Jvm.MethodName) ({ cls := "java/lang/Throwable", name := "getMessage", desc := "()Ljava/lang/String;" } : Jvm.MethodName)) ∈ lw_all := lw_g (lw_at lw_m4 101 rfl) rfl
theorem q1669 : (Jvm.Cond.declares ({ cls := "java/lang/IndexOutOfBoundsException", name := "<init>", desc := "()V" } : Jvm.MethodName)) ∈ lw_tbl := lw_at lw_m7 135 rfl
theorem q1670 : (Jvm.Cond.declares ({ cls := "java/lang/IndexOutOfBoundsException", name := "<init>", desc := "(Ljava/lang/String;)V" } : Jvm.MethodName)) ∈ lw_tbl := lw_at lw_m7 136 rfl
theorem q1681 : (Jvm.Cond.instanceMethod ({ cls := "java/lang/IndexOutOfBoundsException", name := "<init>", desc := "()V" } : Jvm.MethodName)) ∈ lw_all := lw_g (lw_at lw_m7 147 rfl) rfl
theorem q1682 : (Jvm.Cond.code ({ cls := "java/lang/IndexOutOfBoundsException", name := "<init>", desc := "()V" } : Jvm.MethodName) prog_20_method_1_code (1 : Nat) (Option.none : Option Jvm.ClassFile.FieldType)) ∈ lw_all := lw_g (lw_at lw_m7 148 rfl) rfl
theorem q1683 : (Jvm.Cond.methodLink "java/lang/IndexOutOfBoundsException" (1 : Nat) ({ cls := "java/lang/RuntimeException", name := "<init>", desc := "()V" } : Jvm.MethodName)) ∈ lw_all := lw_g (lw_at lw_m7 149 rfl) rfl
theorem q2344 : (Jvm.Cond.selects "java/lang/IndexOutOfBoundsException" ({ cls := "java/lang/Object", name := "equals", desc := "(Ljava/lang/Object;)Z" } : Jvm.MethodName) ({ cls := "java/lang/Object", name := "equals", desc := "(Ljava/lang/Object;)Z" } : Jvm.MethodName)) ∈ lw_all := lw_g (lw_at lw_m10 90 rfl) rfl
theorem q3111 : (Jvm.Cond.castable "java/lang/IndexOutOfBoundsException" "java/lang/Object") ∈ lw_tbl := lw_at lw_m13 137 rfl
theorem in_J14 : ∀ w ∈ wsJ140, w ∈ lw_all := lw_in wsJ140 [372, 374, 376, 378, 380, 665] (by decide +kernel) (by decide +kernel)

/-! jdk/internal/util/ArraysSupport -/
set_option maxRecDepth 100000
def RJ15 : String := "jdk/internal/util/ArraysSupport"
abbrev cJ15_newLength : ByteArray := prog_69_method_27_code
def yJ15_newLength : MethodName := ⟨RJ15, "newLength", "(III)I"⟩
def dkwJ15_newLength_1 : List UInt8 := [184, 0, 201, 172]
abbrev dktJ15_newLength_1 : List UInt8 := dkwJ15_newLength_1 ++ []
def dkwJ15_newLength_0 : List UInt8 := [26, 27, 28, 184, 0, 194, 96, 62, 3, 29, 162, 0, 11, 29, 18, 200, 163, 0, 5, 29, 172, 26, 27]
abbrev dktJ15_newLength_0 : List UInt8 := dkwJ15_newLength_0 ++ dktJ15_newLength_1
theorem dksJ15_newLength_0 : cJ15_newLength.data.toList.drop 0 = dktJ15_newLength_0 := by decide +kernel
theorem dksJ15_newLength_1 : cJ15_newLength.data.toList.drop 23 = dktJ15_newLength_1 := dk_seg dksJ15_newLength_0 23 rfl rfl
theorem dJ15_newLength_0 : decode cJ15_newLength 0 = .ok (.iload_n 0, 1) := dk_26 (dk_at dksJ15_newLength_0 0 rfl rfl)
theorem dJ15_newLength_1 : decode cJ15_newLength 1 = .ok (.iload_n 1, 1) := dk_27 (dk_at dksJ15_newLength_0 1 rfl rfl)
theorem dJ15_newLength_2 : decode cJ15_newLength 2 = .ok (.iload_n 2, 1) := dk_28 (dk_at dksJ15_newLength_0 2 rfl rfl)
theorem dJ15_newLength_3 : decode cJ15_newLength 3 = .ok (.invokestatic 194, 3) := dk_184 0 194 (dk_at dksJ15_newLength_0 3 rfl rfl)
theorem dJ15_newLength_6 : decode cJ15_newLength 6 = .ok (.iadd, 1) := dk_96 (dk_at dksJ15_newLength_0 6 rfl rfl)
theorem dJ15_newLength_7 : decode cJ15_newLength 7 = .ok (.istore_n 3, 1) := dk_62 (dk_at dksJ15_newLength_0 7 rfl rfl)
theorem dJ15_newLength_8 : decode cJ15_newLength 8 = .ok (.iconst 0, 1) := dk_3 (dk_at dksJ15_newLength_0 8 rfl rfl)
theorem dJ15_newLength_9 : decode cJ15_newLength 9 = .ok (.iload_n 3, 1) := dk_29 (dk_at dksJ15_newLength_0 9 rfl rfl)
theorem dJ15_newLength_10 : decode cJ15_newLength 10 = .ok (.if_icmp .ge 11, 3) := dk_162 0 11 (dk_at dksJ15_newLength_0 10 rfl rfl)
theorem dJ15_newLength_13 : decode cJ15_newLength 13 = .ok (.iload_n 3, 1) := dk_29 (dk_at dksJ15_newLength_0 13 rfl rfl)
theorem dJ15_newLength_14 : decode cJ15_newLength 14 = .ok (.ldc 200, 2) := dk_18 200 (dk_at dksJ15_newLength_0 14 rfl rfl)
theorem dJ15_newLength_16 : decode cJ15_newLength 16 = .ok (.if_icmp .gt 5, 3) := dk_163 0 5 (dk_at dksJ15_newLength_0 16 rfl rfl)
theorem dJ15_newLength_19 : decode cJ15_newLength 19 = .ok (.iload_n 3, 1) := dk_29 (dk_at dksJ15_newLength_0 19 rfl rfl)
theorem dJ15_newLength_20 : decode cJ15_newLength 20 = .ok (.ireturn, 1) := dk_172 (dk_at dksJ15_newLength_0 20 rfl rfl)
theorem dJ15_newLength_21 : decode cJ15_newLength 21 = .ok (.iload_n 0, 1) := dk_26 (dk_at dksJ15_newLength_0 21 rfl rfl)
theorem dJ15_newLength_22 : decode cJ15_newLength 22 = .ok (.iload_n 1, 1) := dk_27 (dk_at dksJ15_newLength_0 22 rfl rfl)
theorem dJ15_newLength_23 : decode cJ15_newLength 23 = .ok (.invokestatic 201, 3) := dk_184 0 201 (dk_at dksJ15_newLength_1 0 rfl rfl)
theorem dJ15_newLength_26 : decode cJ15_newLength 26 = .ok (.ireturn, 1) := dk_172 (dk_at dksJ15_newLength_1 3 rfl rfl)
abbrev cJ15_hugeLength : ByteArray := prog_69_method_28_code
def yJ15_hugeLength : MethodName := ⟨RJ15, "hugeLength", "(II)I"⟩
def dkwJ15_hugeLength_2 : List UInt8 := [191, 28, 18, 200, 163, 0, 6, 18, 200, 172, 28, 172]
abbrev dktJ15_hugeLength_2 : List UInt8 := dkwJ15_hugeLength_2 ++ []
def dkwJ15_hugeLength_1 : List UInt8 := [26, 182, 0, 98, 18, 208, 182, 0, 94, 27, 182, 0, 98, 18, 210, 182, 0, 94, 182, 0, 101, 183, 0, 212]
abbrev dktJ15_hugeLength_1 : List UInt8 := dkwJ15_hugeLength_1 ++ dktJ15_hugeLength_2
def dkwJ15_hugeLength_0 : List UInt8 := [26, 27, 96, 61, 28, 156, 0, 44, 187, 0, 204, 89, 187, 0, 89, 89, 183, 0, 91, 18, 206, 182, 0, 94]
abbrev dktJ15_hugeLength_0 : List UInt8 := dkwJ15_hugeLength_0 ++ dktJ15_hugeLength_1
theorem dksJ15_hugeLength_0 : cJ15_hugeLength.data.toList.drop 0 = dktJ15_hugeLength_0 := by decide +kernel
theorem dksJ15_hugeLength_1 : cJ15_hugeLength.data.toList.drop 24 = dktJ15_hugeLength_1 := dk_seg dksJ15_hugeLength_0 24 rfl rfl
theorem dksJ15_hugeLength_2 : cJ15_hugeLength.data.toList.drop 48 = dktJ15_hugeLength_2 := dk_seg dksJ15_hugeLength_1 24 rfl rfl
theorem dJ15_hugeLength_0 : decode cJ15_hugeLength 0 = .ok (.iload_n 0, 1) := dk_26 (dk_at dksJ15_hugeLength_0 0 rfl rfl)
theorem dJ15_hugeLength_1 : decode cJ15_hugeLength 1 = .ok (.iload_n 1, 1) := dk_27 (dk_at dksJ15_hugeLength_0 1 rfl rfl)
theorem dJ15_hugeLength_2 : decode cJ15_hugeLength 2 = .ok (.iadd, 1) := dk_96 (dk_at dksJ15_hugeLength_0 2 rfl rfl)
theorem dJ15_hugeLength_3 : decode cJ15_hugeLength 3 = .ok (.istore_n 2, 1) := dk_61 (dk_at dksJ15_hugeLength_0 3 rfl rfl)
theorem dJ15_hugeLength_4 : decode cJ15_hugeLength 4 = .ok (.iload_n 2, 1) := dk_28 (dk_at dksJ15_hugeLength_0 4 rfl rfl)
theorem dJ15_hugeLength_5 : decode cJ15_hugeLength 5 = .ok (.ifCond .ge 44, 3) := dk_156 0 44 (dk_at dksJ15_hugeLength_0 5 rfl rfl)
theorem dJ15_hugeLength_8 : decode cJ15_hugeLength 8 = .ok (.new 204, 3) := dk_187 0 204 (dk_at dksJ15_hugeLength_0 8 rfl rfl)
theorem dJ15_hugeLength_11 : decode cJ15_hugeLength 11 = .ok (.dup, 1) := dk_89 (dk_at dksJ15_hugeLength_0 11 rfl rfl)
theorem dJ15_hugeLength_12 : decode cJ15_hugeLength 12 = .ok (.new 89, 3) := dk_187 0 89 (dk_at dksJ15_hugeLength_0 12 rfl rfl)
theorem dJ15_hugeLength_15 : decode cJ15_hugeLength 15 = .ok (.dup, 1) := dk_89 (dk_at dksJ15_hugeLength_0 15 rfl rfl)
theorem dJ15_hugeLength_16 : decode cJ15_hugeLength 16 = .ok (.invokespecial 91, 3) := dk_183 0 91 (dk_at dksJ15_hugeLength_0 16 rfl rfl)
theorem dJ15_hugeLength_19 : decode cJ15_hugeLength 19 = .ok (.ldc 206, 2) := dk_18 206 (dk_at dksJ15_hugeLength_0 19 rfl rfl)
theorem dJ15_hugeLength_21 : decode cJ15_hugeLength 21 = .ok (.invokevirtual 94, 3) := dk_182 0 94 (dk_at dksJ15_hugeLength_0 21 rfl rfl)
theorem dJ15_hugeLength_24 : decode cJ15_hugeLength 24 = .ok (.iload_n 0, 1) := dk_26 (dk_at dksJ15_hugeLength_1 0 rfl rfl)
theorem dJ15_hugeLength_25 : decode cJ15_hugeLength 25 = .ok (.invokevirtual 98, 3) := dk_182 0 98 (dk_at dksJ15_hugeLength_1 1 rfl rfl)
theorem dJ15_hugeLength_28 : decode cJ15_hugeLength 28 = .ok (.ldc 208, 2) := dk_18 208 (dk_at dksJ15_hugeLength_1 4 rfl rfl)
theorem dJ15_hugeLength_30 : decode cJ15_hugeLength 30 = .ok (.invokevirtual 94, 3) := dk_182 0 94 (dk_at dksJ15_hugeLength_1 6 rfl rfl)
theorem dJ15_hugeLength_33 : decode cJ15_hugeLength 33 = .ok (.iload_n 1, 1) := dk_27 (dk_at dksJ15_hugeLength_1 9 rfl rfl)
theorem dJ15_hugeLength_34 : decode cJ15_hugeLength 34 = .ok (.invokevirtual 98, 3) := dk_182 0 98 (dk_at dksJ15_hugeLength_1 10 rfl rfl)
theorem dJ15_hugeLength_37 : decode cJ15_hugeLength 37 = .ok (.ldc 210, 2) := dk_18 210 (dk_at dksJ15_hugeLength_1 13 rfl rfl)
theorem dJ15_hugeLength_39 : decode cJ15_hugeLength 39 = .ok (.invokevirtual 94, 3) := dk_182 0 94 (dk_at dksJ15_hugeLength_1 15 rfl rfl)
theorem dJ15_hugeLength_42 : decode cJ15_hugeLength 42 = .ok (.invokevirtual 101, 3) := dk_182 0 101 (dk_at dksJ15_hugeLength_1 18 rfl rfl)
theorem dJ15_hugeLength_45 : decode cJ15_hugeLength 45 = .ok (.invokespecial 212, 3) := dk_183 0 212 (dk_at dksJ15_hugeLength_1 21 rfl rfl)
theorem dJ15_hugeLength_48 : decode cJ15_hugeLength 48 = .ok (.athrow, 1) := dk_191 (dk_at dksJ15_hugeLength_2 0 rfl rfl)
theorem dJ15_hugeLength_49 : decode cJ15_hugeLength 49 = .ok (.iload_n 2, 1) := dk_28 (dk_at dksJ15_hugeLength_2 1 rfl rfl)
theorem dJ15_hugeLength_50 : decode cJ15_hugeLength 50 = .ok (.ldc 200, 2) := dk_18 200 (dk_at dksJ15_hugeLength_2 2 rfl rfl)
theorem dJ15_hugeLength_52 : decode cJ15_hugeLength 52 = .ok (.if_icmp .gt 6, 3) := dk_163 0 6 (dk_at dksJ15_hugeLength_2 4 rfl rfl)
theorem dJ15_hugeLength_55 : decode cJ15_hugeLength 55 = .ok (.ldc 200, 2) := dk_18 200 (dk_at dksJ15_hugeLength_2 7 rfl rfl)
theorem dJ15_hugeLength_57 : decode cJ15_hugeLength 57 = .ok (.ireturn, 1) := dk_172 (dk_at dksJ15_hugeLength_2 9 rfl rfl)
theorem dJ15_hugeLength_58 : decode cJ15_hugeLength 58 = .ok (.iload_n 2, 1) := dk_28 (dk_at dksJ15_hugeLength_2 10 rfl rfl)
theorem dJ15_hugeLength_59 : decode cJ15_hugeLength 59 = .ok (.ireturn, 1) := dk_172 (dk_at dksJ15_hugeLength_2 11 rfl rfl)
abbrev cJ15_vectorizedHashCode : ByteArray := prog_69_method_4_code
def yJ15_vectorizedHashCode : MethodName := ⟨RJ15, "vectorizedHashCode", "(Ljava/lang/Object;IIII)I"⟩
def dkwJ15_vectorizedHashCode_6 : List UInt8 := [183, 0, 91, 18, 92, 182, 0, 94, 21, 4, 182, 0, 98, 182, 0, 101, 183, 0, 105, 191, 172]
abbrev dktJ15_vectorizedHashCode_6 : List UInt8 := dkwJ15_vectorizedHashCode_6 ++ []
def dkwJ15_vectorizedHashCode_5 : List UInt8 := [167, 0, 44, 29, 42, 192, 0, 82, 27, 28, 184, 0, 84, 167, 0, 31, 187, 0, 87, 89, 187, 0, 89, 89]
abbrev dktJ15_vectorizedHashCode_5 : List UInt8 := dkwJ15_vectorizedHashCode_5 ++ dktJ15_vectorizedHashCode_6
def dkwJ15_vectorizedHashCode_4 : List UInt8 := [29, 42, 192, 0, 60, 27, 28, 184, 0, 75, 167, 0, 57, 29, 42, 192, 0, 77, 27, 28, 184, 0, 79]
abbrev dktJ15_vectorizedHashCode_4 : List UInt8 := dkwJ15_vectorizedHashCode_4 ++ dktJ15_vectorizedHashCode_5
def dkwJ15_vectorizedHashCode_3 : List UInt8 := [192, 0, 60, 27, 28, 184, 0, 66, 167, 0, 83, 29, 42, 192, 0, 69, 27, 28, 184, 0, 71, 167, 0, 70]
abbrev dktJ15_vectorizedHashCode_3 : List UInt8 := dkwJ15_vectorizedHashCode_3 ++ dktJ15_vectorizedHashCode_4
def dkwJ15_vectorizedHashCode_2 : List UInt8 := [29, 42, 192, 0, 60, 27, 28, 184, 0, 62, 167, 0, 103, 42, 193, 0, 60, 153, 0, 16, 29, 42]
abbrev dktJ15_vectorizedHashCode_2 : List UInt8 := dkwJ15_vectorizedHashCode_2 ++ dktJ15_vectorizedHashCode_3
def dkwJ15_vectorizedHashCode_1 : List UInt8 := [170, 0, 0, 0, 0, 127, 0, 0, 0, 4, 0, 0, 0, 10, 0, 0, 0, 42, 0, 0, 0, 55, 0, 0, 0, 127, 0, 0, 0, 127, 0, 0, 0, 88, 0, 0, 0, 101, 0, 0, 0, 114]
abbrev dktJ15_vectorizedHashCode_1 : List UInt8 := dkwJ15_vectorizedHashCode_1 ++ dktJ15_vectorizedHashCode_2
def dkwJ15_vectorizedHashCode_0 : List UInt8 := [21, 4]
abbrev dktJ15_vectorizedHashCode_0 : List UInt8 := dkwJ15_vectorizedHashCode_0 ++ dktJ15_vectorizedHashCode_1
theorem dksJ15_vectorizedHashCode_0 : cJ15_vectorizedHashCode.data.toList.drop 0 = dktJ15_vectorizedHashCode_0 := by decide +kernel
theorem dksJ15_vectorizedHashCode_1 : cJ15_vectorizedHashCode.data.toList.drop 2 = dktJ15_vectorizedHashCode_1 := dk_seg dksJ15_vectorizedHashCode_0 2 rfl rfl
theorem dksJ15_vectorizedHashCode_2 : cJ15_vectorizedHashCode.data.toList.drop 44 = dktJ15_vectorizedHashCode_2 := dk_seg dksJ15_vectorizedHashCode_1 42 rfl rfl
theorem dksJ15_vectorizedHashCode_3 : cJ15_vectorizedHashCode.data.toList.drop 66 = dktJ15_vectorizedHashCode_3 := dk_seg dksJ15_vectorizedHashCode_2 22 rfl rfl
theorem dksJ15_vectorizedHashCode_4 : cJ15_vectorizedHashCode.data.toList.drop 90 = dktJ15_vectorizedHashCode_4 := dk_seg dksJ15_vectorizedHashCode_3 24 rfl rfl
theorem dksJ15_vectorizedHashCode_5 : cJ15_vectorizedHashCode.data.toList.drop 113 = dktJ15_vectorizedHashCode_5 := dk_seg dksJ15_vectorizedHashCode_4 23 rfl rfl
theorem dksJ15_vectorizedHashCode_6 : cJ15_vectorizedHashCode.data.toList.drop 137 = dktJ15_vectorizedHashCode_6 := dk_seg dksJ15_vectorizedHashCode_5 24 rfl rfl
theorem dJ15_vectorizedHashCode_0 : decode cJ15_vectorizedHashCode 0 = .ok (.iload 4, 2) := dk_21 4 (dk_at dksJ15_vectorizedHashCode_0 0 rfl rfl)
theorem dJ15_vectorizedHashCode_2 : decode cJ15_vectorizedHashCode 2 = .ok (.tableswitch 127 4 10 #[42, 55, 127, 127, 88, 101, 114], 42) := by decide +kernel
theorem dJ15_vectorizedHashCode_44 : decode cJ15_vectorizedHashCode 44 = .ok (.iload_n 3, 1) := dk_29 (dk_at dksJ15_vectorizedHashCode_2 0 rfl rfl)
theorem dJ15_vectorizedHashCode_45 : decode cJ15_vectorizedHashCode 45 = .ok (.aload_n 0, 1) := dk_42 (dk_at dksJ15_vectorizedHashCode_2 1 rfl rfl)
theorem dJ15_vectorizedHashCode_46 : decode cJ15_vectorizedHashCode 46 = .ok (.checkcast 60, 3) := dk_192 0 60 (dk_at dksJ15_vectorizedHashCode_2 2 rfl rfl)
theorem dJ15_vectorizedHashCode_49 : decode cJ15_vectorizedHashCode 49 = .ok (.iload_n 1, 1) := dk_27 (dk_at dksJ15_vectorizedHashCode_2 5 rfl rfl)
theorem dJ15_vectorizedHashCode_50 : decode cJ15_vectorizedHashCode 50 = .ok (.iload_n 2, 1) := dk_28 (dk_at dksJ15_vectorizedHashCode_2 6 rfl rfl)
theorem dJ15_vectorizedHashCode_51 : decode cJ15_vectorizedHashCode 51 = .ok (.invokestatic 62, 3) := dk_184 0 62 (dk_at dksJ15_vectorizedHashCode_2 7 rfl rfl)
theorem dJ15_vectorizedHashCode_54 : decode cJ15_vectorizedHashCode 54 = .ok (.goto 103, 3) := dk_167 0 103 (dk_at dksJ15_vectorizedHashCode_2 10 rfl rfl)
theorem dJ15_vectorizedHashCode_57 : decode cJ15_vectorizedHashCode 57 = .ok (.aload_n 0, 1) := dk_42 (dk_at dksJ15_vectorizedHashCode_2 13 rfl rfl)
theorem dJ15_vectorizedHashCode_58 : decode cJ15_vectorizedHashCode 58 = .ok (.instanceof 60, 3) := dk_193 0 60 (dk_at dksJ15_vectorizedHashCode_2 14 rfl rfl)
theorem dJ15_vectorizedHashCode_61 : decode cJ15_vectorizedHashCode 61 = .ok (.ifCond .eq 16, 3) := dk_153 0 16 (dk_at dksJ15_vectorizedHashCode_2 17 rfl rfl)
theorem dJ15_vectorizedHashCode_64 : decode cJ15_vectorizedHashCode 64 = .ok (.iload_n 3, 1) := dk_29 (dk_at dksJ15_vectorizedHashCode_2 20 rfl rfl)
theorem dJ15_vectorizedHashCode_65 : decode cJ15_vectorizedHashCode 65 = .ok (.aload_n 0, 1) := dk_42 (dk_at dksJ15_vectorizedHashCode_2 21 rfl rfl)
theorem dJ15_vectorizedHashCode_66 : decode cJ15_vectorizedHashCode 66 = .ok (.checkcast 60, 3) := dk_192 0 60 (dk_at dksJ15_vectorizedHashCode_3 0 rfl rfl)
theorem dJ15_vectorizedHashCode_69 : decode cJ15_vectorizedHashCode 69 = .ok (.iload_n 1, 1) := dk_27 (dk_at dksJ15_vectorizedHashCode_3 3 rfl rfl)
theorem dJ15_vectorizedHashCode_70 : decode cJ15_vectorizedHashCode 70 = .ok (.iload_n 2, 1) := dk_28 (dk_at dksJ15_vectorizedHashCode_3 4 rfl rfl)
theorem dJ15_vectorizedHashCode_71 : decode cJ15_vectorizedHashCode 71 = .ok (.invokestatic 66, 3) := dk_184 0 66 (dk_at dksJ15_vectorizedHashCode_3 5 rfl rfl)
theorem dJ15_vectorizedHashCode_74 : decode cJ15_vectorizedHashCode 74 = .ok (.goto 83, 3) := dk_167 0 83 (dk_at dksJ15_vectorizedHashCode_3 8 rfl rfl)
theorem dJ15_vectorizedHashCode_77 : decode cJ15_vectorizedHashCode 77 = .ok (.iload_n 3, 1) := dk_29 (dk_at dksJ15_vectorizedHashCode_3 11 rfl rfl)
theorem dJ15_vectorizedHashCode_78 : decode cJ15_vectorizedHashCode 78 = .ok (.aload_n 0, 1) := dk_42 (dk_at dksJ15_vectorizedHashCode_3 12 rfl rfl)
theorem dJ15_vectorizedHashCode_79 : decode cJ15_vectorizedHashCode 79 = .ok (.checkcast 69, 3) := dk_192 0 69 (dk_at dksJ15_vectorizedHashCode_3 13 rfl rfl)
theorem dJ15_vectorizedHashCode_82 : decode cJ15_vectorizedHashCode 82 = .ok (.iload_n 1, 1) := dk_27 (dk_at dksJ15_vectorizedHashCode_3 16 rfl rfl)
theorem dJ15_vectorizedHashCode_83 : decode cJ15_vectorizedHashCode 83 = .ok (.iload_n 2, 1) := dk_28 (dk_at dksJ15_vectorizedHashCode_3 17 rfl rfl)
theorem dJ15_vectorizedHashCode_84 : decode cJ15_vectorizedHashCode 84 = .ok (.invokestatic 71, 3) := dk_184 0 71 (dk_at dksJ15_vectorizedHashCode_3 18 rfl rfl)
theorem dJ15_vectorizedHashCode_87 : decode cJ15_vectorizedHashCode 87 = .ok (.goto 70, 3) := dk_167 0 70 (dk_at dksJ15_vectorizedHashCode_3 21 rfl rfl)
theorem dJ15_vectorizedHashCode_90 : decode cJ15_vectorizedHashCode 90 = .ok (.iload_n 3, 1) := dk_29 (dk_at dksJ15_vectorizedHashCode_4 0 rfl rfl)
theorem dJ15_vectorizedHashCode_91 : decode cJ15_vectorizedHashCode 91 = .ok (.aload_n 0, 1) := dk_42 (dk_at dksJ15_vectorizedHashCode_4 1 rfl rfl)
theorem dJ15_vectorizedHashCode_92 : decode cJ15_vectorizedHashCode 92 = .ok (.checkcast 60, 3) := dk_192 0 60 (dk_at dksJ15_vectorizedHashCode_4 2 rfl rfl)
theorem dJ15_vectorizedHashCode_95 : decode cJ15_vectorizedHashCode 95 = .ok (.iload_n 1, 1) := dk_27 (dk_at dksJ15_vectorizedHashCode_4 5 rfl rfl)
theorem dJ15_vectorizedHashCode_96 : decode cJ15_vectorizedHashCode 96 = .ok (.iload_n 2, 1) := dk_28 (dk_at dksJ15_vectorizedHashCode_4 6 rfl rfl)
theorem dJ15_vectorizedHashCode_97 : decode cJ15_vectorizedHashCode 97 = .ok (.invokestatic 75, 3) := dk_184 0 75 (dk_at dksJ15_vectorizedHashCode_4 7 rfl rfl)
theorem dJ15_vectorizedHashCode_100 : decode cJ15_vectorizedHashCode 100 = .ok (.goto 57, 3) := dk_167 0 57 (dk_at dksJ15_vectorizedHashCode_4 10 rfl rfl)
theorem dJ15_vectorizedHashCode_103 : decode cJ15_vectorizedHashCode 103 = .ok (.iload_n 3, 1) := dk_29 (dk_at dksJ15_vectorizedHashCode_4 13 rfl rfl)
theorem dJ15_vectorizedHashCode_104 : decode cJ15_vectorizedHashCode 104 = .ok (.aload_n 0, 1) := dk_42 (dk_at dksJ15_vectorizedHashCode_4 14 rfl rfl)
theorem dJ15_vectorizedHashCode_105 : decode cJ15_vectorizedHashCode 105 = .ok (.checkcast 77, 3) := dk_192 0 77 (dk_at dksJ15_vectorizedHashCode_4 15 rfl rfl)
theorem dJ15_vectorizedHashCode_108 : decode cJ15_vectorizedHashCode 108 = .ok (.iload_n 1, 1) := dk_27 (dk_at dksJ15_vectorizedHashCode_4 18 rfl rfl)
theorem dJ15_vectorizedHashCode_109 : decode cJ15_vectorizedHashCode 109 = .ok (.iload_n 2, 1) := dk_28 (dk_at dksJ15_vectorizedHashCode_4 19 rfl rfl)
theorem dJ15_vectorizedHashCode_110 : decode cJ15_vectorizedHashCode 110 = .ok (.invokestatic 79, 3) := dk_184 0 79 (dk_at dksJ15_vectorizedHashCode_4 20 rfl rfl)
theorem dJ15_vectorizedHashCode_113 : decode cJ15_vectorizedHashCode 113 = .ok (.goto 44, 3) := dk_167 0 44 (dk_at dksJ15_vectorizedHashCode_5 0 rfl rfl)
theorem dJ15_vectorizedHashCode_116 : decode cJ15_vectorizedHashCode 116 = .ok (.iload_n 3, 1) := dk_29 (dk_at dksJ15_vectorizedHashCode_5 3 rfl rfl)
theorem dJ15_vectorizedHashCode_117 : decode cJ15_vectorizedHashCode 117 = .ok (.aload_n 0, 1) := dk_42 (dk_at dksJ15_vectorizedHashCode_5 4 rfl rfl)
theorem dJ15_vectorizedHashCode_118 : decode cJ15_vectorizedHashCode 118 = .ok (.checkcast 82, 3) := dk_192 0 82 (dk_at dksJ15_vectorizedHashCode_5 5 rfl rfl)
theorem dJ15_vectorizedHashCode_121 : decode cJ15_vectorizedHashCode 121 = .ok (.iload_n 1, 1) := dk_27 (dk_at dksJ15_vectorizedHashCode_5 8 rfl rfl)
theorem dJ15_vectorizedHashCode_122 : decode cJ15_vectorizedHashCode 122 = .ok (.iload_n 2, 1) := dk_28 (dk_at dksJ15_vectorizedHashCode_5 9 rfl rfl)
theorem dJ15_vectorizedHashCode_123 : decode cJ15_vectorizedHashCode 123 = .ok (.invokestatic 84, 3) := dk_184 0 84 (dk_at dksJ15_vectorizedHashCode_5 10 rfl rfl)
theorem dJ15_vectorizedHashCode_126 : decode cJ15_vectorizedHashCode 126 = .ok (.goto 31, 3) := dk_167 0 31 (dk_at dksJ15_vectorizedHashCode_5 13 rfl rfl)
theorem dJ15_vectorizedHashCode_129 : decode cJ15_vectorizedHashCode 129 = .ok (.new 87, 3) := dk_187 0 87 (dk_at dksJ15_vectorizedHashCode_5 16 rfl rfl)
theorem dJ15_vectorizedHashCode_132 : decode cJ15_vectorizedHashCode 132 = .ok (.dup, 1) := dk_89 (dk_at dksJ15_vectorizedHashCode_5 19 rfl rfl)
theorem dJ15_vectorizedHashCode_133 : decode cJ15_vectorizedHashCode 133 = .ok (.new 89, 3) := dk_187 0 89 (dk_at dksJ15_vectorizedHashCode_5 20 rfl rfl)
theorem dJ15_vectorizedHashCode_136 : decode cJ15_vectorizedHashCode 136 = .ok (.dup, 1) := dk_89 (dk_at dksJ15_vectorizedHashCode_5 23 rfl rfl)
theorem dJ15_vectorizedHashCode_137 : decode cJ15_vectorizedHashCode 137 = .ok (.invokespecial 91, 3) := dk_183 0 91 (dk_at dksJ15_vectorizedHashCode_6 0 rfl rfl)
theorem dJ15_vectorizedHashCode_140 : decode cJ15_vectorizedHashCode 140 = .ok (.ldc 92, 2) := dk_18 92 (dk_at dksJ15_vectorizedHashCode_6 3 rfl rfl)
theorem dJ15_vectorizedHashCode_142 : decode cJ15_vectorizedHashCode 142 = .ok (.invokevirtual 94, 3) := dk_182 0 94 (dk_at dksJ15_vectorizedHashCode_6 5 rfl rfl)
theorem dJ15_vectorizedHashCode_145 : decode cJ15_vectorizedHashCode 145 = .ok (.iload 4, 2) := dk_21 4 (dk_at dksJ15_vectorizedHashCode_6 8 rfl rfl)
theorem dJ15_vectorizedHashCode_147 : decode cJ15_vectorizedHashCode 147 = .ok (.invokevirtual 98, 3) := dk_182 0 98 (dk_at dksJ15_vectorizedHashCode_6 10 rfl rfl)
theorem dJ15_vectorizedHashCode_150 : decode cJ15_vectorizedHashCode 150 = .ok (.invokevirtual 101, 3) := dk_182 0 101 (dk_at dksJ15_vectorizedHashCode_6 13 rfl rfl)
theorem dJ15_vectorizedHashCode_153 : decode cJ15_vectorizedHashCode 153 = .ok (.invokespecial 105, 3) := dk_183 0 105 (dk_at dksJ15_vectorizedHashCode_6 16 rfl rfl)
theorem dJ15_vectorizedHashCode_156 : decode cJ15_vectorizedHashCode 156 = .ok (.athrow, 1) := dk_191 (dk_at dksJ15_vectorizedHashCode_6 19 rfl rfl)
theorem dJ15_vectorizedHashCode_157 : decode cJ15_vectorizedHashCode 157 = .ok (.ireturn, 1) := dk_172 (dk_at dksJ15_vectorizedHashCode_6 20 rfl rfl)
abbrev cJ15_signedHashCode : ByteArray := prog_69_method_5_code
def yJ15_signedHashCode : MethodName := ⟨RJ15, "signedHashCode", "(I[BII)I"⟩
def dkwJ15_signedHashCode_1 : List UInt8 := [17, 0, 255, 126, 96, 59, 132, 5, 1, 167, 255, 232, 26, 172]
abbrev dktJ15_signedHashCode_1 : List UInt8 := dkwJ15_signedHashCode_1 ++ []
def dkwJ15_signedHashCode_0 : List UInt8 := [28, 29, 96, 54, 4, 28, 54, 5, 21, 5, 21, 4, 162, 0, 23, 16, 31, 26, 104, 43, 21, 5, 51]
abbrev dktJ15_signedHashCode_0 : List UInt8 := dkwJ15_signedHashCode_0 ++ dktJ15_signedHashCode_1
theorem dksJ15_signedHashCode_0 : cJ15_signedHashCode.data.toList.drop 0 = dktJ15_signedHashCode_0 := by decide +kernel
theorem dksJ15_signedHashCode_1 : cJ15_signedHashCode.data.toList.drop 23 = dktJ15_signedHashCode_1 := dk_seg dksJ15_signedHashCode_0 23 rfl rfl
theorem dJ15_signedHashCode_0 : decode cJ15_signedHashCode 0 = .ok (.iload_n 2, 1) := dk_28 (dk_at dksJ15_signedHashCode_0 0 rfl rfl)
theorem dJ15_signedHashCode_1 : decode cJ15_signedHashCode 1 = .ok (.iload_n 3, 1) := dk_29 (dk_at dksJ15_signedHashCode_0 1 rfl rfl)
theorem dJ15_signedHashCode_2 : decode cJ15_signedHashCode 2 = .ok (.iadd, 1) := dk_96 (dk_at dksJ15_signedHashCode_0 2 rfl rfl)
theorem dJ15_signedHashCode_3 : decode cJ15_signedHashCode 3 = .ok (.istore 4, 2) := dk_54 4 (dk_at dksJ15_signedHashCode_0 3 rfl rfl)
theorem dJ15_signedHashCode_5 : decode cJ15_signedHashCode 5 = .ok (.iload_n 2, 1) := dk_28 (dk_at dksJ15_signedHashCode_0 5 rfl rfl)
theorem dJ15_signedHashCode_6 : decode cJ15_signedHashCode 6 = .ok (.istore 5, 2) := dk_54 5 (dk_at dksJ15_signedHashCode_0 6 rfl rfl)
theorem dJ15_signedHashCode_8 : decode cJ15_signedHashCode 8 = .ok (.iload 5, 2) := dk_21 5 (dk_at dksJ15_signedHashCode_0 8 rfl rfl)
theorem dJ15_signedHashCode_10 : decode cJ15_signedHashCode 10 = .ok (.iload 4, 2) := dk_21 4 (dk_at dksJ15_signedHashCode_0 10 rfl rfl)
theorem dJ15_signedHashCode_12 : decode cJ15_signedHashCode 12 = .ok (.if_icmp .ge 23, 3) := dk_162 0 23 (dk_at dksJ15_signedHashCode_0 12 rfl rfl)
theorem dJ15_signedHashCode_15 : decode cJ15_signedHashCode 15 = .ok (.bipush 31, 2) := dk_16 31 (dk_at dksJ15_signedHashCode_0 15 rfl rfl)
theorem dJ15_signedHashCode_17 : decode cJ15_signedHashCode 17 = .ok (.iload_n 0, 1) := dk_26 (dk_at dksJ15_signedHashCode_0 17 rfl rfl)
theorem dJ15_signedHashCode_18 : decode cJ15_signedHashCode 18 = .ok (.imul, 1) := dk_104 (dk_at dksJ15_signedHashCode_0 18 rfl rfl)
theorem dJ15_signedHashCode_19 : decode cJ15_signedHashCode 19 = .ok (.aload_n 1, 1) := dk_43 (dk_at dksJ15_signedHashCode_0 19 rfl rfl)
theorem dJ15_signedHashCode_20 : decode cJ15_signedHashCode 20 = .ok (.iload 5, 2) := dk_21 5 (dk_at dksJ15_signedHashCode_0 20 rfl rfl)
theorem dJ15_signedHashCode_22 : decode cJ15_signedHashCode 22 = .ok (.baload, 1) := dk_51 (dk_at dksJ15_signedHashCode_0 22 rfl rfl)
theorem dJ15_signedHashCode_23 : decode cJ15_signedHashCode 23 = .ok (.sipush 255, 3) := dk_17 0 255 (dk_at dksJ15_signedHashCode_1 0 rfl rfl)
theorem dJ15_signedHashCode_26 : decode cJ15_signedHashCode 26 = .ok (.iand, 1) := dk_126 (dk_at dksJ15_signedHashCode_1 3 rfl rfl)
theorem dJ15_signedHashCode_27 : decode cJ15_signedHashCode 27 = .ok (.iadd, 1) := dk_96 (dk_at dksJ15_signedHashCode_1 4 rfl rfl)
theorem dJ15_signedHashCode_28 : decode cJ15_signedHashCode 28 = .ok (.istore_n 0, 1) := dk_59 (dk_at dksJ15_signedHashCode_1 5 rfl rfl)
theorem dJ15_signedHashCode_29 : decode cJ15_signedHashCode 29 = .ok (.iinc 5 1, 3) := dk_132 5 1 (dk_at dksJ15_signedHashCode_1 6 rfl rfl)
theorem dJ15_signedHashCode_32 : decode cJ15_signedHashCode 32 = .ok (.goto (-24), 3) := dk_167 255 232 (dk_at dksJ15_signedHashCode_1 9 rfl rfl)
theorem dJ15_signedHashCode_35 : decode cJ15_signedHashCode 35 = .ok (.iload_n 0, 1) := dk_26 (dk_at dksJ15_signedHashCode_1 12 rfl rfl)
theorem dJ15_signedHashCode_36 : decode cJ15_signedHashCode 36 = .ok (.ireturn, 1) := dk_172 (dk_at dksJ15_signedHashCode_1 13 rfl rfl)
abbrev cJ15_utf16hashCode : ByteArray := prog_69_method_10_code
def yJ15_utf16hashCode : MethodName := ⟨RJ15, "utf16hashCode", "(I[BII)I"⟩
def dkwJ15_utf16hashCode_1 : List UInt8 := [21, 5, 185, 0, 110, 3, 0, 96, 59, 132, 5, 1, 167, 255, 229, 26, 172]
abbrev dktJ15_utf16hashCode_1 : List UInt8 := dkwJ15_utf16hashCode_1 ++ []
def dkwJ15_utf16hashCode_0 : List UInt8 := [28, 29, 96, 54, 4, 28, 54, 5, 21, 5, 21, 4, 162, 0, 26, 16, 31, 26, 104, 178, 0, 106, 43]
abbrev dktJ15_utf16hashCode_0 : List UInt8 := dkwJ15_utf16hashCode_0 ++ dktJ15_utf16hashCode_1
theorem dksJ15_utf16hashCode_0 : cJ15_utf16hashCode.data.toList.drop 0 = dktJ15_utf16hashCode_0 := by decide +kernel
theorem dksJ15_utf16hashCode_1 : cJ15_utf16hashCode.data.toList.drop 23 = dktJ15_utf16hashCode_1 := dk_seg dksJ15_utf16hashCode_0 23 rfl rfl
theorem dJ15_utf16hashCode_0 : decode cJ15_utf16hashCode 0 = .ok (.iload_n 2, 1) := dk_28 (dk_at dksJ15_utf16hashCode_0 0 rfl rfl)
theorem dJ15_utf16hashCode_1 : decode cJ15_utf16hashCode 1 = .ok (.iload_n 3, 1) := dk_29 (dk_at dksJ15_utf16hashCode_0 1 rfl rfl)
theorem dJ15_utf16hashCode_2 : decode cJ15_utf16hashCode 2 = .ok (.iadd, 1) := dk_96 (dk_at dksJ15_utf16hashCode_0 2 rfl rfl)
theorem dJ15_utf16hashCode_3 : decode cJ15_utf16hashCode 3 = .ok (.istore 4, 2) := dk_54 4 (dk_at dksJ15_utf16hashCode_0 3 rfl rfl)
theorem dJ15_utf16hashCode_5 : decode cJ15_utf16hashCode 5 = .ok (.iload_n 2, 1) := dk_28 (dk_at dksJ15_utf16hashCode_0 5 rfl rfl)
theorem dJ15_utf16hashCode_6 : decode cJ15_utf16hashCode 6 = .ok (.istore 5, 2) := dk_54 5 (dk_at dksJ15_utf16hashCode_0 6 rfl rfl)
theorem dJ15_utf16hashCode_8 : decode cJ15_utf16hashCode 8 = .ok (.iload 5, 2) := dk_21 5 (dk_at dksJ15_utf16hashCode_0 8 rfl rfl)
theorem dJ15_utf16hashCode_10 : decode cJ15_utf16hashCode 10 = .ok (.iload 4, 2) := dk_21 4 (dk_at dksJ15_utf16hashCode_0 10 rfl rfl)
theorem dJ15_utf16hashCode_12 : decode cJ15_utf16hashCode 12 = .ok (.if_icmp .ge 26, 3) := dk_162 0 26 (dk_at dksJ15_utf16hashCode_0 12 rfl rfl)
theorem dJ15_utf16hashCode_15 : decode cJ15_utf16hashCode 15 = .ok (.bipush 31, 2) := dk_16 31 (dk_at dksJ15_utf16hashCode_0 15 rfl rfl)
theorem dJ15_utf16hashCode_17 : decode cJ15_utf16hashCode 17 = .ok (.iload_n 0, 1) := dk_26 (dk_at dksJ15_utf16hashCode_0 17 rfl rfl)
theorem dJ15_utf16hashCode_18 : decode cJ15_utf16hashCode 18 = .ok (.imul, 1) := dk_104 (dk_at dksJ15_utf16hashCode_0 18 rfl rfl)
theorem dJ15_utf16hashCode_19 : decode cJ15_utf16hashCode 19 = .ok (.getstatic 106, 3) := dk_178 0 106 (dk_at dksJ15_utf16hashCode_0 19 rfl rfl)
theorem dJ15_utf16hashCode_22 : decode cJ15_utf16hashCode 22 = .ok (.aload_n 1, 1) := dk_43 (dk_at dksJ15_utf16hashCode_0 22 rfl rfl)
theorem dJ15_utf16hashCode_23 : decode cJ15_utf16hashCode 23 = .ok (.iload 5, 2) := dk_21 5 (dk_at dksJ15_utf16hashCode_1 0 rfl rfl)
theorem dJ15_utf16hashCode_25 : decode cJ15_utf16hashCode 25 = .ok (.invokeinterface 110 3, 5) := by decide +kernel
theorem dJ15_utf16hashCode_30 : decode cJ15_utf16hashCode 30 = .ok (.iadd, 1) := dk_96 (dk_at dksJ15_utf16hashCode_1 7 rfl rfl)
theorem dJ15_utf16hashCode_31 : decode cJ15_utf16hashCode 31 = .ok (.istore_n 0, 1) := dk_59 (dk_at dksJ15_utf16hashCode_1 8 rfl rfl)
theorem dJ15_utf16hashCode_32 : decode cJ15_utf16hashCode 32 = .ok (.iinc 5 1, 3) := dk_132 5 1 (dk_at dksJ15_utf16hashCode_1 9 rfl rfl)
theorem dJ15_utf16hashCode_35 : decode cJ15_utf16hashCode 35 = .ok (.goto (-27), 3) := dk_167 255 229 (dk_at dksJ15_utf16hashCode_1 12 rfl rfl)
theorem dJ15_utf16hashCode_38 : decode cJ15_utf16hashCode 38 = .ok (.iload_n 0, 1) := dk_26 (dk_at dksJ15_utf16hashCode_1 15 rfl rfl)
theorem dJ15_utf16hashCode_39 : decode cJ15_utf16hashCode 39 = .ok (.ireturn, 1) := dk_172 (dk_at dksJ15_utf16hashCode_1 16 rfl rfl)
abbrev cJ15_hashCode : ByteArray := prog_69_method_7_code
def yJ15_hashCode : MethodName := ⟨RJ15, "hashCode", "(I[CII)I"⟩
def dkwJ15_hashCode_1 : List UInt8 := [59, 132, 5, 1, 167, 255, 236, 26, 172]
abbrev dktJ15_hashCode_1 : List UInt8 := dkwJ15_hashCode_1 ++ []
def dkwJ15_hashCode_0 : List UInt8 := [28, 29, 96, 54, 4, 28, 54, 5, 21, 5, 21, 4, 162, 0, 19, 16, 31, 26, 104, 43, 21, 5, 52, 96]
abbrev dktJ15_hashCode_0 : List UInt8 := dkwJ15_hashCode_0 ++ dktJ15_hashCode_1
theorem dksJ15_hashCode_0 : cJ15_hashCode.data.toList.drop 0 = dktJ15_hashCode_0 := by decide +kernel
theorem dksJ15_hashCode_1 : cJ15_hashCode.data.toList.drop 24 = dktJ15_hashCode_1 := dk_seg dksJ15_hashCode_0 24 rfl rfl
theorem dJ15_hashCode_0 : decode cJ15_hashCode 0 = .ok (.iload_n 2, 1) := dk_28 (dk_at dksJ15_hashCode_0 0 rfl rfl)
theorem dJ15_hashCode_1 : decode cJ15_hashCode 1 = .ok (.iload_n 3, 1) := dk_29 (dk_at dksJ15_hashCode_0 1 rfl rfl)
theorem dJ15_hashCode_2 : decode cJ15_hashCode 2 = .ok (.iadd, 1) := dk_96 (dk_at dksJ15_hashCode_0 2 rfl rfl)
theorem dJ15_hashCode_3 : decode cJ15_hashCode 3 = .ok (.istore 4, 2) := dk_54 4 (dk_at dksJ15_hashCode_0 3 rfl rfl)
theorem dJ15_hashCode_5 : decode cJ15_hashCode 5 = .ok (.iload_n 2, 1) := dk_28 (dk_at dksJ15_hashCode_0 5 rfl rfl)
theorem dJ15_hashCode_6 : decode cJ15_hashCode 6 = .ok (.istore 5, 2) := dk_54 5 (dk_at dksJ15_hashCode_0 6 rfl rfl)
theorem dJ15_hashCode_8 : decode cJ15_hashCode 8 = .ok (.iload 5, 2) := dk_21 5 (dk_at dksJ15_hashCode_0 8 rfl rfl)
theorem dJ15_hashCode_10 : decode cJ15_hashCode 10 = .ok (.iload 4, 2) := dk_21 4 (dk_at dksJ15_hashCode_0 10 rfl rfl)
theorem dJ15_hashCode_12 : decode cJ15_hashCode 12 = .ok (.if_icmp .ge 19, 3) := dk_162 0 19 (dk_at dksJ15_hashCode_0 12 rfl rfl)
theorem dJ15_hashCode_15 : decode cJ15_hashCode 15 = .ok (.bipush 31, 2) := dk_16 31 (dk_at dksJ15_hashCode_0 15 rfl rfl)
theorem dJ15_hashCode_17 : decode cJ15_hashCode 17 = .ok (.iload_n 0, 1) := dk_26 (dk_at dksJ15_hashCode_0 17 rfl rfl)
theorem dJ15_hashCode_18 : decode cJ15_hashCode 18 = .ok (.imul, 1) := dk_104 (dk_at dksJ15_hashCode_0 18 rfl rfl)
theorem dJ15_hashCode_19 : decode cJ15_hashCode 19 = .ok (.aload_n 1, 1) := dk_43 (dk_at dksJ15_hashCode_0 19 rfl rfl)
theorem dJ15_hashCode_20 : decode cJ15_hashCode 20 = .ok (.iload 5, 2) := dk_21 5 (dk_at dksJ15_hashCode_0 20 rfl rfl)
theorem dJ15_hashCode_22 : decode cJ15_hashCode 22 = .ok (.caload, 1) := dk_52 (dk_at dksJ15_hashCode_0 22 rfl rfl)
theorem dJ15_hashCode_23 : decode cJ15_hashCode 23 = .ok (.iadd, 1) := dk_96 (dk_at dksJ15_hashCode_0 23 rfl rfl)
theorem dJ15_hashCode_24 : decode cJ15_hashCode 24 = .ok (.istore_n 0, 1) := dk_59 (dk_at dksJ15_hashCode_1 0 rfl rfl)
theorem dJ15_hashCode_25 : decode cJ15_hashCode 25 = .ok (.iinc 5 1, 3) := dk_132 5 1 (dk_at dksJ15_hashCode_1 1 rfl rfl)
theorem dJ15_hashCode_28 : decode cJ15_hashCode 28 = .ok (.goto (-20), 3) := dk_167 255 236 (dk_at dksJ15_hashCode_1 4 rfl rfl)
theorem dJ15_hashCode_31 : decode cJ15_hashCode 31 = .ok (.iload_n 0, 1) := dk_26 (dk_at dksJ15_hashCode_1 7 rfl rfl)
theorem dJ15_hashCode_32 : decode cJ15_hashCode 32 = .ok (.ireturn, 1) := dk_172 (dk_at dksJ15_hashCode_1 8 rfl rfl)
abbrev cJ15_hashCode_2 : ByteArray := prog_69_method_6_code
def yJ15_hashCode_2 : MethodName := ⟨RJ15, "hashCode", "(I[BII)I"⟩
def dkwJ15_hashCode_2_1 : List UInt8 := [59, 132, 5, 1, 167, 255, 236, 26, 172]
abbrev dktJ15_hashCode_2_1 : List UInt8 := dkwJ15_hashCode_2_1 ++ []
def dkwJ15_hashCode_2_0 : List UInt8 := [28, 29, 96, 54, 4, 28, 54, 5, 21, 5, 21, 4, 162, 0, 19, 16, 31, 26, 104, 43, 21, 5, 51, 96]
abbrev dktJ15_hashCode_2_0 : List UInt8 := dkwJ15_hashCode_2_0 ++ dktJ15_hashCode_2_1
theorem dksJ15_hashCode_2_0 : cJ15_hashCode_2.data.toList.drop 0 = dktJ15_hashCode_2_0 := by decide +kernel
theorem dksJ15_hashCode_2_1 : cJ15_hashCode_2.data.toList.drop 24 = dktJ15_hashCode_2_1 := dk_seg dksJ15_hashCode_2_0 24 rfl rfl
theorem dJ15_hashCode_2_0 : decode cJ15_hashCode_2 0 = .ok (.iload_n 2, 1) := dk_28 (dk_at dksJ15_hashCode_2_0 0 rfl rfl)
theorem dJ15_hashCode_2_1 : decode cJ15_hashCode_2 1 = .ok (.iload_n 3, 1) := dk_29 (dk_at dksJ15_hashCode_2_0 1 rfl rfl)
theorem dJ15_hashCode_2_2 : decode cJ15_hashCode_2 2 = .ok (.iadd, 1) := dk_96 (dk_at dksJ15_hashCode_2_0 2 rfl rfl)
theorem dJ15_hashCode_2_3 : decode cJ15_hashCode_2 3 = .ok (.istore 4, 2) := dk_54 4 (dk_at dksJ15_hashCode_2_0 3 rfl rfl)
theorem dJ15_hashCode_2_5 : decode cJ15_hashCode_2 5 = .ok (.iload_n 2, 1) := dk_28 (dk_at dksJ15_hashCode_2_0 5 rfl rfl)
theorem dJ15_hashCode_2_6 : decode cJ15_hashCode_2 6 = .ok (.istore 5, 2) := dk_54 5 (dk_at dksJ15_hashCode_2_0 6 rfl rfl)
theorem dJ15_hashCode_2_8 : decode cJ15_hashCode_2 8 = .ok (.iload 5, 2) := dk_21 5 (dk_at dksJ15_hashCode_2_0 8 rfl rfl)
theorem dJ15_hashCode_2_10 : decode cJ15_hashCode_2 10 = .ok (.iload 4, 2) := dk_21 4 (dk_at dksJ15_hashCode_2_0 10 rfl rfl)
theorem dJ15_hashCode_2_12 : decode cJ15_hashCode_2 12 = .ok (.if_icmp .ge 19, 3) := dk_162 0 19 (dk_at dksJ15_hashCode_2_0 12 rfl rfl)
theorem dJ15_hashCode_2_15 : decode cJ15_hashCode_2 15 = .ok (.bipush 31, 2) := dk_16 31 (dk_at dksJ15_hashCode_2_0 15 rfl rfl)
theorem dJ15_hashCode_2_17 : decode cJ15_hashCode_2 17 = .ok (.iload_n 0, 1) := dk_26 (dk_at dksJ15_hashCode_2_0 17 rfl rfl)
theorem dJ15_hashCode_2_18 : decode cJ15_hashCode_2 18 = .ok (.imul, 1) := dk_104 (dk_at dksJ15_hashCode_2_0 18 rfl rfl)
theorem dJ15_hashCode_2_19 : decode cJ15_hashCode_2 19 = .ok (.aload_n 1, 1) := dk_43 (dk_at dksJ15_hashCode_2_0 19 rfl rfl)
theorem dJ15_hashCode_2_20 : decode cJ15_hashCode_2 20 = .ok (.iload 5, 2) := dk_21 5 (dk_at dksJ15_hashCode_2_0 20 rfl rfl)
theorem dJ15_hashCode_2_22 : decode cJ15_hashCode_2 22 = .ok (.baload, 1) := dk_51 (dk_at dksJ15_hashCode_2_0 22 rfl rfl)
theorem dJ15_hashCode_2_23 : decode cJ15_hashCode_2 23 = .ok (.iadd, 1) := dk_96 (dk_at dksJ15_hashCode_2_0 23 rfl rfl)
theorem dJ15_hashCode_2_24 : decode cJ15_hashCode_2 24 = .ok (.istore_n 0, 1) := dk_59 (dk_at dksJ15_hashCode_2_1 0 rfl rfl)
theorem dJ15_hashCode_2_25 : decode cJ15_hashCode_2 25 = .ok (.iinc 5 1, 3) := dk_132 5 1 (dk_at dksJ15_hashCode_2_1 1 rfl rfl)
theorem dJ15_hashCode_2_28 : decode cJ15_hashCode_2 28 = .ok (.goto (-20), 3) := dk_167 255 236 (dk_at dksJ15_hashCode_2_1 4 rfl rfl)
theorem dJ15_hashCode_2_31 : decode cJ15_hashCode_2 31 = .ok (.iload_n 0, 1) := dk_26 (dk_at dksJ15_hashCode_2_1 7 rfl rfl)
theorem dJ15_hashCode_2_32 : decode cJ15_hashCode_2 32 = .ok (.ireturn, 1) := dk_172 (dk_at dksJ15_hashCode_2_1 8 rfl rfl)
abbrev cJ15_hashCode_3 : ByteArray := prog_69_method_8_code
def yJ15_hashCode_3 : MethodName := ⟨RJ15, "hashCode", "(I[SII)I"⟩
def dkwJ15_hashCode_3_1 : List UInt8 := [59, 132, 5, 1, 167, 255, 236, 26, 172]
abbrev dktJ15_hashCode_3_1 : List UInt8 := dkwJ15_hashCode_3_1 ++ []
def dkwJ15_hashCode_3_0 : List UInt8 := [28, 29, 96, 54, 4, 28, 54, 5, 21, 5, 21, 4, 162, 0, 19, 16, 31, 26, 104, 43, 21, 5, 53, 96]
abbrev dktJ15_hashCode_3_0 : List UInt8 := dkwJ15_hashCode_3_0 ++ dktJ15_hashCode_3_1
theorem dksJ15_hashCode_3_0 : cJ15_hashCode_3.data.toList.drop 0 = dktJ15_hashCode_3_0 := by decide +kernel
theorem dksJ15_hashCode_3_1 : cJ15_hashCode_3.data.toList.drop 24 = dktJ15_hashCode_3_1 := dk_seg dksJ15_hashCode_3_0 24 rfl rfl
theorem dJ15_hashCode_3_0 : decode cJ15_hashCode_3 0 = .ok (.iload_n 2, 1) := dk_28 (dk_at dksJ15_hashCode_3_0 0 rfl rfl)
theorem dJ15_hashCode_3_1 : decode cJ15_hashCode_3 1 = .ok (.iload_n 3, 1) := dk_29 (dk_at dksJ15_hashCode_3_0 1 rfl rfl)
theorem dJ15_hashCode_3_2 : decode cJ15_hashCode_3 2 = .ok (.iadd, 1) := dk_96 (dk_at dksJ15_hashCode_3_0 2 rfl rfl)
theorem dJ15_hashCode_3_3 : decode cJ15_hashCode_3 3 = .ok (.istore 4, 2) := dk_54 4 (dk_at dksJ15_hashCode_3_0 3 rfl rfl)
theorem dJ15_hashCode_3_5 : decode cJ15_hashCode_3 5 = .ok (.iload_n 2, 1) := dk_28 (dk_at dksJ15_hashCode_3_0 5 rfl rfl)
theorem dJ15_hashCode_3_6 : decode cJ15_hashCode_3 6 = .ok (.istore 5, 2) := dk_54 5 (dk_at dksJ15_hashCode_3_0 6 rfl rfl)
theorem dJ15_hashCode_3_8 : decode cJ15_hashCode_3 8 = .ok (.iload 5, 2) := dk_21 5 (dk_at dksJ15_hashCode_3_0 8 rfl rfl)
theorem dJ15_hashCode_3_10 : decode cJ15_hashCode_3 10 = .ok (.iload 4, 2) := dk_21 4 (dk_at dksJ15_hashCode_3_0 10 rfl rfl)
theorem dJ15_hashCode_3_12 : decode cJ15_hashCode_3 12 = .ok (.if_icmp .ge 19, 3) := dk_162 0 19 (dk_at dksJ15_hashCode_3_0 12 rfl rfl)
theorem dJ15_hashCode_3_15 : decode cJ15_hashCode_3 15 = .ok (.bipush 31, 2) := dk_16 31 (dk_at dksJ15_hashCode_3_0 15 rfl rfl)
theorem dJ15_hashCode_3_17 : decode cJ15_hashCode_3 17 = .ok (.iload_n 0, 1) := dk_26 (dk_at dksJ15_hashCode_3_0 17 rfl rfl)
theorem dJ15_hashCode_3_18 : decode cJ15_hashCode_3 18 = .ok (.imul, 1) := dk_104 (dk_at dksJ15_hashCode_3_0 18 rfl rfl)
theorem dJ15_hashCode_3_19 : decode cJ15_hashCode_3 19 = .ok (.aload_n 1, 1) := dk_43 (dk_at dksJ15_hashCode_3_0 19 rfl rfl)
theorem dJ15_hashCode_3_20 : decode cJ15_hashCode_3 20 = .ok (.iload 5, 2) := dk_21 5 (dk_at dksJ15_hashCode_3_0 20 rfl rfl)
theorem dJ15_hashCode_3_22 : decode cJ15_hashCode_3 22 = .ok (.saload, 1) := dk_53 (dk_at dksJ15_hashCode_3_0 22 rfl rfl)
theorem dJ15_hashCode_3_23 : decode cJ15_hashCode_3 23 = .ok (.iadd, 1) := dk_96 (dk_at dksJ15_hashCode_3_0 23 rfl rfl)
theorem dJ15_hashCode_3_24 : decode cJ15_hashCode_3 24 = .ok (.istore_n 0, 1) := dk_59 (dk_at dksJ15_hashCode_3_1 0 rfl rfl)
theorem dJ15_hashCode_3_25 : decode cJ15_hashCode_3 25 = .ok (.iinc 5 1, 3) := dk_132 5 1 (dk_at dksJ15_hashCode_3_1 1 rfl rfl)
theorem dJ15_hashCode_3_28 : decode cJ15_hashCode_3 28 = .ok (.goto (-20), 3) := dk_167 255 236 (dk_at dksJ15_hashCode_3_1 4 rfl rfl)
theorem dJ15_hashCode_3_31 : decode cJ15_hashCode_3 31 = .ok (.iload_n 0, 1) := dk_26 (dk_at dksJ15_hashCode_3_1 7 rfl rfl)
theorem dJ15_hashCode_3_32 : decode cJ15_hashCode_3 32 = .ok (.ireturn, 1) := dk_172 (dk_at dksJ15_hashCode_3_1 8 rfl rfl)
abbrev cJ15_hashCode_4 : ByteArray := prog_69_method_9_code
def yJ15_hashCode_4 : MethodName := ⟨RJ15, "hashCode", "(I[III)I"⟩
def dkwJ15_hashCode_4_1 : List UInt8 := [59, 132, 5, 1, 167, 255, 236, 26, 172]
abbrev dktJ15_hashCode_4_1 : List UInt8 := dkwJ15_hashCode_4_1 ++ []
def dkwJ15_hashCode_4_0 : List UInt8 := [28, 29, 96, 54, 4, 28, 54, 5, 21, 5, 21, 4, 162, 0, 19, 16, 31, 26, 104, 43, 21, 5, 46, 96]
abbrev dktJ15_hashCode_4_0 : List UInt8 := dkwJ15_hashCode_4_0 ++ dktJ15_hashCode_4_1
theorem dksJ15_hashCode_4_0 : cJ15_hashCode_4.data.toList.drop 0 = dktJ15_hashCode_4_0 := by decide +kernel
theorem dksJ15_hashCode_4_1 : cJ15_hashCode_4.data.toList.drop 24 = dktJ15_hashCode_4_1 := dk_seg dksJ15_hashCode_4_0 24 rfl rfl
theorem dJ15_hashCode_4_0 : decode cJ15_hashCode_4 0 = .ok (.iload_n 2, 1) := dk_28 (dk_at dksJ15_hashCode_4_0 0 rfl rfl)
theorem dJ15_hashCode_4_1 : decode cJ15_hashCode_4 1 = .ok (.iload_n 3, 1) := dk_29 (dk_at dksJ15_hashCode_4_0 1 rfl rfl)
theorem dJ15_hashCode_4_2 : decode cJ15_hashCode_4 2 = .ok (.iadd, 1) := dk_96 (dk_at dksJ15_hashCode_4_0 2 rfl rfl)
theorem dJ15_hashCode_4_3 : decode cJ15_hashCode_4 3 = .ok (.istore 4, 2) := dk_54 4 (dk_at dksJ15_hashCode_4_0 3 rfl rfl)
theorem dJ15_hashCode_4_5 : decode cJ15_hashCode_4 5 = .ok (.iload_n 2, 1) := dk_28 (dk_at dksJ15_hashCode_4_0 5 rfl rfl)
theorem dJ15_hashCode_4_6 : decode cJ15_hashCode_4 6 = .ok (.istore 5, 2) := dk_54 5 (dk_at dksJ15_hashCode_4_0 6 rfl rfl)
theorem dJ15_hashCode_4_8 : decode cJ15_hashCode_4 8 = .ok (.iload 5, 2) := dk_21 5 (dk_at dksJ15_hashCode_4_0 8 rfl rfl)
theorem dJ15_hashCode_4_10 : decode cJ15_hashCode_4 10 = .ok (.iload 4, 2) := dk_21 4 (dk_at dksJ15_hashCode_4_0 10 rfl rfl)
theorem dJ15_hashCode_4_12 : decode cJ15_hashCode_4 12 = .ok (.if_icmp .ge 19, 3) := dk_162 0 19 (dk_at dksJ15_hashCode_4_0 12 rfl rfl)
theorem dJ15_hashCode_4_15 : decode cJ15_hashCode_4 15 = .ok (.bipush 31, 2) := dk_16 31 (dk_at dksJ15_hashCode_4_0 15 rfl rfl)
theorem dJ15_hashCode_4_17 : decode cJ15_hashCode_4 17 = .ok (.iload_n 0, 1) := dk_26 (dk_at dksJ15_hashCode_4_0 17 rfl rfl)
theorem dJ15_hashCode_4_18 : decode cJ15_hashCode_4 18 = .ok (.imul, 1) := dk_104 (dk_at dksJ15_hashCode_4_0 18 rfl rfl)
theorem dJ15_hashCode_4_19 : decode cJ15_hashCode_4 19 = .ok (.aload_n 1, 1) := dk_43 (dk_at dksJ15_hashCode_4_0 19 rfl rfl)
theorem dJ15_hashCode_4_20 : decode cJ15_hashCode_4 20 = .ok (.iload 5, 2) := dk_21 5 (dk_at dksJ15_hashCode_4_0 20 rfl rfl)
theorem dJ15_hashCode_4_22 : decode cJ15_hashCode_4 22 = .ok (.iaload, 1) := dk_46 (dk_at dksJ15_hashCode_4_0 22 rfl rfl)
theorem dJ15_hashCode_4_23 : decode cJ15_hashCode_4 23 = .ok (.iadd, 1) := dk_96 (dk_at dksJ15_hashCode_4_0 23 rfl rfl)
theorem dJ15_hashCode_4_24 : decode cJ15_hashCode_4 24 = .ok (.istore_n 0, 1) := dk_59 (dk_at dksJ15_hashCode_4_1 0 rfl rfl)
theorem dJ15_hashCode_4_25 : decode cJ15_hashCode_4 25 = .ok (.iinc 5 1, 3) := dk_132 5 1 (dk_at dksJ15_hashCode_4_1 1 rfl rfl)
theorem dJ15_hashCode_4_28 : decode cJ15_hashCode_4 28 = .ok (.goto (-20), 3) := dk_167 255 236 (dk_at dksJ15_hashCode_4_1 4 rfl rfl)
theorem dJ15_hashCode_4_31 : decode cJ15_hashCode_4 31 = .ok (.iload_n 0, 1) := dk_26 (dk_at dksJ15_hashCode_4_1 7 rfl rfl)
theorem dJ15_hashCode_4_32 : decode cJ15_hashCode_4 32 = .ok (.ireturn, 1) := dk_172 (dk_at dksJ15_hashCode_4_1 8 rfl rfl)
theorem q113 : (Jvm.Cond.initialized "jdk/internal/util/ArraysSupport") ∈ lw_all := lw_g (lw_at lw_m1 19 rfl) rfl
theorem q433 : (Jvm.Cond.static ({ cls := "jdk/internal/util/ArraysSupport", name := "newLength", desc := "(III)I" } : Jvm.MethodName)) ∈ lw_all := lw_g (lw_at lw_m2 99 rfl) rfl
theorem q434 : (Jvm.Cond.code ({ cls := "jdk/internal/util/ArraysSupport", name := "newLength", desc := "(III)I" } : Jvm.MethodName) prog_69_method_27_code (4 : Nat) (Option.some Jvm.ClassFile.FieldType.int)) ∈ lw_all := lw_g (lw_at lw_m2 100 rfl) rfl
theorem q435 : (Jvm.Cond.methodLink "jdk/internal/util/ArraysSupport" (194 : Nat) ({ cls := "java/lang/Math", name := "max", desc := "(II)I" } : Jvm.MethodName)) ∈ lw_all := lw_g (lw_at lw_m2 101 rfl) rfl
theorem q438 : (Jvm.Cond.constant "jdk/internal/util/ArraysSupport" (200 : Nat) (2147483639 : Int32)) ∈ lw_all := lw_g (lw_at lw_m2 104 rfl) rfl
theorem q439 : (Jvm.Cond.methodLink "jdk/internal/util/ArraysSupport" (201 : Nat) ({ cls := "jdk/internal/util/ArraysSupport", name := "hugeLength", desc := "(II)I" } : Jvm.MethodName)) ∈ lw_all := lw_g (lw_at lw_m2 105 rfl) rfl
theorem q440 : (Jvm.Cond.static ({ cls := "jdk/internal/util/ArraysSupport", name := "hugeLength", desc := "(II)I" } : Jvm.MethodName)) ∈ lw_all := lw_g (lw_at lw_m2 106 rfl) rfl
theorem q441 : (Jvm.Cond.code ({ cls := "jdk/internal/util/ArraysSupport", name := "hugeLength", desc := "(II)I" } : Jvm.MethodName) prog_69_method_28_code (3 : Nat) (Option.some Jvm.ClassFile.FieldType.int)) ∈ lw_all := lw_g (lw_at lw_m2 107 rfl) rfl
theorem q2437 : (Jvm.Cond.static ({ cls := "jdk/internal/util/ArraysSupport", name := "vectorizedHashCode", desc := "(Ljava/lang/Object;IIII)I" } : Jvm.MethodName)) ∈ lw_all := lw_g (lw_at lw_m10 183 rfl) rfl
theorem q2438 : (Jvm.Cond.code ({ cls := "jdk/internal/util/ArraysSupport", name := "vectorizedHashCode", desc := "(Ljava/lang/Object;IIII)I" } : Jvm.MethodName) prog_69_method_4_code (5 : Nat) (Option.some Jvm.ClassFile.FieldType.int)) ∈ lw_all := lw_g (lw_at lw_m10 184 rfl) rfl
theorem q2439 : (Jvm.Cond.classLink "jdk/internal/util/ArraysSupport" (60 : Nat) "[B") ∈ lw_all := lw_g (lw_at lw_m10 185 rfl) rfl
theorem q2440 : (Jvm.Cond.methodLink "jdk/internal/util/ArraysSupport" (62 : Nat) ({ cls := "jdk/internal/util/ArraysSupport", name := "signedHashCode", desc := "(I[BII)I" } : Jvm.MethodName)) ∈ lw_all := lw_g (lw_at lw_m10 186 rfl) rfl
theorem q2441 : (Jvm.Cond.static ({ cls := "jdk/internal/util/ArraysSupport", name := "signedHashCode", desc := "(I[BII)I" } : Jvm.MethodName)) ∈ lw_all := lw_g (lw_at lw_m10 187 rfl) rfl
theorem q2442 : (Jvm.Cond.code ({ cls := "jdk/internal/util/ArraysSupport", name := "signedHashCode", desc := "(I[BII)I" } : Jvm.MethodName) prog_69_method_5_code (6 : Nat) (Option.some Jvm.ClassFile.FieldType.int)) ∈ lw_all := lw_g (lw_at lw_m10 188 rfl) rfl
theorem q2443 : (Jvm.Cond.methodLink "jdk/internal/util/ArraysSupport" (66 : Nat) ({ cls := "jdk/internal/util/ArraysSupport", name := "utf16hashCode", desc := "(I[BII)I" } : Jvm.MethodName)) ∈ lw_all := lw_g (lw_at lw_m10 189 rfl) rfl
theorem q2444 : (Jvm.Cond.static ({ cls := "jdk/internal/util/ArraysSupport", name := "utf16hashCode", desc := "(I[BII)I" } : Jvm.MethodName)) ∈ lw_all := lw_g (lw_at lw_m10 190 rfl) rfl
theorem q2445 : (Jvm.Cond.code ({ cls := "jdk/internal/util/ArraysSupport", name := "utf16hashCode", desc := "(I[BII)I" } : Jvm.MethodName) prog_69_method_10_code (6 : Nat) (Option.some Jvm.ClassFile.FieldType.int)) ∈ lw_all := lw_g (lw_at lw_m10 191 rfl) rfl
theorem q2446 : (Jvm.Cond.fieldLink "jdk/internal/util/ArraysSupport" (106 : Nat) "jdk/internal/util/ArraysSupport" "JLA" "Ljdk/internal/access/JavaLangAccess;") ∈ lw_all := lw_g (lw_at lw_m10 192 rfl) rfl
theorem q2447 : (Jvm.Cond.laysStatic "jdk/internal/util/ArraysSupport" "JLA" "Ljdk/internal/access/JavaLangAccess;") ∈ lw_tbl := lw_at lw_m10 193 rfl
theorem q2448 : (Jvm.Cond.interfaceEntry "jdk/internal/util/ArraysSupport" (110 : Nat)) ∈ lw_tbl := lw_at lw_m10 194 rfl
theorem q2449 : (Jvm.Cond.methodLink "jdk/internal/util/ArraysSupport" (110 : Nat) ({ cls := "jdk/internal/access/JavaLangAccess", name := "getUTF16Char", desc := "([BI)C" } : Jvm.MethodName)) ∈ lw_all := lw_g (lw_at lw_m10 195 rfl) rfl
theorem q2459 : (Jvm.Cond.classLink "jdk/internal/util/ArraysSupport" (69 : Nat) "[C") ∈ lw_all := lw_g (lw_at lw_m10 205 rfl) rfl
theorem q2460 : (Jvm.Cond.methodLink "jdk/internal/util/ArraysSupport" (71 : Nat) ({ cls := "jdk/internal/util/ArraysSupport", name := "hashCode", desc := "(I[CII)I" } : Jvm.MethodName)) ∈ lw_all := lw_g (lw_at lw_m10 206 rfl) rfl
theorem q2461 : (Jvm.Cond.static ({ cls := "jdk/internal/util/ArraysSupport", name := "hashCode", desc := "(I[CII)I" } : Jvm.MethodName)) ∈ lw_all := lw_g (lw_at lw_m10 207 rfl) rfl
theorem q2462 : (Jvm.Cond.code ({ cls := "jdk/internal/util/ArraysSupport", name := "hashCode", desc := "(I[CII)I" } : Jvm.MethodName) prog_69_method_7_code (6 : Nat) (Option.some Jvm.ClassFile.FieldType.int)) ∈ lw_all := lw_g (lw_at lw_m10 208 rfl) rfl
theorem q2463 : (Jvm.Cond.methodLink "jdk/internal/util/ArraysSupport" (75 : Nat) ({ cls := "jdk/internal/util/ArraysSupport", name := "hashCode", desc := "(I[BII)I" } : Jvm.MethodName)) ∈ lw_all := lw_g (lw_at lw_m10 209 rfl) rfl
theorem q2464 : (Jvm.Cond.static ({ cls := "jdk/internal/util/ArraysSupport", name := "hashCode", desc := "(I[BII)I" } : Jvm.MethodName)) ∈ lw_all := lw_g (lw_at lw_m10 210 rfl) rfl
theorem q2465 : (Jvm.Cond.code ({ cls := "jdk/internal/util/ArraysSupport", name := "hashCode", desc := "(I[BII)I" } : Jvm.MethodName) prog_69_method_6_code (6 : Nat) (Option.some Jvm.ClassFile.FieldType.int)) ∈ lw_all := lw_g (lw_at lw_m10 211 rfl) rfl
theorem q2466 : (Jvm.Cond.classLink "jdk/internal/util/ArraysSupport" (77 : Nat) "[S") ∈ lw_all := lw_g (lw_at lw_m10 212 rfl) rfl
theorem q2467 : (Jvm.Cond.methodLink "jdk/internal/util/ArraysSupport" (79 : Nat) ({ cls := "jdk/internal/util/ArraysSupport", name := "hashCode", desc := "(I[SII)I" } : Jvm.MethodName)) ∈ lw_all := lw_g (lw_at lw_m10 213 rfl) rfl
theorem q2468 : (Jvm.Cond.static ({ cls := "jdk/internal/util/ArraysSupport", name := "hashCode", desc := "(I[SII)I" } : Jvm.MethodName)) ∈ lw_all := lw_g (lw_at lw_m10 214 rfl) rfl
theorem q2469 : (Jvm.Cond.code ({ cls := "jdk/internal/util/ArraysSupport", name := "hashCode", desc := "(I[SII)I" } : Jvm.MethodName) prog_69_method_8_code (6 : Nat) (Option.some Jvm.ClassFile.FieldType.int)) ∈ lw_all := lw_g (lw_at lw_m10 215 rfl) rfl
theorem q2470 : (Jvm.Cond.classLink "jdk/internal/util/ArraysSupport" (82 : Nat) "[I") ∈ lw_all := lw_g (lw_at lw_m10 216 rfl) rfl
theorem q2471 : (Jvm.Cond.methodLink "jdk/internal/util/ArraysSupport" (84 : Nat) ({ cls := "jdk/internal/util/ArraysSupport", name := "hashCode", desc := "(I[III)I" } : Jvm.MethodName)) ∈ lw_all := lw_g (lw_at lw_m10 217 rfl) rfl
theorem q2472 : (Jvm.Cond.static ({ cls := "jdk/internal/util/ArraysSupport", name := "hashCode", desc := "(I[III)I" } : Jvm.MethodName)) ∈ lw_all := lw_g (lw_at lw_m10 218 rfl) rfl
theorem q2473 : (Jvm.Cond.code ({ cls := "jdk/internal/util/ArraysSupport", name := "hashCode", desc := "(I[III)I" } : Jvm.MethodName) prog_69_method_9_code (6 : Nat) (Option.some Jvm.ClassFile.FieldType.int)) ∈ lw_all := lw_g (lw_at lw_m10 219 rfl) rfl
theorem q2474 : (Jvm.Cond.classLink "jdk/internal/util/ArraysSupport" (87 : Nat) "java/lang/IllegalArgumentException") ∈ lw_all := lw_g (lw_at lw_m10 220 rfl) rfl
theorem q2475 : (Jvm.Cond.classLink "jdk/internal/util/ArraysSupport" (89 : Nat) "java/lang/StringBuilder") ∈ lw_all := lw_g (lw_at lw_m10 221 rfl) rfl
theorem q2476 : (Jvm.Cond.methodLink "jdk/internal/util/ArraysSupport" (91 : Nat) ({ cls := "java/lang/StringBuilder", name := "<init>", desc := "()V" } : Jvm.MethodName)) ∈ lw_all := lw_g (lw_at lw_m10 222 rfl) rfl
theorem q2477 : (Jvm.Cond.stringRef "jdk/internal/util/ArraysSupport" (92 : Nat) "unrecognized basic type: ") ∈ lw_tbl := lw_at lw_m10 223 rfl
theorem q2478 : (Jvm.Cond.methodLink "jdk/internal/util/ArraysSupport" (94 : Nat) ({ cls := "java/lang/StringBuilder", name := "append", desc := "(Ljava/lang/String;)Ljava/lang/StringBuilder;" } : Jvm.MethodName)) ∈ lw_all := lw_g (lw_at lw_m10 224 rfl) rfl
theorem q2479 : (Jvm.Cond.methodLink "jdk/internal/util/ArraysSupport" (98 : Nat) ({ cls := "java/lang/StringBuilder", name := "append", desc := "(I)Ljava/lang/StringBuilder;" } : Jvm.MethodName)) ∈ lw_all := lw_g (lw_at lw_m10 225 rfl) rfl
theorem q2480 : (Jvm.Cond.methodLink "jdk/internal/util/ArraysSupport" (101 : Nat) ({ cls := "java/lang/StringBuilder", name := "toString", desc := "()Ljava/lang/String;" } : Jvm.MethodName)) ∈ lw_all := lw_g (lw_at lw_m10 226 rfl) rfl
theorem q2481 : (Jvm.Cond.methodLink "jdk/internal/util/ArraysSupport" (105 : Nat) ({ cls := "java/lang/IllegalArgumentException", name := "<init>", desc := "(Ljava/lang/String;)V" } : Jvm.MethodName)) ∈ lw_all := lw_g (lw_at lw_m10 227 rfl) rfl

/-! java/lang/Math -/
set_option maxRecDepth 100000
def RJ16 : String := "java/lang/Math"
abbrev cJ16_max : ByteArray := prog_24_method_65_code
def yJ16_max : MethodName := ⟨RJ16, "max", "(II)I"⟩
def dkwJ16_max_0 : List UInt8 := [26, 27, 161, 0, 7, 26, 167, 0, 4, 27, 172]
abbrev dktJ16_max_0 : List UInt8 := dkwJ16_max_0 ++ []
theorem dksJ16_max_0 : cJ16_max.data.toList.drop 0 = dktJ16_max_0 := by decide +kernel
theorem dJ16_max_0 : decode cJ16_max 0 = .ok (.iload_n 0, 1) := dk_26 (dk_at dksJ16_max_0 0 rfl rfl)
theorem dJ16_max_1 : decode cJ16_max 1 = .ok (.iload_n 1, 1) := dk_27 (dk_at dksJ16_max_0 1 rfl rfl)
theorem dJ16_max_2 : decode cJ16_max 2 = .ok (.if_icmp .lt 7, 3) := dk_161 0 7 (dk_at dksJ16_max_0 2 rfl rfl)
theorem dJ16_max_5 : decode cJ16_max 5 = .ok (.iload_n 0, 1) := dk_26 (dk_at dksJ16_max_0 5 rfl rfl)
theorem dJ16_max_6 : decode cJ16_max 6 = .ok (.goto 4, 3) := dk_167 0 4 (dk_at dksJ16_max_0 6 rfl rfl)
theorem dJ16_max_9 : decode cJ16_max 9 = .ok (.iload_n 1, 1) := dk_27 (dk_at dksJ16_max_0 9 rfl rfl)
theorem dJ16_max_10 : decode cJ16_max 10 = .ok (.ireturn, 1) := dk_172 (dk_at dksJ16_max_0 10 rfl rfl)
abbrev cJ16_min : ByteArray := prog_24_method_69_code
def yJ16_min : MethodName := ⟨RJ16, "min", "(II)I"⟩
def dkwJ16_min_0 : List UInt8 := [26, 27, 163, 0, 7, 26, 167, 0, 4, 27, 172]
abbrev dktJ16_min_0 : List UInt8 := dkwJ16_min_0 ++ []
theorem dksJ16_min_0 : cJ16_min.data.toList.drop 0 = dktJ16_min_0 := by decide +kernel
theorem dJ16_min_0 : decode cJ16_min 0 = .ok (.iload_n 0, 1) := dk_26 (dk_at dksJ16_min_0 0 rfl rfl)
theorem dJ16_min_1 : decode cJ16_min 1 = .ok (.iload_n 1, 1) := dk_27 (dk_at dksJ16_min_0 1 rfl rfl)
theorem dJ16_min_2 : decode cJ16_min 2 = .ok (.if_icmp .gt 7, 3) := dk_163 0 7 (dk_at dksJ16_min_0 2 rfl rfl)
theorem dJ16_min_5 : decode cJ16_min 5 = .ok (.iload_n 0, 1) := dk_26 (dk_at dksJ16_min_0 5 rfl rfl)
theorem dJ16_min_6 : decode cJ16_min 6 = .ok (.goto 4, 3) := dk_167 0 4 (dk_at dksJ16_min_0 6 rfl rfl)
theorem dJ16_min_9 : decode cJ16_min 9 = .ok (.iload_n 1, 1) := dk_27 (dk_at dksJ16_min_0 9 rfl rfl)
theorem dJ16_min_10 : decode cJ16_min 10 = .ok (.ireturn, 1) := dk_172 (dk_at dksJ16_min_0 10 rfl rfl)
theorem q114 : (Jvm.Cond.initialized "java/lang/Math") ∈ lw_all := lw_g (lw_at lw_m1 20 rfl) rfl
theorem q436 : (Jvm.Cond.static ({ cls := "java/lang/Math", name := "max", desc := "(II)I" } : Jvm.MethodName)) ∈ lw_all := lw_g (lw_at lw_m2 102 rfl) rfl
theorem q437 : (Jvm.Cond.code ({ cls := "java/lang/Math", name := "max", desc := "(II)I" } : Jvm.MethodName) prog_24_method_65_code (2 : Nat) (Option.some Jvm.ClassFile.FieldType.int)) ∈ lw_all := lw_g (lw_at lw_m2 103 rfl) rfl
theorem q454 : (Jvm.Cond.static ({ cls := "java/lang/Math", name := "min", desc := "(II)I" } : Jvm.MethodName)) ∈ lw_all := lw_g (lw_at lw_m2 120 rfl) rfl
theorem q455 : (Jvm.Cond.code ({ cls := "java/lang/Math", name := "min", desc := "(II)I" } : Jvm.MethodName) prog_24_method_69_code (2 : Nat) (Option.some Jvm.ClassFile.FieldType.int)) ∈ lw_all := lw_g (lw_at lw_m2 121 rfl) rfl

/-! java/util/Arrays -/
set_option maxRecDepth 100000
def RJ17 : String := "java/util/Arrays"
abbrev cJ17_copyOf : ByteArray := prog_47_method_121_code
def yJ17_copyOf : MethodName := ⟨RJ17, "copyOf", "([BI)[B"⟩
def dkwJ17_copyOf_1 : List UInt8 := [27, 184, 1, 48, 184, 0, 150, 44, 176]
abbrev dktJ17_copyOf_1 : List UInt8 := dkwJ17_copyOf_1 ++ []
def dkwJ17_copyOf_0 : List UInt8 := [27, 42, 190, 160, 0, 11, 42, 182, 1, 54, 192, 1, 55, 176, 27, 188, 8, 77, 42, 3, 44, 3, 42, 190]
abbrev dktJ17_copyOf_0 : List UInt8 := dkwJ17_copyOf_0 ++ dktJ17_copyOf_1
theorem dksJ17_copyOf_0 : cJ17_copyOf.data.toList.drop 0 = dktJ17_copyOf_0 := by decide +kernel
theorem dksJ17_copyOf_1 : cJ17_copyOf.data.toList.drop 24 = dktJ17_copyOf_1 := dk_seg dksJ17_copyOf_0 24 rfl rfl
theorem dJ17_copyOf_0 : decode cJ17_copyOf 0 = .ok (.iload_n 1, 1) := dk_27 (dk_at dksJ17_copyOf_0 0 rfl rfl)
theorem dJ17_copyOf_1 : decode cJ17_copyOf 1 = .ok (.aload_n 0, 1) := dk_42 (dk_at dksJ17_copyOf_0 1 rfl rfl)
theorem dJ17_copyOf_2 : decode cJ17_copyOf 2 = .ok (.arraylength, 1) := dk_190 (dk_at dksJ17_copyOf_0 2 rfl rfl)
theorem dJ17_copyOf_3 : decode cJ17_copyOf 3 = .ok (.if_icmp .ne 11, 3) := dk_160 0 11 (dk_at dksJ17_copyOf_0 3 rfl rfl)
theorem dJ17_copyOf_6 : decode cJ17_copyOf 6 = .ok (.aload_n 0, 1) := dk_42 (dk_at dksJ17_copyOf_0 6 rfl rfl)
theorem dJ17_copyOf_7 : decode cJ17_copyOf 7 = .ok (.invokevirtual 310, 3) := dk_182 1 54 (dk_at dksJ17_copyOf_0 7 rfl rfl)
theorem dJ17_copyOf_10 : decode cJ17_copyOf 10 = .ok (.checkcast 311, 3) := dk_192 1 55 (dk_at dksJ17_copyOf_0 10 rfl rfl)
theorem dJ17_copyOf_13 : decode cJ17_copyOf 13 = .ok (.areturn, 1) := dk_176 (dk_at dksJ17_copyOf_0 13 rfl rfl)
theorem dJ17_copyOf_14 : decode cJ17_copyOf 14 = .ok (.iload_n 1, 1) := dk_27 (dk_at dksJ17_copyOf_0 14 rfl rfl)
theorem dJ17_copyOf_15 : decode cJ17_copyOf 15 = .ok (.newarray .byte, 2) := dk_188_8 (dk_at dksJ17_copyOf_0 15 rfl rfl)
theorem dJ17_copyOf_17 : decode cJ17_copyOf 17 = .ok (.astore_n 2, 1) := dk_77 (dk_at dksJ17_copyOf_0 17 rfl rfl)
theorem dJ17_copyOf_18 : decode cJ17_copyOf 18 = .ok (.aload_n 0, 1) := dk_42 (dk_at dksJ17_copyOf_0 18 rfl rfl)
theorem dJ17_copyOf_19 : decode cJ17_copyOf 19 = .ok (.iconst 0, 1) := dk_3 (dk_at dksJ17_copyOf_0 19 rfl rfl)
theorem dJ17_copyOf_20 : decode cJ17_copyOf 20 = .ok (.aload_n 2, 1) := dk_44 (dk_at dksJ17_copyOf_0 20 rfl rfl)
theorem dJ17_copyOf_21 : decode cJ17_copyOf 21 = .ok (.iconst 0, 1) := dk_3 (dk_at dksJ17_copyOf_0 21 rfl rfl)
theorem dJ17_copyOf_22 : decode cJ17_copyOf 22 = .ok (.aload_n 0, 1) := dk_42 (dk_at dksJ17_copyOf_0 22 rfl rfl)
theorem dJ17_copyOf_23 : decode cJ17_copyOf 23 = .ok (.arraylength, 1) := dk_190 (dk_at dksJ17_copyOf_0 23 rfl rfl)
theorem dJ17_copyOf_24 : decode cJ17_copyOf 24 = .ok (.iload_n 1, 1) := dk_27 (dk_at dksJ17_copyOf_1 0 rfl rfl)
theorem dJ17_copyOf_25 : decode cJ17_copyOf 25 = .ok (.invokestatic 304, 3) := dk_184 1 48 (dk_at dksJ17_copyOf_1 1 rfl rfl)
theorem dJ17_copyOf_28 : decode cJ17_copyOf 28 = .ok (.invokestatic 150, 3) := dk_184 0 150 (dk_at dksJ17_copyOf_1 4 rfl rfl)
theorem dJ17_copyOf_31 : decode cJ17_copyOf 31 = .ok (.aload_n 2, 1) := dk_44 (dk_at dksJ17_copyOf_1 7 rfl rfl)
theorem dJ17_copyOf_32 : decode cJ17_copyOf 32 = .ok (.areturn, 1) := dk_176 (dk_at dksJ17_copyOf_1 8 rfl rfl)
abbrev cJ17_copyOfRange : ByteArray := prog_47_method_132_code
def yJ17_copyOfRange : MethodName := ⟨RJ17, "copyOfRange", "([BII)[B"⟩
def dkwJ17_copyOfRange_1 : List UInt8 := [176]
abbrev dktJ17_copyOfRange_1 : List UInt8 := dkwJ17_copyOfRange_1 ++ []
def dkwJ17_copyOfRange_0 : List UInt8 := [27, 154, 0, 9, 28, 42, 190, 159, 0, 10, 42, 27, 28, 184, 1, 83, 176, 42, 182, 1, 54, 192, 1, 55]
abbrev dktJ17_copyOfRange_0 : List UInt8 := dkwJ17_copyOfRange_0 ++ dktJ17_copyOfRange_1
theorem dksJ17_copyOfRange_0 : cJ17_copyOfRange.data.toList.drop 0 = dktJ17_copyOfRange_0 := by decide +kernel
theorem dksJ17_copyOfRange_1 : cJ17_copyOfRange.data.toList.drop 24 = dktJ17_copyOfRange_1 := dk_seg dksJ17_copyOfRange_0 24 rfl rfl
theorem dJ17_copyOfRange_0 : decode cJ17_copyOfRange 0 = .ok (.iload_n 1, 1) := dk_27 (dk_at dksJ17_copyOfRange_0 0 rfl rfl)
theorem dJ17_copyOfRange_1 : decode cJ17_copyOfRange 1 = .ok (.ifCond .ne 9, 3) := dk_154 0 9 (dk_at dksJ17_copyOfRange_0 1 rfl rfl)
theorem dJ17_copyOfRange_4 : decode cJ17_copyOfRange 4 = .ok (.iload_n 2, 1) := dk_28 (dk_at dksJ17_copyOfRange_0 4 rfl rfl)
theorem dJ17_copyOfRange_5 : decode cJ17_copyOfRange 5 = .ok (.aload_n 0, 1) := dk_42 (dk_at dksJ17_copyOfRange_0 5 rfl rfl)
theorem dJ17_copyOfRange_6 : decode cJ17_copyOfRange 6 = .ok (.arraylength, 1) := dk_190 (dk_at dksJ17_copyOfRange_0 6 rfl rfl)
theorem dJ17_copyOfRange_7 : decode cJ17_copyOfRange 7 = .ok (.if_icmp .eq 10, 3) := dk_159 0 10 (dk_at dksJ17_copyOfRange_0 7 rfl rfl)
theorem dJ17_copyOfRange_10 : decode cJ17_copyOfRange 10 = .ok (.aload_n 0, 1) := dk_42 (dk_at dksJ17_copyOfRange_0 10 rfl rfl)
theorem dJ17_copyOfRange_11 : decode cJ17_copyOfRange 11 = .ok (.iload_n 1, 1) := dk_27 (dk_at dksJ17_copyOfRange_0 11 rfl rfl)
theorem dJ17_copyOfRange_12 : decode cJ17_copyOfRange 12 = .ok (.iload_n 2, 1) := dk_28 (dk_at dksJ17_copyOfRange_0 12 rfl rfl)
theorem dJ17_copyOfRange_13 : decode cJ17_copyOfRange 13 = .ok (.invokestatic 339, 3) := dk_184 1 83 (dk_at dksJ17_copyOfRange_0 13 rfl rfl)
theorem dJ17_copyOfRange_16 : decode cJ17_copyOfRange 16 = .ok (.areturn, 1) := dk_176 (dk_at dksJ17_copyOfRange_0 16 rfl rfl)
theorem dJ17_copyOfRange_17 : decode cJ17_copyOfRange 17 = .ok (.aload_n 0, 1) := dk_42 (dk_at dksJ17_copyOfRange_0 17 rfl rfl)
theorem dJ17_copyOfRange_18 : decode cJ17_copyOfRange 18 = .ok (.invokevirtual 310, 3) := dk_182 1 54 (dk_at dksJ17_copyOfRange_0 18 rfl rfl)
theorem dJ17_copyOfRange_21 : decode cJ17_copyOfRange 21 = .ok (.checkcast 311, 3) := dk_192 1 55 (dk_at dksJ17_copyOfRange_0 21 rfl rfl)
theorem dJ17_copyOfRange_24 : decode cJ17_copyOfRange 24 = .ok (.areturn, 1) := dk_176 (dk_at dksJ17_copyOfRange_1 0 rfl rfl)
abbrev cJ17_copyOfRangeByte : ByteArray := prog_47_method_133_code
def yJ17_copyOfRangeByte : MethodName := ⟨RJ17, "copyOfRangeByte", "([BII)[B"⟩
def dkwJ17_copyOfRangeByte_1 : List UInt8 := [184, 1, 48, 184, 0, 150, 25, 4, 176]
abbrev dktJ17_copyOfRangeByte_1 : List UInt8 := dkwJ17_copyOfRangeByte_1 ++ []
def dkwJ17_copyOfRangeByte_0 : List UInt8 := [27, 28, 184, 1, 87, 28, 27, 100, 62, 29, 188, 8, 58, 4, 42, 27, 25, 4, 3, 42, 190, 27, 100, 29]
abbrev dktJ17_copyOfRangeByte_0 : List UInt8 := dkwJ17_copyOfRangeByte_0 ++ dktJ17_copyOfRangeByte_1
theorem dksJ17_copyOfRangeByte_0 : cJ17_copyOfRangeByte.data.toList.drop 0 = dktJ17_copyOfRangeByte_0 := by decide +kernel
theorem dksJ17_copyOfRangeByte_1 : cJ17_copyOfRangeByte.data.toList.drop 24 = dktJ17_copyOfRangeByte_1 := dk_seg dksJ17_copyOfRangeByte_0 24 rfl rfl
theorem dJ17_copyOfRangeByte_0 : decode cJ17_copyOfRangeByte 0 = .ok (.iload_n 1, 1) := dk_27 (dk_at dksJ17_copyOfRangeByte_0 0 rfl rfl)
theorem dJ17_copyOfRangeByte_1 : decode cJ17_copyOfRangeByte 1 = .ok (.iload_n 2, 1) := dk_28 (dk_at dksJ17_copyOfRangeByte_0 1 rfl rfl)
theorem dJ17_copyOfRangeByte_2 : decode cJ17_copyOfRangeByte 2 = .ok (.invokestatic 343, 3) := dk_184 1 87 (dk_at dksJ17_copyOfRangeByte_0 2 rfl rfl)
theorem dJ17_copyOfRangeByte_5 : decode cJ17_copyOfRangeByte 5 = .ok (.iload_n 2, 1) := dk_28 (dk_at dksJ17_copyOfRangeByte_0 5 rfl rfl)
theorem dJ17_copyOfRangeByte_6 : decode cJ17_copyOfRangeByte 6 = .ok (.iload_n 1, 1) := dk_27 (dk_at dksJ17_copyOfRangeByte_0 6 rfl rfl)
theorem dJ17_copyOfRangeByte_7 : decode cJ17_copyOfRangeByte 7 = .ok (.isub, 1) := dk_100 (dk_at dksJ17_copyOfRangeByte_0 7 rfl rfl)
theorem dJ17_copyOfRangeByte_8 : decode cJ17_copyOfRangeByte 8 = .ok (.istore_n 3, 1) := dk_62 (dk_at dksJ17_copyOfRangeByte_0 8 rfl rfl)
theorem dJ17_copyOfRangeByte_9 : decode cJ17_copyOfRangeByte 9 = .ok (.iload_n 3, 1) := dk_29 (dk_at dksJ17_copyOfRangeByte_0 9 rfl rfl)
theorem dJ17_copyOfRangeByte_10 : decode cJ17_copyOfRangeByte 10 = .ok (.newarray .byte, 2) := dk_188_8 (dk_at dksJ17_copyOfRangeByte_0 10 rfl rfl)
theorem dJ17_copyOfRangeByte_12 : decode cJ17_copyOfRangeByte 12 = .ok (.astore 4, 2) := dk_58 4 (dk_at dksJ17_copyOfRangeByte_0 12 rfl rfl)
theorem dJ17_copyOfRangeByte_14 : decode cJ17_copyOfRangeByte 14 = .ok (.aload_n 0, 1) := dk_42 (dk_at dksJ17_copyOfRangeByte_0 14 rfl rfl)
theorem dJ17_copyOfRangeByte_15 : decode cJ17_copyOfRangeByte 15 = .ok (.iload_n 1, 1) := dk_27 (dk_at dksJ17_copyOfRangeByte_0 15 rfl rfl)
theorem dJ17_copyOfRangeByte_16 : decode cJ17_copyOfRangeByte 16 = .ok (.aload 4, 2) := dk_25 4 (dk_at dksJ17_copyOfRangeByte_0 16 rfl rfl)
theorem dJ17_copyOfRangeByte_18 : decode cJ17_copyOfRangeByte 18 = .ok (.iconst 0, 1) := dk_3 (dk_at dksJ17_copyOfRangeByte_0 18 rfl rfl)
theorem dJ17_copyOfRangeByte_19 : decode cJ17_copyOfRangeByte 19 = .ok (.aload_n 0, 1) := dk_42 (dk_at dksJ17_copyOfRangeByte_0 19 rfl rfl)
theorem dJ17_copyOfRangeByte_20 : decode cJ17_copyOfRangeByte 20 = .ok (.arraylength, 1) := dk_190 (dk_at dksJ17_copyOfRangeByte_0 20 rfl rfl)
theorem dJ17_copyOfRangeByte_21 : decode cJ17_copyOfRangeByte 21 = .ok (.iload_n 1, 1) := dk_27 (dk_at dksJ17_copyOfRangeByte_0 21 rfl rfl)
theorem dJ17_copyOfRangeByte_22 : decode cJ17_copyOfRangeByte 22 = .ok (.isub, 1) := dk_100 (dk_at dksJ17_copyOfRangeByte_0 22 rfl rfl)
theorem dJ17_copyOfRangeByte_23 : decode cJ17_copyOfRangeByte 23 = .ok (.iload_n 3, 1) := dk_29 (dk_at dksJ17_copyOfRangeByte_0 23 rfl rfl)
theorem dJ17_copyOfRangeByte_24 : decode cJ17_copyOfRangeByte 24 = .ok (.invokestatic 304, 3) := dk_184 1 48 (dk_at dksJ17_copyOfRangeByte_1 0 rfl rfl)
theorem dJ17_copyOfRangeByte_27 : decode cJ17_copyOfRangeByte 27 = .ok (.invokestatic 150, 3) := dk_184 0 150 (dk_at dksJ17_copyOfRangeByte_1 3 rfl rfl)
theorem dJ17_copyOfRangeByte_30 : decode cJ17_copyOfRangeByte 30 = .ok (.aload 4, 2) := dk_25 4 (dk_at dksJ17_copyOfRangeByte_1 6 rfl rfl)
theorem dJ17_copyOfRangeByte_32 : decode cJ17_copyOfRangeByte 32 = .ok (.areturn, 1) := dk_176 (dk_at dksJ17_copyOfRangeByte_1 8 rfl rfl)
abbrev cJ17_checkLength : ByteArray := prog_47_method_131_code
def yJ17_checkLength : MethodName := ⟨RJ17, "checkLength", "(II)V"⟩
def dkwJ17_checkLength_1 : List UInt8 := [182, 0, 50, 27, 182, 0, 54, 182, 0, 61, 183, 0, 65, 191, 177]
abbrev dktJ17_checkLength_1 : List UInt8 := dkwJ17_checkLength_1 ++ []
def dkwJ17_checkLength_0 : List UInt8 := [27, 26, 162, 0, 35, 187, 0, 43, 89, 187, 0, 45, 89, 183, 0, 47, 26, 182, 0, 54, 19, 1, 81]
abbrev dktJ17_checkLength_0 : List UInt8 := dkwJ17_checkLength_0 ++ dktJ17_checkLength_1
theorem dksJ17_checkLength_0 : cJ17_checkLength.data.toList.drop 0 = dktJ17_checkLength_0 := by decide +kernel
theorem dksJ17_checkLength_1 : cJ17_checkLength.data.toList.drop 23 = dktJ17_checkLength_1 := dk_seg dksJ17_checkLength_0 23 rfl rfl
theorem dJ17_checkLength_0 : decode cJ17_checkLength 0 = .ok (.iload_n 1, 1) := dk_27 (dk_at dksJ17_checkLength_0 0 rfl rfl)
theorem dJ17_checkLength_1 : decode cJ17_checkLength 1 = .ok (.iload_n 0, 1) := dk_26 (dk_at dksJ17_checkLength_0 1 rfl rfl)
theorem dJ17_checkLength_2 : decode cJ17_checkLength 2 = .ok (.if_icmp .ge 35, 3) := dk_162 0 35 (dk_at dksJ17_checkLength_0 2 rfl rfl)
theorem dJ17_checkLength_5 : decode cJ17_checkLength 5 = .ok (.new 43, 3) := dk_187 0 43 (dk_at dksJ17_checkLength_0 5 rfl rfl)
theorem dJ17_checkLength_8 : decode cJ17_checkLength 8 = .ok (.dup, 1) := dk_89 (dk_at dksJ17_checkLength_0 8 rfl rfl)
theorem dJ17_checkLength_9 : decode cJ17_checkLength 9 = .ok (.new 45, 3) := dk_187 0 45 (dk_at dksJ17_checkLength_0 9 rfl rfl)
theorem dJ17_checkLength_12 : decode cJ17_checkLength 12 = .ok (.dup, 1) := dk_89 (dk_at dksJ17_checkLength_0 12 rfl rfl)
theorem dJ17_checkLength_13 : decode cJ17_checkLength 13 = .ok (.invokespecial 47, 3) := dk_183 0 47 (dk_at dksJ17_checkLength_0 13 rfl rfl)
theorem dJ17_checkLength_16 : decode cJ17_checkLength 16 = .ok (.iload_n 0, 1) := dk_26 (dk_at dksJ17_checkLength_0 16 rfl rfl)
theorem dJ17_checkLength_17 : decode cJ17_checkLength 17 = .ok (.invokevirtual 54, 3) := dk_182 0 54 (dk_at dksJ17_checkLength_0 17 rfl rfl)
theorem dJ17_checkLength_20 : decode cJ17_checkLength 20 = .ok (.ldc_w 337, 3) := dk_19 1 81 (dk_at dksJ17_checkLength_0 20 rfl rfl)
theorem dJ17_checkLength_23 : decode cJ17_checkLength 23 = .ok (.invokevirtual 50, 3) := dk_182 0 50 (dk_at dksJ17_checkLength_1 0 rfl rfl)
theorem dJ17_checkLength_26 : decode cJ17_checkLength 26 = .ok (.iload_n 1, 1) := dk_27 (dk_at dksJ17_checkLength_1 3 rfl rfl)
theorem dJ17_checkLength_27 : decode cJ17_checkLength 27 = .ok (.invokevirtual 54, 3) := dk_182 0 54 (dk_at dksJ17_checkLength_1 4 rfl rfl)
theorem dJ17_checkLength_30 : decode cJ17_checkLength 30 = .ok (.invokevirtual 61, 3) := dk_182 0 61 (dk_at dksJ17_checkLength_1 7 rfl rfl)
theorem dJ17_checkLength_33 : decode cJ17_checkLength 33 = .ok (.invokespecial 65, 3) := dk_183 0 65 (dk_at dksJ17_checkLength_1 10 rfl rfl)
theorem dJ17_checkLength_36 : decode cJ17_checkLength 36 = .ok (.athrow, 1) := dk_191 (dk_at dksJ17_checkLength_1 13 rfl rfl)
theorem dJ17_checkLength_37 : decode cJ17_checkLength 37 = .ok (.return_, 1) := dk_177 (dk_at dksJ17_checkLength_1 14 rfl rfl)
abbrev cJ17_copyOf_2 : ByteArray := prog_47_method_119_code
def yJ17_copyOf_2 : MethodName := ⟨RJ17, "copyOf", "([Ljava/lang/Object;I)[Ljava/lang/Object;"⟩
def dkwJ17_copyOf_2_0 : List UInt8 := [42, 27, 42, 182, 0, 86, 184, 1, 44, 176]
abbrev dktJ17_copyOf_2_0 : List UInt8 := dkwJ17_copyOf_2_0 ++ []
theorem dksJ17_copyOf_2_0 : cJ17_copyOf_2.data.toList.drop 0 = dktJ17_copyOf_2_0 := by decide +kernel
theorem dJ17_copyOf_2_0 : decode cJ17_copyOf_2 0 = .ok (.aload_n 0, 1) := dk_42 (dk_at dksJ17_copyOf_2_0 0 rfl rfl)
theorem dJ17_copyOf_2_1 : decode cJ17_copyOf_2 1 = .ok (.iload_n 1, 1) := dk_27 (dk_at dksJ17_copyOf_2_0 1 rfl rfl)
theorem dJ17_copyOf_2_2 : decode cJ17_copyOf_2 2 = .ok (.aload_n 0, 1) := dk_42 (dk_at dksJ17_copyOf_2_0 2 rfl rfl)
theorem dJ17_copyOf_2_3 : decode cJ17_copyOf_2 3 = .ok (.invokevirtual 86, 3) := dk_182 0 86 (dk_at dksJ17_copyOf_2_0 3 rfl rfl)
theorem dJ17_copyOf_2_6 : decode cJ17_copyOf_2 6 = .ok (.invokestatic 300, 3) := dk_184 1 44 (dk_at dksJ17_copyOf_2_0 6 rfl rfl)
theorem dJ17_copyOf_2_9 : decode cJ17_copyOf_2 9 = .ok (.areturn, 1) := dk_176 (dk_at dksJ17_copyOf_2_0 9 rfl rfl)
abbrev cJ17_copyOf_3 : ByteArray := prog_47_method_120_code
def yJ17_copyOf_3 : MethodName := ⟨RJ17, "copyOf", "([Ljava/lang/Object;ILjava/lang/Class;)[Ljava/lang/Object;"⟩
def dkwJ17_copyOf_3_1 : List UInt8 := [78, 42, 3, 45, 3, 42, 190, 27, 184, 1, 48, 184, 0, 150, 45, 176]
abbrev dktJ17_copyOf_3_1 : List UInt8 := dkwJ17_copyOf_3_1 ++ []
def dkwJ17_copyOf_3_0 : List UInt8 := [44, 18, 110, 166, 0, 10, 27, 189, 0, 2, 167, 0, 14, 44, 182, 0, 90, 27, 184, 0, 95, 192, 0, 110]
abbrev dktJ17_copyOf_3_0 : List UInt8 := dkwJ17_copyOf_3_0 ++ dktJ17_copyOf_3_1
theorem dksJ17_copyOf_3_0 : cJ17_copyOf_3.data.toList.drop 0 = dktJ17_copyOf_3_0 := by decide +kernel
theorem dksJ17_copyOf_3_1 : cJ17_copyOf_3.data.toList.drop 24 = dktJ17_copyOf_3_1 := dk_seg dksJ17_copyOf_3_0 24 rfl rfl
theorem dJ17_copyOf_3_0 : decode cJ17_copyOf_3 0 = .ok (.aload_n 2, 1) := dk_44 (dk_at dksJ17_copyOf_3_0 0 rfl rfl)
theorem dJ17_copyOf_3_1 : decode cJ17_copyOf_3 1 = .ok (.ldc 110, 2) := dk_18 110 (dk_at dksJ17_copyOf_3_0 1 rfl rfl)
theorem dJ17_copyOf_3_3 : decode cJ17_copyOf_3 3 = .ok (.if_acmp .ne 10, 3) := dk_166 0 10 (dk_at dksJ17_copyOf_3_0 3 rfl rfl)
theorem dJ17_copyOf_3_6 : decode cJ17_copyOf_3 6 = .ok (.iload_n 1, 1) := dk_27 (dk_at dksJ17_copyOf_3_0 6 rfl rfl)
theorem dJ17_copyOf_3_7 : decode cJ17_copyOf_3 7 = .ok (.anewarray 2, 3) := dk_189 0 2 (dk_at dksJ17_copyOf_3_0 7 rfl rfl)
theorem dJ17_copyOf_3_10 : decode cJ17_copyOf_3 10 = .ok (.goto 14, 3) := dk_167 0 14 (dk_at dksJ17_copyOf_3_0 10 rfl rfl)
theorem dJ17_copyOf_3_13 : decode cJ17_copyOf_3 13 = .ok (.aload_n 2, 1) := dk_44 (dk_at dksJ17_copyOf_3_0 13 rfl rfl)
theorem dJ17_copyOf_3_14 : decode cJ17_copyOf_3 14 = .ok (.invokevirtual 90, 3) := dk_182 0 90 (dk_at dksJ17_copyOf_3_0 14 rfl rfl)
theorem dJ17_copyOf_3_17 : decode cJ17_copyOf_3 17 = .ok (.iload_n 1, 1) := dk_27 (dk_at dksJ17_copyOf_3_0 17 rfl rfl)
theorem dJ17_copyOf_3_18 : decode cJ17_copyOf_3 18 = .ok (.invokestatic 95, 3) := dk_184 0 95 (dk_at dksJ17_copyOf_3_0 18 rfl rfl)
theorem dJ17_copyOf_3_21 : decode cJ17_copyOf_3 21 = .ok (.checkcast 110, 3) := dk_192 0 110 (dk_at dksJ17_copyOf_3_0 21 rfl rfl)
theorem dJ17_copyOf_3_24 : decode cJ17_copyOf_3 24 = .ok (.astore_n 3, 1) := dk_78 (dk_at dksJ17_copyOf_3_1 0 rfl rfl)
theorem dJ17_copyOf_3_25 : decode cJ17_copyOf_3 25 = .ok (.aload_n 0, 1) := dk_42 (dk_at dksJ17_copyOf_3_1 1 rfl rfl)
theorem dJ17_copyOf_3_26 : decode cJ17_copyOf_3 26 = .ok (.iconst 0, 1) := dk_3 (dk_at dksJ17_copyOf_3_1 2 rfl rfl)
theorem dJ17_copyOf_3_27 : decode cJ17_copyOf_3 27 = .ok (.aload_n 3, 1) := dk_45 (dk_at dksJ17_copyOf_3_1 3 rfl rfl)
theorem dJ17_copyOf_3_28 : decode cJ17_copyOf_3 28 = .ok (.iconst 0, 1) := dk_3 (dk_at dksJ17_copyOf_3_1 4 rfl rfl)
theorem dJ17_copyOf_3_29 : decode cJ17_copyOf_3 29 = .ok (.aload_n 0, 1) := dk_42 (dk_at dksJ17_copyOf_3_1 5 rfl rfl)
theorem dJ17_copyOf_3_30 : decode cJ17_copyOf_3 30 = .ok (.arraylength, 1) := dk_190 (dk_at dksJ17_copyOf_3_1 6 rfl rfl)
theorem dJ17_copyOf_3_31 : decode cJ17_copyOf_3 31 = .ok (.iload_n 1, 1) := dk_27 (dk_at dksJ17_copyOf_3_1 7 rfl rfl)
theorem dJ17_copyOf_3_32 : decode cJ17_copyOf_3 32 = .ok (.invokestatic 304, 3) := dk_184 1 48 (dk_at dksJ17_copyOf_3_1 8 rfl rfl)
theorem dJ17_copyOf_3_35 : decode cJ17_copyOf_3 35 = .ok (.invokestatic 150, 3) := dk_184 0 150 (dk_at dksJ17_copyOf_3_1 11 rfl rfl)
theorem dJ17_copyOf_3_38 : decode cJ17_copyOf_3 38 = .ok (.aload_n 3, 1) := dk_45 (dk_at dksJ17_copyOf_3_1 14 rfl rfl)
theorem dJ17_copyOf_3_39 : decode cJ17_copyOf_3 39 = .ok (.areturn, 1) := dk_176 (dk_at dksJ17_copyOf_3_1 15 rfl rfl)
abbrev cJ17_fill : ByteArray := prog_47_method_110_code
def yJ17_fill : MethodName := ⟨RJ17, "fill", "([BIIB)V"⟩
def dkwJ17_fill_1 : List UInt8 := [167, 255, 242, 177]
abbrev dktJ17_fill_1 : List UInt8 := dkwJ17_fill_1 ++ []
def dkwJ17_fill_0 : List UInt8 := [42, 190, 27, 28, 184, 0, 13, 27, 54, 4, 21, 4, 28, 162, 0, 14, 42, 21, 4, 29, 84, 132, 4, 1]
abbrev dktJ17_fill_0 : List UInt8 := dkwJ17_fill_0 ++ dktJ17_fill_1
theorem dksJ17_fill_0 : cJ17_fill.data.toList.drop 0 = dktJ17_fill_0 := by decide +kernel
theorem dksJ17_fill_1 : cJ17_fill.data.toList.drop 24 = dktJ17_fill_1 := dk_seg dksJ17_fill_0 24 rfl rfl
theorem dJ17_fill_0 : decode cJ17_fill 0 = .ok (.aload_n 0, 1) := dk_42 (dk_at dksJ17_fill_0 0 rfl rfl)
theorem dJ17_fill_1 : decode cJ17_fill 1 = .ok (.arraylength, 1) := dk_190 (dk_at dksJ17_fill_0 1 rfl rfl)
theorem dJ17_fill_2 : decode cJ17_fill 2 = .ok (.iload_n 1, 1) := dk_27 (dk_at dksJ17_fill_0 2 rfl rfl)
theorem dJ17_fill_3 : decode cJ17_fill 3 = .ok (.iload_n 2, 1) := dk_28 (dk_at dksJ17_fill_0 3 rfl rfl)
theorem dJ17_fill_4 : decode cJ17_fill 4 = .ok (.invokestatic 13, 3) := dk_184 0 13 (dk_at dksJ17_fill_0 4 rfl rfl)
theorem dJ17_fill_7 : decode cJ17_fill 7 = .ok (.iload_n 1, 1) := dk_27 (dk_at dksJ17_fill_0 7 rfl rfl)
theorem dJ17_fill_8 : decode cJ17_fill 8 = .ok (.istore 4, 2) := dk_54 4 (dk_at dksJ17_fill_0 8 rfl rfl)
theorem dJ17_fill_10 : decode cJ17_fill 10 = .ok (.iload 4, 2) := dk_21 4 (dk_at dksJ17_fill_0 10 rfl rfl)
theorem dJ17_fill_12 : decode cJ17_fill 12 = .ok (.iload_n 2, 1) := dk_28 (dk_at dksJ17_fill_0 12 rfl rfl)
theorem dJ17_fill_13 : decode cJ17_fill 13 = .ok (.if_icmp .ge 14, 3) := dk_162 0 14 (dk_at dksJ17_fill_0 13 rfl rfl)
theorem dJ17_fill_16 : decode cJ17_fill 16 = .ok (.aload_n 0, 1) := dk_42 (dk_at dksJ17_fill_0 16 rfl rfl)
theorem dJ17_fill_17 : decode cJ17_fill 17 = .ok (.iload 4, 2) := dk_21 4 (dk_at dksJ17_fill_0 17 rfl rfl)
theorem dJ17_fill_19 : decode cJ17_fill 19 = .ok (.iload_n 3, 1) := dk_29 (dk_at dksJ17_fill_0 19 rfl rfl)
theorem dJ17_fill_20 : decode cJ17_fill 20 = .ok (.bastore, 1) := dk_84 (dk_at dksJ17_fill_0 20 rfl rfl)
theorem dJ17_fill_21 : decode cJ17_fill 21 = .ok (.iinc 4 1, 3) := dk_132 4 1 (dk_at dksJ17_fill_0 21 rfl rfl)
theorem dJ17_fill_24 : decode cJ17_fill 24 = .ok (.goto (-14), 3) := dk_167 255 242 (dk_at dksJ17_fill_1 0 rfl rfl)
theorem dJ17_fill_27 : decode cJ17_fill 27 = .ok (.return_, 1) := dk_177 (dk_at dksJ17_fill_1 3 rfl rfl)
abbrev cJ17_rangeCheck : ByteArray := prog_47_method_30_code
def yJ17_rangeCheck : MethodName := ⟨RJ17, "rangeCheck", "(III)V"⟩
def dkwJ17_rangeCheck_3 : List UInt8 := [183, 0, 70, 191, 177]
abbrev dktJ17_rangeCheck_3 : List UInt8 := dkwJ17_rangeCheck_3 ++ []
def dkwJ17_rangeCheck_2 : List UInt8 := [27, 156, 0, 12, 187, 0, 68, 89, 27, 183, 0, 70, 191, 28, 26, 164, 0, 12, 187, 0, 68, 89, 28]
abbrev dktJ17_rangeCheck_2 : List UInt8 := dkwJ17_rangeCheck_2 ++ dktJ17_rangeCheck_3
def dkwJ17_rangeCheck_1 : List UInt8 := [182, 0, 54, 18, 57, 182, 0, 50, 28, 182, 0, 54, 18, 59, 182, 0, 50, 182, 0, 61, 183, 0, 65, 191]
abbrev dktJ17_rangeCheck_1 : List UInt8 := dkwJ17_rangeCheck_1 ++ dktJ17_rangeCheck_2
def dkwJ17_rangeCheck_0 : List UInt8 := [27, 28, 164, 0, 44, 187, 0, 43, 89, 187, 0, 45, 89, 183, 0, 47, 18, 48, 182, 0, 50, 27]
abbrev dktJ17_rangeCheck_0 : List UInt8 := dkwJ17_rangeCheck_0 ++ dktJ17_rangeCheck_1
theorem dksJ17_rangeCheck_0 : cJ17_rangeCheck.data.toList.drop 0 = dktJ17_rangeCheck_0 := by decide +kernel
theorem dksJ17_rangeCheck_1 : cJ17_rangeCheck.data.toList.drop 22 = dktJ17_rangeCheck_1 := dk_seg dksJ17_rangeCheck_0 22 rfl rfl
theorem dksJ17_rangeCheck_2 : cJ17_rangeCheck.data.toList.drop 46 = dktJ17_rangeCheck_2 := dk_seg dksJ17_rangeCheck_1 24 rfl rfl
theorem dksJ17_rangeCheck_3 : cJ17_rangeCheck.data.toList.drop 69 = dktJ17_rangeCheck_3 := dk_seg dksJ17_rangeCheck_2 23 rfl rfl
theorem dJ17_rangeCheck_0 : decode cJ17_rangeCheck 0 = .ok (.iload_n 1, 1) := dk_27 (dk_at dksJ17_rangeCheck_0 0 rfl rfl)
theorem dJ17_rangeCheck_1 : decode cJ17_rangeCheck 1 = .ok (.iload_n 2, 1) := dk_28 (dk_at dksJ17_rangeCheck_0 1 rfl rfl)
theorem dJ17_rangeCheck_2 : decode cJ17_rangeCheck 2 = .ok (.if_icmp .le 44, 3) := dk_164 0 44 (dk_at dksJ17_rangeCheck_0 2 rfl rfl)
theorem dJ17_rangeCheck_5 : decode cJ17_rangeCheck 5 = .ok (.new 43, 3) := dk_187 0 43 (dk_at dksJ17_rangeCheck_0 5 rfl rfl)
theorem dJ17_rangeCheck_8 : decode cJ17_rangeCheck 8 = .ok (.dup, 1) := dk_89 (dk_at dksJ17_rangeCheck_0 8 rfl rfl)
theorem dJ17_rangeCheck_9 : decode cJ17_rangeCheck 9 = .ok (.new 45, 3) := dk_187 0 45 (dk_at dksJ17_rangeCheck_0 9 rfl rfl)
theorem dJ17_rangeCheck_12 : decode cJ17_rangeCheck 12 = .ok (.dup, 1) := dk_89 (dk_at dksJ17_rangeCheck_0 12 rfl rfl)
theorem dJ17_rangeCheck_13 : decode cJ17_rangeCheck 13 = .ok (.invokespecial 47, 3) := dk_183 0 47 (dk_at dksJ17_rangeCheck_0 13 rfl rfl)
theorem dJ17_rangeCheck_16 : decode cJ17_rangeCheck 16 = .ok (.ldc 48, 2) := dk_18 48 (dk_at dksJ17_rangeCheck_0 16 rfl rfl)
theorem dJ17_rangeCheck_18 : decode cJ17_rangeCheck 18 = .ok (.invokevirtual 50, 3) := dk_182 0 50 (dk_at dksJ17_rangeCheck_0 18 rfl rfl)
theorem dJ17_rangeCheck_21 : decode cJ17_rangeCheck 21 = .ok (.iload_n 1, 1) := dk_27 (dk_at dksJ17_rangeCheck_0 21 rfl rfl)
theorem dJ17_rangeCheck_22 : decode cJ17_rangeCheck 22 = .ok (.invokevirtual 54, 3) := dk_182 0 54 (dk_at dksJ17_rangeCheck_1 0 rfl rfl)
theorem dJ17_rangeCheck_25 : decode cJ17_rangeCheck 25 = .ok (.ldc 57, 2) := dk_18 57 (dk_at dksJ17_rangeCheck_1 3 rfl rfl)
theorem dJ17_rangeCheck_27 : decode cJ17_rangeCheck 27 = .ok (.invokevirtual 50, 3) := dk_182 0 50 (dk_at dksJ17_rangeCheck_1 5 rfl rfl)
theorem dJ17_rangeCheck_30 : decode cJ17_rangeCheck 30 = .ok (.iload_n 2, 1) := dk_28 (dk_at dksJ17_rangeCheck_1 8 rfl rfl)
theorem dJ17_rangeCheck_31 : decode cJ17_rangeCheck 31 = .ok (.invokevirtual 54, 3) := dk_182 0 54 (dk_at dksJ17_rangeCheck_1 9 rfl rfl)
theorem dJ17_rangeCheck_34 : decode cJ17_rangeCheck 34 = .ok (.ldc 59, 2) := dk_18 59 (dk_at dksJ17_rangeCheck_1 12 rfl rfl)
theorem dJ17_rangeCheck_36 : decode cJ17_rangeCheck 36 = .ok (.invokevirtual 50, 3) := dk_182 0 50 (dk_at dksJ17_rangeCheck_1 14 rfl rfl)
theorem dJ17_rangeCheck_39 : decode cJ17_rangeCheck 39 = .ok (.invokevirtual 61, 3) := dk_182 0 61 (dk_at dksJ17_rangeCheck_1 17 rfl rfl)
theorem dJ17_rangeCheck_42 : decode cJ17_rangeCheck 42 = .ok (.invokespecial 65, 3) := dk_183 0 65 (dk_at dksJ17_rangeCheck_1 20 rfl rfl)
theorem dJ17_rangeCheck_45 : decode cJ17_rangeCheck 45 = .ok (.athrow, 1) := dk_191 (dk_at dksJ17_rangeCheck_1 23 rfl rfl)
theorem dJ17_rangeCheck_46 : decode cJ17_rangeCheck 46 = .ok (.iload_n 1, 1) := dk_27 (dk_at dksJ17_rangeCheck_2 0 rfl rfl)
theorem dJ17_rangeCheck_47 : decode cJ17_rangeCheck 47 = .ok (.ifCond .ge 12, 3) := dk_156 0 12 (dk_at dksJ17_rangeCheck_2 1 rfl rfl)
theorem dJ17_rangeCheck_50 : decode cJ17_rangeCheck 50 = .ok (.new 68, 3) := dk_187 0 68 (dk_at dksJ17_rangeCheck_2 4 rfl rfl)
theorem dJ17_rangeCheck_53 : decode cJ17_rangeCheck 53 = .ok (.dup, 1) := dk_89 (dk_at dksJ17_rangeCheck_2 7 rfl rfl)
theorem dJ17_rangeCheck_54 : decode cJ17_rangeCheck 54 = .ok (.iload_n 1, 1) := dk_27 (dk_at dksJ17_rangeCheck_2 8 rfl rfl)
theorem dJ17_rangeCheck_55 : decode cJ17_rangeCheck 55 = .ok (.invokespecial 70, 3) := dk_183 0 70 (dk_at dksJ17_rangeCheck_2 9 rfl rfl)
theorem dJ17_rangeCheck_58 : decode cJ17_rangeCheck 58 = .ok (.athrow, 1) := dk_191 (dk_at dksJ17_rangeCheck_2 12 rfl rfl)
theorem dJ17_rangeCheck_59 : decode cJ17_rangeCheck 59 = .ok (.iload_n 2, 1) := dk_28 (dk_at dksJ17_rangeCheck_2 13 rfl rfl)
theorem dJ17_rangeCheck_60 : decode cJ17_rangeCheck 60 = .ok (.iload_n 0, 1) := dk_26 (dk_at dksJ17_rangeCheck_2 14 rfl rfl)
theorem dJ17_rangeCheck_61 : decode cJ17_rangeCheck 61 = .ok (.if_icmp .le 12, 3) := dk_164 0 12 (dk_at dksJ17_rangeCheck_2 15 rfl rfl)
theorem dJ17_rangeCheck_64 : decode cJ17_rangeCheck 64 = .ok (.new 68, 3) := dk_187 0 68 (dk_at dksJ17_rangeCheck_2 18 rfl rfl)
theorem dJ17_rangeCheck_67 : decode cJ17_rangeCheck 67 = .ok (.dup, 1) := dk_89 (dk_at dksJ17_rangeCheck_2 21 rfl rfl)
theorem dJ17_rangeCheck_68 : decode cJ17_rangeCheck 68 = .ok (.iload_n 2, 1) := dk_28 (dk_at dksJ17_rangeCheck_2 22 rfl rfl)
theorem dJ17_rangeCheck_69 : decode cJ17_rangeCheck 69 = .ok (.invokespecial 70, 3) := dk_183 0 70 (dk_at dksJ17_rangeCheck_3 0 rfl rfl)
theorem dJ17_rangeCheck_72 : decode cJ17_rangeCheck 72 = .ok (.athrow, 1) := dk_191 (dk_at dksJ17_rangeCheck_3 3 rfl rfl)
theorem dJ17_rangeCheck_73 : decode cJ17_rangeCheck 73 = .ok (.return_, 1) := dk_177 (dk_at dksJ17_rangeCheck_3 4 rfl rfl)
theorem q115 : (Jvm.Cond.initialized "java/util/Arrays") ∈ lw_all := lw_g (lw_at lw_m1 21 rfl) rfl
theorem q444 : (Jvm.Cond.static ({ cls := "java/util/Arrays", name := "copyOf", desc := "([BI)[B" } : Jvm.MethodName)) ∈ lw_all := lw_g (lw_at lw_m2 110 rfl) rfl
theorem q445 : (Jvm.Cond.code ({ cls := "java/util/Arrays", name := "copyOf", desc := "([BI)[B" } : Jvm.MethodName) prog_47_method_121_code (3 : Nat) (Option.some (Jvm.ClassFile.FieldType.array Jvm.ClassFile.FieldType.byte))) ∈ lw_all := lw_g (lw_at lw_m2 111 rfl) rfl
theorem q446 : (Jvm.Cond.methodLink "java/util/Arrays" (310 : Nat) ({ cls := "[B", name := "clone", desc := "()Ljava/lang/Object;" } : Jvm.MethodName)) ∈ lw_all := lw_g (lw_at lw_m2 112 rfl) rfl
theorem q452 : (Jvm.Cond.classLink "java/util/Arrays" (311 : Nat) "[B") ∈ lw_all := lw_g (lw_at lw_m2 118 rfl) rfl
theorem q453 : (Jvm.Cond.methodLink "java/util/Arrays" (304 : Nat) ({ cls := "java/lang/Math", name := "min", desc := "(II)I" } : Jvm.MethodName)) ∈ lw_all := lw_g (lw_at lw_m2 119 rfl) rfl
theorem q456 : (Jvm.Cond.methodLink "java/util/Arrays" (150 : Nat) ({ cls := "java/lang/System", name := "arraycopy", desc := "(Ljava/lang/Object;ILjava/lang/Object;II)V" } : Jvm.MethodName)) ∈ lw_all := lw_g (lw_at lw_m2 122 rfl) rfl
theorem q587 : (Jvm.Cond.static ({ cls := "java/util/Arrays", name := "copyOfRange", desc := "([BII)[B" } : Jvm.MethodName)) ∈ lw_all := lw_g (lw_at lw_m3 13 rfl) rfl
theorem q588 : (Jvm.Cond.code ({ cls := "java/util/Arrays", name := "copyOfRange", desc := "([BII)[B" } : Jvm.MethodName) prog_47_method_132_code (3 : Nat) (Option.some (Jvm.ClassFile.FieldType.array Jvm.ClassFile.FieldType.byte))) ∈ lw_all := lw_g (lw_at lw_m3 14 rfl) rfl
theorem q589 : (Jvm.Cond.methodLink "java/util/Arrays" (339 : Nat) ({ cls := "java/util/Arrays", name := "copyOfRangeByte", desc := "([BII)[B" } : Jvm.MethodName)) ∈ lw_all := lw_g (lw_at lw_m3 15 rfl) rfl
theorem q590 : (Jvm.Cond.static ({ cls := "java/util/Arrays", name := "copyOfRangeByte", desc := "([BII)[B" } : Jvm.MethodName)) ∈ lw_all := lw_g (lw_at lw_m3 16 rfl) rfl
theorem q591 : (Jvm.Cond.code ({ cls := "java/util/Arrays", name := "copyOfRangeByte", desc := "([BII)[B" } : Jvm.MethodName) prog_47_method_133_code (5 : Nat) (Option.some (Jvm.ClassFile.FieldType.array Jvm.ClassFile.FieldType.byte))) ∈ lw_all := lw_g (lw_at lw_m3 17 rfl) rfl
theorem q592 : (Jvm.Cond.methodLink "java/util/Arrays" (343 : Nat) ({ cls := "java/util/Arrays", name := "checkLength", desc := "(II)V" } : Jvm.MethodName)) ∈ lw_all := lw_g (lw_at lw_m3 18 rfl) rfl
theorem q593 : (Jvm.Cond.static ({ cls := "java/util/Arrays", name := "checkLength", desc := "(II)V" } : Jvm.MethodName)) ∈ lw_all := lw_g (lw_at lw_m3 19 rfl) rfl
theorem q594 : (Jvm.Cond.code ({ cls := "java/util/Arrays", name := "checkLength", desc := "(II)V" } : Jvm.MethodName) prog_47_method_131_code (2 : Nat) (Option.none : Option Jvm.ClassFile.FieldType)) ∈ lw_all := lw_g (lw_at lw_m3 20 rfl) rfl
theorem q595 : (Jvm.Cond.classLink "java/util/Arrays" (43 : Nat) "java/lang/IllegalArgumentException") ∈ lw_all := lw_g (lw_at lw_m3 21 rfl) rfl
theorem q604 : (Jvm.Cond.classLink "java/util/Arrays" (45 : Nat) "java/lang/StringBuilder") ∈ lw_all := lw_g (lw_at lw_m3 30 rfl) rfl
theorem q605 : (Jvm.Cond.methodLink "java/util/Arrays" (47 : Nat) ({ cls := "java/lang/StringBuilder", name := "<init>", desc := "()V" } : Jvm.MethodName)) ∈ lw_all := lw_g (lw_at lw_m3 31 rfl) rfl
theorem q606 : (Jvm.Cond.methodLink "java/util/Arrays" (54 : Nat) ({ cls := "java/lang/StringBuilder", name := "append", desc := "(I)Ljava/lang/StringBuilder;" } : Jvm.MethodName)) ∈ lw_all := lw_g (lw_at lw_m3 32 rfl) rfl
theorem q607 : (Jvm.Cond.stringRef "java/util/Arrays" (337 : Nat) " > ") ∈ lw_tbl := lw_at lw_m3 33 rfl
theorem q608 : (Jvm.Cond.methodLink "java/util/Arrays" (50 : Nat) ({ cls := "java/lang/StringBuilder", name := "append", desc := "(Ljava/lang/String;)Ljava/lang/StringBuilder;" } : Jvm.MethodName)) ∈ lw_all := lw_g (lw_at lw_m3 34 rfl) rfl
theorem q609 : (Jvm.Cond.methodLink "java/util/Arrays" (61 : Nat) ({ cls := "java/lang/StringBuilder", name := "toString", desc := "()Ljava/lang/String;" } : Jvm.MethodName)) ∈ lw_all := lw_g (lw_at lw_m3 35 rfl) rfl
theorem q610 : (Jvm.Cond.methodLink "java/util/Arrays" (65 : Nat) ({ cls := "java/lang/IllegalArgumentException", name := "<init>", desc := "(Ljava/lang/String;)V" } : Jvm.MethodName)) ∈ lw_all := lw_g (lw_at lw_m3 36 rfl) rfl
theorem q1195 : (Jvm.Cond.static ({ cls := "java/util/Arrays", name := "copyOf", desc := "([Ljava/lang/Object;I)[Ljava/lang/Object;" } : Jvm.MethodName)) ∈ lw_all := lw_g (lw_at lw_m5 141 rfl) rfl
theorem q1196 : (Jvm.Cond.code ({ cls := "java/util/Arrays", name := "copyOf", desc := "([Ljava/lang/Object;I)[Ljava/lang/Object;" } : Jvm.MethodName) prog_47_method_119_code (2 : Nat) (Option.some (Jvm.ClassFile.FieldType.array (Jvm.ClassFile.FieldType.object "java/lang/Object")))) ∈ lw_all := lw_g (lw_at lw_m5 142 rfl) rfl
theorem q1197 : (Jvm.Cond.methodLink "java/util/Arrays" (86 : Nat) ({ cls := "java/lang/Object", name := "getClass", desc := "()Ljava/lang/Class;" } : Jvm.MethodName)) ∈ lw_all := lw_g (lw_at lw_m5 143 rfl) rfl
theorem q1198 : (Jvm.Cond.methodLink "java/util/Arrays" (300 : Nat) ({ cls := "java/util/Arrays", name := "copyOf", desc := "([Ljava/lang/Object;ILjava/lang/Class;)[Ljava/lang/Object;" } : Jvm.MethodName)) ∈ lw_all := lw_g (lw_at lw_m5 144 rfl) rfl
theorem q1199 : (Jvm.Cond.static ({ cls := "java/util/Arrays", name := "copyOf", desc := "([Ljava/lang/Object;ILjava/lang/Class;)[Ljava/lang/Object;" } : Jvm.MethodName)) ∈ lw_all := lw_g (lw_at lw_m5 145 rfl) rfl
theorem q1200 : (Jvm.Cond.code ({ cls := "java/util/Arrays", name := "copyOf", desc := "([Ljava/lang/Object;ILjava/lang/Class;)[Ljava/lang/Object;" } : Jvm.MethodName) prog_47_method_120_code (4 : Nat) (Option.some (Jvm.ClassFile.FieldType.array (Jvm.ClassFile.FieldType.object "java/lang/Object")))) ∈ lw_all := lw_g (lw_at lw_m5 146 rfl) rfl
theorem q1201 : (Jvm.Cond.classLink "java/util/Arrays" (110 : Nat) "[Ljava/lang/Object;") ∈ lw_all := lw_g (lw_at lw_m5 147 rfl) rfl
theorem q1202 : (Jvm.Cond.classLink "java/util/Arrays" (2 : Nat) "java/lang/Object") ∈ lw_all := lw_g (lw_at lw_m5 148 rfl) rfl
theorem q2017 : (Jvm.Cond.static ({ cls := "java/util/Arrays", name := "fill", desc := "([BIIB)V" } : Jvm.MethodName)) ∈ lw_all := lw_g (lw_at lw_m9 3 rfl) rfl
theorem q2018 : (Jvm.Cond.code ({ cls := "java/util/Arrays", name := "fill", desc := "([BIIB)V" } : Jvm.MethodName) prog_47_method_110_code (5 : Nat) (Option.none : Option Jvm.ClassFile.FieldType)) ∈ lw_all := lw_g (lw_at lw_m9 4 rfl) rfl
theorem q2019 : (Jvm.Cond.methodLink "java/util/Arrays" (13 : Nat) ({ cls := "java/util/Arrays", name := "rangeCheck", desc := "(III)V" } : Jvm.MethodName)) ∈ lw_all := lw_g (lw_at lw_m9 5 rfl) rfl
theorem q2020 : (Jvm.Cond.static ({ cls := "java/util/Arrays", name := "rangeCheck", desc := "(III)V" } : Jvm.MethodName)) ∈ lw_all := lw_g (lw_at lw_m9 6 rfl) rfl
theorem q2021 : (Jvm.Cond.code ({ cls := "java/util/Arrays", name := "rangeCheck", desc := "(III)V" } : Jvm.MethodName) prog_47_method_30_code (3 : Nat) (Option.none : Option Jvm.ClassFile.FieldType)) ∈ lw_all := lw_g (lw_at lw_m9 7 rfl) rfl
theorem q2022 : (Jvm.Cond.stringRef "java/util/Arrays" (48 : Nat) "fromIndex(") ∈ lw_tbl := lw_at lw_m9 8 rfl
theorem q2023 : (Jvm.Cond.stringRef "java/util/Arrays" (57 : Nat) ") > toIndex(") ∈ lw_tbl := lw_at lw_m9 9 rfl
theorem q2024 : (Jvm.Cond.stringRef "java/util/Arrays" (59 : Nat) ")") ∈ lw_tbl := lw_at lw_m9 10 rfl
theorem q2025 : (Jvm.Cond.classLink "java/util/Arrays" (68 : Nat) "java/lang/ArrayIndexOutOfBoundsException") ∈ lw_all := lw_g (lw_at lw_m9 11 rfl) rfl
theorem q2026 : (Jvm.Cond.methodLink "java/util/Arrays" (70 : Nat) ({ cls := "java/lang/ArrayIndexOutOfBoundsException", name := "<init>", desc := "(I)V" } : Jvm.MethodName)) ∈ lw_all := lw_g (lw_at lw_m9 12 rfl) rfl

/-! jdk/internal/util/Preconditions -/
set_option maxRecDepth 100000
def RJ18 : String := "jdk/internal/util/Preconditions"
abbrev cJ18_checkFromToIndex : ByteArray := prog_70_method_12_code
def yJ18_checkFromToIndex : MethodName := ⟨RJ18, "checkFromToIndex", "(IIILjava/util/function/BiFunction;)I"⟩
def dkwJ18_checkFromToIndex_0 : List UInt8 := [26, 155, 0, 13, 26, 27, 163, 0, 8, 27, 28, 164, 0, 11, 45, 26, 27, 28, 184, 0, 99, 191, 26, 172]
abbrev dktJ18_checkFromToIndex_0 : List UInt8 := dkwJ18_checkFromToIndex_0 ++ []
theorem dksJ18_checkFromToIndex_0 : cJ18_checkFromToIndex.data.toList.drop 0 = dktJ18_checkFromToIndex_0 := by decide +kernel
theorem dJ18_checkFromToIndex_0 : decode cJ18_checkFromToIndex 0 = .ok (.iload_n 0, 1) := dk_26 (dk_at dksJ18_checkFromToIndex_0 0 rfl rfl)
theorem dJ18_checkFromToIndex_1 : decode cJ18_checkFromToIndex 1 = .ok (.ifCond .lt 13, 3) := dk_155 0 13 (dk_at dksJ18_checkFromToIndex_0 1 rfl rfl)
theorem dJ18_checkFromToIndex_4 : decode cJ18_checkFromToIndex 4 = .ok (.iload_n 0, 1) := dk_26 (dk_at dksJ18_checkFromToIndex_0 4 rfl rfl)
theorem dJ18_checkFromToIndex_5 : decode cJ18_checkFromToIndex 5 = .ok (.iload_n 1, 1) := dk_27 (dk_at dksJ18_checkFromToIndex_0 5 rfl rfl)
theorem dJ18_checkFromToIndex_6 : decode cJ18_checkFromToIndex 6 = .ok (.if_icmp .gt 8, 3) := dk_163 0 8 (dk_at dksJ18_checkFromToIndex_0 6 rfl rfl)
theorem dJ18_checkFromToIndex_9 : decode cJ18_checkFromToIndex 9 = .ok (.iload_n 1, 1) := dk_27 (dk_at dksJ18_checkFromToIndex_0 9 rfl rfl)
theorem dJ18_checkFromToIndex_10 : decode cJ18_checkFromToIndex 10 = .ok (.iload_n 2, 1) := dk_28 (dk_at dksJ18_checkFromToIndex_0 10 rfl rfl)
theorem dJ18_checkFromToIndex_11 : decode cJ18_checkFromToIndex 11 = .ok (.if_icmp .le 11, 3) := dk_164 0 11 (dk_at dksJ18_checkFromToIndex_0 11 rfl rfl)
theorem dJ18_checkFromToIndex_14 : decode cJ18_checkFromToIndex 14 = .ok (.aload_n 3, 1) := dk_45 (dk_at dksJ18_checkFromToIndex_0 14 rfl rfl)
theorem dJ18_checkFromToIndex_15 : decode cJ18_checkFromToIndex 15 = .ok (.iload_n 0, 1) := dk_26 (dk_at dksJ18_checkFromToIndex_0 15 rfl rfl)
theorem dJ18_checkFromToIndex_16 : decode cJ18_checkFromToIndex 16 = .ok (.iload_n 1, 1) := dk_27 (dk_at dksJ18_checkFromToIndex_0 16 rfl rfl)
theorem dJ18_checkFromToIndex_17 : decode cJ18_checkFromToIndex 17 = .ok (.iload_n 2, 1) := dk_28 (dk_at dksJ18_checkFromToIndex_0 17 rfl rfl)
theorem dJ18_checkFromToIndex_18 : decode cJ18_checkFromToIndex 18 = .ok (.invokestatic 99, 3) := dk_184 0 99 (dk_at dksJ18_checkFromToIndex_0 18 rfl rfl)
theorem dJ18_checkFromToIndex_21 : decode cJ18_checkFromToIndex 21 = .ok (.athrow, 1) := dk_191 (dk_at dksJ18_checkFromToIndex_0 21 rfl rfl)
theorem dJ18_checkFromToIndex_22 : decode cJ18_checkFromToIndex 22 = .ok (.iload_n 0, 1) := dk_26 (dk_at dksJ18_checkFromToIndex_0 22 rfl rfl)
theorem dJ18_checkFromToIndex_23 : decode cJ18_checkFromToIndex 23 = .ok (.ireturn, 1) := dk_172 (dk_at dksJ18_checkFromToIndex_0 23 rfl rfl)
abbrev cJ18_checkFromIndexSize : ByteArray := prog_70_method_13_code
def yJ18_checkFromIndexSize : MethodName := ⟨RJ18, "checkFromIndexSize", "(IIILjava/util/function/BiFunction;)I"⟩
def dkwJ18_checkFromIndexSize_1 : List UInt8 := [172]
abbrev dktJ18_checkFromIndexSize_1 : List UInt8 := dkwJ18_checkFromIndexSize_1 ++ []
def dkwJ18_checkFromIndexSize_0 : List UInt8 := [28, 26, 128, 27, 128, 155, 0, 10, 27, 28, 26, 100, 164, 0, 11, 45, 26, 27, 28, 184, 0, 103, 191, 26]
abbrev dktJ18_checkFromIndexSize_0 : List UInt8 := dkwJ18_checkFromIndexSize_0 ++ dktJ18_checkFromIndexSize_1
theorem dksJ18_checkFromIndexSize_0 : cJ18_checkFromIndexSize.data.toList.drop 0 = dktJ18_checkFromIndexSize_0 := by decide +kernel
theorem dksJ18_checkFromIndexSize_1 : cJ18_checkFromIndexSize.data.toList.drop 24 = dktJ18_checkFromIndexSize_1 := dk_seg dksJ18_checkFromIndexSize_0 24 rfl rfl
theorem dJ18_checkFromIndexSize_0 : decode cJ18_checkFromIndexSize 0 = .ok (.iload_n 2, 1) := dk_28 (dk_at dksJ18_checkFromIndexSize_0 0 rfl rfl)
theorem dJ18_checkFromIndexSize_1 : decode cJ18_checkFromIndexSize 1 = .ok (.iload_n 0, 1) := dk_26 (dk_at dksJ18_checkFromIndexSize_0 1 rfl rfl)
theorem dJ18_checkFromIndexSize_2 : decode cJ18_checkFromIndexSize 2 = .ok (.ior, 1) := dk_128 (dk_at dksJ18_checkFromIndexSize_0 2 rfl rfl)
theorem dJ18_checkFromIndexSize_3 : decode cJ18_checkFromIndexSize 3 = .ok (.iload_n 1, 1) := dk_27 (dk_at dksJ18_checkFromIndexSize_0 3 rfl rfl)
theorem dJ18_checkFromIndexSize_4 : decode cJ18_checkFromIndexSize 4 = .ok (.ior, 1) := dk_128 (dk_at dksJ18_checkFromIndexSize_0 4 rfl rfl)
theorem dJ18_checkFromIndexSize_5 : decode cJ18_checkFromIndexSize 5 = .ok (.ifCond .lt 10, 3) := dk_155 0 10 (dk_at dksJ18_checkFromIndexSize_0 5 rfl rfl)
theorem dJ18_checkFromIndexSize_8 : decode cJ18_checkFromIndexSize 8 = .ok (.iload_n 1, 1) := dk_27 (dk_at dksJ18_checkFromIndexSize_0 8 rfl rfl)
theorem dJ18_checkFromIndexSize_9 : decode cJ18_checkFromIndexSize 9 = .ok (.iload_n 2, 1) := dk_28 (dk_at dksJ18_checkFromIndexSize_0 9 rfl rfl)
theorem dJ18_checkFromIndexSize_10 : decode cJ18_checkFromIndexSize 10 = .ok (.iload_n 0, 1) := dk_26 (dk_at dksJ18_checkFromIndexSize_0 10 rfl rfl)
theorem dJ18_checkFromIndexSize_11 : decode cJ18_checkFromIndexSize 11 = .ok (.isub, 1) := dk_100 (dk_at dksJ18_checkFromIndexSize_0 11 rfl rfl)
theorem dJ18_checkFromIndexSize_12 : decode cJ18_checkFromIndexSize 12 = .ok (.if_icmp .le 11, 3) := dk_164 0 11 (dk_at dksJ18_checkFromIndexSize_0 12 rfl rfl)
theorem dJ18_checkFromIndexSize_15 : decode cJ18_checkFromIndexSize 15 = .ok (.aload_n 3, 1) := dk_45 (dk_at dksJ18_checkFromIndexSize_0 15 rfl rfl)
theorem dJ18_checkFromIndexSize_16 : decode cJ18_checkFromIndexSize 16 = .ok (.iload_n 0, 1) := dk_26 (dk_at dksJ18_checkFromIndexSize_0 16 rfl rfl)
theorem dJ18_checkFromIndexSize_17 : decode cJ18_checkFromIndexSize 17 = .ok (.iload_n 1, 1) := dk_27 (dk_at dksJ18_checkFromIndexSize_0 17 rfl rfl)
theorem dJ18_checkFromIndexSize_18 : decode cJ18_checkFromIndexSize 18 = .ok (.iload_n 2, 1) := dk_28 (dk_at dksJ18_checkFromIndexSize_0 18 rfl rfl)
theorem dJ18_checkFromIndexSize_19 : decode cJ18_checkFromIndexSize 19 = .ok (.invokestatic 103, 3) := dk_184 0 103 (dk_at dksJ18_checkFromIndexSize_0 19 rfl rfl)
theorem dJ18_checkFromIndexSize_22 : decode cJ18_checkFromIndexSize 22 = .ok (.athrow, 1) := dk_191 (dk_at dksJ18_checkFromIndexSize_0 22 rfl rfl)
theorem dJ18_checkFromIndexSize_23 : decode cJ18_checkFromIndexSize 23 = .ok (.iload_n 0, 1) := dk_26 (dk_at dksJ18_checkFromIndexSize_0 23 rfl rfl)
theorem dJ18_checkFromIndexSize_24 : decode cJ18_checkFromIndexSize 24 = .ok (.ireturn, 1) := dk_172 (dk_at dksJ18_checkFromIndexSize_1 0 rfl rfl)
abbrev cJ18_checkIndex : ByteArray := prog_70_method_11_code
def yJ18_checkIndex : MethodName := ⟨RJ18, "checkIndex", "(IILjava/util/function/BiFunction;)I"⟩
def dkwJ18_checkIndex_0 : List UInt8 := [26, 155, 0, 8, 26, 27, 161, 0, 10, 44, 26, 27, 184, 0, 95, 191, 26, 172]
abbrev dktJ18_checkIndex_0 : List UInt8 := dkwJ18_checkIndex_0 ++ []
theorem dksJ18_checkIndex_0 : cJ18_checkIndex.data.toList.drop 0 = dktJ18_checkIndex_0 := by decide +kernel
theorem dJ18_checkIndex_0 : decode cJ18_checkIndex 0 = .ok (.iload_n 0, 1) := dk_26 (dk_at dksJ18_checkIndex_0 0 rfl rfl)
theorem dJ18_checkIndex_1 : decode cJ18_checkIndex 1 = .ok (.ifCond .lt 8, 3) := dk_155 0 8 (dk_at dksJ18_checkIndex_0 1 rfl rfl)
theorem dJ18_checkIndex_4 : decode cJ18_checkIndex 4 = .ok (.iload_n 0, 1) := dk_26 (dk_at dksJ18_checkIndex_0 4 rfl rfl)
theorem dJ18_checkIndex_5 : decode cJ18_checkIndex 5 = .ok (.iload_n 1, 1) := dk_27 (dk_at dksJ18_checkIndex_0 5 rfl rfl)
theorem dJ18_checkIndex_6 : decode cJ18_checkIndex 6 = .ok (.if_icmp .lt 10, 3) := dk_161 0 10 (dk_at dksJ18_checkIndex_0 6 rfl rfl)
theorem dJ18_checkIndex_9 : decode cJ18_checkIndex 9 = .ok (.aload_n 2, 1) := dk_44 (dk_at dksJ18_checkIndex_0 9 rfl rfl)
theorem dJ18_checkIndex_10 : decode cJ18_checkIndex 10 = .ok (.iload_n 0, 1) := dk_26 (dk_at dksJ18_checkIndex_0 10 rfl rfl)
theorem dJ18_checkIndex_11 : decode cJ18_checkIndex 11 = .ok (.iload_n 1, 1) := dk_27 (dk_at dksJ18_checkIndex_0 11 rfl rfl)
theorem dJ18_checkIndex_12 : decode cJ18_checkIndex 12 = .ok (.invokestatic 95, 3) := dk_184 0 95 (dk_at dksJ18_checkIndex_0 12 rfl rfl)
theorem dJ18_checkIndex_15 : decode cJ18_checkIndex 15 = .ok (.athrow, 1) := dk_191 (dk_at dksJ18_checkIndex_0 15 rfl rfl)
theorem dJ18_checkIndex_16 : decode cJ18_checkIndex 16 = .ok (.iload_n 0, 1) := dk_26 (dk_at dksJ18_checkIndex_0 16 rfl rfl)
theorem dJ18_checkIndex_17 : decode cJ18_checkIndex 17 = .ok (.ireturn, 1) := dk_172 (dk_at dksJ18_checkIndex_0 17 rfl rfl)
theorem q117 : (Jvm.Cond.initialized "jdk/internal/util/Preconditions") ∈ lw_all := lw_g (lw_at lw_m1 23 rfl) rfl
theorem q477 : (Jvm.Cond.laysStatic "jdk/internal/util/Preconditions" "SIOOBE_FORMATTER" "Ljava/util/function/BiFunction;") ∈ lw_tbl := lw_at lw_m2 143 rfl
theorem q479 : (Jvm.Cond.static ({ cls := "jdk/internal/util/Preconditions", name := "checkFromToIndex", desc := "(IIILjava/util/function/BiFunction;)I" } : Jvm.MethodName)) ∈ lw_all := lw_g (lw_at lw_m2 145 rfl) rfl
theorem q480 : (Jvm.Cond.code ({ cls := "jdk/internal/util/Preconditions", name := "checkFromToIndex", desc := "(IIILjava/util/function/BiFunction;)I" } : Jvm.MethodName) prog_70_method_12_code (4 : Nat) (Option.some Jvm.ClassFile.FieldType.int)) ∈ lw_all := lw_g (lw_at lw_m2 146 rfl) rfl
theorem q525 : (Jvm.Cond.static ({ cls := "jdk/internal/util/Preconditions", name := "checkFromIndexSize", desc := "(IIILjava/util/function/BiFunction;)I" } : Jvm.MethodName)) ∈ lw_all := lw_g (lw_at lw_m2 191 rfl) rfl
theorem q526 : (Jvm.Cond.code ({ cls := "jdk/internal/util/Preconditions", name := "checkFromIndexSize", desc := "(IIILjava/util/function/BiFunction;)I" } : Jvm.MethodName) prog_70_method_13_code (4 : Nat) (Option.some Jvm.ClassFile.FieldType.int)) ∈ lw_all := lw_g (lw_at lw_m2 192 rfl) rfl
theorem q815 : (Jvm.Cond.static ({ cls := "jdk/internal/util/Preconditions", name := "checkIndex", desc := "(IILjava/util/function/BiFunction;)I" } : Jvm.MethodName)) ∈ lw_all := lw_g (lw_at lw_m4 1 rfl) rfl
theorem q816 : (Jvm.Cond.code ({ cls := "jdk/internal/util/Preconditions", name := "checkIndex", desc := "(IILjava/util/function/BiFunction;)I" } : Jvm.MethodName) prog_70_method_11_code (3 : Nat) (Option.some Jvm.ClassFile.FieldType.int)) ∈ lw_all := lw_g (lw_at lw_m4 2 rfl) rfl

/-! java/lang/StringLatin1 -/
set_option maxRecDepth 100000
def RJ19 : String := "java/lang/StringLatin1"
abbrev cJ19_inflate : ByteArray := prog_30_method_50_code
def yJ19_inflate : MethodName := ⟨RJ19, "inflate", "([BI[BII)V"⟩
def dkwJ19_inflate_0 : List UInt8 := [42, 27, 44, 29, 21, 4, 184, 0, 240, 177]
abbrev dktJ19_inflate_0 : List UInt8 := dkwJ19_inflate_0 ++ []
theorem dksJ19_inflate_0 : cJ19_inflate.data.toList.drop 0 = dktJ19_inflate_0 := by decide +kernel
theorem dJ19_inflate_0 : decode cJ19_inflate 0 = .ok (.aload_n 0, 1) := dk_42 (dk_at dksJ19_inflate_0 0 rfl rfl)
theorem dJ19_inflate_1 : decode cJ19_inflate 1 = .ok (.iload_n 1, 1) := dk_27 (dk_at dksJ19_inflate_0 1 rfl rfl)
theorem dJ19_inflate_2 : decode cJ19_inflate 2 = .ok (.aload_n 2, 1) := dk_44 (dk_at dksJ19_inflate_0 2 rfl rfl)
theorem dJ19_inflate_3 : decode cJ19_inflate 3 = .ok (.iload_n 3, 1) := dk_29 (dk_at dksJ19_inflate_0 3 rfl rfl)
theorem dJ19_inflate_4 : decode cJ19_inflate 4 = .ok (.iload 4, 2) := dk_21 4 (dk_at dksJ19_inflate_0 4 rfl rfl)
theorem dJ19_inflate_6 : decode cJ19_inflate 6 = .ok (.invokestatic 240, 3) := dk_184 0 240 (dk_at dksJ19_inflate_0 6 rfl rfl)
theorem dJ19_inflate_9 : decode cJ19_inflate 9 = .ok (.return_, 1) := dk_177 (dk_at dksJ19_inflate_0 9 rfl rfl)
abbrev cJ19_fillNull : ByteArray := prog_30_method_48_code
def yJ19_fillNull : MethodName := ⟨RJ19, "fillNull", "([BII)V"⟩
def dkwJ19_fillNull_0 : List UInt8 := [42, 27, 28, 3, 184, 0, 236, 177]
abbrev dktJ19_fillNull_0 : List UInt8 := dkwJ19_fillNull_0 ++ []
theorem dksJ19_fillNull_0 : cJ19_fillNull.data.toList.drop 0 = dktJ19_fillNull_0 := by decide +kernel
theorem dJ19_fillNull_0 : decode cJ19_fillNull 0 = .ok (.aload_n 0, 1) := dk_42 (dk_at dksJ19_fillNull_0 0 rfl rfl)
theorem dJ19_fillNull_1 : decode cJ19_fillNull 1 = .ok (.iload_n 1, 1) := dk_27 (dk_at dksJ19_fillNull_0 1 rfl rfl)
theorem dJ19_fillNull_2 : decode cJ19_fillNull 2 = .ok (.iload_n 2, 1) := dk_28 (dk_at dksJ19_fillNull_0 2 rfl rfl)
theorem dJ19_fillNull_3 : decode cJ19_fillNull 3 = .ok (.iconst 0, 1) := dk_3 (dk_at dksJ19_fillNull_0 3 rfl rfl)
theorem dJ19_fillNull_4 : decode cJ19_fillNull 4 = .ok (.invokestatic 236, 3) := dk_184 0 236 (dk_at dksJ19_fillNull_0 4 rfl rfl)
theorem dJ19_fillNull_7 : decode cJ19_fillNull 7 = .ok (.return_, 1) := dk_177 (dk_at dksJ19_fillNull_0 7 rfl rfl)
abbrev cJ19_canEncode : ByteArray := prog_30_method_3_code
def yJ19_canEncode : MethodName := ⟨RJ19, "canEncode", "(C)Z"⟩
def dkwJ19_canEncode_0 : List UInt8 := [26, 17, 0, 255, 163, 0, 7, 4, 167, 0, 4, 3, 172]
abbrev dktJ19_canEncode_0 : List UInt8 := dkwJ19_canEncode_0 ++ []
theorem dksJ19_canEncode_0 : cJ19_canEncode.data.toList.drop 0 = dktJ19_canEncode_0 := by decide +kernel
theorem dJ19_canEncode_0 : decode cJ19_canEncode 0 = .ok (.iload_n 0, 1) := dk_26 (dk_at dksJ19_canEncode_0 0 rfl rfl)
theorem dJ19_canEncode_1 : decode cJ19_canEncode 1 = .ok (.sipush 255, 3) := dk_17 0 255 (dk_at dksJ19_canEncode_0 1 rfl rfl)
theorem dJ19_canEncode_4 : decode cJ19_canEncode 4 = .ok (.if_icmp .gt 7, 3) := dk_163 0 7 (dk_at dksJ19_canEncode_0 4 rfl rfl)
theorem dJ19_canEncode_7 : decode cJ19_canEncode 7 = .ok (.iconst 1, 1) := dk_4 (dk_at dksJ19_canEncode_0 7 rfl rfl)
theorem dJ19_canEncode_8 : decode cJ19_canEncode 8 = .ok (.goto 4, 3) := dk_167 0 4 (dk_at dksJ19_canEncode_0 8 rfl rfl)
theorem dJ19_canEncode_11 : decode cJ19_canEncode 11 = .ok (.iconst 0, 1) := dk_3 (dk_at dksJ19_canEncode_0 11 rfl rfl)
theorem dJ19_canEncode_12 : decode cJ19_canEncode 12 = .ok (.ireturn, 1) := dk_172 (dk_at dksJ19_canEncode_0 12 rfl rfl)
abbrev cJ19_newString : ByteArray := prog_30_method_47_code
def yJ19_newString : MethodName := ⟨RJ19, "newString", "([BII)Ljava/lang/String;"⟩
def dkwJ19_newString_0 : List UInt8 := [28, 154, 0, 6, 18, 151, 176, 187, 0, 1, 89, 42, 27, 27, 28, 96, 184, 0, 232, 3, 183, 0, 112, 176]
abbrev dktJ19_newString_0 : List UInt8 := dkwJ19_newString_0 ++ []
theorem dksJ19_newString_0 : cJ19_newString.data.toList.drop 0 = dktJ19_newString_0 := by decide +kernel
theorem dJ19_newString_0 : decode cJ19_newString 0 = .ok (.iload_n 2, 1) := dk_28 (dk_at dksJ19_newString_0 0 rfl rfl)
theorem dJ19_newString_1 : decode cJ19_newString 1 = .ok (.ifCond .ne 6, 3) := dk_154 0 6 (dk_at dksJ19_newString_0 1 rfl rfl)
theorem dJ19_newString_4 : decode cJ19_newString 4 = .ok (.ldc 151, 2) := dk_18 151 (dk_at dksJ19_newString_0 4 rfl rfl)
theorem dJ19_newString_6 : decode cJ19_newString 6 = .ok (.areturn, 1) := dk_176 (dk_at dksJ19_newString_0 6 rfl rfl)
theorem dJ19_newString_7 : decode cJ19_newString 7 = .ok (.new 1, 3) := dk_187 0 1 (dk_at dksJ19_newString_0 7 rfl rfl)
theorem dJ19_newString_10 : decode cJ19_newString 10 = .ok (.dup, 1) := dk_89 (dk_at dksJ19_newString_0 10 rfl rfl)
theorem dJ19_newString_11 : decode cJ19_newString 11 = .ok (.aload_n 0, 1) := dk_42 (dk_at dksJ19_newString_0 11 rfl rfl)
theorem dJ19_newString_12 : decode cJ19_newString 12 = .ok (.iload_n 1, 1) := dk_27 (dk_at dksJ19_newString_0 12 rfl rfl)
theorem dJ19_newString_13 : decode cJ19_newString 13 = .ok (.iload_n 1, 1) := dk_27 (dk_at dksJ19_newString_0 13 rfl rfl)
theorem dJ19_newString_14 : decode cJ19_newString 14 = .ok (.iload_n 2, 1) := dk_28 (dk_at dksJ19_newString_0 14 rfl rfl)
theorem dJ19_newString_15 : decode cJ19_newString 15 = .ok (.iadd, 1) := dk_96 (dk_at dksJ19_newString_0 15 rfl rfl)
theorem dJ19_newString_16 : decode cJ19_newString 16 = .ok (.invokestatic 232, 3) := dk_184 0 232 (dk_at dksJ19_newString_0 16 rfl rfl)
theorem dJ19_newString_19 : decode cJ19_newString 19 = .ok (.iconst 0, 1) := dk_3 (dk_at dksJ19_newString_0 19 rfl rfl)
theorem dJ19_newString_20 : decode cJ19_newString 20 = .ok (.invokespecial 112, 3) := dk_183 0 112 (dk_at dksJ19_newString_0 20 rfl rfl)
theorem dJ19_newString_23 : decode cJ19_newString 23 = .ok (.areturn, 1) := dk_176 (dk_at dksJ19_newString_0 23 rfl rfl)
abbrev cJ19_charAt : ByteArray := prog_30_method_2_code
def yJ19_charAt : MethodName := ⟨RJ19, "charAt", "([BI)C"⟩
def dkwJ19_charAt_0 : List UInt8 := [27, 42, 190, 184, 0, 9, 42, 27, 51, 17, 0, 255, 126, 146, 172]
abbrev dktJ19_charAt_0 : List UInt8 := dkwJ19_charAt_0 ++ []
theorem dksJ19_charAt_0 : cJ19_charAt.data.toList.drop 0 = dktJ19_charAt_0 := by decide +kernel
theorem dJ19_charAt_0 : decode cJ19_charAt 0 = .ok (.iload_n 1, 1) := dk_27 (dk_at dksJ19_charAt_0 0 rfl rfl)
theorem dJ19_charAt_1 : decode cJ19_charAt 1 = .ok (.aload_n 0, 1) := dk_42 (dk_at dksJ19_charAt_0 1 rfl rfl)
theorem dJ19_charAt_2 : decode cJ19_charAt 2 = .ok (.arraylength, 1) := dk_190 (dk_at dksJ19_charAt_0 2 rfl rfl)
theorem dJ19_charAt_3 : decode cJ19_charAt 3 = .ok (.invokestatic 9, 3) := dk_184 0 9 (dk_at dksJ19_charAt_0 3 rfl rfl)
theorem dJ19_charAt_6 : decode cJ19_charAt 6 = .ok (.aload_n 0, 1) := dk_42 (dk_at dksJ19_charAt_0 6 rfl rfl)
theorem dJ19_charAt_7 : decode cJ19_charAt 7 = .ok (.iload_n 1, 1) := dk_27 (dk_at dksJ19_charAt_0 7 rfl rfl)
theorem dJ19_charAt_8 : decode cJ19_charAt 8 = .ok (.baload, 1) := dk_51 (dk_at dksJ19_charAt_0 8 rfl rfl)
theorem dJ19_charAt_9 : decode cJ19_charAt 9 = .ok (.sipush 255, 3) := dk_17 0 255 (dk_at dksJ19_charAt_0 9 rfl rfl)
theorem dJ19_charAt_12 : decode cJ19_charAt 12 = .ok (.iand, 1) := dk_126 (dk_at dksJ19_charAt_0 12 rfl rfl)
theorem dJ19_charAt_13 : decode cJ19_charAt 13 = .ok (.i2c, 1) := dk_146 (dk_at dksJ19_charAt_0 13 rfl rfl)
theorem dJ19_charAt_14 : decode cJ19_charAt 14 = .ok (.ireturn, 1) := dk_172 (dk_at dksJ19_charAt_0 14 rfl rfl)
abbrev cJ19_equals : ByteArray := prog_30_method_13_code
def yJ19_equals : MethodName := ⟨RJ19, "equals", "([B[B)Z"⟩
def dkwJ19_equals_1 : List UInt8 := [3, 172, 132, 2, 1, 167, 255, 236, 4, 172, 3, 172]
abbrev dktJ19_equals_1 : List UInt8 := dkwJ19_equals_1 ++ []
def dkwJ19_equals_0 : List UInt8 := [42, 190, 43, 190, 160, 0, 30, 3, 61, 28, 42, 190, 162, 0, 20, 42, 28, 51, 43, 28, 51, 159, 0, 5]
abbrev dktJ19_equals_0 : List UInt8 := dkwJ19_equals_0 ++ dktJ19_equals_1
theorem dksJ19_equals_0 : cJ19_equals.data.toList.drop 0 = dktJ19_equals_0 := by decide +kernel
theorem dksJ19_equals_1 : cJ19_equals.data.toList.drop 24 = dktJ19_equals_1 := dk_seg dksJ19_equals_0 24 rfl rfl
theorem dJ19_equals_0 : decode cJ19_equals 0 = .ok (.aload_n 0, 1) := dk_42 (dk_at dksJ19_equals_0 0 rfl rfl)
theorem dJ19_equals_1 : decode cJ19_equals 1 = .ok (.arraylength, 1) := dk_190 (dk_at dksJ19_equals_0 1 rfl rfl)
theorem dJ19_equals_2 : decode cJ19_equals 2 = .ok (.aload_n 1, 1) := dk_43 (dk_at dksJ19_equals_0 2 rfl rfl)
theorem dJ19_equals_3 : decode cJ19_equals 3 = .ok (.arraylength, 1) := dk_190 (dk_at dksJ19_equals_0 3 rfl rfl)
theorem dJ19_equals_4 : decode cJ19_equals 4 = .ok (.if_icmp .ne 30, 3) := dk_160 0 30 (dk_at dksJ19_equals_0 4 rfl rfl)
theorem dJ19_equals_7 : decode cJ19_equals 7 = .ok (.iconst 0, 1) := dk_3 (dk_at dksJ19_equals_0 7 rfl rfl)
theorem dJ19_equals_8 : decode cJ19_equals 8 = .ok (.istore_n 2, 1) := dk_61 (dk_at dksJ19_equals_0 8 rfl rfl)
theorem dJ19_equals_9 : decode cJ19_equals 9 = .ok (.iload_n 2, 1) := dk_28 (dk_at dksJ19_equals_0 9 rfl rfl)
theorem dJ19_equals_10 : decode cJ19_equals 10 = .ok (.aload_n 0, 1) := dk_42 (dk_at dksJ19_equals_0 10 rfl rfl)
theorem dJ19_equals_11 : decode cJ19_equals 11 = .ok (.arraylength, 1) := dk_190 (dk_at dksJ19_equals_0 11 rfl rfl)
theorem dJ19_equals_12 : decode cJ19_equals 12 = .ok (.if_icmp .ge 20, 3) := dk_162 0 20 (dk_at dksJ19_equals_0 12 rfl rfl)
theorem dJ19_equals_15 : decode cJ19_equals 15 = .ok (.aload_n 0, 1) := dk_42 (dk_at dksJ19_equals_0 15 rfl rfl)
theorem dJ19_equals_16 : decode cJ19_equals 16 = .ok (.iload_n 2, 1) := dk_28 (dk_at dksJ19_equals_0 16 rfl rfl)
theorem dJ19_equals_17 : decode cJ19_equals 17 = .ok (.baload, 1) := dk_51 (dk_at dksJ19_equals_0 17 rfl rfl)
theorem dJ19_equals_18 : decode cJ19_equals 18 = .ok (.aload_n 1, 1) := dk_43 (dk_at dksJ19_equals_0 18 rfl rfl)
theorem dJ19_equals_19 : decode cJ19_equals 19 = .ok (.iload_n 2, 1) := dk_28 (dk_at dksJ19_equals_0 19 rfl rfl)
theorem dJ19_equals_20 : decode cJ19_equals 20 = .ok (.baload, 1) := dk_51 (dk_at dksJ19_equals_0 20 rfl rfl)
theorem dJ19_equals_21 : decode cJ19_equals 21 = .ok (.if_icmp .eq 5, 3) := dk_159 0 5 (dk_at dksJ19_equals_0 21 rfl rfl)
theorem dJ19_equals_24 : decode cJ19_equals 24 = .ok (.iconst 0, 1) := dk_3 (dk_at dksJ19_equals_1 0 rfl rfl)
theorem dJ19_equals_25 : decode cJ19_equals 25 = .ok (.ireturn, 1) := dk_172 (dk_at dksJ19_equals_1 1 rfl rfl)
theorem dJ19_equals_26 : decode cJ19_equals 26 = .ok (.iinc 2 1, 3) := dk_132 2 1 (dk_at dksJ19_equals_1 2 rfl rfl)
theorem dJ19_equals_29 : decode cJ19_equals 29 = .ok (.goto (-20), 3) := dk_167 255 236 (dk_at dksJ19_equals_1 5 rfl rfl)
theorem dJ19_equals_32 : decode cJ19_equals 32 = .ok (.iconst 1, 1) := dk_4 (dk_at dksJ19_equals_1 8 rfl rfl)
theorem dJ19_equals_33 : decode cJ19_equals 33 = .ok (.ireturn, 1) := dk_172 (dk_at dksJ19_equals_1 9 rfl rfl)
theorem dJ19_equals_34 : decode cJ19_equals 34 = .ok (.iconst 0, 1) := dk_3 (dk_at dksJ19_equals_1 10 rfl rfl)
theorem dJ19_equals_35 : decode cJ19_equals 35 = .ok (.ireturn, 1) := dk_172 (dk_at dksJ19_equals_1 11 rfl rfl)
abbrev cJ19_hashCode : ByteArray := prog_30_method_21_code
def yJ19_hashCode : MethodName := ⟨RJ19, "hashCode", "([B)I"⟩
def dkwJ19_hashCode_2 : List UInt8 := [3, 167, 0, 22, 42, 3, 51, 17, 0, 255, 126, 167, 0, 12, 42, 3, 42, 190, 3, 7, 184, 0, 84, 172]
abbrev dktJ19_hashCode_2 : List UInt8 := dkwJ19_hashCode_2 ++ []
def dkwJ19_hashCode_1 : List UInt8 := [171, 0, 0, 0, 0, 40, 0, 0, 0, 2, 0, 0, 0, 0, 0, 0, 0, 26, 0, 0, 0, 1, 0, 0, 0, 30]
abbrev dktJ19_hashCode_1 : List UInt8 := dkwJ19_hashCode_1 ++ dktJ19_hashCode_2
def dkwJ19_hashCode_0 : List UInt8 := [42, 190]
abbrev dktJ19_hashCode_0 : List UInt8 := dkwJ19_hashCode_0 ++ dktJ19_hashCode_1
theorem dksJ19_hashCode_0 : cJ19_hashCode.data.toList.drop 0 = dktJ19_hashCode_0 := by decide +kernel
theorem dksJ19_hashCode_1 : cJ19_hashCode.data.toList.drop 2 = dktJ19_hashCode_1 := dk_seg dksJ19_hashCode_0 2 rfl rfl
theorem dksJ19_hashCode_2 : cJ19_hashCode.data.toList.drop 28 = dktJ19_hashCode_2 := dk_seg dksJ19_hashCode_1 26 rfl rfl
theorem dJ19_hashCode_0 : decode cJ19_hashCode 0 = .ok (.aload_n 0, 1) := dk_42 (dk_at dksJ19_hashCode_0 0 rfl rfl)
theorem dJ19_hashCode_1 : decode cJ19_hashCode 1 = .ok (.arraylength, 1) := dk_190 (dk_at dksJ19_hashCode_0 1 rfl rfl)
theorem dJ19_hashCode_2 : decode cJ19_hashCode 2 = .ok (.lookupswitch 40 #[(0, 26), (1, 30)], 26) := by decide +kernel
theorem dJ19_hashCode_28 : decode cJ19_hashCode 28 = .ok (.iconst 0, 1) := dk_3 (dk_at dksJ19_hashCode_2 0 rfl rfl)
theorem dJ19_hashCode_29 : decode cJ19_hashCode 29 = .ok (.goto 22, 3) := dk_167 0 22 (dk_at dksJ19_hashCode_2 1 rfl rfl)
theorem dJ19_hashCode_32 : decode cJ19_hashCode 32 = .ok (.aload_n 0, 1) := dk_42 (dk_at dksJ19_hashCode_2 4 rfl rfl)
theorem dJ19_hashCode_33 : decode cJ19_hashCode 33 = .ok (.iconst 0, 1) := dk_3 (dk_at dksJ19_hashCode_2 5 rfl rfl)
theorem dJ19_hashCode_34 : decode cJ19_hashCode 34 = .ok (.baload, 1) := dk_51 (dk_at dksJ19_hashCode_2 6 rfl rfl)
theorem dJ19_hashCode_35 : decode cJ19_hashCode 35 = .ok (.sipush 255, 3) := dk_17 0 255 (dk_at dksJ19_hashCode_2 7 rfl rfl)
theorem dJ19_hashCode_38 : decode cJ19_hashCode 38 = .ok (.iand, 1) := dk_126 (dk_at dksJ19_hashCode_2 10 rfl rfl)
theorem dJ19_hashCode_39 : decode cJ19_hashCode 39 = .ok (.goto 12, 3) := dk_167 0 12 (dk_at dksJ19_hashCode_2 11 rfl rfl)
theorem dJ19_hashCode_42 : decode cJ19_hashCode 42 = .ok (.aload_n 0, 1) := dk_42 (dk_at dksJ19_hashCode_2 14 rfl rfl)
theorem dJ19_hashCode_43 : decode cJ19_hashCode 43 = .ok (.iconst 0, 1) := dk_3 (dk_at dksJ19_hashCode_2 15 rfl rfl)
theorem dJ19_hashCode_44 : decode cJ19_hashCode 44 = .ok (.aload_n 0, 1) := dk_42 (dk_at dksJ19_hashCode_2 16 rfl rfl)
theorem dJ19_hashCode_45 : decode cJ19_hashCode 45 = .ok (.arraylength, 1) := dk_190 (dk_at dksJ19_hashCode_2 17 rfl rfl)
theorem dJ19_hashCode_46 : decode cJ19_hashCode 46 = .ok (.iconst 0, 1) := dk_3 (dk_at dksJ19_hashCode_2 18 rfl rfl)
theorem dJ19_hashCode_47 : decode cJ19_hashCode 47 = .ok (.iconst 4, 1) := dk_7 (dk_at dksJ19_hashCode_2 19 rfl rfl)
theorem dJ19_hashCode_48 : decode cJ19_hashCode 48 = .ok (.invokestatic 84, 3) := dk_184 0 84 (dk_at dksJ19_hashCode_2 20 rfl rfl)
theorem dJ19_hashCode_51 : decode cJ19_hashCode 51 = .ok (.ireturn, 1) := dk_172 (dk_at dksJ19_hashCode_2 23 rfl rfl)
theorem q118 : (Jvm.Cond.initialized "java/lang/StringLatin1") ∈ lw_all := lw_g (lw_at lw_m1 24 rfl) rfl
theorem q513 : (Jvm.Cond.static ({ cls := "java/lang/StringLatin1", name := "inflate", desc := "([BI[BII)V" } : Jvm.MethodName)) ∈ lw_all := lw_g (lw_at lw_m2 179 rfl) rfl
theorem q514 : (Jvm.Cond.code ({ cls := "java/lang/StringLatin1", name := "inflate", desc := "([BI[BII)V" } : Jvm.MethodName) prog_30_method_50_code (5 : Nat) (Option.none : Option Jvm.ClassFile.FieldType)) ∈ lw_all := lw_g (lw_at lw_m2 180 rfl) rfl
theorem q515 : (Jvm.Cond.methodLink "java/lang/StringLatin1" (240 : Nat) ({ cls := "java/lang/StringUTF16", name := "inflate", desc := "([BI[BII)V" } : Jvm.MethodName)) ∈ lw_all := lw_g (lw_at lw_m2 181 rfl) rfl
theorem q2014 : (Jvm.Cond.static ({ cls := "java/lang/StringLatin1", name := "fillNull", desc := "([BII)V" } : Jvm.MethodName)) ∈ lw_all := lw_g (lw_at lw_m9 0 rfl) rfl
theorem q2015 : (Jvm.Cond.code ({ cls := "java/lang/StringLatin1", name := "fillNull", desc := "([BII)V" } : Jvm.MethodName) prog_30_method_48_code (3 : Nat) (Option.none : Option Jvm.ClassFile.FieldType)) ∈ lw_all := lw_g (lw_at lw_m9 1 rfl) rfl
theorem q2016 : (Jvm.Cond.methodLink "java/lang/StringLatin1" (236 : Nat) ({ cls := "java/util/Arrays", name := "fill", desc := "([BIIB)V" } : Jvm.MethodName)) ∈ lw_all := lw_g (lw_at lw_m9 2 rfl) rfl
theorem q2047 : (Jvm.Cond.static ({ cls := "java/lang/StringLatin1", name := "canEncode", desc := "(C)Z" } : Jvm.MethodName)) ∈ lw_all := lw_g (lw_at lw_m9 33 rfl) rfl
theorem q2048 : (Jvm.Cond.code ({ cls := "java/lang/StringLatin1", name := "canEncode", desc := "(C)Z" } : Jvm.MethodName) prog_30_method_3_code (1 : Nat) (Option.some Jvm.ClassFile.FieldType.boolean)) ∈ lw_all := lw_g (lw_at lw_m9 34 rfl) rfl
theorem q2228 : (Jvm.Cond.static ({ cls := "java/lang/StringLatin1", name := "newString", desc := "([BII)Ljava/lang/String;" } : Jvm.MethodName)) ∈ lw_all := lw_g (lw_at lw_m9 214 rfl) rfl
theorem q2229 : (Jvm.Cond.code ({ cls := "java/lang/StringLatin1", name := "newString", desc := "([BII)Ljava/lang/String;" } : Jvm.MethodName) prog_30_method_47_code (3 : Nat) (Option.some (Jvm.ClassFile.FieldType.object "java/lang/String"))) ∈ lw_all := lw_g (lw_at lw_m9 215 rfl) rfl
theorem q2230 : (Jvm.Cond.stringRef "java/lang/StringLatin1" (151 : Nat) "") ∈ lw_tbl := lw_at lw_m9 216 rfl
theorem q2231 : (Jvm.Cond.classLink "java/lang/StringLatin1" (1 : Nat) "java/lang/String") ∈ lw_all := lw_g (lw_at lw_m9 217 rfl) rfl
theorem q2232 : (Jvm.Cond.methodLink "java/lang/StringLatin1" (232 : Nat) ({ cls := "java/util/Arrays", name := "copyOfRange", desc := "([BII)[B" } : Jvm.MethodName)) ∈ lw_all := lw_g (lw_at lw_m9 218 rfl) rfl
theorem q2233 : (Jvm.Cond.methodLink "java/lang/StringLatin1" (112 : Nat) ({ cls := "java/lang/String", name := "<init>", desc := "([BB)V" } : Jvm.MethodName)) ∈ lw_all := lw_g (lw_at lw_m9 219 rfl) rfl
theorem q2308 : (Jvm.Cond.static ({ cls := "java/lang/StringLatin1", name := "charAt", desc := "([BI)C" } : Jvm.MethodName)) ∈ lw_all := lw_g (lw_at lw_m10 54 rfl) rfl
theorem q2309 : (Jvm.Cond.code ({ cls := "java/lang/StringLatin1", name := "charAt", desc := "([BI)C" } : Jvm.MethodName) prog_30_method_2_code (2 : Nat) (Option.some Jvm.ClassFile.FieldType.char)) ∈ lw_all := lw_g (lw_at lw_m10 55 rfl) rfl
theorem q2310 : (Jvm.Cond.methodLink "java/lang/StringLatin1" (9 : Nat) ({ cls := "java/lang/String", name := "checkIndex", desc := "(II)V" } : Jvm.MethodName)) ∈ lw_all := lw_g (lw_at lw_m10 56 rfl) rfl
theorem q2354 : (Jvm.Cond.static ({ cls := "java/lang/StringLatin1", name := "equals", desc := "([B[B)Z" } : Jvm.MethodName)) ∈ lw_all := lw_g (lw_at lw_m10 100 rfl) rfl
theorem q2355 : (Jvm.Cond.code ({ cls := "java/lang/StringLatin1", name := "equals", desc := "([B[B)Z" } : Jvm.MethodName) prog_30_method_13_code (3 : Nat) (Option.some Jvm.ClassFile.FieldType.boolean)) ∈ lw_all := lw_g (lw_at lw_m10 101 rfl) rfl
theorem q2434 : (Jvm.Cond.static ({ cls := "java/lang/StringLatin1", name := "hashCode", desc := "([B)I" } : Jvm.MethodName)) ∈ lw_all := lw_g (lw_at lw_m10 180 rfl) rfl
theorem q2435 : (Jvm.Cond.code ({ cls := "java/lang/StringLatin1", name := "hashCode", desc := "([B)I" } : Jvm.MethodName) prog_30_method_21_code (1 : Nat) (Option.some Jvm.ClassFile.FieldType.int)) ∈ lw_all := lw_g (lw_at lw_m10 181 rfl) rfl
theorem q2436 : (Jvm.Cond.methodLink "java/lang/StringLatin1" (84 : Nat) ({ cls := "jdk/internal/util/ArraysSupport", name := "vectorizedHashCode", desc := "(Ljava/lang/Object;IIII)I" } : Jvm.MethodName)) ∈ lw_all := lw_g (lw_at lw_m10 182 rfl) rfl

/-! java/util/AbstractSequentialList -/
set_option maxRecDepth 100000
def RJ2 : String := "java/util/AbstractSequentialList"
abbrev cJ2_init : ByteArray := prog_41_method_1_code
def yJ2_init : MethodName := ⟨RJ2, "<init>", "()V"⟩
theorem dJ2_init_0 : decode cJ2_init 0 = .ok (.aload_n 0, 1) := by decide +kernel
theorem dJ2_init_1 : decode cJ2_init 1 = .ok (.invokespecial 1, 3) := by decide +kernel
theorem dJ2_init_4 : decode cJ2_init 4 = .ok (.return_, 1) := by decide +kernel
abbrev cJ2_iterator : ByteArray := prog_41_method_7_code
def yJ2_iterator : MethodName := ⟨RJ2, "iterator", "()Ljava/util/Iterator;"⟩
theorem dJ2_iterator_0 : decode cJ2_iterator 0 = .ok (.aload_n 0, 1) := by decide +kernel
theorem dJ2_iterator_1 : decode cJ2_iterator 1 = .ok (.invokevirtual 65, 3) := by decide +kernel
theorem dJ2_iterator_4 : decode cJ2_iterator 4 = .ok (.areturn, 1) := by decide +kernel
theorem q99 : (Jvm.Cond.initialized "java/util/AbstractSequentialList") ∈ lw_all := lw_g (lw_at lw_m1 5 rfl) rfl
theorem q165 : (Jvm.Cond.instanceMethod ({ cls := "java/util/AbstractSequentialList", name := "<init>", desc := "()V" } : Jvm.MethodName)) ∈ lw_all := lw_g (lw_at lw_m1 71 rfl) rfl
theorem q166 : (Jvm.Cond.code ({ cls := "java/util/AbstractSequentialList", name := "<init>", desc := "()V" } : Jvm.MethodName) prog_41_method_1_code (1 : Nat) (Option.none : Option Jvm.ClassFile.FieldType)) ∈ lw_all := lw_g (lw_at lw_m1 72 rfl) rfl
theorem q167 : (Jvm.Cond.methodLink "java/util/AbstractSequentialList" (1 : Nat) ({ cls := "java/util/AbstractList", name := "<init>", desc := "()V" } : Jvm.MethodName)) ∈ lw_all := lw_g (lw_at lw_m1 73 rfl) rfl
theorem q340 : (Jvm.Cond.declares ({ cls := "java/util/AbstractSequentialList", name := "iterator", desc := "()Ljava/util/Iterator;" } : Jvm.MethodName)) ∈ lw_tbl := lw_at lw_m2 6 rfl
theorem q342 : (Jvm.Cond.instanceMethod ({ cls := "java/util/AbstractSequentialList", name := "iterator", desc := "()Ljava/util/Iterator;" } : Jvm.MethodName)) ∈ lw_all := lw_g (lw_at lw_m2 8 rfl) rfl
theorem q343 : (Jvm.Cond.code ({ cls := "java/util/AbstractSequentialList", name := "iterator", desc := "()Ljava/util/Iterator;" } : Jvm.MethodName) prog_41_method_7_code (1 : Nat) (Option.some (Jvm.ClassFile.FieldType.object "java/util/Iterator"))) ∈ lw_all := lw_g (lw_at lw_m2 9 rfl) rfl
theorem q344 : (Jvm.Cond.methodLink "java/util/AbstractSequentialList" (65 : Nat) ({ cls := "java/util/AbstractSequentialList", name := "listIterator", desc := "()Ljava/util/ListIterator;" } : Jvm.MethodName)) ∈ lw_all := lw_g (lw_at lw_m2 10 rfl) rfl
theorem q345 : (Jvm.Cond.sameMethod "java/util/AbstractSequentialList" "java/util/AbstractList" "listIterator" "()Ljava/util/ListIterator;") ∈ lw_all := lw_g (lw_at lw_m2 11 rfl) rfl
theorem q2294 : (Jvm.Cond.publicMethod ({ cls := "java/util/AbstractSequentialList", name := "iterator", desc := "()Ljava/util/Iterator;" } : Jvm.MethodName)) ∈ lw_tbl := lw_at lw_m10 40 rfl

/-! java/lang/Number -/
set_option maxRecDepth 100000
def RJ20 : String := "java/lang/Number"
abbrev cJ20_init : ByteArray := prog_25_method_1_code
def yJ20_init : MethodName := ⟨RJ20, "<init>", "()V"⟩
theorem dJ20_init_0 : decode cJ20_init 0 = .ok (.aload_n 0, 1) := by decide +kernel
theorem dJ20_init_1 : decode cJ20_init 1 = .ok (.invokespecial 1, 3) := by decide +kernel
theorem dJ20_init_4 : decode cJ20_init 4 = .ok (.return_, 1) := by decide +kernel
theorem q119 : (Jvm.Cond.initialized "java/lang/Number") ∈ lw_all := lw_g (lw_at lw_m1 25 rfl) rfl
theorem q1156 : (Jvm.Cond.instanceMethod ({ cls := "java/lang/Number", name := "<init>", desc := "()V" } : Jvm.MethodName)) ∈ lw_all := lw_g (lw_at lw_m5 102 rfl) rfl
theorem q1157 : (Jvm.Cond.code ({ cls := "java/lang/Number", name := "<init>", desc := "()V" } : Jvm.MethodName) prog_25_method_1_code (1 : Nat) (Option.none : Option Jvm.ClassFile.FieldType)) ∈ lw_all := lw_g (lw_at lw_m5 103 rfl) rfl
theorem q1158 : (Jvm.Cond.methodLink "java/lang/Number" (1 : Nat) ({ cls := "java/lang/Object", name := "<init>", desc := "()V" } : Jvm.MethodName)) ∈ lw_all := lw_g (lw_at lw_m5 104 rfl) rfl

/-! java/lang/Integer -/
set_option maxRecDepth 100000
def RJ21 : String := "java/lang/Integer"
def TJ21 : u_T := fun k => match k with
  | _ => ("java/lang/Integer", "value", "I", true)
def tyJ21 : Nat → FieldType := fun k => match k with
  | _ => .int
abbrev wsJ210 : List Cond := u_ws RJ21 TJ21 1
theorem nmJ21 : ∀ a, a < 1 → ∀ b, b < 1 → a ≠ b → (TJ21 a).2.1 ≠ (TJ21 b).2.1 := by decide +kernel
theorem tyJ21_ok : ∀ k, k < 1 → parseFieldDescriptor (TJ21 k).2.2.1 = some (tyJ21 k) := by decide +kernel
abbrev cJ21_stringSize : ByteArray := prog_21_method_13_code
def yJ21_stringSize : MethodName := ⟨RJ21, "stringSize", "(I)I"⟩
def dkwJ21_stringSize_1 : List UInt8 := [164, 0, 7, 29, 27, 96, 172, 16, 10, 28, 104, 61, 132, 3, 1, 167, 255, 233, 16, 10, 27, 96, 172]
abbrev dktJ21_stringSize_1 : List UInt8 := dkwJ21_stringSize_1 ++ []
def dkwJ21_stringSize_0 : List UInt8 := [4, 60, 26, 155, 0, 8, 3, 60, 26, 116, 59, 16, 246, 61, 4, 62, 29, 16, 10, 162, 0, 23, 26, 28]
abbrev dktJ21_stringSize_0 : List UInt8 := dkwJ21_stringSize_0 ++ dktJ21_stringSize_1
theorem dksJ21_stringSize_0 : cJ21_stringSize.data.toList.drop 0 = dktJ21_stringSize_0 := by decide +kernel
theorem dksJ21_stringSize_1 : cJ21_stringSize.data.toList.drop 24 = dktJ21_stringSize_1 := dk_seg dksJ21_stringSize_0 24 rfl rfl
theorem dJ21_stringSize_0 : decode cJ21_stringSize 0 = .ok (.iconst 1, 1) := dk_4 (dk_at dksJ21_stringSize_0 0 rfl rfl)
theorem dJ21_stringSize_1 : decode cJ21_stringSize 1 = .ok (.istore_n 1, 1) := dk_60 (dk_at dksJ21_stringSize_0 1 rfl rfl)
theorem dJ21_stringSize_2 : decode cJ21_stringSize 2 = .ok (.iload_n 0, 1) := dk_26 (dk_at dksJ21_stringSize_0 2 rfl rfl)
theorem dJ21_stringSize_3 : decode cJ21_stringSize 3 = .ok (.ifCond .lt 8, 3) := dk_155 0 8 (dk_at dksJ21_stringSize_0 3 rfl rfl)
theorem dJ21_stringSize_6 : decode cJ21_stringSize 6 = .ok (.iconst 0, 1) := dk_3 (dk_at dksJ21_stringSize_0 6 rfl rfl)
theorem dJ21_stringSize_7 : decode cJ21_stringSize 7 = .ok (.istore_n 1, 1) := dk_60 (dk_at dksJ21_stringSize_0 7 rfl rfl)
theorem dJ21_stringSize_8 : decode cJ21_stringSize 8 = .ok (.iload_n 0, 1) := dk_26 (dk_at dksJ21_stringSize_0 8 rfl rfl)
theorem dJ21_stringSize_9 : decode cJ21_stringSize 9 = .ok (.ineg, 1) := dk_116 (dk_at dksJ21_stringSize_0 9 rfl rfl)
theorem dJ21_stringSize_10 : decode cJ21_stringSize 10 = .ok (.istore_n 0, 1) := dk_59 (dk_at dksJ21_stringSize_0 10 rfl rfl)
theorem dJ21_stringSize_11 : decode cJ21_stringSize 11 = .ok (.bipush (-10), 2) := dk_16 246 (dk_at dksJ21_stringSize_0 11 rfl rfl)
theorem dJ21_stringSize_13 : decode cJ21_stringSize 13 = .ok (.istore_n 2, 1) := dk_61 (dk_at dksJ21_stringSize_0 13 rfl rfl)
theorem dJ21_stringSize_14 : decode cJ21_stringSize 14 = .ok (.iconst 1, 1) := dk_4 (dk_at dksJ21_stringSize_0 14 rfl rfl)
theorem dJ21_stringSize_15 : decode cJ21_stringSize 15 = .ok (.istore_n 3, 1) := dk_62 (dk_at dksJ21_stringSize_0 15 rfl rfl)
theorem dJ21_stringSize_16 : decode cJ21_stringSize 16 = .ok (.iload_n 3, 1) := dk_29 (dk_at dksJ21_stringSize_0 16 rfl rfl)
theorem dJ21_stringSize_17 : decode cJ21_stringSize 17 = .ok (.bipush 10, 2) := dk_16 10 (dk_at dksJ21_stringSize_0 17 rfl rfl)
theorem dJ21_stringSize_19 : decode cJ21_stringSize 19 = .ok (.if_icmp .ge 23, 3) := dk_162 0 23 (dk_at dksJ21_stringSize_0 19 rfl rfl)
theorem dJ21_stringSize_22 : decode cJ21_stringSize 22 = .ok (.iload_n 0, 1) := dk_26 (dk_at dksJ21_stringSize_0 22 rfl rfl)
theorem dJ21_stringSize_23 : decode cJ21_stringSize 23 = .ok (.iload_n 2, 1) := dk_28 (dk_at dksJ21_stringSize_0 23 rfl rfl)
theorem dJ21_stringSize_24 : decode cJ21_stringSize 24 = .ok (.if_icmp .le 7, 3) := dk_164 0 7 (dk_at dksJ21_stringSize_1 0 rfl rfl)
theorem dJ21_stringSize_27 : decode cJ21_stringSize 27 = .ok (.iload_n 3, 1) := dk_29 (dk_at dksJ21_stringSize_1 3 rfl rfl)
theorem dJ21_stringSize_28 : decode cJ21_stringSize 28 = .ok (.iload_n 1, 1) := dk_27 (dk_at dksJ21_stringSize_1 4 rfl rfl)
theorem dJ21_stringSize_29 : decode cJ21_stringSize 29 = .ok (.iadd, 1) := dk_96 (dk_at dksJ21_stringSize_1 5 rfl rfl)
theorem dJ21_stringSize_30 : decode cJ21_stringSize 30 = .ok (.ireturn, 1) := dk_172 (dk_at dksJ21_stringSize_1 6 rfl rfl)
theorem dJ21_stringSize_31 : decode cJ21_stringSize 31 = .ok (.bipush 10, 2) := dk_16 10 (dk_at dksJ21_stringSize_1 7 rfl rfl)
theorem dJ21_stringSize_33 : decode cJ21_stringSize 33 = .ok (.iload_n 2, 1) := dk_28 (dk_at dksJ21_stringSize_1 9 rfl rfl)
theorem dJ21_stringSize_34 : decode cJ21_stringSize 34 = .ok (.imul, 1) := dk_104 (dk_at dksJ21_stringSize_1 10 rfl rfl)
theorem dJ21_stringSize_35 : decode cJ21_stringSize 35 = .ok (.istore_n 2, 1) := dk_61 (dk_at dksJ21_stringSize_1 11 rfl rfl)
theorem dJ21_stringSize_36 : decode cJ21_stringSize 36 = .ok (.iinc 3 1, 3) := dk_132 3 1 (dk_at dksJ21_stringSize_1 12 rfl rfl)
theorem dJ21_stringSize_39 : decode cJ21_stringSize 39 = .ok (.goto (-23), 3) := dk_167 255 233 (dk_at dksJ21_stringSize_1 15 rfl rfl)
theorem dJ21_stringSize_42 : decode cJ21_stringSize 42 = .ok (.bipush 10, 2) := dk_16 10 (dk_at dksJ21_stringSize_1 18 rfl rfl)
theorem dJ21_stringSize_44 : decode cJ21_stringSize 44 = .ok (.iload_n 1, 1) := dk_27 (dk_at dksJ21_stringSize_1 20 rfl rfl)
theorem dJ21_stringSize_45 : decode cJ21_stringSize 45 = .ok (.iadd, 1) := dk_96 (dk_at dksJ21_stringSize_1 21 rfl rfl)
theorem dJ21_stringSize_46 : decode cJ21_stringSize 46 = .ok (.ireturn, 1) := dk_172 (dk_at dksJ21_stringSize_1 22 rfl rfl)
abbrev cJ21_getChars : ByteArray := prog_21_method_12_code
def yJ21_getChars : MethodName := ⟨RJ21, "getChars", "(II[B)I"⟩
def dkwJ21_getChars_5 : List UInt8 := [16, 45, 84, 21, 5, 172]
abbrev dktJ21_getChars_5 : List UInt8 := dkwJ21_getChars_5 ++ []
def dkwJ21_getChars_4 : List UInt8 := [132, 5, 255, 21, 5, 178, 0, 87, 26, 116, 51, 84, 21, 6, 153, 0, 12, 44, 132, 5, 255, 21, 5]
abbrev dktJ21_getChars_4 : List UInt8 := dkwJ21_getChars_4 ++ dktJ21_getChars_5
def dkwJ21_getChars_3 : List UInt8 := [167, 255, 209, 44, 132, 5, 255, 21, 5, 178, 0, 83, 26, 116, 51, 84, 26, 16, 247, 162, 0, 16, 44]
abbrev dktJ21_getChars_3 : List UInt8 := dkwJ21_getChars_3 ++ dktJ21_getChars_4
def dkwJ21_getChars_2 : List UInt8 := [21, 5, 178, 0, 83, 21, 4, 51, 84, 44, 132, 5, 255, 21, 5, 178, 0, 87, 21, 4, 51, 84]
abbrev dktJ21_getChars_2 : List UInt8 := dkwJ21_getChars_2 ++ dktJ21_getChars_3
def dkwJ21_getChars_1 : List UInt8 := [16, 156, 163, 0, 47, 26, 16, 100, 108, 62, 29, 16, 100, 104, 26, 100, 54, 4, 29, 59, 44, 132, 5, 255]
abbrev dktJ21_getChars_1 : List UInt8 := dkwJ21_getChars_1 ++ dktJ21_getChars_2
def dkwJ21_getChars_0 : List UInt8 := [27, 54, 5, 26, 156, 0, 7, 4, 167, 0, 4, 3, 54, 6, 21, 6, 154, 0, 6, 26, 116, 59, 26]
abbrev dktJ21_getChars_0 : List UInt8 := dkwJ21_getChars_0 ++ dktJ21_getChars_1
theorem dksJ21_getChars_0 : cJ21_getChars.data.toList.drop 0 = dktJ21_getChars_0 := by decide +kernel
theorem dksJ21_getChars_1 : cJ21_getChars.data.toList.drop 23 = dktJ21_getChars_1 := dk_seg dksJ21_getChars_0 23 rfl rfl
theorem dksJ21_getChars_2 : cJ21_getChars.data.toList.drop 47 = dktJ21_getChars_2 := dk_seg dksJ21_getChars_1 24 rfl rfl
theorem dksJ21_getChars_3 : cJ21_getChars.data.toList.drop 69 = dktJ21_getChars_3 := dk_seg dksJ21_getChars_2 22 rfl rfl
theorem dksJ21_getChars_4 : cJ21_getChars.data.toList.drop 92 = dktJ21_getChars_4 := dk_seg dksJ21_getChars_3 23 rfl rfl
theorem dksJ21_getChars_5 : cJ21_getChars.data.toList.drop 115 = dktJ21_getChars_5 := dk_seg dksJ21_getChars_4 23 rfl rfl
theorem dJ21_getChars_0 : decode cJ21_getChars 0 = .ok (.iload_n 1, 1) := dk_27 (dk_at dksJ21_getChars_0 0 rfl rfl)
theorem dJ21_getChars_1 : decode cJ21_getChars 1 = .ok (.istore 5, 2) := dk_54 5 (dk_at dksJ21_getChars_0 1 rfl rfl)
theorem dJ21_getChars_3 : decode cJ21_getChars 3 = .ok (.iload_n 0, 1) := dk_26 (dk_at dksJ21_getChars_0 3 rfl rfl)
theorem dJ21_getChars_4 : decode cJ21_getChars 4 = .ok (.ifCond .ge 7, 3) := dk_156 0 7 (dk_at dksJ21_getChars_0 4 rfl rfl)
theorem dJ21_getChars_7 : decode cJ21_getChars 7 = .ok (.iconst 1, 1) := dk_4 (dk_at dksJ21_getChars_0 7 rfl rfl)
theorem dJ21_getChars_8 : decode cJ21_getChars 8 = .ok (.goto 4, 3) := dk_167 0 4 (dk_at dksJ21_getChars_0 8 rfl rfl)
theorem dJ21_getChars_11 : decode cJ21_getChars 11 = .ok (.iconst 0, 1) := dk_3 (dk_at dksJ21_getChars_0 11 rfl rfl)
theorem dJ21_getChars_12 : decode cJ21_getChars 12 = .ok (.istore 6, 2) := dk_54 6 (dk_at dksJ21_getChars_0 12 rfl rfl)
theorem dJ21_getChars_14 : decode cJ21_getChars 14 = .ok (.iload 6, 2) := dk_21 6 (dk_at dksJ21_getChars_0 14 rfl rfl)
theorem dJ21_getChars_16 : decode cJ21_getChars 16 = .ok (.ifCond .ne 6, 3) := dk_154 0 6 (dk_at dksJ21_getChars_0 16 rfl rfl)
theorem dJ21_getChars_19 : decode cJ21_getChars 19 = .ok (.iload_n 0, 1) := dk_26 (dk_at dksJ21_getChars_0 19 rfl rfl)
theorem dJ21_getChars_20 : decode cJ21_getChars 20 = .ok (.ineg, 1) := dk_116 (dk_at dksJ21_getChars_0 20 rfl rfl)
theorem dJ21_getChars_21 : decode cJ21_getChars 21 = .ok (.istore_n 0, 1) := dk_59 (dk_at dksJ21_getChars_0 21 rfl rfl)
theorem dJ21_getChars_22 : decode cJ21_getChars 22 = .ok (.iload_n 0, 1) := dk_26 (dk_at dksJ21_getChars_0 22 rfl rfl)
theorem dJ21_getChars_23 : decode cJ21_getChars 23 = .ok (.bipush (-100), 2) := dk_16 156 (dk_at dksJ21_getChars_1 0 rfl rfl)
theorem dJ21_getChars_25 : decode cJ21_getChars 25 = .ok (.if_icmp .gt 47, 3) := dk_163 0 47 (dk_at dksJ21_getChars_1 2 rfl rfl)
theorem dJ21_getChars_28 : decode cJ21_getChars 28 = .ok (.iload_n 0, 1) := dk_26 (dk_at dksJ21_getChars_1 5 rfl rfl)
theorem dJ21_getChars_29 : decode cJ21_getChars 29 = .ok (.bipush 100, 2) := dk_16 100 (dk_at dksJ21_getChars_1 6 rfl rfl)
theorem dJ21_getChars_31 : decode cJ21_getChars 31 = .ok (.idiv, 1) := dk_108 (dk_at dksJ21_getChars_1 8 rfl rfl)
theorem dJ21_getChars_32 : decode cJ21_getChars 32 = .ok (.istore_n 3, 1) := dk_62 (dk_at dksJ21_getChars_1 9 rfl rfl)
theorem dJ21_getChars_33 : decode cJ21_getChars 33 = .ok (.iload_n 3, 1) := dk_29 (dk_at dksJ21_getChars_1 10 rfl rfl)
theorem dJ21_getChars_34 : decode cJ21_getChars 34 = .ok (.bipush 100, 2) := dk_16 100 (dk_at dksJ21_getChars_1 11 rfl rfl)
theorem dJ21_getChars_36 : decode cJ21_getChars 36 = .ok (.imul, 1) := dk_104 (dk_at dksJ21_getChars_1 13 rfl rfl)
theorem dJ21_getChars_37 : decode cJ21_getChars 37 = .ok (.iload_n 0, 1) := dk_26 (dk_at dksJ21_getChars_1 14 rfl rfl)
theorem dJ21_getChars_38 : decode cJ21_getChars 38 = .ok (.isub, 1) := dk_100 (dk_at dksJ21_getChars_1 15 rfl rfl)
theorem dJ21_getChars_39 : decode cJ21_getChars 39 = .ok (.istore 4, 2) := dk_54 4 (dk_at dksJ21_getChars_1 16 rfl rfl)
theorem dJ21_getChars_41 : decode cJ21_getChars 41 = .ok (.iload_n 3, 1) := dk_29 (dk_at dksJ21_getChars_1 18 rfl rfl)
theorem dJ21_getChars_42 : decode cJ21_getChars 42 = .ok (.istore_n 0, 1) := dk_59 (dk_at dksJ21_getChars_1 19 rfl rfl)
theorem dJ21_getChars_43 : decode cJ21_getChars 43 = .ok (.aload_n 2, 1) := dk_44 (dk_at dksJ21_getChars_1 20 rfl rfl)
theorem dJ21_getChars_44 : decode cJ21_getChars 44 = .ok (.iinc 5 (-1), 3) := dk_132 5 255 (dk_at dksJ21_getChars_1 21 rfl rfl)
theorem dJ21_getChars_47 : decode cJ21_getChars 47 = .ok (.iload 5, 2) := dk_21 5 (dk_at dksJ21_getChars_2 0 rfl rfl)
theorem dJ21_getChars_49 : decode cJ21_getChars 49 = .ok (.getstatic 83, 3) := dk_178 0 83 (dk_at dksJ21_getChars_2 2 rfl rfl)
theorem dJ21_getChars_52 : decode cJ21_getChars 52 = .ok (.iload 4, 2) := dk_21 4 (dk_at dksJ21_getChars_2 5 rfl rfl)
theorem dJ21_getChars_54 : decode cJ21_getChars 54 = .ok (.baload, 1) := dk_51 (dk_at dksJ21_getChars_2 7 rfl rfl)
theorem dJ21_getChars_55 : decode cJ21_getChars 55 = .ok (.bastore, 1) := dk_84 (dk_at dksJ21_getChars_2 8 rfl rfl)
theorem dJ21_getChars_56 : decode cJ21_getChars 56 = .ok (.aload_n 2, 1) := dk_44 (dk_at dksJ21_getChars_2 9 rfl rfl)
theorem dJ21_getChars_57 : decode cJ21_getChars 57 = .ok (.iinc 5 (-1), 3) := dk_132 5 255 (dk_at dksJ21_getChars_2 10 rfl rfl)
theorem dJ21_getChars_60 : decode cJ21_getChars 60 = .ok (.iload 5, 2) := dk_21 5 (dk_at dksJ21_getChars_2 13 rfl rfl)
theorem dJ21_getChars_62 : decode cJ21_getChars 62 = .ok (.getstatic 87, 3) := dk_178 0 87 (dk_at dksJ21_getChars_2 15 rfl rfl)
theorem dJ21_getChars_65 : decode cJ21_getChars 65 = .ok (.iload 4, 2) := dk_21 4 (dk_at dksJ21_getChars_2 18 rfl rfl)
theorem dJ21_getChars_67 : decode cJ21_getChars 67 = .ok (.baload, 1) := dk_51 (dk_at dksJ21_getChars_2 20 rfl rfl)
theorem dJ21_getChars_68 : decode cJ21_getChars 68 = .ok (.bastore, 1) := dk_84 (dk_at dksJ21_getChars_2 21 rfl rfl)
theorem dJ21_getChars_69 : decode cJ21_getChars 69 = .ok (.goto (-47), 3) := dk_167 255 209 (dk_at dksJ21_getChars_3 0 rfl rfl)
theorem dJ21_getChars_72 : decode cJ21_getChars 72 = .ok (.aload_n 2, 1) := dk_44 (dk_at dksJ21_getChars_3 3 rfl rfl)
theorem dJ21_getChars_73 : decode cJ21_getChars 73 = .ok (.iinc 5 (-1), 3) := dk_132 5 255 (dk_at dksJ21_getChars_3 4 rfl rfl)
theorem dJ21_getChars_76 : decode cJ21_getChars 76 = .ok (.iload 5, 2) := dk_21 5 (dk_at dksJ21_getChars_3 7 rfl rfl)
theorem dJ21_getChars_78 : decode cJ21_getChars 78 = .ok (.getstatic 83, 3) := dk_178 0 83 (dk_at dksJ21_getChars_3 9 rfl rfl)
theorem dJ21_getChars_81 : decode cJ21_getChars 81 = .ok (.iload_n 0, 1) := dk_26 (dk_at dksJ21_getChars_3 12 rfl rfl)
theorem dJ21_getChars_82 : decode cJ21_getChars 82 = .ok (.ineg, 1) := dk_116 (dk_at dksJ21_getChars_3 13 rfl rfl)
theorem dJ21_getChars_83 : decode cJ21_getChars 83 = .ok (.baload, 1) := dk_51 (dk_at dksJ21_getChars_3 14 rfl rfl)
theorem dJ21_getChars_84 : decode cJ21_getChars 84 = .ok (.bastore, 1) := dk_84 (dk_at dksJ21_getChars_3 15 rfl rfl)
theorem dJ21_getChars_85 : decode cJ21_getChars 85 = .ok (.iload_n 0, 1) := dk_26 (dk_at dksJ21_getChars_3 16 rfl rfl)
theorem dJ21_getChars_86 : decode cJ21_getChars 86 = .ok (.bipush (-9), 2) := dk_16 247 (dk_at dksJ21_getChars_3 17 rfl rfl)
theorem dJ21_getChars_88 : decode cJ21_getChars 88 = .ok (.if_icmp .ge 16, 3) := dk_162 0 16 (dk_at dksJ21_getChars_3 19 rfl rfl)
theorem dJ21_getChars_91 : decode cJ21_getChars 91 = .ok (.aload_n 2, 1) := dk_44 (dk_at dksJ21_getChars_3 22 rfl rfl)
theorem dJ21_getChars_92 : decode cJ21_getChars 92 = .ok (.iinc 5 (-1), 3) := dk_132 5 255 (dk_at dksJ21_getChars_4 0 rfl rfl)
theorem dJ21_getChars_95 : decode cJ21_getChars 95 = .ok (.iload 5, 2) := dk_21 5 (dk_at dksJ21_getChars_4 3 rfl rfl)
theorem dJ21_getChars_97 : decode cJ21_getChars 97 = .ok (.getstatic 87, 3) := dk_178 0 87 (dk_at dksJ21_getChars_4 5 rfl rfl)
theorem dJ21_getChars_100 : decode cJ21_getChars 100 = .ok (.iload_n 0, 1) := dk_26 (dk_at dksJ21_getChars_4 8 rfl rfl)
theorem dJ21_getChars_101 : decode cJ21_getChars 101 = .ok (.ineg, 1) := dk_116 (dk_at dksJ21_getChars_4 9 rfl rfl)
theorem dJ21_getChars_102 : decode cJ21_getChars 102 = .ok (.baload, 1) := dk_51 (dk_at dksJ21_getChars_4 10 rfl rfl)
theorem dJ21_getChars_103 : decode cJ21_getChars 103 = .ok (.bastore, 1) := dk_84 (dk_at dksJ21_getChars_4 11 rfl rfl)
theorem dJ21_getChars_104 : decode cJ21_getChars 104 = .ok (.iload 6, 2) := dk_21 6 (dk_at dksJ21_getChars_4 12 rfl rfl)
theorem dJ21_getChars_106 : decode cJ21_getChars 106 = .ok (.ifCond .eq 12, 3) := dk_153 0 12 (dk_at dksJ21_getChars_4 14 rfl rfl)
theorem dJ21_getChars_109 : decode cJ21_getChars 109 = .ok (.aload_n 2, 1) := dk_44 (dk_at dksJ21_getChars_4 17 rfl rfl)
theorem dJ21_getChars_110 : decode cJ21_getChars 110 = .ok (.iinc 5 (-1), 3) := dk_132 5 255 (dk_at dksJ21_getChars_4 18 rfl rfl)
theorem dJ21_getChars_113 : decode cJ21_getChars 113 = .ok (.iload 5, 2) := dk_21 5 (dk_at dksJ21_getChars_4 21 rfl rfl)
theorem dJ21_getChars_115 : decode cJ21_getChars 115 = .ok (.bipush 45, 2) := dk_16 45 (dk_at dksJ21_getChars_5 0 rfl rfl)
theorem dJ21_getChars_117 : decode cJ21_getChars 117 = .ok (.bastore, 1) := dk_84 (dk_at dksJ21_getChars_5 2 rfl rfl)
theorem dJ21_getChars_118 : decode cJ21_getChars 118 = .ok (.iload 5, 2) := dk_21 5 (dk_at dksJ21_getChars_5 3 rfl rfl)
theorem dJ21_getChars_120 : decode cJ21_getChars 120 = .ok (.ireturn, 1) := dk_172 (dk_at dksJ21_getChars_5 5 rfl rfl)
abbrev cJ21_intValue : ByteArray := prog_21_method_27_code
def yJ21_intValue : MethodName := ⟨RJ21, "intValue", "()I"⟩
theorem dJ21_intValue_0 : decode cJ21_intValue 0 = .ok (.aload_n 0, 1) := by decide +kernel
theorem dJ21_intValue_1 : decode cJ21_intValue 1 = .ok (.getfield 205, 3) := by decide +kernel
theorem dJ21_intValue_4 : decode cJ21_intValue 4 = .ok (.ireturn, 1) := by decide +kernel
abbrev cJ21_valueOf : ByteArray := prog_21_method_22_code
def yJ21_valueOf : MethodName := ⟨RJ21, "valueOf", "(I)Ljava/lang/Integer;"⟩
def dkwJ21_valueOf_1 : List UInt8 := [187, 0, 1, 89, 26, 183, 0, 199, 176]
abbrev dktJ21_valueOf_1 : List UInt8 := dkwJ21_valueOf_1 ++ []
def dkwJ21_valueOf_0 : List UInt8 := [26, 16, 128, 161, 0, 20, 26, 178, 0, 191, 163, 0, 13, 178, 0, 195, 26, 17, 0, 128, 96, 50, 176]
abbrev dktJ21_valueOf_0 : List UInt8 := dkwJ21_valueOf_0 ++ dktJ21_valueOf_1
theorem dksJ21_valueOf_0 : cJ21_valueOf.data.toList.drop 0 = dktJ21_valueOf_0 := by decide +kernel
theorem dksJ21_valueOf_1 : cJ21_valueOf.data.toList.drop 23 = dktJ21_valueOf_1 := dk_seg dksJ21_valueOf_0 23 rfl rfl
theorem dJ21_valueOf_0 : decode cJ21_valueOf 0 = .ok (.iload_n 0, 1) := dk_26 (dk_at dksJ21_valueOf_0 0 rfl rfl)
theorem dJ21_valueOf_1 : decode cJ21_valueOf 1 = .ok (.bipush (-128), 2) := dk_16 128 (dk_at dksJ21_valueOf_0 1 rfl rfl)
theorem dJ21_valueOf_3 : decode cJ21_valueOf 3 = .ok (.if_icmp .lt 20, 3) := dk_161 0 20 (dk_at dksJ21_valueOf_0 3 rfl rfl)
theorem dJ21_valueOf_6 : decode cJ21_valueOf 6 = .ok (.iload_n 0, 1) := dk_26 (dk_at dksJ21_valueOf_0 6 rfl rfl)
theorem dJ21_valueOf_7 : decode cJ21_valueOf 7 = .ok (.getstatic 191, 3) := dk_178 0 191 (dk_at dksJ21_valueOf_0 7 rfl rfl)
theorem dJ21_valueOf_10 : decode cJ21_valueOf 10 = .ok (.if_icmp .gt 13, 3) := dk_163 0 13 (dk_at dksJ21_valueOf_0 10 rfl rfl)
theorem dJ21_valueOf_13 : decode cJ21_valueOf 13 = .ok (.getstatic 195, 3) := dk_178 0 195 (dk_at dksJ21_valueOf_0 13 rfl rfl)
theorem dJ21_valueOf_16 : decode cJ21_valueOf 16 = .ok (.iload_n 0, 1) := dk_26 (dk_at dksJ21_valueOf_0 16 rfl rfl)
theorem dJ21_valueOf_17 : decode cJ21_valueOf 17 = .ok (.sipush 128, 3) := dk_17 0 128 (dk_at dksJ21_valueOf_0 17 rfl rfl)
theorem dJ21_valueOf_20 : decode cJ21_valueOf 20 = .ok (.iadd, 1) := dk_96 (dk_at dksJ21_valueOf_0 20 rfl rfl)
theorem dJ21_valueOf_21 : decode cJ21_valueOf 21 = .ok (.aaload, 1) := dk_50 (dk_at dksJ21_valueOf_0 21 rfl rfl)
theorem dJ21_valueOf_22 : decode cJ21_valueOf 22 = .ok (.areturn, 1) := dk_176 (dk_at dksJ21_valueOf_0 22 rfl rfl)
theorem dJ21_valueOf_23 : decode cJ21_valueOf 23 = .ok (.new 1, 3) := dk_187 0 1 (dk_at dksJ21_valueOf_1 0 rfl rfl)
theorem dJ21_valueOf_26 : decode cJ21_valueOf 26 = .ok (.dup, 1) := dk_89 (dk_at dksJ21_valueOf_1 3 rfl rfl)
theorem dJ21_valueOf_27 : decode cJ21_valueOf 27 = .ok (.iload_n 0, 1) := dk_26 (dk_at dksJ21_valueOf_1 4 rfl rfl)
theorem dJ21_valueOf_28 : decode cJ21_valueOf 28 = .ok (.invokespecial 199, 3) := dk_183 0 199 (dk_at dksJ21_valueOf_1 5 rfl rfl)
theorem dJ21_valueOf_31 : decode cJ21_valueOf 31 = .ok (.areturn, 1) := dk_176 (dk_at dksJ21_valueOf_1 8 rfl rfl)
abbrev cJ21_init : ByteArray := prog_21_method_23_code
def yJ21_init : MethodName := ⟨RJ21, "<init>", "(I)V"⟩
def dkwJ21_init_0 : List UInt8 := [42, 183, 0, 202, 42, 27, 181, 0, 205, 177]
abbrev dktJ21_init_0 : List UInt8 := dkwJ21_init_0 ++ []
theorem dksJ21_init_0 : cJ21_init.data.toList.drop 0 = dktJ21_init_0 := by decide +kernel
theorem dJ21_init_0 : decode cJ21_init 0 = .ok (.aload_n 0, 1) := dk_42 (dk_at dksJ21_init_0 0 rfl rfl)
theorem dJ21_init_1 : decode cJ21_init 1 = .ok (.invokespecial 202, 3) := dk_183 0 202 (dk_at dksJ21_init_0 1 rfl rfl)
theorem dJ21_init_4 : decode cJ21_init 4 = .ok (.aload_n 0, 1) := dk_42 (dk_at dksJ21_init_0 4 rfl rfl)
theorem dJ21_init_5 : decode cJ21_init 5 = .ok (.iload_n 1, 1) := dk_27 (dk_at dksJ21_init_0 5 rfl rfl)
theorem dJ21_init_6 : decode cJ21_init 6 = .ok (.putfield 205, 3) := dk_181 0 205 (dk_at dksJ21_init_0 6 rfl rfl)
theorem dJ21_init_9 : decode cJ21_init 9 = .ok (.return_, 1) := dk_177 (dk_at dksJ21_init_0 9 rfl rfl)
abbrev cJ21_equals : ByteArray := prog_21_method_34_code
def yJ21_equals : MethodName := ⟨RJ21, "equals", "(Ljava/lang/Object;)Z"⟩
def dkwJ21_equals_1 : List UInt8 := [167, 0, 4, 3, 172, 3, 172]
abbrev dktJ21_equals_1 : List UInt8 := dkwJ21_equals_1 ++ []
def dkwJ21_equals_0 : List UInt8 := [43, 193, 0, 1, 153, 0, 23, 42, 180, 0, 205, 43, 192, 0, 1, 182, 0, 211, 160, 0, 7, 4]
abbrev dktJ21_equals_0 : List UInt8 := dkwJ21_equals_0 ++ dktJ21_equals_1
theorem dksJ21_equals_0 : cJ21_equals.data.toList.drop 0 = dktJ21_equals_0 := by decide +kernel
theorem dksJ21_equals_1 : cJ21_equals.data.toList.drop 22 = dktJ21_equals_1 := dk_seg dksJ21_equals_0 22 rfl rfl
theorem dJ21_equals_0 : decode cJ21_equals 0 = .ok (.aload_n 1, 1) := dk_43 (dk_at dksJ21_equals_0 0 rfl rfl)
theorem dJ21_equals_1 : decode cJ21_equals 1 = .ok (.instanceof 1, 3) := dk_193 0 1 (dk_at dksJ21_equals_0 1 rfl rfl)
theorem dJ21_equals_4 : decode cJ21_equals 4 = .ok (.ifCond .eq 23, 3) := dk_153 0 23 (dk_at dksJ21_equals_0 4 rfl rfl)
theorem dJ21_equals_7 : decode cJ21_equals 7 = .ok (.aload_n 0, 1) := dk_42 (dk_at dksJ21_equals_0 7 rfl rfl)
theorem dJ21_equals_8 : decode cJ21_equals 8 = .ok (.getfield 205, 3) := dk_180 0 205 (dk_at dksJ21_equals_0 8 rfl rfl)
theorem dJ21_equals_11 : decode cJ21_equals 11 = .ok (.aload_n 1, 1) := dk_43 (dk_at dksJ21_equals_0 11 rfl rfl)
theorem dJ21_equals_12 : decode cJ21_equals 12 = .ok (.checkcast 1, 3) := dk_192 0 1 (dk_at dksJ21_equals_0 12 rfl rfl)
theorem dJ21_equals_15 : decode cJ21_equals 15 = .ok (.invokevirtual 211, 3) := dk_182 0 211 (dk_at dksJ21_equals_0 15 rfl rfl)
theorem dJ21_equals_18 : decode cJ21_equals 18 = .ok (.if_icmp .ne 7, 3) := dk_160 0 7 (dk_at dksJ21_equals_0 18 rfl rfl)
theorem dJ21_equals_21 : decode cJ21_equals 21 = .ok (.iconst 1, 1) := dk_4 (dk_at dksJ21_equals_0 21 rfl rfl)
theorem dJ21_equals_22 : decode cJ21_equals 22 = .ok (.goto 4, 3) := dk_167 0 4 (dk_at dksJ21_equals_1 0 rfl rfl)
theorem dJ21_equals_25 : decode cJ21_equals 25 = .ok (.iconst 0, 1) := dk_3 (dk_at dksJ21_equals_1 3 rfl rfl)
theorem dJ21_equals_26 : decode cJ21_equals 26 = .ok (.ireturn, 1) := dk_172 (dk_at dksJ21_equals_1 4 rfl rfl)
theorem dJ21_equals_27 : decode cJ21_equals 27 = .ok (.iconst 0, 1) := dk_3 (dk_at dksJ21_equals_1 5 rfl rfl)
theorem dJ21_equals_28 : decode cJ21_equals 28 = .ok (.ireturn, 1) := dk_172 (dk_at dksJ21_equals_1 6 rfl rfl)
theorem q120 : (Jvm.Cond.initialized "java/lang/Integer") ∈ lw_all := lw_g (lw_at lw_m1 26 rfl) rfl
theorem q541 : (Jvm.Cond.static ({ cls := "java/lang/Integer", name := "stringSize", desc := "(I)I" } : Jvm.MethodName)) ∈ lw_all := lw_g (lw_at lw_m2 207 rfl) rfl
theorem q542 : (Jvm.Cond.code ({ cls := "java/lang/Integer", name := "stringSize", desc := "(I)I" } : Jvm.MethodName) prog_21_method_13_code (4 : Nat) (Option.some Jvm.ClassFile.FieldType.int)) ∈ lw_all := lw_g (lw_at lw_m2 208 rfl) rfl
theorem q544 : (Jvm.Cond.static ({ cls := "java/lang/Integer", name := "getChars", desc := "(II[B)I" } : Jvm.MethodName)) ∈ lw_all := lw_g (lw_at lw_m2 210 rfl) rfl
theorem q545 : (Jvm.Cond.code ({ cls := "java/lang/Integer", name := "getChars", desc := "(II[B)I" } : Jvm.MethodName) prog_21_method_12_code (7 : Nat) (Option.some Jvm.ClassFile.FieldType.int)) ∈ lw_all := lw_g (lw_at lw_m2 211 rfl) rfl
theorem q546 : (Jvm.Cond.fieldLink "java/lang/Integer" (83 : Nat) "java/lang/Integer" "DigitOnes" "[B") ∈ lw_all := lw_g (lw_at lw_m2 212 rfl) rfl
theorem q547 : (Jvm.Cond.laysStatic "java/lang/Integer" "DigitOnes" "[B") ∈ lw_tbl := lw_at lw_m2 213 rfl
theorem q548 : (Jvm.Cond.fieldLink "java/lang/Integer" (87 : Nat) "java/lang/Integer" "DigitTens" "[B") ∈ lw_all := lw_g (lw_at lw_m2 214 rfl) rfl
theorem q549 : (Jvm.Cond.laysStatic "java/lang/Integer" "DigitTens" "[B") ∈ lw_tbl := lw_at lw_m2 215 rfl
theorem q878 : (Jvm.Cond.selects "java/lang/Integer" ({ cls := "java/lang/Object", name := "getClass", desc := "()Ljava/lang/Class;" } : Jvm.MethodName) ({ cls := "java/lang/Object", name := "getClass", desc := "()Ljava/lang/Class;" } : Jvm.MethodName)) ∈ lw_all := lw_g (lw_at lw_m4 64 rfl) rfl
theorem q1140 : (Jvm.Cond.instanceMethod ({ cls := "java/lang/Integer", name := "intValue", desc := "()I" } : Jvm.MethodName)) ∈ lw_all := lw_g (lw_at lw_m5 86 rfl) rfl
theorem q1141 : (Jvm.Cond.selects "java/lang/Integer" ({ cls := "java/lang/Integer", name := "intValue", desc := "()I" } : Jvm.MethodName) ({ cls := "java/lang/Integer", name := "intValue", desc := "()I" } : Jvm.MethodName)) ∈ lw_all := lw_g (lw_at lw_m5 87 rfl) rfl
theorem q1142 : (Jvm.Cond.code ({ cls := "java/lang/Integer", name := "intValue", desc := "()I" } : Jvm.MethodName) prog_21_method_27_code (1 : Nat) (Option.some Jvm.ClassFile.FieldType.int)) ∈ lw_all := lw_g (lw_at lw_m5 88 rfl) rfl
theorem q1144 : (Jvm.Cond.static ({ cls := "java/lang/Integer", name := "valueOf", desc := "(I)Ljava/lang/Integer;" } : Jvm.MethodName)) ∈ lw_all := lw_g (lw_at lw_m5 90 rfl) rfl
theorem q1145 : (Jvm.Cond.code ({ cls := "java/lang/Integer", name := "valueOf", desc := "(I)Ljava/lang/Integer;" } : Jvm.MethodName) prog_21_method_22_code (1 : Nat) (Option.some (Jvm.ClassFile.FieldType.object "java/lang/Integer"))) ∈ lw_all := lw_g (lw_at lw_m5 91 rfl) rfl
theorem q1146 : (Jvm.Cond.fieldLink "java/lang/Integer" (191 : Nat) "java/lang/Integer$IntegerCache" "high" "I") ∈ lw_all := lw_g (lw_at lw_m5 92 rfl) rfl
theorem q1148 : (Jvm.Cond.fieldLink "java/lang/Integer" (195 : Nat) "java/lang/Integer$IntegerCache" "cache" "[Ljava/lang/Integer;") ∈ lw_all := lw_g (lw_at lw_m5 94 rfl) rfl
theorem q1150 : (Jvm.Cond.classLink "java/lang/Integer" (1 : Nat) "java/lang/Integer") ∈ lw_all := lw_g (lw_at lw_m5 96 rfl) rfl
theorem q1151 : (Jvm.Cond.instantiable "java/lang/Integer" (1 : Nat)) ∈ lw_all := lw_g (lw_at lw_m5 97 rfl) rfl
theorem q1152 : (Jvm.Cond.methodLink "java/lang/Integer" (199 : Nat) ({ cls := "java/lang/Integer", name := "<init>", desc := "(I)V" } : Jvm.MethodName)) ∈ lw_all := lw_g (lw_at lw_m5 98 rfl) rfl
theorem q1153 : (Jvm.Cond.instanceMethod ({ cls := "java/lang/Integer", name := "<init>", desc := "(I)V" } : Jvm.MethodName)) ∈ lw_all := lw_g (lw_at lw_m5 99 rfl) rfl
theorem q1154 : (Jvm.Cond.code ({ cls := "java/lang/Integer", name := "<init>", desc := "(I)V" } : Jvm.MethodName) prog_21_method_23_code (2 : Nat) (Option.none : Option Jvm.ClassFile.FieldType)) ∈ lw_all := lw_g (lw_at lw_m5 100 rfl) rfl
theorem q1155 : (Jvm.Cond.methodLink "java/lang/Integer" (202 : Nat) ({ cls := "java/lang/Number", name := "<init>", desc := "()V" } : Jvm.MethodName)) ∈ lw_all := lw_g (lw_at lw_m5 101 rfl) rfl
theorem q1159 : (Jvm.Cond.fieldLink "java/lang/Integer" (205 : Nat) "java/lang/Integer" "value" "I") ∈ lw_all := lw_g (lw_at lw_m5 105 rfl) rfl
theorem q1160 : (Jvm.Cond.laysFinal "java/lang/Integer" "java/lang/Integer" "value" "I") ∈ lw_all := lw_g (lw_at lw_m5 106 rfl) rfl
theorem q1161 : (Jvm.Cond.soleField "java/lang/Integer" "value") ∈ lw_all := lw_g (lw_at lw_m5 107 rfl) rfl
theorem q1162 : (Jvm.Cond.superclass "java/lang/Integer" "java/lang/Number") ∈ lw_all := lw_g (lw_at lw_m5 108 rfl) rfl
theorem q2345 : (Jvm.Cond.selects "java/lang/Integer" ({ cls := "java/lang/Object", name := "equals", desc := "(Ljava/lang/Object;)Z" } : Jvm.MethodName) ({ cls := "java/lang/Integer", name := "equals", desc := "(Ljava/lang/Object;)Z" } : Jvm.MethodName)) ∈ lw_all := lw_g (lw_at lw_m10 91 rfl) rfl
theorem q2346 : (Jvm.Cond.instanceMethod ({ cls := "java/lang/Integer", name := "equals", desc := "(Ljava/lang/Object;)Z" } : Jvm.MethodName)) ∈ lw_all := lw_g (lw_at lw_m10 92 rfl) rfl
theorem q2347 : (Jvm.Cond.code ({ cls := "java/lang/Integer", name := "equals", desc := "(Ljava/lang/Object;)Z" } : Jvm.MethodName) prog_21_method_34_code (2 : Nat) (Option.some Jvm.ClassFile.FieldType.boolean)) ∈ lw_all := lw_g (lw_at lw_m10 93 rfl) rfl
theorem q2348 : (Jvm.Cond.methodLink "java/lang/Integer" (211 : Nat) ({ cls := "java/lang/Integer", name := "intValue", desc := "()I" } : Jvm.MethodName)) ∈ lw_all := lw_g (lw_at lw_m10 94 rfl) rfl
theorem q3119 : (Jvm.Cond.castable "java/lang/Integer" "java/lang/Object") ∈ lw_tbl := lw_at lw_m13 145 rfl
theorem in_J21 : ∀ w ∈ wsJ210, w ∈ lw_all := lw_in wsJ210 [1160] (by decide +kernel) (by decide +kernel)

/-! java/util/AbstractList$Itr -/
set_option maxRecDepth 100000
def RJ22 : String := "java/util/AbstractList$Itr"
abbrev cJ22_hasNext : ByteArray := prog_39_method_2_code
def yJ22_hasNext : MethodName := ⟨RJ22, "hasNext", "()Z"⟩
def dkwJ22_hasNext_0 : List UInt8 := [42, 180, 0, 13, 42, 180, 0, 1, 182, 0, 28, 159, 0, 7, 4, 167, 0, 4, 3, 172]
abbrev dktJ22_hasNext_0 : List UInt8 := dkwJ22_hasNext_0 ++ []
theorem dksJ22_hasNext_0 : cJ22_hasNext.data.toList.drop 0 = dktJ22_hasNext_0 := by decide +kernel
theorem dJ22_hasNext_0 : decode cJ22_hasNext 0 = .ok (.aload_n 0, 1) := dk_42 (dk_at dksJ22_hasNext_0 0 rfl rfl)
theorem dJ22_hasNext_1 : decode cJ22_hasNext 1 = .ok (.getfield 13, 3) := dk_180 0 13 (dk_at dksJ22_hasNext_0 1 rfl rfl)
theorem dJ22_hasNext_4 : decode cJ22_hasNext 4 = .ok (.aload_n 0, 1) := dk_42 (dk_at dksJ22_hasNext_0 4 rfl rfl)
theorem dJ22_hasNext_5 : decode cJ22_hasNext 5 = .ok (.getfield 1, 3) := dk_180 0 1 (dk_at dksJ22_hasNext_0 5 rfl rfl)
theorem dJ22_hasNext_8 : decode cJ22_hasNext 8 = .ok (.invokevirtual 28, 3) := dk_182 0 28 (dk_at dksJ22_hasNext_0 8 rfl rfl)
theorem dJ22_hasNext_11 : decode cJ22_hasNext 11 = .ok (.if_icmp .eq 7, 3) := dk_159 0 7 (dk_at dksJ22_hasNext_0 11 rfl rfl)
theorem dJ22_hasNext_14 : decode cJ22_hasNext 14 = .ok (.iconst 1, 1) := dk_4 (dk_at dksJ22_hasNext_0 14 rfl rfl)
theorem dJ22_hasNext_15 : decode cJ22_hasNext 15 = .ok (.goto 4, 3) := dk_167 0 4 (dk_at dksJ22_hasNext_0 15 rfl rfl)
theorem dJ22_hasNext_18 : decode cJ22_hasNext 18 = .ok (.iconst 0, 1) := dk_3 (dk_at dksJ22_hasNext_0 18 rfl rfl)
theorem dJ22_hasNext_19 : decode cJ22_hasNext 19 = .ok (.ireturn, 1) := dk_172 (dk_at dksJ22_hasNext_0 19 rfl rfl)
abbrev cJ22_next : ByteArray := prog_39_method_3_code
def yJ22_next : MethodName := ⟨RJ22, "next", "()Ljava/lang/Object;"⟩
def dkwJ22_next_1 : List UInt8 := [27, 4, 96, 181, 0, 13, 44, 176, 76, 42, 182, 0, 32, 187, 0, 41, 89, 43, 183, 0, 43, 191]
abbrev dktJ22_next_1 : List UInt8 := dkwJ22_next_1 ++ []
def dkwJ22_next_0 : List UInt8 := [42, 182, 0, 32, 42, 180, 0, 13, 60, 42, 180, 0, 1, 27, 182, 0, 35, 77, 42, 27, 181, 0, 17, 42]
abbrev dktJ22_next_0 : List UInt8 := dkwJ22_next_0 ++ dktJ22_next_1
theorem dksJ22_next_0 : cJ22_next.data.toList.drop 0 = dktJ22_next_0 := by decide +kernel
theorem dksJ22_next_1 : cJ22_next.data.toList.drop 24 = dktJ22_next_1 := dk_seg dksJ22_next_0 24 rfl rfl
theorem dJ22_next_0 : decode cJ22_next 0 = .ok (.aload_n 0, 1) := dk_42 (dk_at dksJ22_next_0 0 rfl rfl)
theorem dJ22_next_1 : decode cJ22_next 1 = .ok (.invokevirtual 32, 3) := dk_182 0 32 (dk_at dksJ22_next_0 1 rfl rfl)
theorem dJ22_next_4 : decode cJ22_next 4 = .ok (.aload_n 0, 1) := dk_42 (dk_at dksJ22_next_0 4 rfl rfl)
theorem dJ22_next_5 : decode cJ22_next 5 = .ok (.getfield 13, 3) := dk_180 0 13 (dk_at dksJ22_next_0 5 rfl rfl)
theorem dJ22_next_8 : decode cJ22_next 8 = .ok (.istore_n 1, 1) := dk_60 (dk_at dksJ22_next_0 8 rfl rfl)
theorem dJ22_next_9 : decode cJ22_next 9 = .ok (.aload_n 0, 1) := dk_42 (dk_at dksJ22_next_0 9 rfl rfl)
theorem dJ22_next_10 : decode cJ22_next 10 = .ok (.getfield 1, 3) := dk_180 0 1 (dk_at dksJ22_next_0 10 rfl rfl)
theorem dJ22_next_13 : decode cJ22_next 13 = .ok (.iload_n 1, 1) := dk_27 (dk_at dksJ22_next_0 13 rfl rfl)
theorem dJ22_next_14 : decode cJ22_next 14 = .ok (.invokevirtual 35, 3) := dk_182 0 35 (dk_at dksJ22_next_0 14 rfl rfl)
theorem dJ22_next_17 : decode cJ22_next 17 = .ok (.astore_n 2, 1) := dk_77 (dk_at dksJ22_next_0 17 rfl rfl)
theorem dJ22_next_18 : decode cJ22_next 18 = .ok (.aload_n 0, 1) := dk_42 (dk_at dksJ22_next_0 18 rfl rfl)
theorem dJ22_next_19 : decode cJ22_next 19 = .ok (.iload_n 1, 1) := dk_27 (dk_at dksJ22_next_0 19 rfl rfl)
theorem dJ22_next_20 : decode cJ22_next 20 = .ok (.putfield 17, 3) := dk_181 0 17 (dk_at dksJ22_next_0 20 rfl rfl)
theorem dJ22_next_23 : decode cJ22_next 23 = .ok (.aload_n 0, 1) := dk_42 (dk_at dksJ22_next_0 23 rfl rfl)
theorem dJ22_next_24 : decode cJ22_next 24 = .ok (.iload_n 1, 1) := dk_27 (dk_at dksJ22_next_1 0 rfl rfl)
theorem dJ22_next_25 : decode cJ22_next 25 = .ok (.iconst 1, 1) := dk_4 (dk_at dksJ22_next_1 1 rfl rfl)
theorem dJ22_next_26 : decode cJ22_next 26 = .ok (.iadd, 1) := dk_96 (dk_at dksJ22_next_1 2 rfl rfl)
theorem dJ22_next_27 : decode cJ22_next 27 = .ok (.putfield 13, 3) := dk_181 0 13 (dk_at dksJ22_next_1 3 rfl rfl)
theorem dJ22_next_30 : decode cJ22_next 30 = .ok (.aload_n 2, 1) := dk_44 (dk_at dksJ22_next_1 6 rfl rfl)
theorem dJ22_next_31 : decode cJ22_next 31 = .ok (.areturn, 1) := dk_176 (dk_at dksJ22_next_1 7 rfl rfl)
theorem dJ22_next_32 : decode cJ22_next 32 = .ok (.astore_n 1, 1) := dk_76 (dk_at dksJ22_next_1 8 rfl rfl)
theorem dJ22_next_33 : decode cJ22_next 33 = .ok (.aload_n 0, 1) := dk_42 (dk_at dksJ22_next_1 9 rfl rfl)
theorem dJ22_next_34 : decode cJ22_next 34 = .ok (.invokevirtual 32, 3) := dk_182 0 32 (dk_at dksJ22_next_1 10 rfl rfl)
theorem dJ22_next_37 : decode cJ22_next 37 = .ok (.new 41, 3) := dk_187 0 41 (dk_at dksJ22_next_1 13 rfl rfl)
theorem dJ22_next_40 : decode cJ22_next 40 = .ok (.dup, 1) := dk_89 (dk_at dksJ22_next_1 16 rfl rfl)
theorem dJ22_next_41 : decode cJ22_next 41 = .ok (.aload_n 1, 1) := dk_43 (dk_at dksJ22_next_1 17 rfl rfl)
theorem dJ22_next_42 : decode cJ22_next 42 = .ok (.invokespecial 43, 3) := dk_183 0 43 (dk_at dksJ22_next_1 18 rfl rfl)
theorem dJ22_next_45 : decode cJ22_next 45 = .ok (.athrow, 1) := dk_191 (dk_at dksJ22_next_1 21 rfl rfl)
abbrev cJ22_checkForComodification : ByteArray := prog_39_method_5_code
def yJ22_checkForComodification : MethodName := ⟨RJ22, "checkForComodification", "()V"⟩
def dkwJ22_checkForComodification_0 : List UInt8 := [42, 180, 0, 1, 180, 0, 20, 42, 180, 0, 25, 159, 0, 11, 187, 0, 52, 89, 183, 0, 54, 191, 177]
abbrev dktJ22_checkForComodification_0 : List UInt8 := dkwJ22_checkForComodification_0 ++ []
theorem dksJ22_checkForComodification_0 : cJ22_checkForComodification.data.toList.drop 0 = dktJ22_checkForComodification_0 := by decide +kernel
theorem dJ22_checkForComodification_0 : decode cJ22_checkForComodification 0 = .ok (.aload_n 0, 1) := dk_42 (dk_at dksJ22_checkForComodification_0 0 rfl rfl)
theorem dJ22_checkForComodification_1 : decode cJ22_checkForComodification 1 = .ok (.getfield 1, 3) := dk_180 0 1 (dk_at dksJ22_checkForComodification_0 1 rfl rfl)
theorem dJ22_checkForComodification_4 : decode cJ22_checkForComodification 4 = .ok (.getfield 20, 3) := dk_180 0 20 (dk_at dksJ22_checkForComodification_0 4 rfl rfl)
theorem dJ22_checkForComodification_7 : decode cJ22_checkForComodification 7 = .ok (.aload_n 0, 1) := dk_42 (dk_at dksJ22_checkForComodification_0 7 rfl rfl)
theorem dJ22_checkForComodification_8 : decode cJ22_checkForComodification 8 = .ok (.getfield 25, 3) := dk_180 0 25 (dk_at dksJ22_checkForComodification_0 8 rfl rfl)
theorem dJ22_checkForComodification_11 : decode cJ22_checkForComodification 11 = .ok (.if_icmp .eq 11, 3) := dk_159 0 11 (dk_at dksJ22_checkForComodification_0 11 rfl rfl)
theorem dJ22_checkForComodification_14 : decode cJ22_checkForComodification 14 = .ok (.new 52, 3) := dk_187 0 52 (dk_at dksJ22_checkForComodification_0 14 rfl rfl)
theorem dJ22_checkForComodification_17 : decode cJ22_checkForComodification 17 = .ok (.dup, 1) := dk_89 (dk_at dksJ22_checkForComodification_0 17 rfl rfl)
theorem dJ22_checkForComodification_18 : decode cJ22_checkForComodification 18 = .ok (.invokespecial 54, 3) := dk_183 0 54 (dk_at dksJ22_checkForComodification_0 18 rfl rfl)
theorem dJ22_checkForComodification_21 : decode cJ22_checkForComodification 21 = .ok (.athrow, 1) := dk_191 (dk_at dksJ22_checkForComodification_0 21 rfl rfl)
theorem dJ22_checkForComodification_22 : decode cJ22_checkForComodification 22 = .ok (.return_, 1) := dk_177 (dk_at dksJ22_checkForComodification_0 22 rfl rfl)
abbrev cJ22_remove : ByteArray := prog_39_method_4_code
def yJ22_remove : MethodName := ⟨RJ22, "remove", "()V"⟩
def dkwJ22_remove_3 : List UInt8 := [187, 0, 52, 89, 183, 0, 54, 191, 177]
abbrev dktJ22_remove_3 : List UInt8 := dkwJ22_remove_3 ++ []
def dkwJ22_remove_2 : List UInt8 := [100, 181, 0, 13, 42, 2, 181, 0, 17, 42, 42, 180, 0, 1, 180, 0, 20, 181, 0, 25, 167, 0, 12, 76]
abbrev dktJ22_remove_2 : List UInt8 := dkwJ22_remove_2 ++ dktJ22_remove_3
def dkwJ22_remove_1 : List UInt8 := [180, 0, 17, 182, 0, 49, 87, 42, 180, 0, 17, 42, 180, 0, 13, 162, 0, 13, 42, 89, 180, 0, 13, 4]
abbrev dktJ22_remove_1 : List UInt8 := dkwJ22_remove_1 ++ dktJ22_remove_2
def dkwJ22_remove_0 : List UInt8 := [42, 180, 0, 17, 156, 0, 11, 187, 0, 46, 89, 183, 0, 48, 191, 42, 182, 0, 32, 42, 180, 0, 1, 42]
abbrev dktJ22_remove_0 : List UInt8 := dkwJ22_remove_0 ++ dktJ22_remove_1
theorem dksJ22_remove_0 : cJ22_remove.data.toList.drop 0 = dktJ22_remove_0 := by decide +kernel
theorem dksJ22_remove_1 : cJ22_remove.data.toList.drop 24 = dktJ22_remove_1 := dk_seg dksJ22_remove_0 24 rfl rfl
theorem dksJ22_remove_2 : cJ22_remove.data.toList.drop 48 = dktJ22_remove_2 := dk_seg dksJ22_remove_1 24 rfl rfl
theorem dksJ22_remove_3 : cJ22_remove.data.toList.drop 72 = dktJ22_remove_3 := dk_seg dksJ22_remove_2 24 rfl rfl
theorem dJ22_remove_0 : decode cJ22_remove 0 = .ok (.aload_n 0, 1) := dk_42 (dk_at dksJ22_remove_0 0 rfl rfl)
theorem dJ22_remove_1 : decode cJ22_remove 1 = .ok (.getfield 17, 3) := dk_180 0 17 (dk_at dksJ22_remove_0 1 rfl rfl)
theorem dJ22_remove_4 : decode cJ22_remove 4 = .ok (.ifCond .ge 11, 3) := dk_156 0 11 (dk_at dksJ22_remove_0 4 rfl rfl)
theorem dJ22_remove_7 : decode cJ22_remove 7 = .ok (.new 46, 3) := dk_187 0 46 (dk_at dksJ22_remove_0 7 rfl rfl)
theorem dJ22_remove_10 : decode cJ22_remove 10 = .ok (.dup, 1) := dk_89 (dk_at dksJ22_remove_0 10 rfl rfl)
theorem dJ22_remove_11 : decode cJ22_remove 11 = .ok (.invokespecial 48, 3) := dk_183 0 48 (dk_at dksJ22_remove_0 11 rfl rfl)
theorem dJ22_remove_14 : decode cJ22_remove 14 = .ok (.athrow, 1) := dk_191 (dk_at dksJ22_remove_0 14 rfl rfl)
theorem dJ22_remove_15 : decode cJ22_remove 15 = .ok (.aload_n 0, 1) := dk_42 (dk_at dksJ22_remove_0 15 rfl rfl)
theorem dJ22_remove_16 : decode cJ22_remove 16 = .ok (.invokevirtual 32, 3) := dk_182 0 32 (dk_at dksJ22_remove_0 16 rfl rfl)
theorem dJ22_remove_19 : decode cJ22_remove 19 = .ok (.aload_n 0, 1) := dk_42 (dk_at dksJ22_remove_0 19 rfl rfl)
theorem dJ22_remove_20 : decode cJ22_remove 20 = .ok (.getfield 1, 3) := dk_180 0 1 (dk_at dksJ22_remove_0 20 rfl rfl)
theorem dJ22_remove_23 : decode cJ22_remove 23 = .ok (.aload_n 0, 1) := dk_42 (dk_at dksJ22_remove_0 23 rfl rfl)
theorem dJ22_remove_24 : decode cJ22_remove 24 = .ok (.getfield 17, 3) := dk_180 0 17 (dk_at dksJ22_remove_1 0 rfl rfl)
theorem dJ22_remove_27 : decode cJ22_remove 27 = .ok (.invokevirtual 49, 3) := dk_182 0 49 (dk_at dksJ22_remove_1 3 rfl rfl)
theorem dJ22_remove_30 : decode cJ22_remove 30 = .ok (.pop, 1) := dk_87 (dk_at dksJ22_remove_1 6 rfl rfl)
theorem dJ22_remove_31 : decode cJ22_remove 31 = .ok (.aload_n 0, 1) := dk_42 (dk_at dksJ22_remove_1 7 rfl rfl)
theorem dJ22_remove_32 : decode cJ22_remove 32 = .ok (.getfield 17, 3) := dk_180 0 17 (dk_at dksJ22_remove_1 8 rfl rfl)
theorem dJ22_remove_35 : decode cJ22_remove 35 = .ok (.aload_n 0, 1) := dk_42 (dk_at dksJ22_remove_1 11 rfl rfl)
theorem dJ22_remove_36 : decode cJ22_remove 36 = .ok (.getfield 13, 3) := dk_180 0 13 (dk_at dksJ22_remove_1 12 rfl rfl)
theorem dJ22_remove_39 : decode cJ22_remove 39 = .ok (.if_icmp .ge 13, 3) := dk_162 0 13 (dk_at dksJ22_remove_1 15 rfl rfl)
theorem dJ22_remove_42 : decode cJ22_remove 42 = .ok (.aload_n 0, 1) := dk_42 (dk_at dksJ22_remove_1 18 rfl rfl)
theorem dJ22_remove_43 : decode cJ22_remove 43 = .ok (.dup, 1) := dk_89 (dk_at dksJ22_remove_1 19 rfl rfl)
theorem dJ22_remove_44 : decode cJ22_remove 44 = .ok (.getfield 13, 3) := dk_180 0 13 (dk_at dksJ22_remove_1 20 rfl rfl)
theorem dJ22_remove_47 : decode cJ22_remove 47 = .ok (.iconst 1, 1) := dk_4 (dk_at dksJ22_remove_1 23 rfl rfl)
theorem dJ22_remove_48 : decode cJ22_remove 48 = .ok (.isub, 1) := dk_100 (dk_at dksJ22_remove_2 0 rfl rfl)
theorem dJ22_remove_49 : decode cJ22_remove 49 = .ok (.putfield 13, 3) := dk_181 0 13 (dk_at dksJ22_remove_2 1 rfl rfl)
theorem dJ22_remove_52 : decode cJ22_remove 52 = .ok (.aload_n 0, 1) := dk_42 (dk_at dksJ22_remove_2 4 rfl rfl)
theorem dJ22_remove_53 : decode cJ22_remove 53 = .ok (.iconst (-1), 1) := dk_2 (dk_at dksJ22_remove_2 5 rfl rfl)
theorem dJ22_remove_54 : decode cJ22_remove 54 = .ok (.putfield 17, 3) := dk_181 0 17 (dk_at dksJ22_remove_2 6 rfl rfl)
theorem dJ22_remove_57 : decode cJ22_remove 57 = .ok (.aload_n 0, 1) := dk_42 (dk_at dksJ22_remove_2 9 rfl rfl)
theorem dJ22_remove_58 : decode cJ22_remove 58 = .ok (.aload_n 0, 1) := dk_42 (dk_at dksJ22_remove_2 10 rfl rfl)
theorem dJ22_remove_59 : decode cJ22_remove 59 = .ok (.getfield 1, 3) := dk_180 0 1 (dk_at dksJ22_remove_2 11 rfl rfl)
theorem dJ22_remove_62 : decode cJ22_remove 62 = .ok (.getfield 20, 3) := dk_180 0 20 (dk_at dksJ22_remove_2 14 rfl rfl)
theorem dJ22_remove_65 : decode cJ22_remove 65 = .ok (.putfield 25, 3) := dk_181 0 25 (dk_at dksJ22_remove_2 17 rfl rfl)
theorem dJ22_remove_68 : decode cJ22_remove 68 = .ok (.goto 12, 3) := dk_167 0 12 (dk_at dksJ22_remove_2 20 rfl rfl)
theorem dJ22_remove_71 : decode cJ22_remove 71 = .ok (.astore_n 1, 1) := dk_76 (dk_at dksJ22_remove_2 23 rfl rfl)
theorem dJ22_remove_72 : decode cJ22_remove 72 = .ok (.new 52, 3) := dk_187 0 52 (dk_at dksJ22_remove_3 0 rfl rfl)
theorem dJ22_remove_75 : decode cJ22_remove 75 = .ok (.dup, 1) := dk_89 (dk_at dksJ22_remove_3 3 rfl rfl)
theorem dJ22_remove_76 : decode cJ22_remove 76 = .ok (.invokespecial 54, 3) := dk_183 0 54 (dk_at dksJ22_remove_3 4 rfl rfl)
theorem dJ22_remove_79 : decode cJ22_remove 79 = .ok (.athrow, 1) := dk_191 (dk_at dksJ22_remove_3 7 rfl rfl)
theorem dJ22_remove_80 : decode cJ22_remove 80 = .ok (.return_, 1) := dk_177 (dk_at dksJ22_remove_3 8 rfl rfl)
theorem q121 : (Jvm.Cond.initialized "java/util/AbstractList$Itr") ∈ lw_all := lw_g (lw_at lw_m1 27 rfl) rfl
theorem q183 : (Jvm.Cond.fieldLink "java/util/AbstractList$Itr" (20 : Nat) "java/util/AbstractList" "modCount" "I") ∈ lw_all := lw_g (lw_at lw_m1 89 rfl) rfl
theorem q752 : (Jvm.Cond.instanceMethod ({ cls := "java/util/AbstractList$Itr", name := "hasNext", desc := "()Z" } : Jvm.MethodName)) ∈ lw_all := lw_g (lw_at lw_m3 178 rfl) rfl
theorem q753 : (Jvm.Cond.publicMethod ({ cls := "java/util/AbstractList$Itr", name := "hasNext", desc := "()Z" } : Jvm.MethodName)) ∈ lw_tbl := lw_at lw_m3 179 rfl
theorem q754 : (Jvm.Cond.code ({ cls := "java/util/AbstractList$Itr", name := "hasNext", desc := "()Z" } : Jvm.MethodName) prog_39_method_2_code (1 : Nat) (Option.some Jvm.ClassFile.FieldType.boolean)) ∈ lw_all := lw_g (lw_at lw_m3 180 rfl) rfl
theorem q755 : (Jvm.Cond.methodLink "java/util/AbstractList$Itr" (28 : Nat) ({ cls := "java/util/AbstractList", name := "size", desc := "()I" } : Jvm.MethodName)) ∈ lw_all := lw_g (lw_at lw_m3 181 rfl) rfl
theorem q797 : (Jvm.Cond.instanceMethod ({ cls := "java/util/AbstractList$Itr", name := "next", desc := "()Ljava/lang/Object;" } : Jvm.MethodName)) ∈ lw_all := lw_g (lw_at lw_m3 223 rfl) rfl
theorem q798 : (Jvm.Cond.publicMethod ({ cls := "java/util/AbstractList$Itr", name := "next", desc := "()Ljava/lang/Object;" } : Jvm.MethodName)) ∈ lw_tbl := lw_at lw_m3 224 rfl
theorem q799 : (Jvm.Cond.codeWith ({ cls := "java/util/AbstractList$Itr", name := "next", desc := "()Ljava/lang/Object;" } : Jvm.MethodName) prog_39_method_3_code (3 : Nat) (Option.some (Jvm.ClassFile.FieldType.object "java/lang/Object")) [((4 : Nat), (31 : Nat), (32 : Nat), (39 : Nat))]) ∈ lw_all := lw_g (lw_at lw_m3 225 rfl) rfl
theorem q800 : (Jvm.Cond.methodLink "java/util/AbstractList$Itr" (32 : Nat) ({ cls := "java/util/AbstractList$Itr", name := "checkForComodification", desc := "()V" } : Jvm.MethodName)) ∈ lw_all := lw_g (lw_at lw_m3 226 rfl) rfl
theorem q801 : (Jvm.Cond.instanceMethod ({ cls := "java/util/AbstractList$Itr", name := "checkForComodification", desc := "()V" } : Jvm.MethodName)) ∈ lw_all := lw_g (lw_at lw_m3 227 rfl) rfl
theorem q802 : (Jvm.Cond.sameMethod "java/util/AbstractList$Itr" "java/util/AbstractList$Itr" "checkForComodification" "()V") ∈ lw_all := lw_g (lw_at lw_m3 228 rfl) rfl
theorem q804 : (Jvm.Cond.code ({ cls := "java/util/AbstractList$Itr", name := "checkForComodification", desc := "()V" } : Jvm.MethodName) prog_39_method_5_code (1 : Nat) (Option.none : Option Jvm.ClassFile.FieldType)) ∈ lw_all := lw_g (lw_at lw_m3 230 rfl) rfl
theorem q805 : (Jvm.Cond.methodLink "java/util/AbstractList$Itr" (35 : Nat) ({ cls := "java/util/AbstractList", name := "get", desc := "(I)Ljava/lang/Object;" } : Jvm.MethodName)) ∈ lw_all := lw_g (lw_at lw_m3 231 rfl) rfl
theorem q833 : (Jvm.Cond.classLink "java/util/AbstractList$Itr" (41 : Nat) "java/util/NoSuchElementException") ∈ lw_all := lw_g (lw_at lw_m4 19 rfl) rfl
theorem q842 : (Jvm.Cond.methodLink "java/util/AbstractList$Itr" (43 : Nat) ({ cls := "java/util/NoSuchElementException", name := "<init>", desc := "(Ljava/lang/Throwable;)V" } : Jvm.MethodName)) ∈ lw_all := lw_g (lw_at lw_m4 28 rfl) rfl
theorem q1249 : (Jvm.Cond.instanceMethod ({ cls := "java/util/AbstractList$Itr", name := "remove", desc := "()V" } : Jvm.MethodName)) ∈ lw_all := lw_g (lw_at lw_m5 195 rfl) rfl
theorem q1250 : (Jvm.Cond.publicMethod ({ cls := "java/util/AbstractList$Itr", name := "remove", desc := "()V" } : Jvm.MethodName)) ∈ lw_tbl := lw_at lw_m5 196 rfl
theorem q1251 : (Jvm.Cond.codeWith ({ cls := "java/util/AbstractList$Itr", name := "remove", desc := "()V" } : Jvm.MethodName) prog_39_method_4_code (2 : Nat) (Option.none : Option Jvm.ClassFile.FieldType) [((19 : Nat), (68 : Nat), (71 : Nat), (39 : Nat))]) ∈ lw_all := lw_g (lw_at lw_m5 197 rfl) rfl
theorem q1252 : (Jvm.Cond.classLink "java/util/AbstractList$Itr" (46 : Nat) "java/lang/IllegalStateException") ∈ lw_all := lw_g (lw_at lw_m5 198 rfl) rfl
theorem q1253 : (Jvm.Cond.methodLink "java/util/AbstractList$Itr" (48 : Nat) ({ cls := "java/lang/IllegalStateException", name := "<init>", desc := "()V" } : Jvm.MethodName)) ∈ lw_all := lw_g (lw_at lw_m5 199 rfl) rfl
theorem q1257 : (Jvm.Cond.methodLink "java/util/AbstractList$Itr" (49 : Nat) ({ cls := "java/util/AbstractList", name := "remove", desc := "(I)Ljava/lang/Object;" } : Jvm.MethodName)) ∈ lw_all := lw_g (lw_at lw_m5 203 rfl) rfl
theorem q1276 : (Jvm.Cond.classLink "java/util/AbstractList$Itr" (52 : Nat) "java/util/ConcurrentModificationException") ∈ lw_all := lw_g (lw_at lw_m5 222 rfl) rfl
theorem q1285 : (Jvm.Cond.methodLink "java/util/AbstractList$Itr" (54 : Nat) ({ cls := "java/util/ConcurrentModificationException", name := "<init>", desc := "()V" } : Jvm.MethodName)) ∈ lw_all := lw_g (lw_at lw_m5 231 rfl) rfl
theorem q3143 : (Jvm.Cond.fieldLink "java/util/AbstractList$Itr" (1 : Nat) "java/util/AbstractList$Itr" "this$0" "Ljava/util/AbstractList;") ∈ lw_all := lw_g (lw_at lw_m13 169 rfl) rfl
theorem q3144 : (Jvm.Cond.fieldLink "java/util/AbstractList$Itr" (13 : Nat) "java/util/AbstractList$Itr" "cursor" "I") ∈ lw_all := lw_g (lw_at lw_m13 170 rfl) rfl
theorem q3145 : (Jvm.Cond.fieldLink "java/util/AbstractList$Itr" (17 : Nat) "java/util/AbstractList$Itr" "lastRet" "I") ∈ lw_all := lw_g (lw_at lw_m13 171 rfl) rfl
theorem q3146 : (Jvm.Cond.fieldLink "java/util/AbstractList$Itr" (25 : Nat) "java/util/AbstractList$Itr" "expectedModCount" "I") ∈ lw_all := lw_g (lw_at lw_m13 172 rfl) rfl

/-! java/util/ArrayList$Itr -/
set_option maxRecDepth 100000
def RJ23 : String := "java/util/ArrayList$Itr"
def TJ23 : u_T := fun k => match k with
  | 0 => ("java/util/ArrayList$Itr", "cursor", "I", false)
  | 1 => ("java/util/ArrayList$Itr", "lastRet", "I", false)
  | 2 => ("java/util/ArrayList$Itr", "expectedModCount", "I", false)
  | _ => ("java/util/ArrayList$Itr", "this$0", "Ljava/util/ArrayList;", true)
def tyJ23 : Nat → FieldType := fun k => match k with
  | 0 => .int
  | 1 => .int
  | 2 => .int
  | _ => .object "java/util/ArrayList"
abbrev wsJ230 : List Cond := u_ws RJ23 TJ23 4
theorem nmJ23 : ∀ a, a < 4 → ∀ b, b < 4 → a ≠ b → (TJ23 a).2.1 ≠ (TJ23 b).2.1 := by decide +kernel
theorem tyJ23_ok : ∀ k, k < 4 → parseFieldDescriptor (TJ23 k).2.2.1 = some (tyJ23 k) := by decide +kernel
abbrev cJ23_init : ByteArray := prog_45_method_1_code
def yJ23_init : MethodName := ⟨RJ23, "<init>", "(Ljava/util/ArrayList;)V"⟩
def dkwJ23_init_1 : List UInt8 := [181, 0, 22, 177]
abbrev dktJ23_init_1 : List UInt8 := dkwJ23_init_1 ++ []
def dkwJ23_init_0 : List UInt8 := [42, 43, 181, 0, 1, 42, 183, 0, 7, 42, 2, 181, 0, 13, 42, 42, 180, 0, 1, 180, 0, 17]
abbrev dktJ23_init_0 : List UInt8 := dkwJ23_init_0 ++ dktJ23_init_1
theorem dksJ23_init_0 : cJ23_init.data.toList.drop 0 = dktJ23_init_0 := by decide +kernel
theorem dksJ23_init_1 : cJ23_init.data.toList.drop 22 = dktJ23_init_1 := dk_seg dksJ23_init_0 22 rfl rfl
theorem dJ23_init_0 : decode cJ23_init 0 = .ok (.aload_n 0, 1) := dk_42 (dk_at dksJ23_init_0 0 rfl rfl)
theorem dJ23_init_1 : decode cJ23_init 1 = .ok (.aload_n 1, 1) := dk_43 (dk_at dksJ23_init_0 1 rfl rfl)
theorem dJ23_init_2 : decode cJ23_init 2 = .ok (.putfield 1, 3) := dk_181 0 1 (dk_at dksJ23_init_0 2 rfl rfl)
theorem dJ23_init_5 : decode cJ23_init 5 = .ok (.aload_n 0, 1) := dk_42 (dk_at dksJ23_init_0 5 rfl rfl)
theorem dJ23_init_6 : decode cJ23_init 6 = .ok (.invokespecial 7, 3) := dk_183 0 7 (dk_at dksJ23_init_0 6 rfl rfl)
theorem dJ23_init_9 : decode cJ23_init 9 = .ok (.aload_n 0, 1) := dk_42 (dk_at dksJ23_init_0 9 rfl rfl)
theorem dJ23_init_10 : decode cJ23_init 10 = .ok (.iconst (-1), 1) := dk_2 (dk_at dksJ23_init_0 10 rfl rfl)
theorem dJ23_init_11 : decode cJ23_init 11 = .ok (.putfield 13, 3) := dk_181 0 13 (dk_at dksJ23_init_0 11 rfl rfl)
theorem dJ23_init_14 : decode cJ23_init 14 = .ok (.aload_n 0, 1) := dk_42 (dk_at dksJ23_init_0 14 rfl rfl)
theorem dJ23_init_15 : decode cJ23_init 15 = .ok (.aload_n 0, 1) := dk_42 (dk_at dksJ23_init_0 15 rfl rfl)
theorem dJ23_init_16 : decode cJ23_init 16 = .ok (.getfield 1, 3) := dk_180 0 1 (dk_at dksJ23_init_0 16 rfl rfl)
theorem dJ23_init_19 : decode cJ23_init 19 = .ok (.getfield 17, 3) := dk_180 0 17 (dk_at dksJ23_init_0 19 rfl rfl)
theorem dJ23_init_22 : decode cJ23_init 22 = .ok (.putfield 22, 3) := dk_181 0 22 (dk_at dksJ23_init_1 0 rfl rfl)
theorem dJ23_init_25 : decode cJ23_init 25 = .ok (.return_, 1) := dk_177 (dk_at dksJ23_init_1 3 rfl rfl)
abbrev cJ23_hasNext : ByteArray := prog_45_method_2_code
def yJ23_hasNext : MethodName := ⟨RJ23, "hasNext", "()Z"⟩
def dkwJ23_hasNext_0 : List UInt8 := [42, 180, 0, 25, 42, 180, 0, 1, 180, 0, 28, 159, 0, 7, 4, 167, 0, 4, 3, 172]
abbrev dktJ23_hasNext_0 : List UInt8 := dkwJ23_hasNext_0 ++ []
theorem dksJ23_hasNext_0 : cJ23_hasNext.data.toList.drop 0 = dktJ23_hasNext_0 := by decide +kernel
theorem dJ23_hasNext_0 : decode cJ23_hasNext 0 = .ok (.aload_n 0, 1) := dk_42 (dk_at dksJ23_hasNext_0 0 rfl rfl)
theorem dJ23_hasNext_1 : decode cJ23_hasNext 1 = .ok (.getfield 25, 3) := dk_180 0 25 (dk_at dksJ23_hasNext_0 1 rfl rfl)
theorem dJ23_hasNext_4 : decode cJ23_hasNext 4 = .ok (.aload_n 0, 1) := dk_42 (dk_at dksJ23_hasNext_0 4 rfl rfl)
theorem dJ23_hasNext_5 : decode cJ23_hasNext 5 = .ok (.getfield 1, 3) := dk_180 0 1 (dk_at dksJ23_hasNext_0 5 rfl rfl)
theorem dJ23_hasNext_8 : decode cJ23_hasNext 8 = .ok (.getfield 28, 3) := dk_180 0 28 (dk_at dksJ23_hasNext_0 8 rfl rfl)
theorem dJ23_hasNext_11 : decode cJ23_hasNext 11 = .ok (.if_icmp .eq 7, 3) := dk_159 0 7 (dk_at dksJ23_hasNext_0 11 rfl rfl)
theorem dJ23_hasNext_14 : decode cJ23_hasNext 14 = .ok (.iconst 1, 1) := dk_4 (dk_at dksJ23_hasNext_0 14 rfl rfl)
theorem dJ23_hasNext_15 : decode cJ23_hasNext 15 = .ok (.goto 4, 3) := dk_167 0 4 (dk_at dksJ23_hasNext_0 15 rfl rfl)
theorem dJ23_hasNext_18 : decode cJ23_hasNext 18 = .ok (.iconst 0, 1) := dk_3 (dk_at dksJ23_hasNext_0 18 rfl rfl)
theorem dJ23_hasNext_19 : decode cJ23_hasNext 19 = .ok (.ireturn, 1) := dk_172 (dk_at dksJ23_hasNext_0 19 rfl rfl)
abbrev cJ23_next : ByteArray := prog_45_method_3_code
def yJ23_next : MethodName := ⟨RJ23, "next", "()Ljava/lang/Object;"⟩
def dkwJ23_next_2 : List UInt8 := [183, 0, 43, 191, 42, 27, 4, 96, 181, 0, 25, 44, 42, 27, 90, 181, 0, 13, 50, 176]
abbrev dktJ23_next_2 : List UInt8 := dkwJ23_next_2 ++ []
def dkwJ23_next_1 : List UInt8 := [183, 0, 36, 191, 42, 180, 0, 1, 180, 0, 37, 77, 27, 44, 190, 161, 0, 11, 187, 0, 41, 89]
abbrev dktJ23_next_1 : List UInt8 := dkwJ23_next_1 ++ dktJ23_next_2
def dkwJ23_next_0 : List UInt8 := [42, 182, 0, 31, 42, 180, 0, 25, 60, 27, 42, 180, 0, 1, 180, 0, 28, 161, 0, 11, 187, 0, 34, 89]
abbrev dktJ23_next_0 : List UInt8 := dkwJ23_next_0 ++ dktJ23_next_1
theorem dksJ23_next_0 : cJ23_next.data.toList.drop 0 = dktJ23_next_0 := by decide +kernel
theorem dksJ23_next_1 : cJ23_next.data.toList.drop 24 = dktJ23_next_1 := dk_seg dksJ23_next_0 24 rfl rfl
theorem dksJ23_next_2 : cJ23_next.data.toList.drop 46 = dktJ23_next_2 := dk_seg dksJ23_next_1 22 rfl rfl
theorem dJ23_next_0 : decode cJ23_next 0 = .ok (.aload_n 0, 1) := dk_42 (dk_at dksJ23_next_0 0 rfl rfl)
theorem dJ23_next_1 : decode cJ23_next 1 = .ok (.invokevirtual 31, 3) := dk_182 0 31 (dk_at dksJ23_next_0 1 rfl rfl)
theorem dJ23_next_4 : decode cJ23_next 4 = .ok (.aload_n 0, 1) := dk_42 (dk_at dksJ23_next_0 4 rfl rfl)
theorem dJ23_next_5 : decode cJ23_next 5 = .ok (.getfield 25, 3) := dk_180 0 25 (dk_at dksJ23_next_0 5 rfl rfl)
theorem dJ23_next_8 : decode cJ23_next 8 = .ok (.istore_n 1, 1) := dk_60 (dk_at dksJ23_next_0 8 rfl rfl)
theorem dJ23_next_9 : decode cJ23_next 9 = .ok (.iload_n 1, 1) := dk_27 (dk_at dksJ23_next_0 9 rfl rfl)
theorem dJ23_next_10 : decode cJ23_next 10 = .ok (.aload_n 0, 1) := dk_42 (dk_at dksJ23_next_0 10 rfl rfl)
theorem dJ23_next_11 : decode cJ23_next 11 = .ok (.getfield 1, 3) := dk_180 0 1 (dk_at dksJ23_next_0 11 rfl rfl)
theorem dJ23_next_14 : decode cJ23_next 14 = .ok (.getfield 28, 3) := dk_180 0 28 (dk_at dksJ23_next_0 14 rfl rfl)
theorem dJ23_next_17 : decode cJ23_next 17 = .ok (.if_icmp .lt 11, 3) := dk_161 0 11 (dk_at dksJ23_next_0 17 rfl rfl)
theorem dJ23_next_20 : decode cJ23_next 20 = .ok (.new 34, 3) := dk_187 0 34 (dk_at dksJ23_next_0 20 rfl rfl)
theorem dJ23_next_23 : decode cJ23_next 23 = .ok (.dup, 1) := dk_89 (dk_at dksJ23_next_0 23 rfl rfl)
theorem dJ23_next_24 : decode cJ23_next 24 = .ok (.invokespecial 36, 3) := dk_183 0 36 (dk_at dksJ23_next_1 0 rfl rfl)
theorem dJ23_next_27 : decode cJ23_next 27 = .ok (.athrow, 1) := dk_191 (dk_at dksJ23_next_1 3 rfl rfl)
theorem dJ23_next_28 : decode cJ23_next 28 = .ok (.aload_n 0, 1) := dk_42 (dk_at dksJ23_next_1 4 rfl rfl)
theorem dJ23_next_29 : decode cJ23_next 29 = .ok (.getfield 1, 3) := dk_180 0 1 (dk_at dksJ23_next_1 5 rfl rfl)
theorem dJ23_next_32 : decode cJ23_next 32 = .ok (.getfield 37, 3) := dk_180 0 37 (dk_at dksJ23_next_1 8 rfl rfl)
theorem dJ23_next_35 : decode cJ23_next 35 = .ok (.astore_n 2, 1) := dk_77 (dk_at dksJ23_next_1 11 rfl rfl)
theorem dJ23_next_36 : decode cJ23_next 36 = .ok (.iload_n 1, 1) := dk_27 (dk_at dksJ23_next_1 12 rfl rfl)
theorem dJ23_next_37 : decode cJ23_next 37 = .ok (.aload_n 2, 1) := dk_44 (dk_at dksJ23_next_1 13 rfl rfl)
theorem dJ23_next_38 : decode cJ23_next 38 = .ok (.arraylength, 1) := dk_190 (dk_at dksJ23_next_1 14 rfl rfl)
theorem dJ23_next_39 : decode cJ23_next 39 = .ok (.if_icmp .lt 11, 3) := dk_161 0 11 (dk_at dksJ23_next_1 15 rfl rfl)
theorem dJ23_next_42 : decode cJ23_next 42 = .ok (.new 41, 3) := dk_187 0 41 (dk_at dksJ23_next_1 18 rfl rfl)
theorem dJ23_next_45 : decode cJ23_next 45 = .ok (.dup, 1) := dk_89 (dk_at dksJ23_next_1 21 rfl rfl)
theorem dJ23_next_46 : decode cJ23_next 46 = .ok (.invokespecial 43, 3) := dk_183 0 43 (dk_at dksJ23_next_2 0 rfl rfl)
theorem dJ23_next_49 : decode cJ23_next 49 = .ok (.athrow, 1) := dk_191 (dk_at dksJ23_next_2 3 rfl rfl)
theorem dJ23_next_50 : decode cJ23_next 50 = .ok (.aload_n 0, 1) := dk_42 (dk_at dksJ23_next_2 4 rfl rfl)
theorem dJ23_next_51 : decode cJ23_next 51 = .ok (.iload_n 1, 1) := dk_27 (dk_at dksJ23_next_2 5 rfl rfl)
theorem dJ23_next_52 : decode cJ23_next 52 = .ok (.iconst 1, 1) := dk_4 (dk_at dksJ23_next_2 6 rfl rfl)
theorem dJ23_next_53 : decode cJ23_next 53 = .ok (.iadd, 1) := dk_96 (dk_at dksJ23_next_2 7 rfl rfl)
theorem dJ23_next_54 : decode cJ23_next 54 = .ok (.putfield 25, 3) := dk_181 0 25 (dk_at dksJ23_next_2 8 rfl rfl)
theorem dJ23_next_57 : decode cJ23_next 57 = .ok (.aload_n 2, 1) := dk_44 (dk_at dksJ23_next_2 11 rfl rfl)
theorem dJ23_next_58 : decode cJ23_next 58 = .ok (.aload_n 0, 1) := dk_42 (dk_at dksJ23_next_2 12 rfl rfl)
theorem dJ23_next_59 : decode cJ23_next 59 = .ok (.iload_n 1, 1) := dk_27 (dk_at dksJ23_next_2 13 rfl rfl)
theorem dJ23_next_60 : decode cJ23_next 60 = .ok (.dup_x1, 1) := dk_90 (dk_at dksJ23_next_2 14 rfl rfl)
theorem dJ23_next_61 : decode cJ23_next 61 = .ok (.putfield 13, 3) := dk_181 0 13 (dk_at dksJ23_next_2 15 rfl rfl)
theorem dJ23_next_64 : decode cJ23_next 64 = .ok (.aaload, 1) := dk_50 (dk_at dksJ23_next_2 18 rfl rfl)
theorem dJ23_next_65 : decode cJ23_next 65 = .ok (.areturn, 1) := dk_176 (dk_at dksJ23_next_2 19 rfl rfl)
abbrev cJ23_checkForComodification : ByteArray := prog_45_method_6_code
def yJ23_checkForComodification : MethodName := ⟨RJ23, "checkForComodification", "()V"⟩
def dkwJ23_checkForComodification_0 : List UInt8 := [42, 180, 0, 1, 180, 0, 17, 42, 180, 0, 22, 159, 0, 11, 187, 0, 41, 89, 183, 0, 43, 191, 177]
abbrev dktJ23_checkForComodification_0 : List UInt8 := dkwJ23_checkForComodification_0 ++ []
theorem dksJ23_checkForComodification_0 : cJ23_checkForComodification.data.toList.drop 0 = dktJ23_checkForComodification_0 := by decide +kernel
theorem dJ23_checkForComodification_0 : decode cJ23_checkForComodification 0 = .ok (.aload_n 0, 1) := dk_42 (dk_at dksJ23_checkForComodification_0 0 rfl rfl)
theorem dJ23_checkForComodification_1 : decode cJ23_checkForComodification 1 = .ok (.getfield 1, 3) := dk_180 0 1 (dk_at dksJ23_checkForComodification_0 1 rfl rfl)
theorem dJ23_checkForComodification_4 : decode cJ23_checkForComodification 4 = .ok (.getfield 17, 3) := dk_180 0 17 (dk_at dksJ23_checkForComodification_0 4 rfl rfl)
theorem dJ23_checkForComodification_7 : decode cJ23_checkForComodification 7 = .ok (.aload_n 0, 1) := dk_42 (dk_at dksJ23_checkForComodification_0 7 rfl rfl)
theorem dJ23_checkForComodification_8 : decode cJ23_checkForComodification 8 = .ok (.getfield 22, 3) := dk_180 0 22 (dk_at dksJ23_checkForComodification_0 8 rfl rfl)
theorem dJ23_checkForComodification_11 : decode cJ23_checkForComodification 11 = .ok (.if_icmp .eq 11, 3) := dk_159 0 11 (dk_at dksJ23_checkForComodification_0 11 rfl rfl)
theorem dJ23_checkForComodification_14 : decode cJ23_checkForComodification 14 = .ok (.new 41, 3) := dk_187 0 41 (dk_at dksJ23_checkForComodification_0 14 rfl rfl)
theorem dJ23_checkForComodification_17 : decode cJ23_checkForComodification 17 = .ok (.dup, 1) := dk_89 (dk_at dksJ23_checkForComodification_0 17 rfl rfl)
theorem dJ23_checkForComodification_18 : decode cJ23_checkForComodification 18 = .ok (.invokespecial 43, 3) := dk_183 0 43 (dk_at dksJ23_checkForComodification_0 18 rfl rfl)
theorem dJ23_checkForComodification_21 : decode cJ23_checkForComodification 21 = .ok (.athrow, 1) := dk_191 (dk_at dksJ23_checkForComodification_0 21 rfl rfl)
theorem dJ23_checkForComodification_22 : decode cJ23_checkForComodification 22 = .ok (.return_, 1) := dk_177 (dk_at dksJ23_checkForComodification_0 22 rfl rfl)
abbrev cJ23_remove : ByteArray := prog_45_method_4_code
def yJ23_remove : MethodName := ⟨RJ23, "remove", "()V"⟩
def dkwJ23_remove_2 : List UInt8 := [180, 0, 1, 180, 0, 17, 181, 0, 22, 167, 0, 12, 76, 187, 0, 41, 89, 183, 0, 43, 191, 177]
abbrev dktJ23_remove_2 : List UInt8 := dkwJ23_remove_2 ++ []
def dkwJ23_remove_1 : List UInt8 := [180, 0, 13, 182, 0, 47, 87, 42, 42, 180, 0, 13, 181, 0, 25, 42, 2, 181, 0, 13, 42, 42]
abbrev dktJ23_remove_1 : List UInt8 := dkwJ23_remove_1 ++ dktJ23_remove_2
def dkwJ23_remove_0 : List UInt8 := [42, 180, 0, 13, 156, 0, 11, 187, 0, 44, 89, 183, 0, 46, 191, 42, 182, 0, 31, 42, 180, 0, 1, 42]
abbrev dktJ23_remove_0 : List UInt8 := dkwJ23_remove_0 ++ dktJ23_remove_1
theorem dksJ23_remove_0 : cJ23_remove.data.toList.drop 0 = dktJ23_remove_0 := by decide +kernel
theorem dksJ23_remove_1 : cJ23_remove.data.toList.drop 24 = dktJ23_remove_1 := dk_seg dksJ23_remove_0 24 rfl rfl
theorem dksJ23_remove_2 : cJ23_remove.data.toList.drop 46 = dktJ23_remove_2 := dk_seg dksJ23_remove_1 22 rfl rfl
theorem dJ23_remove_0 : decode cJ23_remove 0 = .ok (.aload_n 0, 1) := dk_42 (dk_at dksJ23_remove_0 0 rfl rfl)
theorem dJ23_remove_1 : decode cJ23_remove 1 = .ok (.getfield 13, 3) := dk_180 0 13 (dk_at dksJ23_remove_0 1 rfl rfl)
theorem dJ23_remove_4 : decode cJ23_remove 4 = .ok (.ifCond .ge 11, 3) := dk_156 0 11 (dk_at dksJ23_remove_0 4 rfl rfl)
theorem dJ23_remove_7 : decode cJ23_remove 7 = .ok (.new 44, 3) := dk_187 0 44 (dk_at dksJ23_remove_0 7 rfl rfl)
theorem dJ23_remove_10 : decode cJ23_remove 10 = .ok (.dup, 1) := dk_89 (dk_at dksJ23_remove_0 10 rfl rfl)
theorem dJ23_remove_11 : decode cJ23_remove 11 = .ok (.invokespecial 46, 3) := dk_183 0 46 (dk_at dksJ23_remove_0 11 rfl rfl)
theorem dJ23_remove_14 : decode cJ23_remove 14 = .ok (.athrow, 1) := dk_191 (dk_at dksJ23_remove_0 14 rfl rfl)
theorem dJ23_remove_15 : decode cJ23_remove 15 = .ok (.aload_n 0, 1) := dk_42 (dk_at dksJ23_remove_0 15 rfl rfl)
theorem dJ23_remove_16 : decode cJ23_remove 16 = .ok (.invokevirtual 31, 3) := dk_182 0 31 (dk_at dksJ23_remove_0 16 rfl rfl)
theorem dJ23_remove_19 : decode cJ23_remove 19 = .ok (.aload_n 0, 1) := dk_42 (dk_at dksJ23_remove_0 19 rfl rfl)
theorem dJ23_remove_20 : decode cJ23_remove 20 = .ok (.getfield 1, 3) := dk_180 0 1 (dk_at dksJ23_remove_0 20 rfl rfl)
theorem dJ23_remove_23 : decode cJ23_remove 23 = .ok (.aload_n 0, 1) := dk_42 (dk_at dksJ23_remove_0 23 rfl rfl)
theorem dJ23_remove_24 : decode cJ23_remove 24 = .ok (.getfield 13, 3) := dk_180 0 13 (dk_at dksJ23_remove_1 0 rfl rfl)
theorem dJ23_remove_27 : decode cJ23_remove 27 = .ok (.invokevirtual 47, 3) := dk_182 0 47 (dk_at dksJ23_remove_1 3 rfl rfl)
theorem dJ23_remove_30 : decode cJ23_remove 30 = .ok (.pop, 1) := dk_87 (dk_at dksJ23_remove_1 6 rfl rfl)
theorem dJ23_remove_31 : decode cJ23_remove 31 = .ok (.aload_n 0, 1) := dk_42 (dk_at dksJ23_remove_1 7 rfl rfl)
theorem dJ23_remove_32 : decode cJ23_remove 32 = .ok (.aload_n 0, 1) := dk_42 (dk_at dksJ23_remove_1 8 rfl rfl)
theorem dJ23_remove_33 : decode cJ23_remove 33 = .ok (.getfield 13, 3) := dk_180 0 13 (dk_at dksJ23_remove_1 9 rfl rfl)
theorem dJ23_remove_36 : decode cJ23_remove 36 = .ok (.putfield 25, 3) := dk_181 0 25 (dk_at dksJ23_remove_1 12 rfl rfl)
theorem dJ23_remove_39 : decode cJ23_remove 39 = .ok (.aload_n 0, 1) := dk_42 (dk_at dksJ23_remove_1 15 rfl rfl)
theorem dJ23_remove_40 : decode cJ23_remove 40 = .ok (.iconst (-1), 1) := dk_2 (dk_at dksJ23_remove_1 16 rfl rfl)
theorem dJ23_remove_41 : decode cJ23_remove 41 = .ok (.putfield 13, 3) := dk_181 0 13 (dk_at dksJ23_remove_1 17 rfl rfl)
theorem dJ23_remove_44 : decode cJ23_remove 44 = .ok (.aload_n 0, 1) := dk_42 (dk_at dksJ23_remove_1 20 rfl rfl)
theorem dJ23_remove_45 : decode cJ23_remove 45 = .ok (.aload_n 0, 1) := dk_42 (dk_at dksJ23_remove_1 21 rfl rfl)
theorem dJ23_remove_46 : decode cJ23_remove 46 = .ok (.getfield 1, 3) := dk_180 0 1 (dk_at dksJ23_remove_2 0 rfl rfl)
theorem dJ23_remove_49 : decode cJ23_remove 49 = .ok (.getfield 17, 3) := dk_180 0 17 (dk_at dksJ23_remove_2 3 rfl rfl)
theorem dJ23_remove_52 : decode cJ23_remove 52 = .ok (.putfield 22, 3) := dk_181 0 22 (dk_at dksJ23_remove_2 6 rfl rfl)
theorem dJ23_remove_55 : decode cJ23_remove 55 = .ok (.goto 12, 3) := dk_167 0 12 (dk_at dksJ23_remove_2 9 rfl rfl)
theorem dJ23_remove_58 : decode cJ23_remove 58 = .ok (.astore_n 1, 1) := dk_76 (dk_at dksJ23_remove_2 12 rfl rfl)
theorem dJ23_remove_59 : decode cJ23_remove 59 = .ok (.new 41, 3) := dk_187 0 41 (dk_at dksJ23_remove_2 13 rfl rfl)
theorem dJ23_remove_62 : decode cJ23_remove 62 = .ok (.dup, 1) := dk_89 (dk_at dksJ23_remove_2 16 rfl rfl)
theorem dJ23_remove_63 : decode cJ23_remove 63 = .ok (.invokespecial 43, 3) := dk_183 0 43 (dk_at dksJ23_remove_2 17 rfl rfl)
theorem dJ23_remove_66 : decode cJ23_remove 66 = .ok (.athrow, 1) := dk_191 (dk_at dksJ23_remove_2 20 rfl rfl)
theorem dJ23_remove_67 : decode cJ23_remove 67 = .ok (.return_, 1) := dk_177 (dk_at dksJ23_remove_2 21 rfl rfl)
theorem q123 : (Jvm.Cond.initialized "java/util/ArrayList$Itr") ∈ lw_all := lw_g (lw_at lw_m1 29 rfl) rfl
theorem q181 : (Jvm.Cond.fieldLink "java/util/ArrayList$Itr" (17 : Nat) "java/util/ArrayList" "modCount" "I") ∈ lw_all := lw_g (lw_at lw_m1 87 rfl) rfl
theorem q673 : (Jvm.Cond.instanceMethod ({ cls := "java/util/ArrayList$Itr", name := "<init>", desc := "(Ljava/util/ArrayList;)V" } : Jvm.MethodName)) ∈ lw_all := lw_g (lw_at lw_m3 99 rfl) rfl
theorem q674 : (Jvm.Cond.code ({ cls := "java/util/ArrayList$Itr", name := "<init>", desc := "(Ljava/util/ArrayList;)V" } : Jvm.MethodName) prog_45_method_1_code (2 : Nat) (Option.none : Option Jvm.ClassFile.FieldType)) ∈ lw_all := lw_g (lw_at lw_m3 100 rfl) rfl
theorem q675 : (Jvm.Cond.methodLink "java/util/ArrayList$Itr" (7 : Nat) ({ cls := "java/lang/Object", name := "<init>", desc := "()V" } : Jvm.MethodName)) ∈ lw_all := lw_g (lw_at lw_m3 101 rfl) rfl
theorem q679 : (Jvm.Cond.fieldLink "java/util/ArrayList$Itr" (25 : Nat) "java/util/ArrayList$Itr" "cursor" "I") ∈ lw_all := lw_g (lw_at lw_m3 105 rfl) rfl
theorem q680 : (Jvm.Cond.fieldLink "java/util/ArrayList$Itr" (13 : Nat) "java/util/ArrayList$Itr" "lastRet" "I") ∈ lw_all := lw_g (lw_at lw_m3 106 rfl) rfl
theorem q681 : (Jvm.Cond.fieldLink "java/util/ArrayList$Itr" (22 : Nat) "java/util/ArrayList$Itr" "expectedModCount" "I") ∈ lw_all := lw_g (lw_at lw_m3 107 rfl) rfl
theorem q682 : (Jvm.Cond.fieldLink "java/util/ArrayList$Itr" (1 : Nat) "java/util/ArrayList$Itr" "this$0" "Ljava/util/ArrayList;") ∈ lw_all := lw_g (lw_at lw_m3 108 rfl) rfl
theorem q686 : (Jvm.Cond.soleField "java/util/ArrayList$Itr" "cursor") ∈ lw_all := lw_g (lw_at lw_m3 112 rfl) rfl
theorem q688 : (Jvm.Cond.soleField "java/util/ArrayList$Itr" "lastRet") ∈ lw_all := lw_g (lw_at lw_m3 114 rfl) rfl
theorem q690 : (Jvm.Cond.soleField "java/util/ArrayList$Itr" "expectedModCount") ∈ lw_all := lw_g (lw_at lw_m3 116 rfl) rfl
theorem q692 : (Jvm.Cond.soleField "java/util/ArrayList$Itr" "this$0") ∈ lw_all := lw_g (lw_at lw_m3 118 rfl) rfl
theorem q770 : (Jvm.Cond.castable "java/util/ArrayList$Itr" "java/util/Iterator") ∈ lw_tbl := lw_at lw_m3 196 rfl
theorem q771 : (Jvm.Cond.selects "java/util/ArrayList$Itr" ({ cls := "java/util/Iterator", name := "hasNext", desc := "()Z" } : Jvm.MethodName) ({ cls := "java/util/ArrayList$Itr", name := "hasNext", desc := "()Z" } : Jvm.MethodName)) ∈ lw_all := lw_g (lw_at lw_m3 197 rfl) rfl
theorem q772 : (Jvm.Cond.unhidden "java/util/ArrayList$Itr" "hasNext" "()Z") ∈ lw_tbl := lw_at lw_m3 198 rfl
theorem q773 : (Jvm.Cond.instanceMethod ({ cls := "java/util/ArrayList$Itr", name := "hasNext", desc := "()Z" } : Jvm.MethodName)) ∈ lw_all := lw_g (lw_at lw_m3 199 rfl) rfl
theorem q774 : (Jvm.Cond.publicMethod ({ cls := "java/util/ArrayList$Itr", name := "hasNext", desc := "()Z" } : Jvm.MethodName)) ∈ lw_tbl := lw_at lw_m3 200 rfl
theorem q775 : (Jvm.Cond.code ({ cls := "java/util/ArrayList$Itr", name := "hasNext", desc := "()Z" } : Jvm.MethodName) prog_45_method_2_code (1 : Nat) (Option.some Jvm.ClassFile.FieldType.boolean)) ∈ lw_all := lw_g (lw_at lw_m3 201 rfl) rfl
theorem q887 : (Jvm.Cond.selects "java/util/ArrayList$Itr" ({ cls := "java/lang/Object", name := "getClass", desc := "()Ljava/lang/Class;" } : Jvm.MethodName) ({ cls := "java/lang/Object", name := "getClass", desc := "()Ljava/lang/Class;" } : Jvm.MethodName)) ∈ lw_all := lw_g (lw_at lw_m4 73 rfl) rfl
theorem q949 : (Jvm.Cond.selects "java/util/ArrayList$Itr" ({ cls := "java/util/Iterator", name := "next", desc := "()Ljava/lang/Object;" } : Jvm.MethodName) ({ cls := "java/util/ArrayList$Itr", name := "next", desc := "()Ljava/lang/Object;" } : Jvm.MethodName)) ∈ lw_all := lw_g (lw_at lw_m4 135 rfl) rfl
theorem q950 : (Jvm.Cond.unhidden "java/util/ArrayList$Itr" "next" "()Ljava/lang/Object;") ∈ lw_tbl := lw_at lw_m4 136 rfl
theorem q951 : (Jvm.Cond.instanceMethod ({ cls := "java/util/ArrayList$Itr", name := "next", desc := "()Ljava/lang/Object;" } : Jvm.MethodName)) ∈ lw_all := lw_g (lw_at lw_m4 137 rfl) rfl
theorem q952 : (Jvm.Cond.publicMethod ({ cls := "java/util/ArrayList$Itr", name := "next", desc := "()Ljava/lang/Object;" } : Jvm.MethodName)) ∈ lw_tbl := lw_at lw_m4 138 rfl
theorem q953 : (Jvm.Cond.code ({ cls := "java/util/ArrayList$Itr", name := "next", desc := "()Ljava/lang/Object;" } : Jvm.MethodName) prog_45_method_3_code (3 : Nat) (Option.some (Jvm.ClassFile.FieldType.object "java/lang/Object"))) ∈ lw_all := lw_g (lw_at lw_m4 139 rfl) rfl
theorem q954 : (Jvm.Cond.methodLink "java/util/ArrayList$Itr" (31 : Nat) ({ cls := "java/util/ArrayList$Itr", name := "checkForComodification", desc := "()V" } : Jvm.MethodName)) ∈ lw_all := lw_g (lw_at lw_m4 140 rfl) rfl
theorem q955 : (Jvm.Cond.instanceMethod ({ cls := "java/util/ArrayList$Itr", name := "checkForComodification", desc := "()V" } : Jvm.MethodName)) ∈ lw_all := lw_g (lw_at lw_m4 141 rfl) rfl
theorem q956 : (Jvm.Cond.selects "java/util/ArrayList$Itr" ({ cls := "java/util/ArrayList$Itr", name := "checkForComodification", desc := "()V" } : Jvm.MethodName) ({ cls := "java/util/ArrayList$Itr", name := "checkForComodification", desc := "()V" } : Jvm.MethodName)) ∈ lw_all := lw_g (lw_at lw_m4 142 rfl) rfl
theorem q957 : (Jvm.Cond.sameMethod "java/util/ArrayList$Itr" "java/util/ArrayList$Itr" "checkForComodification" "()V") ∈ lw_all := lw_g (lw_at lw_m4 143 rfl) rfl
theorem q959 : (Jvm.Cond.code ({ cls := "java/util/ArrayList$Itr", name := "checkForComodification", desc := "()V" } : Jvm.MethodName) prog_45_method_6_code (1 : Nat) (Option.none : Option Jvm.ClassFile.FieldType)) ∈ lw_all := lw_g (lw_at lw_m4 145 rfl) rfl
theorem q960 : (Jvm.Cond.classLink "java/util/ArrayList$Itr" (34 : Nat) "java/util/NoSuchElementException") ∈ lw_all := lw_g (lw_at lw_m4 146 rfl) rfl
theorem q961 : (Jvm.Cond.methodLink "java/util/ArrayList$Itr" (36 : Nat) ({ cls := "java/util/NoSuchElementException", name := "<init>", desc := "()V" } : Jvm.MethodName)) ∈ lw_all := lw_g (lw_at lw_m4 147 rfl) rfl
theorem q1310 : (Jvm.Cond.selects "java/util/ArrayList$Itr" ({ cls := "java/util/Iterator", name := "remove", desc := "()V" } : Jvm.MethodName) ({ cls := "java/util/ArrayList$Itr", name := "remove", desc := "()V" } : Jvm.MethodName)) ∈ lw_all := lw_g (lw_at lw_m6 16 rfl) rfl
theorem q1311 : (Jvm.Cond.unhidden "java/util/ArrayList$Itr" "remove" "()V") ∈ lw_tbl := lw_at lw_m6 17 rfl
theorem q1312 : (Jvm.Cond.instanceMethod ({ cls := "java/util/ArrayList$Itr", name := "remove", desc := "()V" } : Jvm.MethodName)) ∈ lw_all := lw_g (lw_at lw_m6 18 rfl) rfl
theorem q1313 : (Jvm.Cond.publicMethod ({ cls := "java/util/ArrayList$Itr", name := "remove", desc := "()V" } : Jvm.MethodName)) ∈ lw_tbl := lw_at lw_m6 19 rfl
theorem q1314 : (Jvm.Cond.codeWith ({ cls := "java/util/ArrayList$Itr", name := "remove", desc := "()V" } : Jvm.MethodName) prog_45_method_4_code (2 : Nat) (Option.none : Option Jvm.ClassFile.FieldType) [((19 : Nat), (55 : Nat), (58 : Nat), (51 : Nat))]) ∈ lw_all := lw_g (lw_at lw_m6 20 rfl) rfl
theorem q1315 : (Jvm.Cond.classLink "java/util/ArrayList$Itr" (44 : Nat) "java/lang/IllegalStateException") ∈ lw_all := lw_g (lw_at lw_m6 21 rfl) rfl
theorem q1316 : (Jvm.Cond.methodLink "java/util/ArrayList$Itr" (46 : Nat) ({ cls := "java/lang/IllegalStateException", name := "<init>", desc := "()V" } : Jvm.MethodName)) ∈ lw_all := lw_g (lw_at lw_m6 22 rfl) rfl
theorem q1317 : (Jvm.Cond.methodLink "java/util/ArrayList$Itr" (47 : Nat) ({ cls := "java/util/ArrayList", name := "remove", desc := "(I)Ljava/lang/Object;" } : Jvm.MethodName)) ∈ lw_all := lw_g (lw_at lw_m6 23 rfl) rfl
theorem q1318 : (Jvm.Cond.classLink "java/util/ArrayList$Itr" (41 : Nat) "java/util/ConcurrentModificationException") ∈ lw_all := lw_g (lw_at lw_m6 24 rfl) rfl
theorem q1319 : (Jvm.Cond.methodLink "java/util/ArrayList$Itr" (43 : Nat) ({ cls := "java/util/ConcurrentModificationException", name := "<init>", desc := "()V" } : Jvm.MethodName)) ∈ lw_all := lw_g (lw_at lw_m6 25 rfl) rfl
theorem q2171 : (Jvm.Cond.fieldLink "java/util/ArrayList$Itr" (37 : Nat) "java/util/ArrayList" "elementData" "[Ljava/lang/Object;") ∈ lw_all := lw_g (lw_at lw_m9 157 rfl) rfl
theorem q2172 : (Jvm.Cond.fieldLinkNest "java/util/ArrayList$Itr" (28 : Nat) "java/util/ArrayList" "size" "I" "java/util/ArrayList") ∈ lw_tbl := lw_at lw_m9 158 rfl
theorem q2259 : (Jvm.Cond.instantiable "java/util/ArrayList$Itr" (4 : Nat)) ∈ lw_all := lw_g (lw_at lw_m10 5 rfl) rfl
theorem q2261 : (Jvm.Cond.lays "java/util/ArrayList$Itr" "java/util/ArrayList$Itr" "cursor" "I") ∈ lw_all := lw_g (lw_at lw_m10 7 rfl) rfl
theorem q2262 : (Jvm.Cond.lays "java/util/ArrayList$Itr" "java/util/ArrayList$Itr" "lastRet" "I") ∈ lw_all := lw_g (lw_at lw_m10 8 rfl) rfl
theorem q2263 : (Jvm.Cond.lays "java/util/ArrayList$Itr" "java/util/ArrayList$Itr" "expectedModCount" "I") ∈ lw_all := lw_g (lw_at lw_m10 9 rfl) rfl
theorem q2264 : (Jvm.Cond.laysFinal "java/util/ArrayList$Itr" "java/util/ArrayList$Itr" "this$0" "Ljava/util/ArrayList;") ∈ lw_all := lw_g (lw_at lw_m10 10 rfl) rfl
theorem q2265 : (Jvm.Cond.superclass "java/util/ArrayList$Itr" "java/lang/Object") ∈ lw_all := lw_g (lw_at lw_m10 11 rfl) rfl
theorem q3128 : (Jvm.Cond.castable "java/util/ArrayList$Itr" "java/lang/Object") ∈ lw_tbl := lw_at lw_m13 154 rfl
theorem in_J23 : ∀ w ∈ wsJ230, w ∈ lw_all := lw_in wsJ230 [2261, 2262, 2263, 2264] (by decide +kernel) (by decide +kernel)

/-! java/util/ArrayList$ListItr -/
set_option maxRecDepth 100000
def RJ24 : String := "java/util/ArrayList$ListItr"
def TJ24 : u_T := fun k => match k with
  | 0 => ("java/util/ArrayList$Itr", "cursor", "I", false)
  | 1 => ("java/util/ArrayList$Itr", "lastRet", "I", false)
  | 2 => ("java/util/ArrayList$Itr", "expectedModCount", "I", false)
  | 3 => ("java/util/ArrayList$Itr", "this$0", "Ljava/util/ArrayList;", true)
  | _ => ("java/util/ArrayList$ListItr", "this$0", "Ljava/util/ArrayList;", true)
def tyJ24 : Nat → FieldType := fun k => match k with
  | 0 => .int
  | 1 => .int
  | 2 => .int
  | 3 => .object "java/util/ArrayList"
  | _ => .object "java/util/ArrayList"
abbrev wsJ240 : List Cond := u_ws RJ24 TJ24 5
-- two fields of one name: no nmJ24
theorem tyJ24_ok : ∀ k, k < 5 → parseFieldDescriptor (TJ24 k).2.2.1 = some (tyJ24 k) := by decide +kernel
abbrev cJ24_init : ByteArray := prog_46_method_1_code
def yJ24_init : MethodName := ⟨RJ24, "<init>", "(Ljava/util/ArrayList;I)V"⟩
def dkwJ24_init_0 : List UInt8 := [42, 43, 181, 0, 1, 42, 43, 183, 0, 7, 42, 28, 181, 0, 13, 177]
abbrev dktJ24_init_0 : List UInt8 := dkwJ24_init_0 ++ []
theorem dksJ24_init_0 : cJ24_init.data.toList.drop 0 = dktJ24_init_0 := by decide +kernel
theorem dJ24_init_0 : decode cJ24_init 0 = .ok (.aload_n 0, 1) := dk_42 (dk_at dksJ24_init_0 0 rfl rfl)
theorem dJ24_init_1 : decode cJ24_init 1 = .ok (.aload_n 1, 1) := dk_43 (dk_at dksJ24_init_0 1 rfl rfl)
theorem dJ24_init_2 : decode cJ24_init 2 = .ok (.putfield 1, 3) := dk_181 0 1 (dk_at dksJ24_init_0 2 rfl rfl)
theorem dJ24_init_5 : decode cJ24_init 5 = .ok (.aload_n 0, 1) := dk_42 (dk_at dksJ24_init_0 5 rfl rfl)
theorem dJ24_init_6 : decode cJ24_init 6 = .ok (.aload_n 1, 1) := dk_43 (dk_at dksJ24_init_0 6 rfl rfl)
theorem dJ24_init_7 : decode cJ24_init 7 = .ok (.invokespecial 7, 3) := dk_183 0 7 (dk_at dksJ24_init_0 7 rfl rfl)
theorem dJ24_init_10 : decode cJ24_init 10 = .ok (.aload_n 0, 1) := dk_42 (dk_at dksJ24_init_0 10 rfl rfl)
theorem dJ24_init_11 : decode cJ24_init 11 = .ok (.iload_n 2, 1) := dk_28 (dk_at dksJ24_init_0 11 rfl rfl)
theorem dJ24_init_12 : decode cJ24_init 12 = .ok (.putfield 13, 3) := dk_181 0 13 (dk_at dksJ24_init_0 12 rfl rfl)
theorem dJ24_init_15 : decode cJ24_init 15 = .ok (.return_, 1) := dk_177 (dk_at dksJ24_init_0 15 rfl rfl)
theorem q124 : (Jvm.Cond.initialized "java/util/ArrayList$ListItr") ∈ lw_all := lw_g (lw_at lw_m1 30 rfl) rfl
theorem q668 : (Jvm.Cond.instantiable "java/util/ArrayList$ListItr" (5 : Nat)) ∈ lw_all := lw_g (lw_at lw_m3 94 rfl) rfl
theorem q670 : (Jvm.Cond.instanceMethod ({ cls := "java/util/ArrayList$ListItr", name := "<init>", desc := "(Ljava/util/ArrayList;I)V" } : Jvm.MethodName)) ∈ lw_all := lw_g (lw_at lw_m3 96 rfl) rfl
theorem q671 : (Jvm.Cond.code ({ cls := "java/util/ArrayList$ListItr", name := "<init>", desc := "(Ljava/util/ArrayList;I)V" } : Jvm.MethodName) prog_46_method_1_code (3 : Nat) (Option.none : Option Jvm.ClassFile.FieldType)) ∈ lw_all := lw_g (lw_at lw_m3 97 rfl) rfl
theorem q672 : (Jvm.Cond.methodLink "java/util/ArrayList$ListItr" (7 : Nat) ({ cls := "java/util/ArrayList$Itr", name := "<init>", desc := "(Ljava/util/ArrayList;)V" } : Jvm.MethodName)) ∈ lw_all := lw_g (lw_at lw_m3 98 rfl) rfl
theorem q676 : (Jvm.Cond.fieldLink "java/util/ArrayList$ListItr" (1 : Nat) "java/util/ArrayList$ListItr" "this$0" "Ljava/util/ArrayList;") ∈ lw_all := lw_g (lw_at lw_m3 102 rfl) rfl
theorem q677 : (Jvm.Cond.fieldLink "java/util/ArrayList$ListItr" (13 : Nat) "java/util/ArrayList$ListItr" "cursor" "I") ∈ lw_all := lw_g (lw_at lw_m3 103 rfl) rfl
theorem q678 : (Jvm.Cond.sameField "java/util/ArrayList$ListItr" "java/util/ArrayList$Itr" "cursor" "I") ∈ lw_all := lw_g (lw_at lw_m3 104 rfl) rfl
theorem q683 : (Jvm.Cond.laysFinal "java/util/ArrayList$ListItr" "java/util/ArrayList$ListItr" "this$0" "Ljava/util/ArrayList;") ∈ lw_all := lw_g (lw_at lw_m3 109 rfl) rfl
theorem q684 : (Jvm.Cond.soleField "java/util/ArrayList$ListItr" "this$0") ∈ lw_all := lw_g (lw_at lw_m3 110 rfl) rfl
theorem q685 : (Jvm.Cond.lays "java/util/ArrayList$ListItr" "java/util/ArrayList$Itr" "cursor" "I") ∈ lw_all := lw_g (lw_at lw_m3 111 rfl) rfl
theorem q687 : (Jvm.Cond.lays "java/util/ArrayList$ListItr" "java/util/ArrayList$Itr" "lastRet" "I") ∈ lw_all := lw_g (lw_at lw_m3 113 rfl) rfl
theorem q689 : (Jvm.Cond.lays "java/util/ArrayList$ListItr" "java/util/ArrayList$Itr" "expectedModCount" "I") ∈ lw_all := lw_g (lw_at lw_m3 115 rfl) rfl
theorem q691 : (Jvm.Cond.laysFinal "java/util/ArrayList$ListItr" "java/util/ArrayList$Itr" "this$0" "Ljava/util/ArrayList;") ∈ lw_all := lw_g (lw_at lw_m3 117 rfl) rfl
theorem q693 : (Jvm.Cond.superclass "java/util/ArrayList$ListItr" "java/util/ArrayList$Itr") ∈ lw_all := lw_g (lw_at lw_m3 119 rfl) rfl
theorem q776 : (Jvm.Cond.castable "java/util/ArrayList$ListItr" "java/util/Iterator") ∈ lw_tbl := lw_at lw_m3 202 rfl
theorem q777 : (Jvm.Cond.selects "java/util/ArrayList$ListItr" ({ cls := "java/util/Iterator", name := "hasNext", desc := "()Z" } : Jvm.MethodName) ({ cls := "java/util/ArrayList$Itr", name := "hasNext", desc := "()Z" } : Jvm.MethodName)) ∈ lw_all := lw_g (lw_at lw_m3 203 rfl) rfl
theorem q778 : (Jvm.Cond.unhidden "java/util/ArrayList$ListItr" "hasNext" "()Z") ∈ lw_tbl := lw_at lw_m3 204 rfl
theorem q888 : (Jvm.Cond.selects "java/util/ArrayList$ListItr" ({ cls := "java/lang/Object", name := "getClass", desc := "()Ljava/lang/Class;" } : Jvm.MethodName) ({ cls := "java/lang/Object", name := "getClass", desc := "()Ljava/lang/Class;" } : Jvm.MethodName)) ∈ lw_all := lw_g (lw_at lw_m4 74 rfl) rfl
theorem q958 : (Jvm.Cond.selects "java/util/ArrayList$ListItr" ({ cls := "java/util/ArrayList$Itr", name := "checkForComodification", desc := "()V" } : Jvm.MethodName) ({ cls := "java/util/ArrayList$Itr", name := "checkForComodification", desc := "()V" } : Jvm.MethodName)) ∈ lw_all := lw_g (lw_at lw_m4 144 rfl) rfl
theorem q962 : (Jvm.Cond.selects "java/util/ArrayList$ListItr" ({ cls := "java/util/Iterator", name := "next", desc := "()Ljava/lang/Object;" } : Jvm.MethodName) ({ cls := "java/util/ArrayList$Itr", name := "next", desc := "()Ljava/lang/Object;" } : Jvm.MethodName)) ∈ lw_all := lw_g (lw_at lw_m4 148 rfl) rfl
theorem q963 : (Jvm.Cond.unhidden "java/util/ArrayList$ListItr" "next" "()Ljava/lang/Object;") ∈ lw_tbl := lw_at lw_m4 149 rfl
theorem q1320 : (Jvm.Cond.selects "java/util/ArrayList$ListItr" ({ cls := "java/util/Iterator", name := "remove", desc := "()V" } : Jvm.MethodName) ({ cls := "java/util/ArrayList$Itr", name := "remove", desc := "()V" } : Jvm.MethodName)) ∈ lw_all := lw_g (lw_at lw_m6 26 rfl) rfl
theorem q1321 : (Jvm.Cond.unhidden "java/util/ArrayList$ListItr" "remove" "()V") ∈ lw_tbl := lw_at lw_m6 27 rfl
theorem q3131 : (Jvm.Cond.castable "java/util/ArrayList$ListItr" "java/lang/Object") ∈ lw_tbl := lw_at lw_m13 157 rfl
theorem in_J24 : ∀ w ∈ wsJ240, w ∈ lw_all := lw_in wsJ240 [685, 687, 689, 691, 683] (by decide +kernel) (by decide +kernel)

/-! java/util/LinkedList$ListItr -/
set_option maxRecDepth 100000
def RJ25 : String := "java/util/LinkedList$ListItr"
def TJ25 : u_T := fun k => match k with
  | 0 => ("java/util/LinkedList$ListItr", "lastReturned", "Ljava/util/LinkedList$Node;", false)
  | 1 => ("java/util/LinkedList$ListItr", "next", "Ljava/util/LinkedList$Node;", false)
  | 2 => ("java/util/LinkedList$ListItr", "nextIndex", "I", false)
  | 3 => ("java/util/LinkedList$ListItr", "expectedModCount", "I", false)
  | _ => ("java/util/LinkedList$ListItr", "this$0", "Ljava/util/LinkedList;", true)
def tyJ25 : Nat → FieldType := fun k => match k with
  | 0 => .object "java/util/LinkedList$Node"
  | 1 => .object "java/util/LinkedList$Node"
  | 2 => .int
  | 3 => .int
  | _ => .object "java/util/LinkedList"
abbrev wsJ250 : List Cond := u_ws RJ25 TJ25 5
theorem nmJ25 : ∀ a, a < 5 → ∀ b, b < 5 → a ≠ b → (TJ25 a).2.1 ≠ (TJ25 b).2.1 := by decide +kernel
theorem tyJ25_ok : ∀ k, k < 5 → parseFieldDescriptor (TJ25 k).2.2.1 = some (tyJ25 k) := by decide +kernel
abbrev cJ25_init : ByteArray := prog_59_method_1_code
def yJ25_init : MethodName := ⟨RJ25, "<init>", "(Ljava/util/LinkedList;I)V"⟩
def dkwJ25_init_1 : List UInt8 := [180, 0, 22, 160, 0, 7, 1, 167, 0, 8, 43, 28, 182, 0, 25, 181, 0, 29, 42, 28, 181, 0, 33, 177]
abbrev dktJ25_init_1 : List UInt8 := dkwJ25_init_1 ++ []
def dkwJ25_init_0 : List UInt8 := [42, 43, 181, 0, 1, 42, 183, 0, 7, 42, 42, 180, 0, 1, 180, 0, 13, 181, 0, 19, 42, 28, 43]
abbrev dktJ25_init_0 : List UInt8 := dkwJ25_init_0 ++ dktJ25_init_1
theorem dksJ25_init_0 : cJ25_init.data.toList.drop 0 = dktJ25_init_0 := by decide +kernel
theorem dksJ25_init_1 : cJ25_init.data.toList.drop 23 = dktJ25_init_1 := dk_seg dksJ25_init_0 23 rfl rfl
theorem dJ25_init_0 : decode cJ25_init 0 = .ok (.aload_n 0, 1) := dk_42 (dk_at dksJ25_init_0 0 rfl rfl)
theorem dJ25_init_1 : decode cJ25_init 1 = .ok (.aload_n 1, 1) := dk_43 (dk_at dksJ25_init_0 1 rfl rfl)
theorem dJ25_init_2 : decode cJ25_init 2 = .ok (.putfield 1, 3) := dk_181 0 1 (dk_at dksJ25_init_0 2 rfl rfl)
theorem dJ25_init_5 : decode cJ25_init 5 = .ok (.aload_n 0, 1) := dk_42 (dk_at dksJ25_init_0 5 rfl rfl)
theorem dJ25_init_6 : decode cJ25_init 6 = .ok (.invokespecial 7, 3) := dk_183 0 7 (dk_at dksJ25_init_0 6 rfl rfl)
theorem dJ25_init_9 : decode cJ25_init 9 = .ok (.aload_n 0, 1) := dk_42 (dk_at dksJ25_init_0 9 rfl rfl)
theorem dJ25_init_10 : decode cJ25_init 10 = .ok (.aload_n 0, 1) := dk_42 (dk_at dksJ25_init_0 10 rfl rfl)
theorem dJ25_init_11 : decode cJ25_init 11 = .ok (.getfield 1, 3) := dk_180 0 1 (dk_at dksJ25_init_0 11 rfl rfl)
theorem dJ25_init_14 : decode cJ25_init 14 = .ok (.getfield 13, 3) := dk_180 0 13 (dk_at dksJ25_init_0 14 rfl rfl)
theorem dJ25_init_17 : decode cJ25_init 17 = .ok (.putfield 19, 3) := dk_181 0 19 (dk_at dksJ25_init_0 17 rfl rfl)
theorem dJ25_init_20 : decode cJ25_init 20 = .ok (.aload_n 0, 1) := dk_42 (dk_at dksJ25_init_0 20 rfl rfl)
theorem dJ25_init_21 : decode cJ25_init 21 = .ok (.iload_n 2, 1) := dk_28 (dk_at dksJ25_init_0 21 rfl rfl)
theorem dJ25_init_22 : decode cJ25_init 22 = .ok (.aload_n 1, 1) := dk_43 (dk_at dksJ25_init_0 22 rfl rfl)
theorem dJ25_init_23 : decode cJ25_init 23 = .ok (.getfield 22, 3) := dk_180 0 22 (dk_at dksJ25_init_1 0 rfl rfl)
theorem dJ25_init_26 : decode cJ25_init 26 = .ok (.if_icmp .ne 7, 3) := dk_160 0 7 (dk_at dksJ25_init_1 3 rfl rfl)
theorem dJ25_init_29 : decode cJ25_init 29 = .ok (.aconst_null, 1) := dk_1 (dk_at dksJ25_init_1 6 rfl rfl)
theorem dJ25_init_30 : decode cJ25_init 30 = .ok (.goto 8, 3) := dk_167 0 8 (dk_at dksJ25_init_1 7 rfl rfl)
theorem dJ25_init_33 : decode cJ25_init 33 = .ok (.aload_n 1, 1) := dk_43 (dk_at dksJ25_init_1 10 rfl rfl)
theorem dJ25_init_34 : decode cJ25_init 34 = .ok (.iload_n 2, 1) := dk_28 (dk_at dksJ25_init_1 11 rfl rfl)
theorem dJ25_init_35 : decode cJ25_init 35 = .ok (.invokevirtual 25, 3) := dk_182 0 25 (dk_at dksJ25_init_1 12 rfl rfl)
theorem dJ25_init_38 : decode cJ25_init 38 = .ok (.putfield 29, 3) := dk_181 0 29 (dk_at dksJ25_init_1 15 rfl rfl)
theorem dJ25_init_41 : decode cJ25_init 41 = .ok (.aload_n 0, 1) := dk_42 (dk_at dksJ25_init_1 18 rfl rfl)
theorem dJ25_init_42 : decode cJ25_init 42 = .ok (.iload_n 2, 1) := dk_28 (dk_at dksJ25_init_1 19 rfl rfl)
theorem dJ25_init_43 : decode cJ25_init 43 = .ok (.putfield 33, 3) := dk_181 0 33 (dk_at dksJ25_init_1 20 rfl rfl)
theorem dJ25_init_46 : decode cJ25_init 46 = .ok (.return_, 1) := dk_177 (dk_at dksJ25_init_1 23 rfl rfl)
abbrev cJ25_hasNext : ByteArray := prog_59_method_2_code
def yJ25_hasNext : MethodName := ⟨RJ25, "hasNext", "()Z"⟩
def dkwJ25_hasNext_0 : List UInt8 := [42, 180, 0, 33, 42, 180, 0, 1, 180, 0, 22, 162, 0, 7, 4, 167, 0, 4, 3, 172]
abbrev dktJ25_hasNext_0 : List UInt8 := dkwJ25_hasNext_0 ++ []
theorem dksJ25_hasNext_0 : cJ25_hasNext.data.toList.drop 0 = dktJ25_hasNext_0 := by decide +kernel
theorem dJ25_hasNext_0 : decode cJ25_hasNext 0 = .ok (.aload_n 0, 1) := dk_42 (dk_at dksJ25_hasNext_0 0 rfl rfl)
theorem dJ25_hasNext_1 : decode cJ25_hasNext 1 = .ok (.getfield 33, 3) := dk_180 0 33 (dk_at dksJ25_hasNext_0 1 rfl rfl)
theorem dJ25_hasNext_4 : decode cJ25_hasNext 4 = .ok (.aload_n 0, 1) := dk_42 (dk_at dksJ25_hasNext_0 4 rfl rfl)
theorem dJ25_hasNext_5 : decode cJ25_hasNext 5 = .ok (.getfield 1, 3) := dk_180 0 1 (dk_at dksJ25_hasNext_0 5 rfl rfl)
theorem dJ25_hasNext_8 : decode cJ25_hasNext 8 = .ok (.getfield 22, 3) := dk_180 0 22 (dk_at dksJ25_hasNext_0 8 rfl rfl)
theorem dJ25_hasNext_11 : decode cJ25_hasNext 11 = .ok (.if_icmp .ge 7, 3) := dk_162 0 7 (dk_at dksJ25_hasNext_0 11 rfl rfl)
theorem dJ25_hasNext_14 : decode cJ25_hasNext 14 = .ok (.iconst 1, 1) := dk_4 (dk_at dksJ25_hasNext_0 14 rfl rfl)
theorem dJ25_hasNext_15 : decode cJ25_hasNext 15 = .ok (.goto 4, 3) := dk_167 0 4 (dk_at dksJ25_hasNext_0 15 rfl rfl)
theorem dJ25_hasNext_18 : decode cJ25_hasNext 18 = .ok (.iconst 0, 1) := dk_3 (dk_at dksJ25_hasNext_0 18 rfl rfl)
theorem dJ25_hasNext_19 : decode cJ25_hasNext 19 = .ok (.ireturn, 1) := dk_172 (dk_at dksJ25_hasNext_0 19 rfl rfl)
abbrev cJ25_next : ByteArray := prog_59_method_3_code
def yJ25_next : MethodName := ⟨RJ25, "next", "()Ljava/lang/Object;"⟩
def dkwJ25_next_2 : List UInt8 := [42, 180, 0, 46, 180, 0, 52, 176]
abbrev dktJ25_next_2 : List UInt8 := dkwJ25_next_2 ++ []
def dkwJ25_next_1 : List UInt8 := [181, 0, 46, 42, 42, 180, 0, 29, 180, 0, 49, 181, 0, 29, 42, 89, 180, 0, 33, 4, 96, 181, 0, 33]
abbrev dktJ25_next_1 : List UInt8 := dkwJ25_next_1 ++ dktJ25_next_2
def dkwJ25_next_0 : List UInt8 := [42, 182, 0, 36, 42, 182, 0, 39, 154, 0, 11, 187, 0, 43, 89, 183, 0, 45, 191, 42, 42, 180, 0, 29]
abbrev dktJ25_next_0 : List UInt8 := dkwJ25_next_0 ++ dktJ25_next_1
theorem dksJ25_next_0 : cJ25_next.data.toList.drop 0 = dktJ25_next_0 := by decide +kernel
theorem dksJ25_next_1 : cJ25_next.data.toList.drop 24 = dktJ25_next_1 := dk_seg dksJ25_next_0 24 rfl rfl
theorem dksJ25_next_2 : cJ25_next.data.toList.drop 48 = dktJ25_next_2 := dk_seg dksJ25_next_1 24 rfl rfl
theorem dJ25_next_0 : decode cJ25_next 0 = .ok (.aload_n 0, 1) := dk_42 (dk_at dksJ25_next_0 0 rfl rfl)
theorem dJ25_next_1 : decode cJ25_next 1 = .ok (.invokevirtual 36, 3) := dk_182 0 36 (dk_at dksJ25_next_0 1 rfl rfl)
theorem dJ25_next_4 : decode cJ25_next 4 = .ok (.aload_n 0, 1) := dk_42 (dk_at dksJ25_next_0 4 rfl rfl)
theorem dJ25_next_5 : decode cJ25_next 5 = .ok (.invokevirtual 39, 3) := dk_182 0 39 (dk_at dksJ25_next_0 5 rfl rfl)
theorem dJ25_next_8 : decode cJ25_next 8 = .ok (.ifCond .ne 11, 3) := dk_154 0 11 (dk_at dksJ25_next_0 8 rfl rfl)
theorem dJ25_next_11 : decode cJ25_next 11 = .ok (.new 43, 3) := dk_187 0 43 (dk_at dksJ25_next_0 11 rfl rfl)
theorem dJ25_next_14 : decode cJ25_next 14 = .ok (.dup, 1) := dk_89 (dk_at dksJ25_next_0 14 rfl rfl)
theorem dJ25_next_15 : decode cJ25_next 15 = .ok (.invokespecial 45, 3) := dk_183 0 45 (dk_at dksJ25_next_0 15 rfl rfl)
theorem dJ25_next_18 : decode cJ25_next 18 = .ok (.athrow, 1) := dk_191 (dk_at dksJ25_next_0 18 rfl rfl)
theorem dJ25_next_19 : decode cJ25_next 19 = .ok (.aload_n 0, 1) := dk_42 (dk_at dksJ25_next_0 19 rfl rfl)
theorem dJ25_next_20 : decode cJ25_next 20 = .ok (.aload_n 0, 1) := dk_42 (dk_at dksJ25_next_0 20 rfl rfl)
theorem dJ25_next_21 : decode cJ25_next 21 = .ok (.getfield 29, 3) := dk_180 0 29 (dk_at dksJ25_next_0 21 rfl rfl)
theorem dJ25_next_24 : decode cJ25_next 24 = .ok (.putfield 46, 3) := dk_181 0 46 (dk_at dksJ25_next_1 0 rfl rfl)
theorem dJ25_next_27 : decode cJ25_next 27 = .ok (.aload_n 0, 1) := dk_42 (dk_at dksJ25_next_1 3 rfl rfl)
theorem dJ25_next_28 : decode cJ25_next 28 = .ok (.aload_n 0, 1) := dk_42 (dk_at dksJ25_next_1 4 rfl rfl)
theorem dJ25_next_29 : decode cJ25_next 29 = .ok (.getfield 29, 3) := dk_180 0 29 (dk_at dksJ25_next_1 5 rfl rfl)
theorem dJ25_next_32 : decode cJ25_next 32 = .ok (.getfield 49, 3) := dk_180 0 49 (dk_at dksJ25_next_1 8 rfl rfl)
theorem dJ25_next_35 : decode cJ25_next 35 = .ok (.putfield 29, 3) := dk_181 0 29 (dk_at dksJ25_next_1 11 rfl rfl)
theorem dJ25_next_38 : decode cJ25_next 38 = .ok (.aload_n 0, 1) := dk_42 (dk_at dksJ25_next_1 14 rfl rfl)
theorem dJ25_next_39 : decode cJ25_next 39 = .ok (.dup, 1) := dk_89 (dk_at dksJ25_next_1 15 rfl rfl)
theorem dJ25_next_40 : decode cJ25_next 40 = .ok (.getfield 33, 3) := dk_180 0 33 (dk_at dksJ25_next_1 16 rfl rfl)
theorem dJ25_next_43 : decode cJ25_next 43 = .ok (.iconst 1, 1) := dk_4 (dk_at dksJ25_next_1 19 rfl rfl)
theorem dJ25_next_44 : decode cJ25_next 44 = .ok (.iadd, 1) := dk_96 (dk_at dksJ25_next_1 20 rfl rfl)
theorem dJ25_next_45 : decode cJ25_next 45 = .ok (.putfield 33, 3) := dk_181 0 33 (dk_at dksJ25_next_1 21 rfl rfl)
theorem dJ25_next_48 : decode cJ25_next 48 = .ok (.aload_n 0, 1) := dk_42 (dk_at dksJ25_next_2 0 rfl rfl)
theorem dJ25_next_49 : decode cJ25_next 49 = .ok (.getfield 46, 3) := dk_180 0 46 (dk_at dksJ25_next_2 1 rfl rfl)
theorem dJ25_next_52 : decode cJ25_next 52 = .ok (.getfield 52, 3) := dk_180 0 52 (dk_at dksJ25_next_2 4 rfl rfl)
theorem dJ25_next_55 : decode cJ25_next 55 = .ok (.areturn, 1) := dk_176 (dk_at dksJ25_next_2 7 rfl rfl)
abbrev cJ25_checkForComodification : ByteArray := prog_59_method_12_code
def yJ25_checkForComodification : MethodName := ⟨RJ25, "checkForComodification", "()V"⟩
def dkwJ25_checkForComodification_0 : List UInt8 := [42, 180, 0, 1, 180, 0, 13, 42, 180, 0, 19, 159, 0, 11, 187, 0, 91, 89, 183, 0, 93, 191, 177]
abbrev dktJ25_checkForComodification_0 : List UInt8 := dkwJ25_checkForComodification_0 ++ []
theorem dksJ25_checkForComodification_0 : cJ25_checkForComodification.data.toList.drop 0 = dktJ25_checkForComodification_0 := by decide +kernel
theorem dJ25_checkForComodification_0 : decode cJ25_checkForComodification 0 = .ok (.aload_n 0, 1) := dk_42 (dk_at dksJ25_checkForComodification_0 0 rfl rfl)
theorem dJ25_checkForComodification_1 : decode cJ25_checkForComodification 1 = .ok (.getfield 1, 3) := dk_180 0 1 (dk_at dksJ25_checkForComodification_0 1 rfl rfl)
theorem dJ25_checkForComodification_4 : decode cJ25_checkForComodification 4 = .ok (.getfield 13, 3) := dk_180 0 13 (dk_at dksJ25_checkForComodification_0 4 rfl rfl)
theorem dJ25_checkForComodification_7 : decode cJ25_checkForComodification 7 = .ok (.aload_n 0, 1) := dk_42 (dk_at dksJ25_checkForComodification_0 7 rfl rfl)
theorem dJ25_checkForComodification_8 : decode cJ25_checkForComodification 8 = .ok (.getfield 19, 3) := dk_180 0 19 (dk_at dksJ25_checkForComodification_0 8 rfl rfl)
theorem dJ25_checkForComodification_11 : decode cJ25_checkForComodification 11 = .ok (.if_icmp .eq 11, 3) := dk_159 0 11 (dk_at dksJ25_checkForComodification_0 11 rfl rfl)
theorem dJ25_checkForComodification_14 : decode cJ25_checkForComodification 14 = .ok (.new 91, 3) := dk_187 0 91 (dk_at dksJ25_checkForComodification_0 14 rfl rfl)
theorem dJ25_checkForComodification_17 : decode cJ25_checkForComodification 17 = .ok (.dup, 1) := dk_89 (dk_at dksJ25_checkForComodification_0 17 rfl rfl)
theorem dJ25_checkForComodification_18 : decode cJ25_checkForComodification 18 = .ok (.invokespecial 93, 3) := dk_183 0 93 (dk_at dksJ25_checkForComodification_0 18 rfl rfl)
theorem dJ25_checkForComodification_21 : decode cJ25_checkForComodification 21 = .ok (.athrow, 1) := dk_191 (dk_at dksJ25_checkForComodification_0 21 rfl rfl)
theorem dJ25_checkForComodification_22 : decode cJ25_checkForComodification 22 = .ok (.return_, 1) := dk_177 (dk_at dksJ25_checkForComodification_0 22 rfl rfl)
abbrev cJ25_remove : ByteArray := prog_59_method_8_code
def yJ25_remove : MethodName := ⟨RJ25, "remove", "()V"⟩
def dkwJ25_remove_3 : List UInt8 := [181, 0, 46, 42, 89, 180, 0, 19, 4, 96, 181, 0, 19, 177]
abbrev dktJ25_remove_3 : List UInt8 := dkwJ25_remove_3 ++ []
def dkwJ25_remove_2 : List UInt8 := [166, 0, 11, 42, 43, 181, 0, 29, 167, 0, 13, 42, 89, 180, 0, 33, 4, 100, 181, 0, 33, 42, 1]
abbrev dktJ25_remove_2 : List UInt8 := dkwJ25_remove_2 ++ dktJ25_remove_3
def dkwJ25_remove_1 : List UInt8 := [180, 0, 49, 76, 42, 180, 0, 1, 42, 180, 0, 46, 182, 0, 68, 87, 42, 180, 0, 29, 42, 180, 0, 46]
abbrev dktJ25_remove_1 : List UInt8 := dkwJ25_remove_1 ++ dktJ25_remove_2
def dkwJ25_remove_0 : List UInt8 := [42, 182, 0, 36, 42, 180, 0, 46, 199, 0, 11, 187, 0, 65, 89, 183, 0, 67, 191, 42, 180, 0, 46]
abbrev dktJ25_remove_0 : List UInt8 := dkwJ25_remove_0 ++ dktJ25_remove_1
theorem dksJ25_remove_0 : cJ25_remove.data.toList.drop 0 = dktJ25_remove_0 := by decide +kernel
theorem dksJ25_remove_1 : cJ25_remove.data.toList.drop 23 = dktJ25_remove_1 := dk_seg dksJ25_remove_0 23 rfl rfl
theorem dksJ25_remove_2 : cJ25_remove.data.toList.drop 47 = dktJ25_remove_2 := dk_seg dksJ25_remove_1 24 rfl rfl
theorem dksJ25_remove_3 : cJ25_remove.data.toList.drop 70 = dktJ25_remove_3 := dk_seg dksJ25_remove_2 23 rfl rfl
theorem dJ25_remove_0 : decode cJ25_remove 0 = .ok (.aload_n 0, 1) := dk_42 (dk_at dksJ25_remove_0 0 rfl rfl)
theorem dJ25_remove_1 : decode cJ25_remove 1 = .ok (.invokevirtual 36, 3) := dk_182 0 36 (dk_at dksJ25_remove_0 1 rfl rfl)
theorem dJ25_remove_4 : decode cJ25_remove 4 = .ok (.aload_n 0, 1) := dk_42 (dk_at dksJ25_remove_0 4 rfl rfl)
theorem dJ25_remove_5 : decode cJ25_remove 5 = .ok (.getfield 46, 3) := dk_180 0 46 (dk_at dksJ25_remove_0 5 rfl rfl)
theorem dJ25_remove_8 : decode cJ25_remove 8 = .ok (.ifnonnull 11, 3) := dk_199 0 11 (dk_at dksJ25_remove_0 8 rfl rfl)
theorem dJ25_remove_11 : decode cJ25_remove 11 = .ok (.new 65, 3) := dk_187 0 65 (dk_at dksJ25_remove_0 11 rfl rfl)
theorem dJ25_remove_14 : decode cJ25_remove 14 = .ok (.dup, 1) := dk_89 (dk_at dksJ25_remove_0 14 rfl rfl)
theorem dJ25_remove_15 : decode cJ25_remove 15 = .ok (.invokespecial 67, 3) := dk_183 0 67 (dk_at dksJ25_remove_0 15 rfl rfl)
theorem dJ25_remove_18 : decode cJ25_remove 18 = .ok (.athrow, 1) := dk_191 (dk_at dksJ25_remove_0 18 rfl rfl)
theorem dJ25_remove_19 : decode cJ25_remove 19 = .ok (.aload_n 0, 1) := dk_42 (dk_at dksJ25_remove_0 19 rfl rfl)
theorem dJ25_remove_20 : decode cJ25_remove 20 = .ok (.getfield 46, 3) := dk_180 0 46 (dk_at dksJ25_remove_0 20 rfl rfl)
theorem dJ25_remove_23 : decode cJ25_remove 23 = .ok (.getfield 49, 3) := dk_180 0 49 (dk_at dksJ25_remove_1 0 rfl rfl)
theorem dJ25_remove_26 : decode cJ25_remove 26 = .ok (.astore_n 1, 1) := dk_76 (dk_at dksJ25_remove_1 3 rfl rfl)
theorem dJ25_remove_27 : decode cJ25_remove 27 = .ok (.aload_n 0, 1) := dk_42 (dk_at dksJ25_remove_1 4 rfl rfl)
theorem dJ25_remove_28 : decode cJ25_remove 28 = .ok (.getfield 1, 3) := dk_180 0 1 (dk_at dksJ25_remove_1 5 rfl rfl)
theorem dJ25_remove_31 : decode cJ25_remove 31 = .ok (.aload_n 0, 1) := dk_42 (dk_at dksJ25_remove_1 8 rfl rfl)
theorem dJ25_remove_32 : decode cJ25_remove 32 = .ok (.getfield 46, 3) := dk_180 0 46 (dk_at dksJ25_remove_1 9 rfl rfl)
theorem dJ25_remove_35 : decode cJ25_remove 35 = .ok (.invokevirtual 68, 3) := dk_182 0 68 (dk_at dksJ25_remove_1 12 rfl rfl)
theorem dJ25_remove_38 : decode cJ25_remove 38 = .ok (.pop, 1) := dk_87 (dk_at dksJ25_remove_1 15 rfl rfl)
theorem dJ25_remove_39 : decode cJ25_remove 39 = .ok (.aload_n 0, 1) := dk_42 (dk_at dksJ25_remove_1 16 rfl rfl)
theorem dJ25_remove_40 : decode cJ25_remove 40 = .ok (.getfield 29, 3) := dk_180 0 29 (dk_at dksJ25_remove_1 17 rfl rfl)
theorem dJ25_remove_43 : decode cJ25_remove 43 = .ok (.aload_n 0, 1) := dk_42 (dk_at dksJ25_remove_1 20 rfl rfl)
theorem dJ25_remove_44 : decode cJ25_remove 44 = .ok (.getfield 46, 3) := dk_180 0 46 (dk_at dksJ25_remove_1 21 rfl rfl)
theorem dJ25_remove_47 : decode cJ25_remove 47 = .ok (.if_acmp .ne 11, 3) := dk_166 0 11 (dk_at dksJ25_remove_2 0 rfl rfl)
theorem dJ25_remove_50 : decode cJ25_remove 50 = .ok (.aload_n 0, 1) := dk_42 (dk_at dksJ25_remove_2 3 rfl rfl)
theorem dJ25_remove_51 : decode cJ25_remove 51 = .ok (.aload_n 1, 1) := dk_43 (dk_at dksJ25_remove_2 4 rfl rfl)
theorem dJ25_remove_52 : decode cJ25_remove 52 = .ok (.putfield 29, 3) := dk_181 0 29 (dk_at dksJ25_remove_2 5 rfl rfl)
theorem dJ25_remove_55 : decode cJ25_remove 55 = .ok (.goto 13, 3) := dk_167 0 13 (dk_at dksJ25_remove_2 8 rfl rfl)
theorem dJ25_remove_58 : decode cJ25_remove 58 = .ok (.aload_n 0, 1) := dk_42 (dk_at dksJ25_remove_2 11 rfl rfl)
theorem dJ25_remove_59 : decode cJ25_remove 59 = .ok (.dup, 1) := dk_89 (dk_at dksJ25_remove_2 12 rfl rfl)
theorem dJ25_remove_60 : decode cJ25_remove 60 = .ok (.getfield 33, 3) := dk_180 0 33 (dk_at dksJ25_remove_2 13 rfl rfl)
theorem dJ25_remove_63 : decode cJ25_remove 63 = .ok (.iconst 1, 1) := dk_4 (dk_at dksJ25_remove_2 16 rfl rfl)
theorem dJ25_remove_64 : decode cJ25_remove 64 = .ok (.isub, 1) := dk_100 (dk_at dksJ25_remove_2 17 rfl rfl)
theorem dJ25_remove_65 : decode cJ25_remove 65 = .ok (.putfield 33, 3) := dk_181 0 33 (dk_at dksJ25_remove_2 18 rfl rfl)
theorem dJ25_remove_68 : decode cJ25_remove 68 = .ok (.aload_n 0, 1) := dk_42 (dk_at dksJ25_remove_2 21 rfl rfl)
theorem dJ25_remove_69 : decode cJ25_remove 69 = .ok (.aconst_null, 1) := dk_1 (dk_at dksJ25_remove_2 22 rfl rfl)
theorem dJ25_remove_70 : decode cJ25_remove 70 = .ok (.putfield 46, 3) := dk_181 0 46 (dk_at dksJ25_remove_3 0 rfl rfl)
theorem dJ25_remove_73 : decode cJ25_remove 73 = .ok (.aload_n 0, 1) := dk_42 (dk_at dksJ25_remove_3 3 rfl rfl)
theorem dJ25_remove_74 : decode cJ25_remove 74 = .ok (.dup, 1) := dk_89 (dk_at dksJ25_remove_3 4 rfl rfl)
theorem dJ25_remove_75 : decode cJ25_remove 75 = .ok (.getfield 19, 3) := dk_180 0 19 (dk_at dksJ25_remove_3 5 rfl rfl)
theorem dJ25_remove_78 : decode cJ25_remove 78 = .ok (.iconst 1, 1) := dk_4 (dk_at dksJ25_remove_3 8 rfl rfl)
theorem dJ25_remove_79 : decode cJ25_remove 79 = .ok (.iadd, 1) := dk_96 (dk_at dksJ25_remove_3 9 rfl rfl)
theorem dJ25_remove_80 : decode cJ25_remove 80 = .ok (.putfield 19, 3) := dk_181 0 19 (dk_at dksJ25_remove_3 10 rfl rfl)
theorem dJ25_remove_83 : decode cJ25_remove 83 = .ok (.return_, 1) := dk_177 (dk_at dksJ25_remove_3 13 rfl rfl)
theorem q125 : (Jvm.Cond.initialized "java/util/LinkedList$ListItr") ∈ lw_all := lw_g (lw_at lw_m1 31 rfl) rfl
theorem q175 : (Jvm.Cond.fieldLink "java/util/LinkedList$ListItr" (22 : Nat) "java/util/LinkedList" "size" "I") ∈ lw_all := lw_g (lw_at lw_m1 81 rfl) rfl
theorem q179 : (Jvm.Cond.fieldLink "java/util/LinkedList$ListItr" (13 : Nat) "java/util/LinkedList" "modCount" "I") ∈ lw_all := lw_g (lw_at lw_m1 85 rfl) rfl
theorem q719 : (Jvm.Cond.instantiable "java/util/LinkedList$ListItr" (5 : Nat)) ∈ lw_all := lw_g (lw_at lw_m3 145 rfl) rfl
theorem q721 : (Jvm.Cond.instanceMethod ({ cls := "java/util/LinkedList$ListItr", name := "<init>", desc := "(Ljava/util/LinkedList;I)V" } : Jvm.MethodName)) ∈ lw_all := lw_g (lw_at lw_m3 147 rfl) rfl
theorem q722 : (Jvm.Cond.code ({ cls := "java/util/LinkedList$ListItr", name := "<init>", desc := "(Ljava/util/LinkedList;I)V" } : Jvm.MethodName) prog_59_method_1_code (3 : Nat) (Option.none : Option Jvm.ClassFile.FieldType)) ∈ lw_all := lw_g (lw_at lw_m3 148 rfl) rfl
theorem q723 : (Jvm.Cond.methodLink "java/util/LinkedList$ListItr" (7 : Nat) ({ cls := "java/lang/Object", name := "<init>", desc := "()V" } : Jvm.MethodName)) ∈ lw_all := lw_g (lw_at lw_m3 149 rfl) rfl
theorem q724 : (Jvm.Cond.methodLink "java/util/LinkedList$ListItr" (25 : Nat) ({ cls := "java/util/LinkedList", name := "node", desc := "(I)Ljava/util/LinkedList$Node;" } : Jvm.MethodName)) ∈ lw_all := lw_g (lw_at lw_m3 150 rfl) rfl
theorem q728 : (Jvm.Cond.fieldLink "java/util/LinkedList$ListItr" (46 : Nat) "java/util/LinkedList$ListItr" "lastReturned" "Ljava/util/LinkedList$Node;") ∈ lw_all := lw_g (lw_at lw_m3 154 rfl) rfl
theorem q729 : (Jvm.Cond.fieldLink "java/util/LinkedList$ListItr" (29 : Nat) "java/util/LinkedList$ListItr" "next" "Ljava/util/LinkedList$Node;") ∈ lw_all := lw_g (lw_at lw_m3 155 rfl) rfl
theorem q730 : (Jvm.Cond.fieldLink "java/util/LinkedList$ListItr" (33 : Nat) "java/util/LinkedList$ListItr" "nextIndex" "I") ∈ lw_all := lw_g (lw_at lw_m3 156 rfl) rfl
theorem q731 : (Jvm.Cond.fieldLink "java/util/LinkedList$ListItr" (19 : Nat) "java/util/LinkedList$ListItr" "expectedModCount" "I") ∈ lw_all := lw_g (lw_at lw_m3 157 rfl) rfl
theorem q732 : (Jvm.Cond.fieldLink "java/util/LinkedList$ListItr" (1 : Nat) "java/util/LinkedList$ListItr" "this$0" "Ljava/util/LinkedList;") ∈ lw_all := lw_g (lw_at lw_m3 158 rfl) rfl
theorem q733 : (Jvm.Cond.lays "java/util/LinkedList$ListItr" "java/util/LinkedList$ListItr" "lastReturned" "Ljava/util/LinkedList$Node;") ∈ lw_all := lw_g (lw_at lw_m3 159 rfl) rfl
theorem q734 : (Jvm.Cond.soleField "java/util/LinkedList$ListItr" "lastReturned") ∈ lw_all := lw_g (lw_at lw_m3 160 rfl) rfl
theorem q735 : (Jvm.Cond.lays "java/util/LinkedList$ListItr" "java/util/LinkedList$ListItr" "next" "Ljava/util/LinkedList$Node;") ∈ lw_all := lw_g (lw_at lw_m3 161 rfl) rfl
theorem q736 : (Jvm.Cond.soleField "java/util/LinkedList$ListItr" "next") ∈ lw_all := lw_g (lw_at lw_m3 162 rfl) rfl
theorem q737 : (Jvm.Cond.lays "java/util/LinkedList$ListItr" "java/util/LinkedList$ListItr" "nextIndex" "I") ∈ lw_all := lw_g (lw_at lw_m3 163 rfl) rfl
theorem q738 : (Jvm.Cond.soleField "java/util/LinkedList$ListItr" "nextIndex") ∈ lw_all := lw_g (lw_at lw_m3 164 rfl) rfl
theorem q739 : (Jvm.Cond.lays "java/util/LinkedList$ListItr" "java/util/LinkedList$ListItr" "expectedModCount" "I") ∈ lw_all := lw_g (lw_at lw_m3 165 rfl) rfl
theorem q740 : (Jvm.Cond.soleField "java/util/LinkedList$ListItr" "expectedModCount") ∈ lw_all := lw_g (lw_at lw_m3 166 rfl) rfl
theorem q741 : (Jvm.Cond.laysFinal "java/util/LinkedList$ListItr" "java/util/LinkedList$ListItr" "this$0" "Ljava/util/LinkedList;") ∈ lw_all := lw_g (lw_at lw_m3 167 rfl) rfl
theorem q742 : (Jvm.Cond.soleField "java/util/LinkedList$ListItr" "this$0") ∈ lw_all := lw_g (lw_at lw_m3 168 rfl) rfl
theorem q743 : (Jvm.Cond.superclass "java/util/LinkedList$ListItr" "java/lang/Object") ∈ lw_all := lw_g (lw_at lw_m3 169 rfl) rfl
theorem q785 : (Jvm.Cond.castable "java/util/LinkedList$ListItr" "java/util/Iterator") ∈ lw_tbl := lw_at lw_m3 211 rfl
theorem q786 : (Jvm.Cond.selects "java/util/LinkedList$ListItr" ({ cls := "java/util/Iterator", name := "hasNext", desc := "()Z" } : Jvm.MethodName) ({ cls := "java/util/LinkedList$ListItr", name := "hasNext", desc := "()Z" } : Jvm.MethodName)) ∈ lw_all := lw_g (lw_at lw_m3 212 rfl) rfl
theorem q787 : (Jvm.Cond.unhidden "java/util/LinkedList$ListItr" "hasNext" "()Z") ∈ lw_tbl := lw_at lw_m3 213 rfl
theorem q788 : (Jvm.Cond.instanceMethod ({ cls := "java/util/LinkedList$ListItr", name := "hasNext", desc := "()Z" } : Jvm.MethodName)) ∈ lw_all := lw_g (lw_at lw_m3 214 rfl) rfl
theorem q789 : (Jvm.Cond.publicMethod ({ cls := "java/util/LinkedList$ListItr", name := "hasNext", desc := "()Z" } : Jvm.MethodName)) ∈ lw_tbl := lw_at lw_m3 215 rfl
theorem q790 : (Jvm.Cond.code ({ cls := "java/util/LinkedList$ListItr", name := "hasNext", desc := "()Z" } : Jvm.MethodName) prog_59_method_2_code (1 : Nat) (Option.some Jvm.ClassFile.FieldType.boolean)) ∈ lw_all := lw_g (lw_at lw_m3 216 rfl) rfl
theorem q894 : (Jvm.Cond.selects "java/util/LinkedList$ListItr" ({ cls := "java/lang/Object", name := "getClass", desc := "()Ljava/lang/Class;" } : Jvm.MethodName) ({ cls := "java/lang/Object", name := "getClass", desc := "()Ljava/lang/Class;" } : Jvm.MethodName)) ∈ lw_all := lw_g (lw_at lw_m4 80 rfl) rfl
theorem q1020 : (Jvm.Cond.selects "java/util/LinkedList$ListItr" ({ cls := "java/util/Iterator", name := "next", desc := "()Ljava/lang/Object;" } : Jvm.MethodName) ({ cls := "java/util/LinkedList$ListItr", name := "next", desc := "()Ljava/lang/Object;" } : Jvm.MethodName)) ∈ lw_all := lw_g (lw_at lw_m4 206 rfl) rfl
theorem q1021 : (Jvm.Cond.unhidden "java/util/LinkedList$ListItr" "next" "()Ljava/lang/Object;") ∈ lw_tbl := lw_at lw_m4 207 rfl
theorem q1022 : (Jvm.Cond.instanceMethod ({ cls := "java/util/LinkedList$ListItr", name := "next", desc := "()Ljava/lang/Object;" } : Jvm.MethodName)) ∈ lw_all := lw_g (lw_at lw_m4 208 rfl) rfl
theorem q1023 : (Jvm.Cond.publicMethod ({ cls := "java/util/LinkedList$ListItr", name := "next", desc := "()Ljava/lang/Object;" } : Jvm.MethodName)) ∈ lw_tbl := lw_at lw_m4 209 rfl
theorem q1024 : (Jvm.Cond.code ({ cls := "java/util/LinkedList$ListItr", name := "next", desc := "()Ljava/lang/Object;" } : Jvm.MethodName) prog_59_method_3_code (1 : Nat) (Option.some (Jvm.ClassFile.FieldType.object "java/lang/Object"))) ∈ lw_all := lw_g (lw_at lw_m4 210 rfl) rfl
theorem q1025 : (Jvm.Cond.methodLink "java/util/LinkedList$ListItr" (36 : Nat) ({ cls := "java/util/LinkedList$ListItr", name := "checkForComodification", desc := "()V" } : Jvm.MethodName)) ∈ lw_all := lw_g (lw_at lw_m4 211 rfl) rfl
theorem q1026 : (Jvm.Cond.instanceMethod ({ cls := "java/util/LinkedList$ListItr", name := "checkForComodification", desc := "()V" } : Jvm.MethodName)) ∈ lw_all := lw_g (lw_at lw_m4 212 rfl) rfl
theorem q1027 : (Jvm.Cond.selects "java/util/LinkedList$ListItr" ({ cls := "java/util/LinkedList$ListItr", name := "checkForComodification", desc := "()V" } : Jvm.MethodName) ({ cls := "java/util/LinkedList$ListItr", name := "checkForComodification", desc := "()V" } : Jvm.MethodName)) ∈ lw_all := lw_g (lw_at lw_m4 213 rfl) rfl
theorem q1028 : (Jvm.Cond.code ({ cls := "java/util/LinkedList$ListItr", name := "checkForComodification", desc := "()V" } : Jvm.MethodName) prog_59_method_12_code (1 : Nat) (Option.none : Option Jvm.ClassFile.FieldType)) ∈ lw_all := lw_g (lw_at lw_m4 214 rfl) rfl
theorem q1029 : (Jvm.Cond.methodLink "java/util/LinkedList$ListItr" (39 : Nat) ({ cls := "java/util/LinkedList$ListItr", name := "hasNext", desc := "()Z" } : Jvm.MethodName)) ∈ lw_all := lw_g (lw_at lw_m4 215 rfl) rfl
theorem q1030 : (Jvm.Cond.classLink "java/util/LinkedList$ListItr" (43 : Nat) "java/util/NoSuchElementException") ∈ lw_all := lw_g (lw_at lw_m4 216 rfl) rfl
theorem q1031 : (Jvm.Cond.methodLink "java/util/LinkedList$ListItr" (45 : Nat) ({ cls := "java/util/NoSuchElementException", name := "<init>", desc := "()V" } : Jvm.MethodName)) ∈ lw_all := lw_g (lw_at lw_m4 217 rfl) rfl
theorem q1094 : (Jvm.Cond.fieldLink "java/util/LinkedList$ListItr" (52 : Nat) "java/util/LinkedList$Node" "item" "Ljava/lang/Object;") ∈ lw_all := lw_g (lw_at lw_m5 40 rfl) rfl
theorem q1097 : (Jvm.Cond.fieldLink "java/util/LinkedList$ListItr" (49 : Nat) "java/util/LinkedList$Node" "next" "Ljava/util/LinkedList$Node;") ∈ lw_all := lw_g (lw_at lw_m5 43 rfl) rfl
theorem q1327 : (Jvm.Cond.selects "java/util/LinkedList$ListItr" ({ cls := "java/util/Iterator", name := "remove", desc := "()V" } : Jvm.MethodName) ({ cls := "java/util/LinkedList$ListItr", name := "remove", desc := "()V" } : Jvm.MethodName)) ∈ lw_all := lw_g (lw_at lw_m6 33 rfl) rfl
theorem q1328 : (Jvm.Cond.unhidden "java/util/LinkedList$ListItr" "remove" "()V") ∈ lw_tbl := lw_at lw_m6 34 rfl
theorem q1329 : (Jvm.Cond.instanceMethod ({ cls := "java/util/LinkedList$ListItr", name := "remove", desc := "()V" } : Jvm.MethodName)) ∈ lw_all := lw_g (lw_at lw_m6 35 rfl) rfl
theorem q1330 : (Jvm.Cond.publicMethod ({ cls := "java/util/LinkedList$ListItr", name := "remove", desc := "()V" } : Jvm.MethodName)) ∈ lw_tbl := lw_at lw_m6 36 rfl
theorem q1331 : (Jvm.Cond.code ({ cls := "java/util/LinkedList$ListItr", name := "remove", desc := "()V" } : Jvm.MethodName) prog_59_method_8_code (2 : Nat) (Option.none : Option Jvm.ClassFile.FieldType)) ∈ lw_all := lw_g (lw_at lw_m6 37 rfl) rfl
theorem q1332 : (Jvm.Cond.classLink "java/util/LinkedList$ListItr" (65 : Nat) "java/lang/IllegalStateException") ∈ lw_all := lw_g (lw_at lw_m6 38 rfl) rfl
theorem q1333 : (Jvm.Cond.methodLink "java/util/LinkedList$ListItr" (67 : Nat) ({ cls := "java/lang/IllegalStateException", name := "<init>", desc := "()V" } : Jvm.MethodName)) ∈ lw_all := lw_g (lw_at lw_m6 39 rfl) rfl
theorem q1334 : (Jvm.Cond.methodLink "java/util/LinkedList$ListItr" (68 : Nat) ({ cls := "java/util/LinkedList", name := "unlink", desc := "(Ljava/util/LinkedList$Node;)Ljava/lang/Object;" } : Jvm.MethodName)) ∈ lw_all := lw_g (lw_at lw_m6 40 rfl) rfl
theorem q3082 : (Jvm.Cond.selects "java/util/LinkedList$ListItr" ({ cls := "java/util/LinkedList$ListItr", name := "hasNext", desc := "()Z" } : Jvm.MethodName) ({ cls := "java/util/LinkedList$ListItr", name := "hasNext", desc := "()Z" } : Jvm.MethodName)) ∈ lw_all := lw_g (lw_at lw_m13 108 rfl) rfl
theorem q3114 : (Jvm.Cond.castable "java/util/LinkedList$ListItr" "java/lang/Object") ∈ lw_tbl := lw_at lw_m13 140 rfl
theorem in_J25 : ∀ w ∈ wsJ250, w ∈ lw_all := lw_in wsJ250 [733, 735, 737, 739, 741] (by decide +kernel) (by decide +kernel)

/-! java/util/Objects -/
set_option maxRecDepth 100000
def RJ26 : String := "java/util/Objects"
abbrev cJ26_checkIndex : ByteArray := prog_64_method_17_code
def yJ26_checkIndex : MethodName := ⟨RJ26, "checkIndex", "(II)I"⟩
def dkwJ26_checkIndex_0 : List UInt8 := [26, 27, 1, 184, 0, 105, 172]
abbrev dktJ26_checkIndex_0 : List UInt8 := dkwJ26_checkIndex_0 ++ []
theorem dksJ26_checkIndex_0 : cJ26_checkIndex.data.toList.drop 0 = dktJ26_checkIndex_0 := by decide +kernel
theorem dJ26_checkIndex_0 : decode cJ26_checkIndex 0 = .ok (.iload_n 0, 1) := dk_26 (dk_at dksJ26_checkIndex_0 0 rfl rfl)
theorem dJ26_checkIndex_1 : decode cJ26_checkIndex 1 = .ok (.iload_n 1, 1) := dk_27 (dk_at dksJ26_checkIndex_0 1 rfl rfl)
theorem dJ26_checkIndex_2 : decode cJ26_checkIndex 2 = .ok (.aconst_null, 1) := dk_1 (dk_at dksJ26_checkIndex_0 2 rfl rfl)
theorem dJ26_checkIndex_3 : decode cJ26_checkIndex 3 = .ok (.invokestatic 105, 3) := dk_184 0 105 (dk_at dksJ26_checkIndex_0 3 rfl rfl)
theorem dJ26_checkIndex_6 : decode cJ26_checkIndex 6 = .ok (.ireturn, 1) := dk_172 (dk_at dksJ26_checkIndex_0 6 rfl rfl)
abbrev cJ26_requireNonNull : ByteArray := prog_64_method_10_code
def yJ26_requireNonNull : MethodName := ⟨RJ26, "requireNonNull", "(Ljava/lang/Object;)Ljava/lang/Object;"⟩
def dkwJ26_requireNonNull_0 : List UInt8 := [42, 199, 0, 11, 187, 0, 84, 89, 183, 0, 86, 191, 42, 176]
abbrev dktJ26_requireNonNull_0 : List UInt8 := dkwJ26_requireNonNull_0 ++ []
theorem dksJ26_requireNonNull_0 : cJ26_requireNonNull.data.toList.drop 0 = dktJ26_requireNonNull_0 := by decide +kernel
theorem dJ26_requireNonNull_0 : decode cJ26_requireNonNull 0 = .ok (.aload_n 0, 1) := dk_42 (dk_at dksJ26_requireNonNull_0 0 rfl rfl)
theorem dJ26_requireNonNull_1 : decode cJ26_requireNonNull 1 = .ok (.ifnonnull 11, 3) := dk_199 0 11 (dk_at dksJ26_requireNonNull_0 1 rfl rfl)
theorem dJ26_requireNonNull_4 : decode cJ26_requireNonNull 4 = .ok (.new 84, 3) := dk_187 0 84 (dk_at dksJ26_requireNonNull_0 4 rfl rfl)
theorem dJ26_requireNonNull_7 : decode cJ26_requireNonNull 7 = .ok (.dup, 1) := dk_89 (dk_at dksJ26_requireNonNull_0 7 rfl rfl)
theorem dJ26_requireNonNull_8 : decode cJ26_requireNonNull 8 = .ok (.invokespecial 86, 3) := dk_183 0 86 (dk_at dksJ26_requireNonNull_0 8 rfl rfl)
theorem dJ26_requireNonNull_11 : decode cJ26_requireNonNull 11 = .ok (.athrow, 1) := dk_191 (dk_at dksJ26_requireNonNull_0 11 rfl rfl)
theorem dJ26_requireNonNull_12 : decode cJ26_requireNonNull 12 = .ok (.aload_n 0, 1) := dk_42 (dk_at dksJ26_requireNonNull_0 12 rfl rfl)
theorem dJ26_requireNonNull_13 : decode cJ26_requireNonNull 13 = .ok (.areturn, 1) := dk_176 (dk_at dksJ26_requireNonNull_0 13 rfl rfl)
abbrev cJ26_equals : ByteArray := prog_64_method_2_code
def yJ26_equals : MethodName := ⟨RJ26, "equals", "(Ljava/lang/Object;Ljava/lang/Object;)Z"⟩
def dkwJ26_equals_0 : List UInt8 := [42, 43, 165, 0, 15, 42, 198, 0, 15, 42, 43, 182, 0, 14, 153, 0, 7, 4, 167, 0, 4, 3, 172]
abbrev dktJ26_equals_0 : List UInt8 := dkwJ26_equals_0 ++ []
theorem dksJ26_equals_0 : cJ26_equals.data.toList.drop 0 = dktJ26_equals_0 := by decide +kernel
theorem dJ26_equals_0 : decode cJ26_equals 0 = .ok (.aload_n 0, 1) := dk_42 (dk_at dksJ26_equals_0 0 rfl rfl)
theorem dJ26_equals_1 : decode cJ26_equals 1 = .ok (.aload_n 1, 1) := dk_43 (dk_at dksJ26_equals_0 1 rfl rfl)
theorem dJ26_equals_2 : decode cJ26_equals 2 = .ok (.if_acmp .eq 15, 3) := dk_165 0 15 (dk_at dksJ26_equals_0 2 rfl rfl)
theorem dJ26_equals_5 : decode cJ26_equals 5 = .ok (.aload_n 0, 1) := dk_42 (dk_at dksJ26_equals_0 5 rfl rfl)
theorem dJ26_equals_6 : decode cJ26_equals 6 = .ok (.ifnull 15, 3) := dk_198 0 15 (dk_at dksJ26_equals_0 6 rfl rfl)
theorem dJ26_equals_9 : decode cJ26_equals 9 = .ok (.aload_n 0, 1) := dk_42 (dk_at dksJ26_equals_0 9 rfl rfl)
theorem dJ26_equals_10 : decode cJ26_equals 10 = .ok (.aload_n 1, 1) := dk_43 (dk_at dksJ26_equals_0 10 rfl rfl)
theorem dJ26_equals_11 : decode cJ26_equals 11 = .ok (.invokevirtual 14, 3) := dk_182 0 14 (dk_at dksJ26_equals_0 11 rfl rfl)
theorem dJ26_equals_14 : decode cJ26_equals 14 = .ok (.ifCond .eq 7, 3) := dk_153 0 7 (dk_at dksJ26_equals_0 14 rfl rfl)
theorem dJ26_equals_17 : decode cJ26_equals 17 = .ok (.iconst 1, 1) := dk_4 (dk_at dksJ26_equals_0 17 rfl rfl)
theorem dJ26_equals_18 : decode cJ26_equals 18 = .ok (.goto 4, 3) := dk_167 0 4 (dk_at dksJ26_equals_0 18 rfl rfl)
theorem dJ26_equals_21 : decode cJ26_equals 21 = .ok (.iconst 0, 1) := dk_3 (dk_at dksJ26_equals_0 21 rfl rfl)
theorem dJ26_equals_22 : decode cJ26_equals 22 = .ok (.ireturn, 1) := dk_172 (dk_at dksJ26_equals_0 22 rfl rfl)
theorem q126 : (Jvm.Cond.initialized "java/util/Objects") ∈ lw_all := lw_g (lw_at lw_m1 32 rfl) rfl
theorem q812 : (Jvm.Cond.static ({ cls := "java/util/Objects", name := "checkIndex", desc := "(II)I" } : Jvm.MethodName)) ∈ lw_all := lw_g (lw_at lw_m3 238 rfl) rfl
theorem q813 : (Jvm.Cond.code ({ cls := "java/util/Objects", name := "checkIndex", desc := "(II)I" } : Jvm.MethodName) prog_64_method_17_code (2 : Nat) (Option.some Jvm.ClassFile.FieldType.int)) ∈ lw_all := lw_g (lw_at lw_m3 239 rfl) rfl
theorem q814 : (Jvm.Cond.methodLink "java/util/Objects" (105 : Nat) ({ cls := "jdk/internal/util/Preconditions", name := "checkIndex", desc := "(IILjava/util/function/BiFunction;)I" } : Jvm.MethodName)) ∈ lw_all := lw_g (lw_at lw_m4 0 rfl) rfl
theorem q2123 : (Jvm.Cond.static ({ cls := "java/util/Objects", name := "requireNonNull", desc := "(Ljava/lang/Object;)Ljava/lang/Object;" } : Jvm.MethodName)) ∈ lw_all := lw_g (lw_at lw_m9 109 rfl) rfl
theorem q2124 : (Jvm.Cond.code ({ cls := "java/util/Objects", name := "requireNonNull", desc := "(Ljava/lang/Object;)Ljava/lang/Object;" } : Jvm.MethodName) prog_64_method_10_code (1 : Nat) (Option.some (Jvm.ClassFile.FieldType.object "java/lang/Object"))) ∈ lw_all := lw_g (lw_at lw_m9 110 rfl) rfl
theorem q2375 : (Jvm.Cond.static ({ cls := "java/util/Objects", name := "equals", desc := "(Ljava/lang/Object;Ljava/lang/Object;)Z" } : Jvm.MethodName)) ∈ lw_all := lw_g (lw_at lw_m10 121 rfl) rfl
theorem q2376 : (Jvm.Cond.code ({ cls := "java/util/Objects", name := "equals", desc := "(Ljava/lang/Object;Ljava/lang/Object;)Z" } : Jvm.MethodName) prog_64_method_2_code (2 : Nat) (Option.some Jvm.ClassFile.FieldType.boolean)) ∈ lw_all := lw_g (lw_at lw_m10 122 rfl) rfl
theorem q2377 : (Jvm.Cond.methodLink "java/util/Objects" (14 : Nat) ({ cls := "java/lang/Object", name := "equals", desc := "(Ljava/lang/Object;)Z" } : Jvm.MethodName)) ∈ lw_all := lw_g (lw_at lw_m10 123 rfl) rfl

/-! java/util/NoSuchElementException -/
set_option maxRecDepth 100000
def RJ27 : String := "java/util/NoSuchElementException"
def TJ27 : u_T := fun k => match k with
  | 0 => ("java/lang/Throwable", "cause", "Ljava/lang/Throwable;", false)
  | 1 => ("java/lang/Throwable", "stackTrace", "[Ljava/lang/StackTraceElement;", false)
  | 2 => ("java/lang/Throwable", "suppressedExceptions", "Ljava/util/List;", false)
  | 3 => ("java/lang/Throwable", "detailMessage", "Ljava/lang/String;", false)
  | 4 => ("java/lang/Throwable", "backtrace", "Ljava/lang/Object;", false)
  | _ => ("java/lang/Throwable", "depth", "I", false)
def tyJ27 : Nat → FieldType := fun k => match k with
  | 0 => .object "java/lang/Throwable"
  | 1 => .array (.object "java/lang/StackTraceElement")
  | 2 => .object "java/util/List"
  | 3 => .object "java/lang/String"
  | 4 => .object "java/lang/Object"
  | _ => .int
abbrev wsJ270 : List Cond := u_ws RJ27 TJ27 6
theorem nmJ27 : ∀ a, a < 6 → ∀ b, b < 6 → a ≠ b → (TJ27 a).2.1 ≠ (TJ27 b).2.1 := by decide +kernel
theorem tyJ27_ok : ∀ k, k < 6 → parseFieldDescriptor (TJ27 k).2.2.1 = some (tyJ27 k) := by decide +kernel
abbrev cJ27_init : ByteArray := prog_63_method_3_code
def yJ27_init : MethodName := ⟨RJ27, "<init>", "(Ljava/lang/Throwable;)V"⟩
def dkwJ27_init_0 : List UInt8 := [42, 43, 183, 0, 10, 177]
abbrev dktJ27_init_0 : List UInt8 := dkwJ27_init_0 ++ []
theorem dksJ27_init_0 : cJ27_init.data.toList.drop 0 = dktJ27_init_0 := by decide +kernel
theorem dJ27_init_0 : decode cJ27_init 0 = .ok (.aload_n 0, 1) := dk_42 (dk_at dksJ27_init_0 0 rfl rfl)
theorem dJ27_init_1 : decode cJ27_init 1 = .ok (.aload_n 1, 1) := dk_43 (dk_at dksJ27_init_0 1 rfl rfl)
theorem dJ27_init_2 : decode cJ27_init 2 = .ok (.invokespecial 10, 3) := dk_183 0 10 (dk_at dksJ27_init_0 2 rfl rfl)
theorem dJ27_init_5 : decode cJ27_init 5 = .ok (.return_, 1) := dk_177 (dk_at dksJ27_init_0 5 rfl rfl)
abbrev cJ27_init_2 : ByteArray := prog_63_method_1_code
def yJ27_init_2 : MethodName := ⟨RJ27, "<init>", "()V"⟩
theorem dJ27_init_2_0 : decode cJ27_init_2 0 = .ok (.aload_n 0, 1) := by decide +kernel
theorem dJ27_init_2_1 : decode cJ27_init_2 1 = .ok (.invokespecial 1, 3) := by decide +kernel
theorem dJ27_init_2_4 : decode cJ27_init_2 4 = .ok (.return_, 1) := by decide +kernel
theorem q127 : (Jvm.Cond.initialized "java/util/NoSuchElementException") ∈ lw_all := lw_g (lw_at lw_m1 33 rfl) rfl
theorem q399 : (Jvm.Cond.selects "java/util/NoSuchElementException" ({ cls := "java/lang/Throwable", name := "fillInStackTrace", desc := "()Ljava/lang/Throwable;" } : Jvm.MethodName) ({ cls := "java/lang/Throwable", name := "fillInStackTrace", desc := "()Ljava/lang/Throwable;" } : Jvm.MethodName)) ∈ lw_all := lw_g (lw_at lw_m2 65 rfl) rfl
theorem q834 : (Jvm.Cond.instantiable "java/util/NoSuchElementException" (6 : Nat)) ∈ lw_all := lw_g (lw_at lw_m4 20 rfl) rfl
theorem q835 : (Jvm.Cond.castable "java/util/NoSuchElementException" "java/util/NoSuchElementException") ∈ lw_tbl := lw_at lw_m4 21 rfl
theorem q836 : (Jvm.Cond.selects "java/util/NoSuchElementException" ({ cls := "java/lang/Throwable", name := "fillInStackTrace", desc := "(I)Ljava/lang/Throwable;" } : Jvm.MethodName) ({ cls := "java/lang/Throwable", name := "fillInStackTrace", desc := "(I)Ljava/lang/Throwable;" } : Jvm.MethodName)) ∈ lw_all := lw_g (lw_at lw_m4 22 rfl) rfl
theorem q837 : (Jvm.Cond.lays "java/util/NoSuchElementException" "java/lang/Throwable" "cause" "Ljava/lang/Throwable;") ∈ lw_all := lw_g (lw_at lw_m4 23 rfl) rfl
theorem q838 : (Jvm.Cond.lays "java/util/NoSuchElementException" "java/lang/Throwable" "stackTrace" "[Ljava/lang/StackTraceElement;") ∈ lw_all := lw_g (lw_at lw_m4 24 rfl) rfl
theorem q839 : (Jvm.Cond.lays "java/util/NoSuchElementException" "java/lang/Throwable" "suppressedExceptions" "Ljava/util/List;") ∈ lw_all := lw_g (lw_at lw_m4 25 rfl) rfl
theorem q840 : (Jvm.Cond.lays "java/util/NoSuchElementException" "java/lang/Throwable" "detailMessage" "Ljava/lang/String;") ∈ lw_all := lw_g (lw_at lw_m4 26 rfl) rfl
theorem q841 : (Jvm.Cond.lays "java/util/NoSuchElementException" "java/lang/Throwable" "backtrace" "Ljava/lang/Object;") ∈ lw_all := lw_g (lw_at lw_m4 27 rfl) rfl
theorem q843 : (Jvm.Cond.instanceMethod ({ cls := "java/util/NoSuchElementException", name := "<init>", desc := "(Ljava/lang/Throwable;)V" } : Jvm.MethodName)) ∈ lw_all := lw_g (lw_at lw_m4 29 rfl) rfl
theorem q844 : (Jvm.Cond.code ({ cls := "java/util/NoSuchElementException", name := "<init>", desc := "(Ljava/lang/Throwable;)V" } : Jvm.MethodName) prog_63_method_3_code (2 : Nat) (Option.none : Option Jvm.ClassFile.FieldType)) ∈ lw_all := lw_g (lw_at lw_m4 30 rfl) rfl
theorem q845 : (Jvm.Cond.methodLink "java/util/NoSuchElementException" (10 : Nat) ({ cls := "java/lang/RuntimeException", name := "<init>", desc := "(Ljava/lang/Throwable;)V" } : Jvm.MethodName)) ∈ lw_all := lw_g (lw_at lw_m4 31 rfl) rfl
theorem q863 : (Jvm.Cond.selects "java/util/NoSuchElementException" ({ cls := "java/lang/Throwable", name := "toString", desc := "()Ljava/lang/String;" } : Jvm.MethodName) ({ cls := "java/lang/Throwable", name := "toString", desc := "()Ljava/lang/String;" } : Jvm.MethodName)) ∈ lw_all := lw_g (lw_at lw_m4 49 rfl) rfl
theorem q896 : (Jvm.Cond.selects "java/util/NoSuchElementException" ({ cls := "java/lang/Object", name := "getClass", desc := "()Ljava/lang/Class;" } : Jvm.MethodName) ({ cls := "java/lang/Object", name := "getClass", desc := "()Ljava/lang/Class;" } : Jvm.MethodName)) ∈ lw_all := lw_g (lw_at lw_m4 82 rfl) rfl
theorem q907 : (Jvm.Cond.selects "java/util/NoSuchElementException" ({ cls := "java/lang/Throwable", name := "getLocalizedMessage", desc := "()Ljava/lang/String;" } : Jvm.MethodName) ({ cls := "java/lang/Throwable", name := "getLocalizedMessage", desc := "()Ljava/lang/String;" } : Jvm.MethodName)) ∈ lw_all := lw_g (lw_at lw_m4 93 rfl) rfl
theorem q918 : (Jvm.Cond.selects "java/util/NoSuchElementException" ({ cls := "java/lang/Throwable", name := "getMessage", desc := "()Ljava/lang/String;" } : Jvm.MethodName) ({ cls := "java/lang/Throwable", name := "getMessage", desc := "()Ljava/lang/String;" } : Jvm.MethodName)) ∈ lw_all := lw_g (lw_at lw_m4 104 rfl) rfl
theorem q925 : (Jvm.Cond.lays "java/util/NoSuchElementException" "java/lang/Throwable" "depth" "I") ∈ lw_all := lw_g (lw_at lw_m4 111 rfl) rfl
theorem q926 : (Jvm.Cond.superclass "java/util/NoSuchElementException" "java/lang/RuntimeException") ∈ lw_all := lw_g (lw_at lw_m4 112 rfl) rfl
theorem q934 : (Jvm.Cond.instanceMethod ({ cls := "java/util/NoSuchElementException", name := "<init>", desc := "()V" } : Jvm.MethodName)) ∈ lw_all := lw_g (lw_at lw_m4 120 rfl) rfl
theorem q935 : (Jvm.Cond.code ({ cls := "java/util/NoSuchElementException", name := "<init>", desc := "()V" } : Jvm.MethodName) prog_63_method_1_code (1 : Nat) (Option.none : Option Jvm.ClassFile.FieldType)) ∈ lw_all := lw_g (lw_at lw_m4 121 rfl) rfl
theorem q936 : (Jvm.Cond.methodLink "java/util/NoSuchElementException" (1 : Nat) ({ cls := "java/lang/RuntimeException", name := "<init>", desc := "()V" } : Jvm.MethodName)) ∈ lw_all := lw_g (lw_at lw_m4 122 rfl) rfl
theorem q3115 : (Jvm.Cond.castable "java/util/NoSuchElementException" "java/lang/Object") ∈ lw_tbl := lw_at lw_m13 141 rfl
theorem in_J27 : ∀ w ∈ wsJ270, w ∈ lw_all := lw_in wsJ270 [837, 838, 839, 840, 841, 925] (by decide +kernel) (by decide +kernel)

/-! java/util/ImmutableCollections -/
set_option maxRecDepth 100000
def RJ28 : String := "java/util/ImmutableCollections"
abbrev cJ28_listFromTrustedArray : ByteArray := prog_51_method_5_code
def yJ28_listFromTrustedArray : MethodName := ⟨RJ28, "listFromTrustedArray", "([Ljava/lang/Object;)Ljava/util/List;"⟩
def dkwJ28_listFromTrustedArray_5 : List UInt8 := [3, 50, 42, 4, 50, 183, 0, 67, 167, 0, 12, 187, 0, 12, 89, 42, 3, 183, 0, 43, 176]
abbrev dktJ28_listFromTrustedArray_5 : List UInt8 := dkwJ28_listFromTrustedArray_5 ++ []
def dkwJ28_listFromTrustedArray_4 : List UInt8 := [178, 0, 60, 167, 0, 41, 187, 0, 10, 89, 42, 3, 50, 183, 0, 64, 167, 0, 28, 187, 0, 10, 89, 42]
abbrev dktJ28_listFromTrustedArray_4 : List UInt8 := dkwJ28_listFromTrustedArray_4 ++ dktJ28_listFromTrustedArray_5
def dkwJ28_listFromTrustedArray_3 : List UInt8 := [170, 0, 0, 0, 0, 61, 0, 0, 0, 0, 0, 0, 0, 2, 0, 0, 0, 26, 0, 0, 0, 32, 0, 0, 0, 45]
abbrev dktJ28_listFromTrustedArray_3 : List UInt8 := dkwJ28_listFromTrustedArray_3 ++ dktJ28_listFromTrustedArray_4
def dkwJ28_listFromTrustedArray_2 : List UInt8 := [132, 3, 1, 167, 255, 237, 42, 190]
abbrev dktJ28_listFromTrustedArray_2 : List UInt8 := dkwJ28_listFromTrustedArray_2 ++ dktJ28_listFromTrustedArray_3
def dkwJ28_listFromTrustedArray_1 : List UInt8 := [76, 43, 190, 61, 3, 62, 29, 28, 162, 0, 20, 43, 29, 50, 58, 4, 25, 4, 184, 0, 37, 87]
abbrev dktJ28_listFromTrustedArray_1 : List UInt8 := dkwJ28_listFromTrustedArray_1 ++ dktJ28_listFromTrustedArray_2
def dkwJ28_listFromTrustedArray_0 : List UInt8 := [178, 0, 46, 154, 0, 20, 42, 182, 0, 51, 18, 55, 165, 0, 11, 187, 0, 57, 89, 183, 0, 59, 191, 42]
abbrev dktJ28_listFromTrustedArray_0 : List UInt8 := dkwJ28_listFromTrustedArray_0 ++ dktJ28_listFromTrustedArray_1
theorem dksJ28_listFromTrustedArray_0 : cJ28_listFromTrustedArray.data.toList.drop 0 = dktJ28_listFromTrustedArray_0 := by decide +kernel
theorem dksJ28_listFromTrustedArray_1 : cJ28_listFromTrustedArray.data.toList.drop 24 = dktJ28_listFromTrustedArray_1 := dk_seg dksJ28_listFromTrustedArray_0 24 rfl rfl
theorem dksJ28_listFromTrustedArray_2 : cJ28_listFromTrustedArray.data.toList.drop 46 = dktJ28_listFromTrustedArray_2 := dk_seg dksJ28_listFromTrustedArray_1 22 rfl rfl
theorem dksJ28_listFromTrustedArray_3 : cJ28_listFromTrustedArray.data.toList.drop 54 = dktJ28_listFromTrustedArray_3 := dk_seg dksJ28_listFromTrustedArray_2 8 rfl rfl
theorem dksJ28_listFromTrustedArray_4 : cJ28_listFromTrustedArray.data.toList.drop 80 = dktJ28_listFromTrustedArray_4 := dk_seg dksJ28_listFromTrustedArray_3 26 rfl rfl
theorem dksJ28_listFromTrustedArray_5 : cJ28_listFromTrustedArray.data.toList.drop 104 = dktJ28_listFromTrustedArray_5 := dk_seg dksJ28_listFromTrustedArray_4 24 rfl rfl
theorem dJ28_listFromTrustedArray_0 : decode cJ28_listFromTrustedArray 0 = .ok (.getstatic 46, 3) := dk_178 0 46 (dk_at dksJ28_listFromTrustedArray_0 0 rfl rfl)
theorem dJ28_listFromTrustedArray_3 : decode cJ28_listFromTrustedArray 3 = .ok (.ifCond .ne 20, 3) := dk_154 0 20 (dk_at dksJ28_listFromTrustedArray_0 3 rfl rfl)
theorem dJ28_listFromTrustedArray_6 : decode cJ28_listFromTrustedArray 6 = .ok (.aload_n 0, 1) := dk_42 (dk_at dksJ28_listFromTrustedArray_0 6 rfl rfl)
theorem dJ28_listFromTrustedArray_7 : decode cJ28_listFromTrustedArray 7 = .ok (.invokevirtual 51, 3) := dk_182 0 51 (dk_at dksJ28_listFromTrustedArray_0 7 rfl rfl)
theorem dJ28_listFromTrustedArray_10 : decode cJ28_listFromTrustedArray 10 = .ok (.ldc 55, 2) := dk_18 55 (dk_at dksJ28_listFromTrustedArray_0 10 rfl rfl)
theorem dJ28_listFromTrustedArray_12 : decode cJ28_listFromTrustedArray 12 = .ok (.if_acmp .eq 11, 3) := dk_165 0 11 (dk_at dksJ28_listFromTrustedArray_0 12 rfl rfl)
theorem dJ28_listFromTrustedArray_15 : decode cJ28_listFromTrustedArray 15 = .ok (.new 57, 3) := dk_187 0 57 (dk_at dksJ28_listFromTrustedArray_0 15 rfl rfl)
theorem dJ28_listFromTrustedArray_18 : decode cJ28_listFromTrustedArray 18 = .ok (.dup, 1) := dk_89 (dk_at dksJ28_listFromTrustedArray_0 18 rfl rfl)
theorem dJ28_listFromTrustedArray_19 : decode cJ28_listFromTrustedArray 19 = .ok (.invokespecial 59, 3) := dk_183 0 59 (dk_at dksJ28_listFromTrustedArray_0 19 rfl rfl)
theorem dJ28_listFromTrustedArray_22 : decode cJ28_listFromTrustedArray 22 = .ok (.athrow, 1) := dk_191 (dk_at dksJ28_listFromTrustedArray_0 22 rfl rfl)
theorem dJ28_listFromTrustedArray_23 : decode cJ28_listFromTrustedArray 23 = .ok (.aload_n 0, 1) := dk_42 (dk_at dksJ28_listFromTrustedArray_0 23 rfl rfl)
theorem dJ28_listFromTrustedArray_24 : decode cJ28_listFromTrustedArray 24 = .ok (.astore_n 1, 1) := dk_76 (dk_at dksJ28_listFromTrustedArray_1 0 rfl rfl)
theorem dJ28_listFromTrustedArray_25 : decode cJ28_listFromTrustedArray 25 = .ok (.aload_n 1, 1) := dk_43 (dk_at dksJ28_listFromTrustedArray_1 1 rfl rfl)
theorem dJ28_listFromTrustedArray_26 : decode cJ28_listFromTrustedArray 26 = .ok (.arraylength, 1) := dk_190 (dk_at dksJ28_listFromTrustedArray_1 2 rfl rfl)
theorem dJ28_listFromTrustedArray_27 : decode cJ28_listFromTrustedArray 27 = .ok (.istore_n 2, 1) := dk_61 (dk_at dksJ28_listFromTrustedArray_1 3 rfl rfl)
theorem dJ28_listFromTrustedArray_28 : decode cJ28_listFromTrustedArray 28 = .ok (.iconst 0, 1) := dk_3 (dk_at dksJ28_listFromTrustedArray_1 4 rfl rfl)
theorem dJ28_listFromTrustedArray_29 : decode cJ28_listFromTrustedArray 29 = .ok (.istore_n 3, 1) := dk_62 (dk_at dksJ28_listFromTrustedArray_1 5 rfl rfl)
theorem dJ28_listFromTrustedArray_30 : decode cJ28_listFromTrustedArray 30 = .ok (.iload_n 3, 1) := dk_29 (dk_at dksJ28_listFromTrustedArray_1 6 rfl rfl)
theorem dJ28_listFromTrustedArray_31 : decode cJ28_listFromTrustedArray 31 = .ok (.iload_n 2, 1) := dk_28 (dk_at dksJ28_listFromTrustedArray_1 7 rfl rfl)
theorem dJ28_listFromTrustedArray_32 : decode cJ28_listFromTrustedArray 32 = .ok (.if_icmp .ge 20, 3) := dk_162 0 20 (dk_at dksJ28_listFromTrustedArray_1 8 rfl rfl)
theorem dJ28_listFromTrustedArray_35 : decode cJ28_listFromTrustedArray 35 = .ok (.aload_n 1, 1) := dk_43 (dk_at dksJ28_listFromTrustedArray_1 11 rfl rfl)
theorem dJ28_listFromTrustedArray_36 : decode cJ28_listFromTrustedArray 36 = .ok (.iload_n 3, 1) := dk_29 (dk_at dksJ28_listFromTrustedArray_1 12 rfl rfl)
theorem dJ28_listFromTrustedArray_37 : decode cJ28_listFromTrustedArray 37 = .ok (.aaload, 1) := dk_50 (dk_at dksJ28_listFromTrustedArray_1 13 rfl rfl)
theorem dJ28_listFromTrustedArray_38 : decode cJ28_listFromTrustedArray 38 = .ok (.astore 4, 2) := dk_58 4 (dk_at dksJ28_listFromTrustedArray_1 14 rfl rfl)
theorem dJ28_listFromTrustedArray_40 : decode cJ28_listFromTrustedArray 40 = .ok (.aload 4, 2) := dk_25 4 (dk_at dksJ28_listFromTrustedArray_1 16 rfl rfl)
theorem dJ28_listFromTrustedArray_42 : decode cJ28_listFromTrustedArray 42 = .ok (.invokestatic 37, 3) := dk_184 0 37 (dk_at dksJ28_listFromTrustedArray_1 18 rfl rfl)
theorem dJ28_listFromTrustedArray_45 : decode cJ28_listFromTrustedArray 45 = .ok (.pop, 1) := dk_87 (dk_at dksJ28_listFromTrustedArray_1 21 rfl rfl)
theorem dJ28_listFromTrustedArray_46 : decode cJ28_listFromTrustedArray 46 = .ok (.iinc 3 1, 3) := dk_132 3 1 (dk_at dksJ28_listFromTrustedArray_2 0 rfl rfl)
theorem dJ28_listFromTrustedArray_49 : decode cJ28_listFromTrustedArray 49 = .ok (.goto (-19), 3) := dk_167 255 237 (dk_at dksJ28_listFromTrustedArray_2 3 rfl rfl)
theorem dJ28_listFromTrustedArray_52 : decode cJ28_listFromTrustedArray 52 = .ok (.aload_n 0, 1) := dk_42 (dk_at dksJ28_listFromTrustedArray_2 6 rfl rfl)
theorem dJ28_listFromTrustedArray_53 : decode cJ28_listFromTrustedArray 53 = .ok (.arraylength, 1) := dk_190 (dk_at dksJ28_listFromTrustedArray_2 7 rfl rfl)
theorem dJ28_listFromTrustedArray_54 : decode cJ28_listFromTrustedArray 54 = .ok (.tableswitch 61 0 2 #[26, 32, 45], 26) := by decide +kernel
theorem dJ28_listFromTrustedArray_80 : decode cJ28_listFromTrustedArray 80 = .ok (.getstatic 60, 3) := dk_178 0 60 (dk_at dksJ28_listFromTrustedArray_4 0 rfl rfl)
theorem dJ28_listFromTrustedArray_83 : decode cJ28_listFromTrustedArray 83 = .ok (.goto 41, 3) := dk_167 0 41 (dk_at dksJ28_listFromTrustedArray_4 3 rfl rfl)
theorem dJ28_listFromTrustedArray_86 : decode cJ28_listFromTrustedArray 86 = .ok (.new 10, 3) := dk_187 0 10 (dk_at dksJ28_listFromTrustedArray_4 6 rfl rfl)
theorem dJ28_listFromTrustedArray_89 : decode cJ28_listFromTrustedArray 89 = .ok (.dup, 1) := dk_89 (dk_at dksJ28_listFromTrustedArray_4 9 rfl rfl)
theorem dJ28_listFromTrustedArray_90 : decode cJ28_listFromTrustedArray 90 = .ok (.aload_n 0, 1) := dk_42 (dk_at dksJ28_listFromTrustedArray_4 10 rfl rfl)
theorem dJ28_listFromTrustedArray_91 : decode cJ28_listFromTrustedArray 91 = .ok (.iconst 0, 1) := dk_3 (dk_at dksJ28_listFromTrustedArray_4 11 rfl rfl)
theorem dJ28_listFromTrustedArray_92 : decode cJ28_listFromTrustedArray 92 = .ok (.aaload, 1) := dk_50 (dk_at dksJ28_listFromTrustedArray_4 12 rfl rfl)
theorem dJ28_listFromTrustedArray_93 : decode cJ28_listFromTrustedArray 93 = .ok (.invokespecial 64, 3) := dk_183 0 64 (dk_at dksJ28_listFromTrustedArray_4 13 rfl rfl)
theorem dJ28_listFromTrustedArray_96 : decode cJ28_listFromTrustedArray 96 = .ok (.goto 28, 3) := dk_167 0 28 (dk_at dksJ28_listFromTrustedArray_4 16 rfl rfl)
theorem dJ28_listFromTrustedArray_99 : decode cJ28_listFromTrustedArray 99 = .ok (.new 10, 3) := dk_187 0 10 (dk_at dksJ28_listFromTrustedArray_4 19 rfl rfl)
theorem dJ28_listFromTrustedArray_102 : decode cJ28_listFromTrustedArray 102 = .ok (.dup, 1) := dk_89 (dk_at dksJ28_listFromTrustedArray_4 22 rfl rfl)
theorem dJ28_listFromTrustedArray_103 : decode cJ28_listFromTrustedArray 103 = .ok (.aload_n 0, 1) := dk_42 (dk_at dksJ28_listFromTrustedArray_4 23 rfl rfl)
theorem dJ28_listFromTrustedArray_104 : decode cJ28_listFromTrustedArray 104 = .ok (.iconst 0, 1) := dk_3 (dk_at dksJ28_listFromTrustedArray_5 0 rfl rfl)
theorem dJ28_listFromTrustedArray_105 : decode cJ28_listFromTrustedArray 105 = .ok (.aaload, 1) := dk_50 (dk_at dksJ28_listFromTrustedArray_5 1 rfl rfl)
theorem dJ28_listFromTrustedArray_106 : decode cJ28_listFromTrustedArray 106 = .ok (.aload_n 0, 1) := dk_42 (dk_at dksJ28_listFromTrustedArray_5 2 rfl rfl)
theorem dJ28_listFromTrustedArray_107 : decode cJ28_listFromTrustedArray 107 = .ok (.iconst 1, 1) := dk_4 (dk_at dksJ28_listFromTrustedArray_5 3 rfl rfl)
theorem dJ28_listFromTrustedArray_108 : decode cJ28_listFromTrustedArray 108 = .ok (.aaload, 1) := dk_50 (dk_at dksJ28_listFromTrustedArray_5 4 rfl rfl)
theorem dJ28_listFromTrustedArray_109 : decode cJ28_listFromTrustedArray 109 = .ok (.invokespecial 67, 3) := dk_183 0 67 (dk_at dksJ28_listFromTrustedArray_5 5 rfl rfl)
theorem dJ28_listFromTrustedArray_112 : decode cJ28_listFromTrustedArray 112 = .ok (.goto 12, 3) := dk_167 0 12 (dk_at dksJ28_listFromTrustedArray_5 8 rfl rfl)
theorem dJ28_listFromTrustedArray_115 : decode cJ28_listFromTrustedArray 115 = .ok (.new 12, 3) := dk_187 0 12 (dk_at dksJ28_listFromTrustedArray_5 11 rfl rfl)
theorem dJ28_listFromTrustedArray_118 : decode cJ28_listFromTrustedArray 118 = .ok (.dup, 1) := dk_89 (dk_at dksJ28_listFromTrustedArray_5 14 rfl rfl)
theorem dJ28_listFromTrustedArray_119 : decode cJ28_listFromTrustedArray 119 = .ok (.aload_n 0, 1) := dk_42 (dk_at dksJ28_listFromTrustedArray_5 15 rfl rfl)
theorem dJ28_listFromTrustedArray_120 : decode cJ28_listFromTrustedArray 120 = .ok (.iconst 0, 1) := dk_3 (dk_at dksJ28_listFromTrustedArray_5 16 rfl rfl)
theorem dJ28_listFromTrustedArray_121 : decode cJ28_listFromTrustedArray 121 = .ok (.invokespecial 43, 3) := dk_183 0 43 (dk_at dksJ28_listFromTrustedArray_5 17 rfl rfl)
theorem dJ28_listFromTrustedArray_124 : decode cJ28_listFromTrustedArray 124 = .ok (.areturn, 1) := dk_176 (dk_at dksJ28_listFromTrustedArray_5 20 rfl rfl)
theorem q128 : (Jvm.Cond.initialized "java/util/ImmutableCollections") ∈ lw_all := lw_g (lw_at lw_m1 34 rfl) rfl
theorem q984 : (Jvm.Cond.laysStatic "java/util/ImmutableCollections" "EMPTY" "Ljava/lang/Object;") ∈ lw_tbl := lw_at lw_m4 170 rfl
theorem q2116 : (Jvm.Cond.static ({ cls := "java/util/ImmutableCollections", name := "listFromTrustedArray", desc := "([Ljava/lang/Object;)Ljava/util/List;" } : Jvm.MethodName)) ∈ lw_all := lw_g (lw_at lw_m9 102 rfl) rfl
theorem q2117 : (Jvm.Cond.code ({ cls := "java/util/ImmutableCollections", name := "listFromTrustedArray", desc := "([Ljava/lang/Object;)Ljava/util/List;" } : Jvm.MethodName) prog_51_method_5_code (5 : Nat) (Option.some (Jvm.ClassFile.FieldType.object "java/util/List"))) ∈ lw_all := lw_g (lw_at lw_m9 103 rfl) rfl
theorem q2118 : (Jvm.Cond.fieldLink "java/util/ImmutableCollections" (46 : Nat) "java/util/ImmutableCollections" "$assertionsDisabled" "Z") ∈ lw_all := lw_g (lw_at lw_m9 104 rfl) rfl
theorem q2119 : (Jvm.Cond.laysStatic "java/util/ImmutableCollections" "$assertionsDisabled" "Z") ∈ lw_tbl := lw_at lw_m9 105 rfl
theorem q2120 : (Jvm.Cond.methodLink "java/util/ImmutableCollections" (51 : Nat) ({ cls := "java/lang/Object", name := "getClass", desc := "()Ljava/lang/Class;" } : Jvm.MethodName)) ∈ lw_all := lw_g (lw_at lw_m9 106 rfl) rfl
theorem q2121 : (Jvm.Cond.classLink "java/util/ImmutableCollections" (55 : Nat) "[Ljava/lang/Object;") ∈ lw_all := lw_g (lw_at lw_m9 107 rfl) rfl
theorem q2122 : (Jvm.Cond.methodLink "java/util/ImmutableCollections" (37 : Nat) ({ cls := "java/util/Objects", name := "requireNonNull", desc := "(Ljava/lang/Object;)Ljava/lang/Object;" } : Jvm.MethodName)) ∈ lw_all := lw_g (lw_at lw_m9 108 rfl) rfl
theorem q2125 : (Jvm.Cond.fieldLink "java/util/ImmutableCollections" (60 : Nat) "java/util/ImmutableCollections" "EMPTY_LIST" "Ljava/util/ImmutableCollections$ListN;") ∈ lw_all := lw_g (lw_at lw_m9 111 rfl) rfl
theorem q2126 : (Jvm.Cond.laysStatic "java/util/ImmutableCollections" "EMPTY_LIST" "Ljava/util/ImmutableCollections$ListN;") ∈ lw_tbl := lw_at lw_m9 112 rfl
theorem q2127 : (Jvm.Cond.classLink "java/util/ImmutableCollections" (10 : Nat) "java/util/ImmutableCollections$List12") ∈ lw_all := lw_g (lw_at lw_m9 113 rfl) rfl
theorem q2129 : (Jvm.Cond.methodLink "java/util/ImmutableCollections" (64 : Nat) ({ cls := "java/util/ImmutableCollections$List12", name := "<init>", desc := "(Ljava/lang/Object;)V" } : Jvm.MethodName)) ∈ lw_all := lw_g (lw_at lw_m9 115 rfl) rfl
theorem q2147 : (Jvm.Cond.methodLink "java/util/ImmutableCollections" (67 : Nat) ({ cls := "java/util/ImmutableCollections$List12", name := "<init>", desc := "(Ljava/lang/Object;Ljava/lang/Object;)V" } : Jvm.MethodName)) ∈ lw_all := lw_g (lw_at lw_m9 133 rfl) rfl
theorem q2150 : (Jvm.Cond.classLink "java/util/ImmutableCollections" (12 : Nat) "java/util/ImmutableCollections$ListN") ∈ lw_all := lw_g (lw_at lw_m9 136 rfl) rfl
theorem q2152 : (Jvm.Cond.methodLinkNest "java/util/ImmutableCollections" (43 : Nat) ({ cls := "java/util/ImmutableCollections$ListN", name := "<init>", desc := "([Ljava/lang/Object;Z)V" } : Jvm.MethodName) "java/util/ImmutableCollections") ∈ lw_tbl := lw_at lw_m9 138 rfl

/-! java/util/LinkedList$Node -/
set_option maxRecDepth 100000
def RJ29 : String := "java/util/LinkedList$Node"
def TJ29 : u_T := fun k => match k with
  | 0 => ("java/util/LinkedList$Node", "item", "Ljava/lang/Object;", false)
  | 1 => ("java/util/LinkedList$Node", "next", "Ljava/util/LinkedList$Node;", false)
  | _ => ("java/util/LinkedList$Node", "prev", "Ljava/util/LinkedList$Node;", false)
def tyJ29 : Nat → FieldType := fun k => match k with
  | 0 => .object "java/lang/Object"
  | 1 => .object "java/util/LinkedList$Node"
  | _ => .object "java/util/LinkedList$Node"
abbrev wsJ290 : List Cond := u_ws RJ29 TJ29 3
theorem nmJ29 : ∀ a, a < 3 → ∀ b, b < 3 → a ≠ b → (TJ29 a).2.1 ≠ (TJ29 b).2.1 := by decide +kernel
theorem tyJ29_ok : ∀ k, k < 3 → parseFieldDescriptor (TJ29 k).2.2.1 = some (tyJ29 k) := by decide +kernel
abbrev cJ29_init : ByteArray := prog_60_method_1_code
def yJ29_init : MethodName := ⟨RJ29, "<init>", "(Ljava/util/LinkedList$Node;Ljava/lang/Object;Ljava/util/LinkedList$Node;)V"⟩
def dkwJ29_init_0 : List UInt8 := [42, 183, 0, 1, 42, 44, 181, 0, 7, 42, 45, 181, 0, 13, 42, 43, 181, 0, 17, 177]
abbrev dktJ29_init_0 : List UInt8 := dkwJ29_init_0 ++ []
theorem dksJ29_init_0 : cJ29_init.data.toList.drop 0 = dktJ29_init_0 := by decide +kernel
theorem dJ29_init_0 : decode cJ29_init 0 = .ok (.aload_n 0, 1) := dk_42 (dk_at dksJ29_init_0 0 rfl rfl)
theorem dJ29_init_1 : decode cJ29_init 1 = .ok (.invokespecial 1, 3) := dk_183 0 1 (dk_at dksJ29_init_0 1 rfl rfl)
theorem dJ29_init_4 : decode cJ29_init 4 = .ok (.aload_n 0, 1) := dk_42 (dk_at dksJ29_init_0 4 rfl rfl)
theorem dJ29_init_5 : decode cJ29_init 5 = .ok (.aload_n 2, 1) := dk_44 (dk_at dksJ29_init_0 5 rfl rfl)
theorem dJ29_init_6 : decode cJ29_init 6 = .ok (.putfield 7, 3) := dk_181 0 7 (dk_at dksJ29_init_0 6 rfl rfl)
theorem dJ29_init_9 : decode cJ29_init 9 = .ok (.aload_n 0, 1) := dk_42 (dk_at dksJ29_init_0 9 rfl rfl)
theorem dJ29_init_10 : decode cJ29_init 10 = .ok (.aload_n 3, 1) := dk_45 (dk_at dksJ29_init_0 10 rfl rfl)
theorem dJ29_init_11 : decode cJ29_init 11 = .ok (.putfield 13, 3) := dk_181 0 13 (dk_at dksJ29_init_0 11 rfl rfl)
theorem dJ29_init_14 : decode cJ29_init 14 = .ok (.aload_n 0, 1) := dk_42 (dk_at dksJ29_init_0 14 rfl rfl)
theorem dJ29_init_15 : decode cJ29_init 15 = .ok (.aload_n 1, 1) := dk_43 (dk_at dksJ29_init_0 15 rfl rfl)
theorem dJ29_init_16 : decode cJ29_init 16 = .ok (.putfield 17, 3) := dk_181 0 17 (dk_at dksJ29_init_0 16 rfl rfl)
theorem dJ29_init_19 : decode cJ29_init 19 = .ok (.return_, 1) := dk_177 (dk_at dksJ29_init_0 19 rfl rfl)
theorem q130 : (Jvm.Cond.initialized "java/util/LinkedList$Node") ∈ lw_all := lw_g (lw_at lw_m1 36 rfl) rfl
theorem q895 : (Jvm.Cond.selects "java/util/LinkedList$Node" ({ cls := "java/lang/Object", name := "getClass", desc := "()Ljava/lang/Class;" } : Jvm.MethodName) ({ cls := "java/lang/Object", name := "getClass", desc := "()Ljava/lang/Class;" } : Jvm.MethodName)) ∈ lw_all := lw_g (lw_at lw_m4 81 rfl) rfl
theorem q1088 : (Jvm.Cond.instantiable "java/util/LinkedList$Node" (3 : Nat)) ∈ lw_all := lw_g (lw_at lw_m5 34 rfl) rfl
theorem q1090 : (Jvm.Cond.instanceMethod ({ cls := "java/util/LinkedList$Node", name := "<init>", desc := "(Ljava/util/LinkedList$Node;Ljava/lang/Object;Ljava/util/LinkedList$Node;)V" } : Jvm.MethodName)) ∈ lw_all := lw_g (lw_at lw_m5 36 rfl) rfl
theorem q1091 : (Jvm.Cond.code ({ cls := "java/util/LinkedList$Node", name := "<init>", desc := "(Ljava/util/LinkedList$Node;Ljava/lang/Object;Ljava/util/LinkedList$Node;)V" } : Jvm.MethodName) prog_60_method_1_code (4 : Nat) (Option.none : Option Jvm.ClassFile.FieldType)) ∈ lw_all := lw_g (lw_at lw_m5 37 rfl) rfl
theorem q1092 : (Jvm.Cond.methodLink "java/util/LinkedList$Node" (1 : Nat) ({ cls := "java/lang/Object", name := "<init>", desc := "()V" } : Jvm.MethodName)) ∈ lw_all := lw_g (lw_at lw_m5 38 rfl) rfl
theorem q1093 : (Jvm.Cond.fieldLink "java/util/LinkedList$Node" (7 : Nat) "java/util/LinkedList$Node" "item" "Ljava/lang/Object;") ∈ lw_all := lw_g (lw_at lw_m5 39 rfl) rfl
theorem q1096 : (Jvm.Cond.fieldLink "java/util/LinkedList$Node" (13 : Nat) "java/util/LinkedList$Node" "next" "Ljava/util/LinkedList$Node;") ∈ lw_all := lw_g (lw_at lw_m5 42 rfl) rfl
theorem q1099 : (Jvm.Cond.fieldLink "java/util/LinkedList$Node" (17 : Nat) "java/util/LinkedList$Node" "prev" "Ljava/util/LinkedList$Node;") ∈ lw_all := lw_g (lw_at lw_m5 45 rfl) rfl
theorem q1101 : (Jvm.Cond.lays "java/util/LinkedList$Node" "java/util/LinkedList$Node" "item" "Ljava/lang/Object;") ∈ lw_all := lw_g (lw_at lw_m5 47 rfl) rfl
theorem q1102 : (Jvm.Cond.soleField "java/util/LinkedList$Node" "item") ∈ lw_all := lw_g (lw_at lw_m5 48 rfl) rfl
theorem q1103 : (Jvm.Cond.lays "java/util/LinkedList$Node" "java/util/LinkedList$Node" "next" "Ljava/util/LinkedList$Node;") ∈ lw_all := lw_g (lw_at lw_m5 49 rfl) rfl
theorem q1104 : (Jvm.Cond.soleField "java/util/LinkedList$Node" "next") ∈ lw_all := lw_g (lw_at lw_m5 50 rfl) rfl
theorem q1105 : (Jvm.Cond.lays "java/util/LinkedList$Node" "java/util/LinkedList$Node" "prev" "Ljava/util/LinkedList$Node;") ∈ lw_all := lw_g (lw_at lw_m5 51 rfl) rfl
theorem q1106 : (Jvm.Cond.soleField "java/util/LinkedList$Node" "prev") ∈ lw_all := lw_g (lw_at lw_m5 52 rfl) rfl
theorem q1107 : (Jvm.Cond.superclass "java/util/LinkedList$Node" "java/lang/Object") ∈ lw_all := lw_g (lw_at lw_m5 53 rfl) rfl
theorem q3117 : (Jvm.Cond.castable "java/util/LinkedList$Node" "java/lang/Object") ∈ lw_tbl := lw_at lw_m13 143 rfl
theorem in_J29 : ∀ w ∈ wsJ290, w ∈ lw_all := lw_in wsJ290 [1101, 1103, 1105] (by decide +kernel) (by decide +kernel)

/-! java/util/LinkedList -/
set_option maxRecDepth 100000
def RJ3 : String := "java/util/LinkedList"
def TJ3 : u_T := fun k => match k with
  | 0 => ("java/util/AbstractList", "modCount", "I", false)
  | 1 => ("java/util/LinkedList", "size", "I", false)
  | 2 => ("java/util/LinkedList", "first", "Ljava/util/LinkedList$Node;", false)
  | _ => ("java/util/LinkedList", "last", "Ljava/util/LinkedList$Node;", false)
def tyJ3 : Nat → FieldType := fun k => match k with
  | 0 => .int
  | 1 => .int
  | 2 => .object "java/util/LinkedList$Node"
  | _ => .object "java/util/LinkedList$Node"
abbrev wsJ30 : List Cond := u_ws RJ3 TJ3 4
theorem nmJ3 : ∀ a, a < 4 → ∀ b, b < 4 → a ≠ b → (TJ3 a).2.1 ≠ (TJ3 b).2.1 := by decide +kernel
theorem tyJ3_ok : ∀ k, k < 4 → parseFieldDescriptor (TJ3 k).2.2.1 = some (tyJ3 k) := by decide +kernel
abbrev cJ3_init : ByteArray := prog_58_method_1_code
def yJ3_init : MethodName := ⟨RJ3, "<init>", "()V"⟩
def dkwJ3_init_0 : List UInt8 := [42, 183, 0, 1, 42, 3, 181, 0, 7, 177]
abbrev dktJ3_init_0 : List UInt8 := dkwJ3_init_0 ++ []
theorem dksJ3_init_0 : cJ3_init.data.toList.drop 0 = dktJ3_init_0 := by decide +kernel
theorem dJ3_init_0 : decode cJ3_init 0 = .ok (.aload_n 0, 1) := dk_42 (dk_at dksJ3_init_0 0 rfl rfl)
theorem dJ3_init_1 : decode cJ3_init 1 = .ok (.invokespecial 1, 3) := dk_183 0 1 (dk_at dksJ3_init_0 1 rfl rfl)
theorem dJ3_init_4 : decode cJ3_init 4 = .ok (.aload_n 0, 1) := dk_42 (dk_at dksJ3_init_0 4 rfl rfl)
theorem dJ3_init_5 : decode cJ3_init 5 = .ok (.iconst 0, 1) := dk_3 (dk_at dksJ3_init_0 5 rfl rfl)
theorem dJ3_init_6 : decode cJ3_init 6 = .ok (.putfield 7, 3) := dk_181 0 7 (dk_at dksJ3_init_0 6 rfl rfl)
theorem dJ3_init_9 : decode cJ3_init 9 = .ok (.return_, 1) := dk_177 (dk_at dksJ3_init_0 9 rfl rfl)
abbrev cJ3_listIterator : ByteArray := prog_58_method_49_code
def yJ3_listIterator : MethodName := ⟨RJ3, "listIterator", "(I)Ljava/util/ListIterator;"⟩
def dkwJ3_listIterator_0 : List UInt8 := [42, 27, 182, 0, 76, 187, 0, 150, 89, 42, 27, 183, 0, 152, 176]
abbrev dktJ3_listIterator_0 : List UInt8 := dkwJ3_listIterator_0 ++ []
theorem dksJ3_listIterator_0 : cJ3_listIterator.data.toList.drop 0 = dktJ3_listIterator_0 := by decide +kernel
theorem dJ3_listIterator_0 : decode cJ3_listIterator 0 = .ok (.aload_n 0, 1) := dk_42 (dk_at dksJ3_listIterator_0 0 rfl rfl)
theorem dJ3_listIterator_1 : decode cJ3_listIterator 1 = .ok (.iload_n 1, 1) := dk_27 (dk_at dksJ3_listIterator_0 1 rfl rfl)
theorem dJ3_listIterator_2 : decode cJ3_listIterator 2 = .ok (.invokevirtual 76, 3) := dk_182 0 76 (dk_at dksJ3_listIterator_0 2 rfl rfl)
theorem dJ3_listIterator_5 : decode cJ3_listIterator 5 = .ok (.new 150, 3) := dk_187 0 150 (dk_at dksJ3_listIterator_0 5 rfl rfl)
theorem dJ3_listIterator_8 : decode cJ3_listIterator 8 = .ok (.dup, 1) := dk_89 (dk_at dksJ3_listIterator_0 8 rfl rfl)
theorem dJ3_listIterator_9 : decode cJ3_listIterator 9 = .ok (.aload_n 0, 1) := dk_42 (dk_at dksJ3_listIterator_0 9 rfl rfl)
theorem dJ3_listIterator_10 : decode cJ3_listIterator 10 = .ok (.iload_n 1, 1) := dk_27 (dk_at dksJ3_listIterator_0 10 rfl rfl)
theorem dJ3_listIterator_11 : decode cJ3_listIterator 11 = .ok (.invokespecial 152, 3) := dk_183 0 152 (dk_at dksJ3_listIterator_0 11 rfl rfl)
theorem dJ3_listIterator_14 : decode cJ3_listIterator 14 = .ok (.areturn, 1) := dk_176 (dk_at dksJ3_listIterator_0 14 rfl rfl)
abbrev cJ3_checkPositionIndex : ByteArray := prog_58_method_30_code
def yJ3_checkPositionIndex : MethodName := ⟨RJ3, "checkPositionIndex", "(I)V"⟩
def dkwJ3_checkPositionIndex_0 : List UInt8 := [42, 27, 182, 0, 128, 154, 0, 16, 187, 0, 119, 89, 42, 27, 182, 0, 121, 183, 0, 125, 191, 177]
abbrev dktJ3_checkPositionIndex_0 : List UInt8 := dkwJ3_checkPositionIndex_0 ++ []
theorem dksJ3_checkPositionIndex_0 : cJ3_checkPositionIndex.data.toList.drop 0 = dktJ3_checkPositionIndex_0 := by decide +kernel
theorem dJ3_checkPositionIndex_0 : decode cJ3_checkPositionIndex 0 = .ok (.aload_n 0, 1) := dk_42 (dk_at dksJ3_checkPositionIndex_0 0 rfl rfl)
theorem dJ3_checkPositionIndex_1 : decode cJ3_checkPositionIndex 1 = .ok (.iload_n 1, 1) := dk_27 (dk_at dksJ3_checkPositionIndex_0 1 rfl rfl)
theorem dJ3_checkPositionIndex_2 : decode cJ3_checkPositionIndex 2 = .ok (.invokevirtual 128, 3) := dk_182 0 128 (dk_at dksJ3_checkPositionIndex_0 2 rfl rfl)
theorem dJ3_checkPositionIndex_5 : decode cJ3_checkPositionIndex 5 = .ok (.ifCond .ne 16, 3) := dk_154 0 16 (dk_at dksJ3_checkPositionIndex_0 5 rfl rfl)
theorem dJ3_checkPositionIndex_8 : decode cJ3_checkPositionIndex 8 = .ok (.new 119, 3) := dk_187 0 119 (dk_at dksJ3_checkPositionIndex_0 8 rfl rfl)
theorem dJ3_checkPositionIndex_11 : decode cJ3_checkPositionIndex 11 = .ok (.dup, 1) := dk_89 (dk_at dksJ3_checkPositionIndex_0 11 rfl rfl)
theorem dJ3_checkPositionIndex_12 : decode cJ3_checkPositionIndex 12 = .ok (.aload_n 0, 1) := dk_42 (dk_at dksJ3_checkPositionIndex_0 12 rfl rfl)
theorem dJ3_checkPositionIndex_13 : decode cJ3_checkPositionIndex 13 = .ok (.iload_n 1, 1) := dk_27 (dk_at dksJ3_checkPositionIndex_0 13 rfl rfl)
theorem dJ3_checkPositionIndex_14 : decode cJ3_checkPositionIndex 14 = .ok (.invokevirtual 121, 3) := dk_182 0 121 (dk_at dksJ3_checkPositionIndex_0 14 rfl rfl)
theorem dJ3_checkPositionIndex_17 : decode cJ3_checkPositionIndex 17 = .ok (.invokespecial 125, 3) := dk_183 0 125 (dk_at dksJ3_checkPositionIndex_0 17 rfl rfl)
theorem dJ3_checkPositionIndex_20 : decode cJ3_checkPositionIndex 20 = .ok (.athrow, 1) := dk_191 (dk_at dksJ3_checkPositionIndex_0 20 rfl rfl)
theorem dJ3_checkPositionIndex_21 : decode cJ3_checkPositionIndex 21 = .ok (.return_, 1) := dk_177 (dk_at dksJ3_checkPositionIndex_0 21 rfl rfl)
abbrev cJ3_isPositionIndex : ByteArray := prog_58_method_27_code
def yJ3_isPositionIndex : MethodName := ⟨RJ3, "isPositionIndex", "(I)Z"⟩
def dkwJ3_isPositionIndex_0 : List UInt8 := [27, 155, 0, 15, 27, 42, 180, 0, 7, 163, 0, 7, 4, 167, 0, 4, 3, 172]
abbrev dktJ3_isPositionIndex_0 : List UInt8 := dkwJ3_isPositionIndex_0 ++ []
theorem dksJ3_isPositionIndex_0 : cJ3_isPositionIndex.data.toList.drop 0 = dktJ3_isPositionIndex_0 := by decide +kernel
theorem dJ3_isPositionIndex_0 : decode cJ3_isPositionIndex 0 = .ok (.iload_n 1, 1) := dk_27 (dk_at dksJ3_isPositionIndex_0 0 rfl rfl)
theorem dJ3_isPositionIndex_1 : decode cJ3_isPositionIndex 1 = .ok (.ifCond .lt 15, 3) := dk_155 0 15 (dk_at dksJ3_isPositionIndex_0 1 rfl rfl)
theorem dJ3_isPositionIndex_4 : decode cJ3_isPositionIndex 4 = .ok (.iload_n 1, 1) := dk_27 (dk_at dksJ3_isPositionIndex_0 4 rfl rfl)
theorem dJ3_isPositionIndex_5 : decode cJ3_isPositionIndex 5 = .ok (.aload_n 0, 1) := dk_42 (dk_at dksJ3_isPositionIndex_0 5 rfl rfl)
theorem dJ3_isPositionIndex_6 : decode cJ3_isPositionIndex 6 = .ok (.getfield 7, 3) := dk_180 0 7 (dk_at dksJ3_isPositionIndex_0 6 rfl rfl)
theorem dJ3_isPositionIndex_9 : decode cJ3_isPositionIndex 9 = .ok (.if_icmp .gt 7, 3) := dk_163 0 7 (dk_at dksJ3_isPositionIndex_0 9 rfl rfl)
theorem dJ3_isPositionIndex_12 : decode cJ3_isPositionIndex 12 = .ok (.iconst 1, 1) := dk_4 (dk_at dksJ3_isPositionIndex_0 12 rfl rfl)
theorem dJ3_isPositionIndex_13 : decode cJ3_isPositionIndex 13 = .ok (.goto 4, 3) := dk_167 0 4 (dk_at dksJ3_isPositionIndex_0 13 rfl rfl)
theorem dJ3_isPositionIndex_16 : decode cJ3_isPositionIndex 16 = .ok (.iconst 0, 1) := dk_3 (dk_at dksJ3_isPositionIndex_0 16 rfl rfl)
theorem dJ3_isPositionIndex_17 : decode cJ3_isPositionIndex 17 = .ok (.ireturn, 1) := dk_172 (dk_at dksJ3_isPositionIndex_0 17 rfl rfl)
abbrev cJ3_outOfBoundsMsg : ByteArray := prog_58_method_28_code
def yJ3_outOfBoundsMsg : MethodName := ⟨RJ3, "outOfBoundsMsg", "(I)Ljava/lang/String;"⟩
def dkwJ3_outOfBoundsMsg_1 : List UInt8 := [180, 0, 7, 182, 0, 106, 182, 0, 111, 176]
abbrev dktJ3_outOfBoundsMsg_1 : List UInt8 := dkwJ3_outOfBoundsMsg_1 ++ []
def dkwJ3_outOfBoundsMsg_0 : List UInt8 := [187, 0, 97, 89, 183, 0, 99, 18, 100, 182, 0, 102, 27, 182, 0, 106, 18, 109, 182, 0, 102, 42]
abbrev dktJ3_outOfBoundsMsg_0 : List UInt8 := dkwJ3_outOfBoundsMsg_0 ++ dktJ3_outOfBoundsMsg_1
theorem dksJ3_outOfBoundsMsg_0 : cJ3_outOfBoundsMsg.data.toList.drop 0 = dktJ3_outOfBoundsMsg_0 := by decide +kernel
theorem dksJ3_outOfBoundsMsg_1 : cJ3_outOfBoundsMsg.data.toList.drop 22 = dktJ3_outOfBoundsMsg_1 := dk_seg dksJ3_outOfBoundsMsg_0 22 rfl rfl
theorem dJ3_outOfBoundsMsg_0 : decode cJ3_outOfBoundsMsg 0 = .ok (.new 97, 3) := dk_187 0 97 (dk_at dksJ3_outOfBoundsMsg_0 0 rfl rfl)
theorem dJ3_outOfBoundsMsg_3 : decode cJ3_outOfBoundsMsg 3 = .ok (.dup, 1) := dk_89 (dk_at dksJ3_outOfBoundsMsg_0 3 rfl rfl)
theorem dJ3_outOfBoundsMsg_4 : decode cJ3_outOfBoundsMsg 4 = .ok (.invokespecial 99, 3) := dk_183 0 99 (dk_at dksJ3_outOfBoundsMsg_0 4 rfl rfl)
theorem dJ3_outOfBoundsMsg_7 : decode cJ3_outOfBoundsMsg 7 = .ok (.ldc 100, 2) := dk_18 100 (dk_at dksJ3_outOfBoundsMsg_0 7 rfl rfl)
theorem dJ3_outOfBoundsMsg_9 : decode cJ3_outOfBoundsMsg 9 = .ok (.invokevirtual 102, 3) := dk_182 0 102 (dk_at dksJ3_outOfBoundsMsg_0 9 rfl rfl)
theorem dJ3_outOfBoundsMsg_12 : decode cJ3_outOfBoundsMsg 12 = .ok (.iload_n 1, 1) := dk_27 (dk_at dksJ3_outOfBoundsMsg_0 12 rfl rfl)
theorem dJ3_outOfBoundsMsg_13 : decode cJ3_outOfBoundsMsg 13 = .ok (.invokevirtual 106, 3) := dk_182 0 106 (dk_at dksJ3_outOfBoundsMsg_0 13 rfl rfl)
theorem dJ3_outOfBoundsMsg_16 : decode cJ3_outOfBoundsMsg 16 = .ok (.ldc 109, 2) := dk_18 109 (dk_at dksJ3_outOfBoundsMsg_0 16 rfl rfl)
theorem dJ3_outOfBoundsMsg_18 : decode cJ3_outOfBoundsMsg 18 = .ok (.invokevirtual 102, 3) := dk_182 0 102 (dk_at dksJ3_outOfBoundsMsg_0 18 rfl rfl)
theorem dJ3_outOfBoundsMsg_21 : decode cJ3_outOfBoundsMsg 21 = .ok (.aload_n 0, 1) := dk_42 (dk_at dksJ3_outOfBoundsMsg_0 21 rfl rfl)
theorem dJ3_outOfBoundsMsg_22 : decode cJ3_outOfBoundsMsg 22 = .ok (.getfield 7, 3) := dk_180 0 7 (dk_at dksJ3_outOfBoundsMsg_1 0 rfl rfl)
theorem dJ3_outOfBoundsMsg_25 : decode cJ3_outOfBoundsMsg 25 = .ok (.invokevirtual 106, 3) := dk_182 0 106 (dk_at dksJ3_outOfBoundsMsg_1 3 rfl rfl)
theorem dJ3_outOfBoundsMsg_28 : decode cJ3_outOfBoundsMsg 28 = .ok (.invokevirtual 111, 3) := dk_182 0 111 (dk_at dksJ3_outOfBoundsMsg_1 6 rfl rfl)
theorem dJ3_outOfBoundsMsg_31 : decode cJ3_outOfBoundsMsg 31 = .ok (.areturn, 1) := dk_176 (dk_at dksJ3_outOfBoundsMsg_1 9 rfl rfl)
abbrev cJ3_node : ByteArray := prog_58_method_31_code
def yJ3_node : MethodName := ⟨RJ3, "node", "(I)Ljava/util/LinkedList$Node;"⟩
def dkwJ3_node_2 : List UInt8 := [29, 27, 164, 0, 14, 44, 180, 0, 30, 77, 132, 3, 255, 167, 255, 243, 44, 176]
abbrev dktJ3_node_2 : List UInt8 := dkwJ3_node_2 ++ []
def dkwJ3_node_1 : List UInt8 := [180, 0, 36, 77, 132, 3, 1, 167, 255, 243, 44, 176, 42, 180, 0, 27, 77, 42, 180, 0, 7, 4, 100, 62]
abbrev dktJ3_node_1 : List UInt8 := dkwJ3_node_1 ++ dktJ3_node_2
def dkwJ3_node_0 : List UInt8 := [27, 42, 180, 0, 7, 4, 122, 162, 0, 28, 42, 180, 0, 18, 77, 3, 62, 29, 27, 162, 0, 14, 44]
abbrev dktJ3_node_0 : List UInt8 := dkwJ3_node_0 ++ dktJ3_node_1
theorem dksJ3_node_0 : cJ3_node.data.toList.drop 0 = dktJ3_node_0 := by decide +kernel
theorem dksJ3_node_1 : cJ3_node.data.toList.drop 23 = dktJ3_node_1 := dk_seg dksJ3_node_0 23 rfl rfl
theorem dksJ3_node_2 : cJ3_node.data.toList.drop 47 = dktJ3_node_2 := dk_seg dksJ3_node_1 24 rfl rfl
theorem dJ3_node_0 : decode cJ3_node 0 = .ok (.iload_n 1, 1) := dk_27 (dk_at dksJ3_node_0 0 rfl rfl)
theorem dJ3_node_1 : decode cJ3_node 1 = .ok (.aload_n 0, 1) := dk_42 (dk_at dksJ3_node_0 1 rfl rfl)
theorem dJ3_node_2 : decode cJ3_node 2 = .ok (.getfield 7, 3) := dk_180 0 7 (dk_at dksJ3_node_0 2 rfl rfl)
theorem dJ3_node_5 : decode cJ3_node 5 = .ok (.iconst 1, 1) := dk_4 (dk_at dksJ3_node_0 5 rfl rfl)
theorem dJ3_node_6 : decode cJ3_node 6 = .ok (.ishr, 1) := dk_122 (dk_at dksJ3_node_0 6 rfl rfl)
theorem dJ3_node_7 : decode cJ3_node 7 = .ok (.if_icmp .ge 28, 3) := dk_162 0 28 (dk_at dksJ3_node_0 7 rfl rfl)
theorem dJ3_node_10 : decode cJ3_node 10 = .ok (.aload_n 0, 1) := dk_42 (dk_at dksJ3_node_0 10 rfl rfl)
theorem dJ3_node_11 : decode cJ3_node 11 = .ok (.getfield 18, 3) := dk_180 0 18 (dk_at dksJ3_node_0 11 rfl rfl)
theorem dJ3_node_14 : decode cJ3_node 14 = .ok (.astore_n 2, 1) := dk_77 (dk_at dksJ3_node_0 14 rfl rfl)
theorem dJ3_node_15 : decode cJ3_node 15 = .ok (.iconst 0, 1) := dk_3 (dk_at dksJ3_node_0 15 rfl rfl)
theorem dJ3_node_16 : decode cJ3_node 16 = .ok (.istore_n 3, 1) := dk_62 (dk_at dksJ3_node_0 16 rfl rfl)
theorem dJ3_node_17 : decode cJ3_node 17 = .ok (.iload_n 3, 1) := dk_29 (dk_at dksJ3_node_0 17 rfl rfl)
theorem dJ3_node_18 : decode cJ3_node 18 = .ok (.iload_n 1, 1) := dk_27 (dk_at dksJ3_node_0 18 rfl rfl)
theorem dJ3_node_19 : decode cJ3_node 19 = .ok (.if_icmp .ge 14, 3) := dk_162 0 14 (dk_at dksJ3_node_0 19 rfl rfl)
theorem dJ3_node_22 : decode cJ3_node 22 = .ok (.aload_n 2, 1) := dk_44 (dk_at dksJ3_node_0 22 rfl rfl)
theorem dJ3_node_23 : decode cJ3_node 23 = .ok (.getfield 36, 3) := dk_180 0 36 (dk_at dksJ3_node_1 0 rfl rfl)
theorem dJ3_node_26 : decode cJ3_node 26 = .ok (.astore_n 2, 1) := dk_77 (dk_at dksJ3_node_1 3 rfl rfl)
theorem dJ3_node_27 : decode cJ3_node 27 = .ok (.iinc 3 1, 3) := dk_132 3 1 (dk_at dksJ3_node_1 4 rfl rfl)
theorem dJ3_node_30 : decode cJ3_node 30 = .ok (.goto (-13), 3) := dk_167 255 243 (dk_at dksJ3_node_1 7 rfl rfl)
theorem dJ3_node_33 : decode cJ3_node 33 = .ok (.aload_n 2, 1) := dk_44 (dk_at dksJ3_node_1 10 rfl rfl)
theorem dJ3_node_34 : decode cJ3_node 34 = .ok (.areturn, 1) := dk_176 (dk_at dksJ3_node_1 11 rfl rfl)
theorem dJ3_node_35 : decode cJ3_node 35 = .ok (.aload_n 0, 1) := dk_42 (dk_at dksJ3_node_1 12 rfl rfl)
theorem dJ3_node_36 : decode cJ3_node 36 = .ok (.getfield 27, 3) := dk_180 0 27 (dk_at dksJ3_node_1 13 rfl rfl)
theorem dJ3_node_39 : decode cJ3_node 39 = .ok (.astore_n 2, 1) := dk_77 (dk_at dksJ3_node_1 16 rfl rfl)
theorem dJ3_node_40 : decode cJ3_node 40 = .ok (.aload_n 0, 1) := dk_42 (dk_at dksJ3_node_1 17 rfl rfl)
theorem dJ3_node_41 : decode cJ3_node 41 = .ok (.getfield 7, 3) := dk_180 0 7 (dk_at dksJ3_node_1 18 rfl rfl)
theorem dJ3_node_44 : decode cJ3_node 44 = .ok (.iconst 1, 1) := dk_4 (dk_at dksJ3_node_1 21 rfl rfl)
theorem dJ3_node_45 : decode cJ3_node 45 = .ok (.isub, 1) := dk_100 (dk_at dksJ3_node_1 22 rfl rfl)
theorem dJ3_node_46 : decode cJ3_node 46 = .ok (.istore_n 3, 1) := dk_62 (dk_at dksJ3_node_1 23 rfl rfl)
theorem dJ3_node_47 : decode cJ3_node 47 = .ok (.iload_n 3, 1) := dk_29 (dk_at dksJ3_node_2 0 rfl rfl)
theorem dJ3_node_48 : decode cJ3_node 48 = .ok (.iload_n 1, 1) := dk_27 (dk_at dksJ3_node_2 1 rfl rfl)
theorem dJ3_node_49 : decode cJ3_node 49 = .ok (.if_icmp .le 14, 3) := dk_164 0 14 (dk_at dksJ3_node_2 2 rfl rfl)
theorem dJ3_node_52 : decode cJ3_node 52 = .ok (.aload_n 2, 1) := dk_44 (dk_at dksJ3_node_2 5 rfl rfl)
theorem dJ3_node_53 : decode cJ3_node 53 = .ok (.getfield 30, 3) := dk_180 0 30 (dk_at dksJ3_node_2 6 rfl rfl)
theorem dJ3_node_56 : decode cJ3_node 56 = .ok (.astore_n 2, 1) := dk_77 (dk_at dksJ3_node_2 9 rfl rfl)
theorem dJ3_node_57 : decode cJ3_node 57 = .ok (.iinc 3 (-1), 3) := dk_132 3 255 (dk_at dksJ3_node_2 10 rfl rfl)
theorem dJ3_node_60 : decode cJ3_node 60 = .ok (.goto (-13), 3) := dk_167 255 243 (dk_at dksJ3_node_2 13 rfl rfl)
theorem dJ3_node_63 : decode cJ3_node 63 = .ok (.aload_n 2, 1) := dk_44 (dk_at dksJ3_node_2 16 rfl rfl)
theorem dJ3_node_64 : decode cJ3_node 64 = .ok (.areturn, 1) := dk_176 (dk_at dksJ3_node_2 17 rfl rfl)
abbrev cJ3_size : ByteArray := prog_58_method_16_code
def yJ3_size : MethodName := ⟨RJ3, "size", "()I"⟩
theorem dJ3_size_0 : decode cJ3_size 0 = .ok (.aload_n 0, 1) := by decide +kernel
theorem dJ3_size_1 : decode cJ3_size 1 = .ok (.getfield 7, 3) := by decide +kernel
theorem dJ3_size_4 : decode cJ3_size 4 = .ok (.ireturn, 1) := by decide +kernel
abbrev cJ3_get : ByteArray := prog_58_method_22_code
def yJ3_get : MethodName := ⟨RJ3, "get", "(I)Ljava/lang/Object;"⟩
def dkwJ3_get_0 : List UInt8 := [42, 27, 182, 0, 90, 42, 27, 182, 0, 86, 180, 0, 39, 176]
abbrev dktJ3_get_0 : List UInt8 := dkwJ3_get_0 ++ []
theorem dksJ3_get_0 : cJ3_get.data.toList.drop 0 = dktJ3_get_0 := by decide +kernel
theorem dJ3_get_0 : decode cJ3_get 0 = .ok (.aload_n 0, 1) := dk_42 (dk_at dksJ3_get_0 0 rfl rfl)
theorem dJ3_get_1 : decode cJ3_get 1 = .ok (.iload_n 1, 1) := dk_27 (dk_at dksJ3_get_0 1 rfl rfl)
theorem dJ3_get_2 : decode cJ3_get 2 = .ok (.invokevirtual 90, 3) := dk_182 0 90 (dk_at dksJ3_get_0 2 rfl rfl)
theorem dJ3_get_5 : decode cJ3_get 5 = .ok (.aload_n 0, 1) := dk_42 (dk_at dksJ3_get_0 5 rfl rfl)
theorem dJ3_get_6 : decode cJ3_get 6 = .ok (.iload_n 1, 1) := dk_27 (dk_at dksJ3_get_0 6 rfl rfl)
theorem dJ3_get_7 : decode cJ3_get 7 = .ok (.invokevirtual 86, 3) := dk_182 0 86 (dk_at dksJ3_get_0 7 rfl rfl)
theorem dJ3_get_10 : decode cJ3_get 10 = .ok (.getfield 39, 3) := dk_180 0 39 (dk_at dksJ3_get_0 10 rfl rfl)
theorem dJ3_get_13 : decode cJ3_get 13 = .ok (.areturn, 1) := dk_176 (dk_at dksJ3_get_0 13 rfl rfl)
abbrev cJ3_checkElementIndex : ByteArray := prog_58_method_29_code
def yJ3_checkElementIndex : MethodName := ⟨RJ3, "checkElementIndex", "(I)V"⟩
def dkwJ3_checkElementIndex_0 : List UInt8 := [42, 27, 182, 0, 115, 154, 0, 16, 187, 0, 119, 89, 42, 27, 182, 0, 121, 183, 0, 125, 191, 177]
abbrev dktJ3_checkElementIndex_0 : List UInt8 := dkwJ3_checkElementIndex_0 ++ []
theorem dksJ3_checkElementIndex_0 : cJ3_checkElementIndex.data.toList.drop 0 = dktJ3_checkElementIndex_0 := by decide +kernel
theorem dJ3_checkElementIndex_0 : decode cJ3_checkElementIndex 0 = .ok (.aload_n 0, 1) := dk_42 (dk_at dksJ3_checkElementIndex_0 0 rfl rfl)
theorem dJ3_checkElementIndex_1 : decode cJ3_checkElementIndex 1 = .ok (.iload_n 1, 1) := dk_27 (dk_at dksJ3_checkElementIndex_0 1 rfl rfl)
theorem dJ3_checkElementIndex_2 : decode cJ3_checkElementIndex 2 = .ok (.invokevirtual 115, 3) := dk_182 0 115 (dk_at dksJ3_checkElementIndex_0 2 rfl rfl)
theorem dJ3_checkElementIndex_5 : decode cJ3_checkElementIndex 5 = .ok (.ifCond .ne 16, 3) := dk_154 0 16 (dk_at dksJ3_checkElementIndex_0 5 rfl rfl)
theorem dJ3_checkElementIndex_8 : decode cJ3_checkElementIndex 8 = .ok (.new 119, 3) := dk_187 0 119 (dk_at dksJ3_checkElementIndex_0 8 rfl rfl)
theorem dJ3_checkElementIndex_11 : decode cJ3_checkElementIndex 11 = .ok (.dup, 1) := dk_89 (dk_at dksJ3_checkElementIndex_0 11 rfl rfl)
theorem dJ3_checkElementIndex_12 : decode cJ3_checkElementIndex 12 = .ok (.aload_n 0, 1) := dk_42 (dk_at dksJ3_checkElementIndex_0 12 rfl rfl)
theorem dJ3_checkElementIndex_13 : decode cJ3_checkElementIndex 13 = .ok (.iload_n 1, 1) := dk_27 (dk_at dksJ3_checkElementIndex_0 13 rfl rfl)
theorem dJ3_checkElementIndex_14 : decode cJ3_checkElementIndex 14 = .ok (.invokevirtual 121, 3) := dk_182 0 121 (dk_at dksJ3_checkElementIndex_0 14 rfl rfl)
theorem dJ3_checkElementIndex_17 : decode cJ3_checkElementIndex 17 = .ok (.invokespecial 125, 3) := dk_183 0 125 (dk_at dksJ3_checkElementIndex_0 17 rfl rfl)
theorem dJ3_checkElementIndex_20 : decode cJ3_checkElementIndex 20 = .ok (.athrow, 1) := dk_191 (dk_at dksJ3_checkElementIndex_0 20 rfl rfl)
theorem dJ3_checkElementIndex_21 : decode cJ3_checkElementIndex 21 = .ok (.return_, 1) := dk_177 (dk_at dksJ3_checkElementIndex_0 21 rfl rfl)
abbrev cJ3_isElementIndex : ByteArray := prog_58_method_26_code
def yJ3_isElementIndex : MethodName := ⟨RJ3, "isElementIndex", "(I)Z"⟩
def dkwJ3_isElementIndex_0 : List UInt8 := [27, 155, 0, 15, 27, 42, 180, 0, 7, 162, 0, 7, 4, 167, 0, 4, 3, 172]
abbrev dktJ3_isElementIndex_0 : List UInt8 := dkwJ3_isElementIndex_0 ++ []
theorem dksJ3_isElementIndex_0 : cJ3_isElementIndex.data.toList.drop 0 = dktJ3_isElementIndex_0 := by decide +kernel
theorem dJ3_isElementIndex_0 : decode cJ3_isElementIndex 0 = .ok (.iload_n 1, 1) := dk_27 (dk_at dksJ3_isElementIndex_0 0 rfl rfl)
theorem dJ3_isElementIndex_1 : decode cJ3_isElementIndex 1 = .ok (.ifCond .lt 15, 3) := dk_155 0 15 (dk_at dksJ3_isElementIndex_0 1 rfl rfl)
theorem dJ3_isElementIndex_4 : decode cJ3_isElementIndex 4 = .ok (.iload_n 1, 1) := dk_27 (dk_at dksJ3_isElementIndex_0 4 rfl rfl)
theorem dJ3_isElementIndex_5 : decode cJ3_isElementIndex 5 = .ok (.aload_n 0, 1) := dk_42 (dk_at dksJ3_isElementIndex_0 5 rfl rfl)
theorem dJ3_isElementIndex_6 : decode cJ3_isElementIndex 6 = .ok (.getfield 7, 3) := dk_180 0 7 (dk_at dksJ3_isElementIndex_0 6 rfl rfl)
theorem dJ3_isElementIndex_9 : decode cJ3_isElementIndex 9 = .ok (.if_icmp .ge 7, 3) := dk_162 0 7 (dk_at dksJ3_isElementIndex_0 9 rfl rfl)
theorem dJ3_isElementIndex_12 : decode cJ3_isElementIndex 12 = .ok (.iconst 1, 1) := dk_4 (dk_at dksJ3_isElementIndex_0 12 rfl rfl)
theorem dJ3_isElementIndex_13 : decode cJ3_isElementIndex 13 = .ok (.goto 4, 3) := dk_167 0 4 (dk_at dksJ3_isElementIndex_0 13 rfl rfl)
theorem dJ3_isElementIndex_16 : decode cJ3_isElementIndex 16 = .ok (.iconst 0, 1) := dk_3 (dk_at dksJ3_isElementIndex_0 16 rfl rfl)
theorem dJ3_isElementIndex_17 : decode cJ3_isElementIndex 17 = .ok (.ireturn, 1) := dk_172 (dk_at dksJ3_isElementIndex_0 17 rfl rfl)
abbrev cJ3_addLast : ByteArray := prog_58_method_14_code
def yJ3_addLast : MethodName := ⟨RJ3, "addLast", "(Ljava/lang/Object;)V"⟩
def dkwJ3_addLast_0 : List UInt8 := [42, 43, 182, 0, 57, 177]
abbrev dktJ3_addLast_0 : List UInt8 := dkwJ3_addLast_0 ++ []
theorem dksJ3_addLast_0 : cJ3_addLast.data.toList.drop 0 = dktJ3_addLast_0 := by decide +kernel
theorem dJ3_addLast_0 : decode cJ3_addLast 0 = .ok (.aload_n 0, 1) := dk_42 (dk_at dksJ3_addLast_0 0 rfl rfl)
theorem dJ3_addLast_1 : decode cJ3_addLast 1 = .ok (.aload_n 1, 1) := dk_43 (dk_at dksJ3_addLast_0 1 rfl rfl)
theorem dJ3_addLast_2 : decode cJ3_addLast 2 = .ok (.invokevirtual 57, 3) := dk_182 0 57 (dk_at dksJ3_addLast_0 2 rfl rfl)
theorem dJ3_addLast_5 : decode cJ3_addLast 5 = .ok (.return_, 1) := dk_177 (dk_at dksJ3_addLast_0 5 rfl rfl)
abbrev cJ3_linkLast : ByteArray := prog_58_method_4_code
def yJ3_linkLast : MethodName := ⟨RJ3, "linkLast", "(Ljava/lang/Object;)V"⟩
def dkwJ3_linkLast_2 : List UInt8 := [181, 0, 7, 42, 89, 180, 0, 33, 4, 96, 181, 0, 33, 177]
abbrev dktJ3_linkLast_2 : List UInt8 := dkwJ3_linkLast_2 ++ []
def dkwJ3_linkLast_1 : List UInt8 := [199, 0, 11, 42, 45, 181, 0, 18, 167, 0, 8, 44, 45, 181, 0, 36, 42, 89, 180, 0, 7, 4, 96]
abbrev dktJ3_linkLast_1 : List UInt8 := dkwJ3_linkLast_1 ++ dktJ3_linkLast_2
def dkwJ3_linkLast_0 : List UInt8 := [42, 180, 0, 27, 77, 187, 0, 22, 89, 44, 43, 1, 183, 0, 24, 78, 42, 45, 181, 0, 27, 44]
abbrev dktJ3_linkLast_0 : List UInt8 := dkwJ3_linkLast_0 ++ dktJ3_linkLast_1
theorem dksJ3_linkLast_0 : cJ3_linkLast.data.toList.drop 0 = dktJ3_linkLast_0 := by decide +kernel
theorem dksJ3_linkLast_1 : cJ3_linkLast.data.toList.drop 22 = dktJ3_linkLast_1 := dk_seg dksJ3_linkLast_0 22 rfl rfl
theorem dksJ3_linkLast_2 : cJ3_linkLast.data.toList.drop 45 = dktJ3_linkLast_2 := dk_seg dksJ3_linkLast_1 23 rfl rfl
theorem dJ3_linkLast_0 : decode cJ3_linkLast 0 = .ok (.aload_n 0, 1) := dk_42 (dk_at dksJ3_linkLast_0 0 rfl rfl)
theorem dJ3_linkLast_1 : decode cJ3_linkLast 1 = .ok (.getfield 27, 3) := dk_180 0 27 (dk_at dksJ3_linkLast_0 1 rfl rfl)
theorem dJ3_linkLast_4 : decode cJ3_linkLast 4 = .ok (.astore_n 2, 1) := dk_77 (dk_at dksJ3_linkLast_0 4 rfl rfl)
theorem dJ3_linkLast_5 : decode cJ3_linkLast 5 = .ok (.new 22, 3) := dk_187 0 22 (dk_at dksJ3_linkLast_0 5 rfl rfl)
theorem dJ3_linkLast_8 : decode cJ3_linkLast 8 = .ok (.dup, 1) := dk_89 (dk_at dksJ3_linkLast_0 8 rfl rfl)
theorem dJ3_linkLast_9 : decode cJ3_linkLast 9 = .ok (.aload_n 2, 1) := dk_44 (dk_at dksJ3_linkLast_0 9 rfl rfl)
theorem dJ3_linkLast_10 : decode cJ3_linkLast 10 = .ok (.aload_n 1, 1) := dk_43 (dk_at dksJ3_linkLast_0 10 rfl rfl)
theorem dJ3_linkLast_11 : decode cJ3_linkLast 11 = .ok (.aconst_null, 1) := dk_1 (dk_at dksJ3_linkLast_0 11 rfl rfl)
theorem dJ3_linkLast_12 : decode cJ3_linkLast 12 = .ok (.invokespecial 24, 3) := dk_183 0 24 (dk_at dksJ3_linkLast_0 12 rfl rfl)
theorem dJ3_linkLast_15 : decode cJ3_linkLast 15 = .ok (.astore_n 3, 1) := dk_78 (dk_at dksJ3_linkLast_0 15 rfl rfl)
theorem dJ3_linkLast_16 : decode cJ3_linkLast 16 = .ok (.aload_n 0, 1) := dk_42 (dk_at dksJ3_linkLast_0 16 rfl rfl)
theorem dJ3_linkLast_17 : decode cJ3_linkLast 17 = .ok (.aload_n 3, 1) := dk_45 (dk_at dksJ3_linkLast_0 17 rfl rfl)
theorem dJ3_linkLast_18 : decode cJ3_linkLast 18 = .ok (.putfield 27, 3) := dk_181 0 27 (dk_at dksJ3_linkLast_0 18 rfl rfl)
theorem dJ3_linkLast_21 : decode cJ3_linkLast 21 = .ok (.aload_n 2, 1) := dk_44 (dk_at dksJ3_linkLast_0 21 rfl rfl)
theorem dJ3_linkLast_22 : decode cJ3_linkLast 22 = .ok (.ifnonnull 11, 3) := dk_199 0 11 (dk_at dksJ3_linkLast_1 0 rfl rfl)
theorem dJ3_linkLast_25 : decode cJ3_linkLast 25 = .ok (.aload_n 0, 1) := dk_42 (dk_at dksJ3_linkLast_1 3 rfl rfl)
theorem dJ3_linkLast_26 : decode cJ3_linkLast 26 = .ok (.aload_n 3, 1) := dk_45 (dk_at dksJ3_linkLast_1 4 rfl rfl)
theorem dJ3_linkLast_27 : decode cJ3_linkLast 27 = .ok (.putfield 18, 3) := dk_181 0 18 (dk_at dksJ3_linkLast_1 5 rfl rfl)
theorem dJ3_linkLast_30 : decode cJ3_linkLast 30 = .ok (.goto 8, 3) := dk_167 0 8 (dk_at dksJ3_linkLast_1 8 rfl rfl)
theorem dJ3_linkLast_33 : decode cJ3_linkLast 33 = .ok (.aload_n 2, 1) := dk_44 (dk_at dksJ3_linkLast_1 11 rfl rfl)
theorem dJ3_linkLast_34 : decode cJ3_linkLast 34 = .ok (.aload_n 3, 1) := dk_45 (dk_at dksJ3_linkLast_1 12 rfl rfl)
theorem dJ3_linkLast_35 : decode cJ3_linkLast 35 = .ok (.putfield 36, 3) := dk_181 0 36 (dk_at dksJ3_linkLast_1 13 rfl rfl)
theorem dJ3_linkLast_38 : decode cJ3_linkLast 38 = .ok (.aload_n 0, 1) := dk_42 (dk_at dksJ3_linkLast_1 16 rfl rfl)
theorem dJ3_linkLast_39 : decode cJ3_linkLast 39 = .ok (.dup, 1) := dk_89 (dk_at dksJ3_linkLast_1 17 rfl rfl)
theorem dJ3_linkLast_40 : decode cJ3_linkLast 40 = .ok (.getfield 7, 3) := dk_180 0 7 (dk_at dksJ3_linkLast_1 18 rfl rfl)
theorem dJ3_linkLast_43 : decode cJ3_linkLast 43 = .ok (.iconst 1, 1) := dk_4 (dk_at dksJ3_linkLast_1 21 rfl rfl)
theorem dJ3_linkLast_44 : decode cJ3_linkLast 44 = .ok (.iadd, 1) := dk_96 (dk_at dksJ3_linkLast_1 22 rfl rfl)
theorem dJ3_linkLast_45 : decode cJ3_linkLast 45 = .ok (.putfield 7, 3) := dk_181 0 7 (dk_at dksJ3_linkLast_2 0 rfl rfl)
theorem dJ3_linkLast_48 : decode cJ3_linkLast 48 = .ok (.aload_n 0, 1) := dk_42 (dk_at dksJ3_linkLast_2 3 rfl rfl)
theorem dJ3_linkLast_49 : decode cJ3_linkLast 49 = .ok (.dup, 1) := dk_89 (dk_at dksJ3_linkLast_2 4 rfl rfl)
theorem dJ3_linkLast_50 : decode cJ3_linkLast 50 = .ok (.getfield 33, 3) := dk_180 0 33 (dk_at dksJ3_linkLast_2 5 rfl rfl)
theorem dJ3_linkLast_53 : decode cJ3_linkLast 53 = .ok (.iconst 1, 1) := dk_4 (dk_at dksJ3_linkLast_2 8 rfl rfl)
theorem dJ3_linkLast_54 : decode cJ3_linkLast 54 = .ok (.iadd, 1) := dk_96 (dk_at dksJ3_linkLast_2 9 rfl rfl)
theorem dJ3_linkLast_55 : decode cJ3_linkLast 55 = .ok (.putfield 33, 3) := dk_181 0 33 (dk_at dksJ3_linkLast_2 10 rfl rfl)
theorem dJ3_linkLast_58 : decode cJ3_linkLast 58 = .ok (.return_, 1) := dk_177 (dk_at dksJ3_linkLast_2 13 rfl rfl)
abbrev cJ3_remove : ByteArray := prog_58_method_25_code
def yJ3_remove : MethodName := ⟨RJ3, "remove", "(I)Ljava/lang/Object;"⟩
def dkwJ3_remove_0 : List UInt8 := [42, 27, 182, 0, 90, 42, 42, 27, 182, 0, 86, 182, 0, 64, 176]
abbrev dktJ3_remove_0 : List UInt8 := dkwJ3_remove_0 ++ []
theorem dksJ3_remove_0 : cJ3_remove.data.toList.drop 0 = dktJ3_remove_0 := by decide +kernel
theorem dJ3_remove_0 : decode cJ3_remove 0 = .ok (.aload_n 0, 1) := dk_42 (dk_at dksJ3_remove_0 0 rfl rfl)
theorem dJ3_remove_1 : decode cJ3_remove 1 = .ok (.iload_n 1, 1) := dk_27 (dk_at dksJ3_remove_0 1 rfl rfl)
theorem dJ3_remove_2 : decode cJ3_remove 2 = .ok (.invokevirtual 90, 3) := dk_182 0 90 (dk_at dksJ3_remove_0 2 rfl rfl)
theorem dJ3_remove_5 : decode cJ3_remove 5 = .ok (.aload_n 0, 1) := dk_42 (dk_at dksJ3_remove_0 5 rfl rfl)
theorem dJ3_remove_6 : decode cJ3_remove 6 = .ok (.aload_n 0, 1) := dk_42 (dk_at dksJ3_remove_0 6 rfl rfl)
theorem dJ3_remove_7 : decode cJ3_remove 7 = .ok (.iload_n 1, 1) := dk_27 (dk_at dksJ3_remove_0 7 rfl rfl)
theorem dJ3_remove_8 : decode cJ3_remove 8 = .ok (.invokevirtual 86, 3) := dk_182 0 86 (dk_at dksJ3_remove_0 8 rfl rfl)
theorem dJ3_remove_11 : decode cJ3_remove 11 = .ok (.invokevirtual 64, 3) := dk_182 0 64 (dk_at dksJ3_remove_0 11 rfl rfl)
theorem dJ3_remove_14 : decode cJ3_remove 14 = .ok (.areturn, 1) := dk_176 (dk_at dksJ3_remove_0 14 rfl rfl)
abbrev cJ3_unlink : ByteArray := prog_58_method_8_code
def yJ3_unlink : MethodName := ⟨RJ3, "unlink", "(Ljava/util/LinkedList$Node;)Ljava/lang/Object;"⟩
def dkwJ3_unlink_3 : List UInt8 := [180, 0, 7, 4, 100, 181, 0, 7, 42, 89, 180, 0, 33, 4, 96, 181, 0, 33, 44, 176]
abbrev dktJ3_unlink_3 : List UInt8 := dkwJ3_unlink_3 ++ []
def dkwJ3_unlink_2 : List UInt8 := [181, 0, 27, 167, 0, 14, 45, 25, 4, 181, 0, 30, 43, 1, 181, 0, 36, 43, 1, 181, 0, 39, 42, 89]
abbrev dktJ3_unlink_2 : List UInt8 := dkwJ3_unlink_2 ++ dktJ3_unlink_3
def dkwJ3_unlink_1 : List UInt8 := [181, 0, 18, 167, 0, 14, 25, 4, 45, 181, 0, 36, 43, 1, 181, 0, 30, 45, 199, 0, 12, 42, 25, 4]
abbrev dktJ3_unlink_1 : List UInt8 := dkwJ3_unlink_1 ++ dktJ3_unlink_2
def dkwJ3_unlink_0 : List UInt8 := [43, 180, 0, 39, 77, 43, 180, 0, 36, 78, 43, 180, 0, 30, 58, 4, 25, 4, 199, 0, 11, 42, 45]
abbrev dktJ3_unlink_0 : List UInt8 := dkwJ3_unlink_0 ++ dktJ3_unlink_1
theorem dksJ3_unlink_0 : cJ3_unlink.data.toList.drop 0 = dktJ3_unlink_0 := by decide +kernel
theorem dksJ3_unlink_1 : cJ3_unlink.data.toList.drop 23 = dktJ3_unlink_1 := dk_seg dksJ3_unlink_0 23 rfl rfl
theorem dksJ3_unlink_2 : cJ3_unlink.data.toList.drop 47 = dktJ3_unlink_2 := dk_seg dksJ3_unlink_1 24 rfl rfl
theorem dksJ3_unlink_3 : cJ3_unlink.data.toList.drop 71 = dktJ3_unlink_3 := dk_seg dksJ3_unlink_2 24 rfl rfl
theorem dJ3_unlink_0 : decode cJ3_unlink 0 = .ok (.aload_n 1, 1) := dk_43 (dk_at dksJ3_unlink_0 0 rfl rfl)
theorem dJ3_unlink_1 : decode cJ3_unlink 1 = .ok (.getfield 39, 3) := dk_180 0 39 (dk_at dksJ3_unlink_0 1 rfl rfl)
theorem dJ3_unlink_4 : decode cJ3_unlink 4 = .ok (.astore_n 2, 1) := dk_77 (dk_at dksJ3_unlink_0 4 rfl rfl)
theorem dJ3_unlink_5 : decode cJ3_unlink 5 = .ok (.aload_n 1, 1) := dk_43 (dk_at dksJ3_unlink_0 5 rfl rfl)
theorem dJ3_unlink_6 : decode cJ3_unlink 6 = .ok (.getfield 36, 3) := dk_180 0 36 (dk_at dksJ3_unlink_0 6 rfl rfl)
theorem dJ3_unlink_9 : decode cJ3_unlink 9 = .ok (.astore_n 3, 1) := dk_78 (dk_at dksJ3_unlink_0 9 rfl rfl)
theorem dJ3_unlink_10 : decode cJ3_unlink 10 = .ok (.aload_n 1, 1) := dk_43 (dk_at dksJ3_unlink_0 10 rfl rfl)
theorem dJ3_unlink_11 : decode cJ3_unlink 11 = .ok (.getfield 30, 3) := dk_180 0 30 (dk_at dksJ3_unlink_0 11 rfl rfl)
theorem dJ3_unlink_14 : decode cJ3_unlink 14 = .ok (.astore 4, 2) := dk_58 4 (dk_at dksJ3_unlink_0 14 rfl rfl)
theorem dJ3_unlink_16 : decode cJ3_unlink 16 = .ok (.aload 4, 2) := dk_25 4 (dk_at dksJ3_unlink_0 16 rfl rfl)
theorem dJ3_unlink_18 : decode cJ3_unlink 18 = .ok (.ifnonnull 11, 3) := dk_199 0 11 (dk_at dksJ3_unlink_0 18 rfl rfl)
theorem dJ3_unlink_21 : decode cJ3_unlink 21 = .ok (.aload_n 0, 1) := dk_42 (dk_at dksJ3_unlink_0 21 rfl rfl)
theorem dJ3_unlink_22 : decode cJ3_unlink 22 = .ok (.aload_n 3, 1) := dk_45 (dk_at dksJ3_unlink_0 22 rfl rfl)
theorem dJ3_unlink_23 : decode cJ3_unlink 23 = .ok (.putfield 18, 3) := dk_181 0 18 (dk_at dksJ3_unlink_1 0 rfl rfl)
theorem dJ3_unlink_26 : decode cJ3_unlink 26 = .ok (.goto 14, 3) := dk_167 0 14 (dk_at dksJ3_unlink_1 3 rfl rfl)
theorem dJ3_unlink_29 : decode cJ3_unlink 29 = .ok (.aload 4, 2) := dk_25 4 (dk_at dksJ3_unlink_1 6 rfl rfl)
theorem dJ3_unlink_31 : decode cJ3_unlink 31 = .ok (.aload_n 3, 1) := dk_45 (dk_at dksJ3_unlink_1 8 rfl rfl)
theorem dJ3_unlink_32 : decode cJ3_unlink 32 = .ok (.putfield 36, 3) := dk_181 0 36 (dk_at dksJ3_unlink_1 9 rfl rfl)
theorem dJ3_unlink_35 : decode cJ3_unlink 35 = .ok (.aload_n 1, 1) := dk_43 (dk_at dksJ3_unlink_1 12 rfl rfl)
theorem dJ3_unlink_36 : decode cJ3_unlink 36 = .ok (.aconst_null, 1) := dk_1 (dk_at dksJ3_unlink_1 13 rfl rfl)
theorem dJ3_unlink_37 : decode cJ3_unlink 37 = .ok (.putfield 30, 3) := dk_181 0 30 (dk_at dksJ3_unlink_1 14 rfl rfl)
theorem dJ3_unlink_40 : decode cJ3_unlink 40 = .ok (.aload_n 3, 1) := dk_45 (dk_at dksJ3_unlink_1 17 rfl rfl)
theorem dJ3_unlink_41 : decode cJ3_unlink 41 = .ok (.ifnonnull 12, 3) := dk_199 0 12 (dk_at dksJ3_unlink_1 18 rfl rfl)
theorem dJ3_unlink_44 : decode cJ3_unlink 44 = .ok (.aload_n 0, 1) := dk_42 (dk_at dksJ3_unlink_1 21 rfl rfl)
theorem dJ3_unlink_45 : decode cJ3_unlink 45 = .ok (.aload 4, 2) := dk_25 4 (dk_at dksJ3_unlink_1 22 rfl rfl)
theorem dJ3_unlink_47 : decode cJ3_unlink 47 = .ok (.putfield 27, 3) := dk_181 0 27 (dk_at dksJ3_unlink_2 0 rfl rfl)
theorem dJ3_unlink_50 : decode cJ3_unlink 50 = .ok (.goto 14, 3) := dk_167 0 14 (dk_at dksJ3_unlink_2 3 rfl rfl)
theorem dJ3_unlink_53 : decode cJ3_unlink 53 = .ok (.aload_n 3, 1) := dk_45 (dk_at dksJ3_unlink_2 6 rfl rfl)
theorem dJ3_unlink_54 : decode cJ3_unlink 54 = .ok (.aload 4, 2) := dk_25 4 (dk_at dksJ3_unlink_2 7 rfl rfl)
theorem dJ3_unlink_56 : decode cJ3_unlink 56 = .ok (.putfield 30, 3) := dk_181 0 30 (dk_at dksJ3_unlink_2 9 rfl rfl)
theorem dJ3_unlink_59 : decode cJ3_unlink 59 = .ok (.aload_n 1, 1) := dk_43 (dk_at dksJ3_unlink_2 12 rfl rfl)
theorem dJ3_unlink_60 : decode cJ3_unlink 60 = .ok (.aconst_null, 1) := dk_1 (dk_at dksJ3_unlink_2 13 rfl rfl)
theorem dJ3_unlink_61 : decode cJ3_unlink 61 = .ok (.putfield 36, 3) := dk_181 0 36 (dk_at dksJ3_unlink_2 14 rfl rfl)
theorem dJ3_unlink_64 : decode cJ3_unlink 64 = .ok (.aload_n 1, 1) := dk_43 (dk_at dksJ3_unlink_2 17 rfl rfl)
theorem dJ3_unlink_65 : decode cJ3_unlink 65 = .ok (.aconst_null, 1) := dk_1 (dk_at dksJ3_unlink_2 18 rfl rfl)
theorem dJ3_unlink_66 : decode cJ3_unlink 66 = .ok (.putfield 39, 3) := dk_181 0 39 (dk_at dksJ3_unlink_2 19 rfl rfl)
theorem dJ3_unlink_69 : decode cJ3_unlink 69 = .ok (.aload_n 0, 1) := dk_42 (dk_at dksJ3_unlink_2 22 rfl rfl)
theorem dJ3_unlink_70 : decode cJ3_unlink 70 = .ok (.dup, 1) := dk_89 (dk_at dksJ3_unlink_2 23 rfl rfl)
theorem dJ3_unlink_71 : decode cJ3_unlink 71 = .ok (.getfield 7, 3) := dk_180 0 7 (dk_at dksJ3_unlink_3 0 rfl rfl)
theorem dJ3_unlink_74 : decode cJ3_unlink 74 = .ok (.iconst 1, 1) := dk_4 (dk_at dksJ3_unlink_3 3 rfl rfl)
theorem dJ3_unlink_75 : decode cJ3_unlink 75 = .ok (.isub, 1) := dk_100 (dk_at dksJ3_unlink_3 4 rfl rfl)
theorem dJ3_unlink_76 : decode cJ3_unlink 76 = .ok (.putfield 7, 3) := dk_181 0 7 (dk_at dksJ3_unlink_3 5 rfl rfl)
theorem dJ3_unlink_79 : decode cJ3_unlink 79 = .ok (.aload_n 0, 1) := dk_42 (dk_at dksJ3_unlink_3 8 rfl rfl)
theorem dJ3_unlink_80 : decode cJ3_unlink 80 = .ok (.dup, 1) := dk_89 (dk_at dksJ3_unlink_3 9 rfl rfl)
theorem dJ3_unlink_81 : decode cJ3_unlink 81 = .ok (.getfield 33, 3) := dk_180 0 33 (dk_at dksJ3_unlink_3 10 rfl rfl)
theorem dJ3_unlink_84 : decode cJ3_unlink 84 = .ok (.iconst 1, 1) := dk_4 (dk_at dksJ3_unlink_3 13 rfl rfl)
theorem dJ3_unlink_85 : decode cJ3_unlink 85 = .ok (.iadd, 1) := dk_96 (dk_at dksJ3_unlink_3 14 rfl rfl)
theorem dJ3_unlink_86 : decode cJ3_unlink 86 = .ok (.putfield 33, 3) := dk_181 0 33 (dk_at dksJ3_unlink_3 15 rfl rfl)
theorem dJ3_unlink_89 : decode cJ3_unlink 89 = .ok (.aload_n 2, 1) := dk_44 (dk_at dksJ3_unlink_3 18 rfl rfl)
theorem dJ3_unlink_90 : decode cJ3_unlink 90 = .ok (.areturn, 1) := dk_176 (dk_at dksJ3_unlink_3 19 rfl rfl)
abbrev cJ3_getFirst : ByteArray := prog_58_method_9_code
def yJ3_getFirst : MethodName := ⟨RJ3, "getFirst", "()Ljava/lang/Object;"⟩
def dkwJ3_getFirst_0 : List UInt8 := [42, 180, 0, 18, 76, 43, 199, 0, 11, 187, 0, 43, 89, 183, 0, 45, 191, 43, 180, 0, 39, 176]
abbrev dktJ3_getFirst_0 : List UInt8 := dkwJ3_getFirst_0 ++ []
theorem dksJ3_getFirst_0 : cJ3_getFirst.data.toList.drop 0 = dktJ3_getFirst_0 := by decide +kernel
theorem dJ3_getFirst_0 : decode cJ3_getFirst 0 = .ok (.aload_n 0, 1) := dk_42 (dk_at dksJ3_getFirst_0 0 rfl rfl)
theorem dJ3_getFirst_1 : decode cJ3_getFirst 1 = .ok (.getfield 18, 3) := dk_180 0 18 (dk_at dksJ3_getFirst_0 1 rfl rfl)
theorem dJ3_getFirst_4 : decode cJ3_getFirst 4 = .ok (.astore_n 1, 1) := dk_76 (dk_at dksJ3_getFirst_0 4 rfl rfl)
theorem dJ3_getFirst_5 : decode cJ3_getFirst 5 = .ok (.aload_n 1, 1) := dk_43 (dk_at dksJ3_getFirst_0 5 rfl rfl)
theorem dJ3_getFirst_6 : decode cJ3_getFirst 6 = .ok (.ifnonnull 11, 3) := dk_199 0 11 (dk_at dksJ3_getFirst_0 6 rfl rfl)
theorem dJ3_getFirst_9 : decode cJ3_getFirst 9 = .ok (.new 43, 3) := dk_187 0 43 (dk_at dksJ3_getFirst_0 9 rfl rfl)
theorem dJ3_getFirst_12 : decode cJ3_getFirst 12 = .ok (.dup, 1) := dk_89 (dk_at dksJ3_getFirst_0 12 rfl rfl)
theorem dJ3_getFirst_13 : decode cJ3_getFirst 13 = .ok (.invokespecial 45, 3) := dk_183 0 45 (dk_at dksJ3_getFirst_0 13 rfl rfl)
theorem dJ3_getFirst_16 : decode cJ3_getFirst 16 = .ok (.athrow, 1) := dk_191 (dk_at dksJ3_getFirst_0 16 rfl rfl)
theorem dJ3_getFirst_17 : decode cJ3_getFirst 17 = .ok (.aload_n 1, 1) := dk_43 (dk_at dksJ3_getFirst_0 17 rfl rfl)
theorem dJ3_getFirst_18 : decode cJ3_getFirst 18 = .ok (.getfield 39, 3) := dk_180 0 39 (dk_at dksJ3_getFirst_0 18 rfl rfl)
theorem dJ3_getFirst_21 : decode cJ3_getFirst 21 = .ok (.areturn, 1) := dk_176 (dk_at dksJ3_getFirst_0 21 rfl rfl)
abbrev cJ3_removeFirst : ByteArray := prog_58_method_11_code
def yJ3_removeFirst : MethodName := ⟨RJ3, "removeFirst", "()Ljava/lang/Object;"⟩
def dkwJ3_removeFirst_0 : List UInt8 := [42, 180, 0, 18, 76, 43, 199, 0, 11, 187, 0, 43, 89, 183, 0, 45, 191, 42, 43, 182, 0, 46, 176]
abbrev dktJ3_removeFirst_0 : List UInt8 := dkwJ3_removeFirst_0 ++ []
theorem dksJ3_removeFirst_0 : cJ3_removeFirst.data.toList.drop 0 = dktJ3_removeFirst_0 := by decide +kernel
theorem dJ3_removeFirst_0 : decode cJ3_removeFirst 0 = .ok (.aload_n 0, 1) := dk_42 (dk_at dksJ3_removeFirst_0 0 rfl rfl)
theorem dJ3_removeFirst_1 : decode cJ3_removeFirst 1 = .ok (.getfield 18, 3) := dk_180 0 18 (dk_at dksJ3_removeFirst_0 1 rfl rfl)
theorem dJ3_removeFirst_4 : decode cJ3_removeFirst 4 = .ok (.astore_n 1, 1) := dk_76 (dk_at dksJ3_removeFirst_0 4 rfl rfl)
theorem dJ3_removeFirst_5 : decode cJ3_removeFirst 5 = .ok (.aload_n 1, 1) := dk_43 (dk_at dksJ3_removeFirst_0 5 rfl rfl)
theorem dJ3_removeFirst_6 : decode cJ3_removeFirst 6 = .ok (.ifnonnull 11, 3) := dk_199 0 11 (dk_at dksJ3_removeFirst_0 6 rfl rfl)
theorem dJ3_removeFirst_9 : decode cJ3_removeFirst 9 = .ok (.new 43, 3) := dk_187 0 43 (dk_at dksJ3_removeFirst_0 9 rfl rfl)
theorem dJ3_removeFirst_12 : decode cJ3_removeFirst 12 = .ok (.dup, 1) := dk_89 (dk_at dksJ3_removeFirst_0 12 rfl rfl)
theorem dJ3_removeFirst_13 : decode cJ3_removeFirst 13 = .ok (.invokespecial 45, 3) := dk_183 0 45 (dk_at dksJ3_removeFirst_0 13 rfl rfl)
theorem dJ3_removeFirst_16 : decode cJ3_removeFirst 16 = .ok (.athrow, 1) := dk_191 (dk_at dksJ3_removeFirst_0 16 rfl rfl)
theorem dJ3_removeFirst_17 : decode cJ3_removeFirst 17 = .ok (.aload_n 0, 1) := dk_42 (dk_at dksJ3_removeFirst_0 17 rfl rfl)
theorem dJ3_removeFirst_18 : decode cJ3_removeFirst 18 = .ok (.aload_n 1, 1) := dk_43 (dk_at dksJ3_removeFirst_0 18 rfl rfl)
theorem dJ3_removeFirst_19 : decode cJ3_removeFirst 19 = .ok (.invokevirtual 46, 3) := dk_182 0 46 (dk_at dksJ3_removeFirst_0 19 rfl rfl)
theorem dJ3_removeFirst_22 : decode cJ3_removeFirst 22 = .ok (.areturn, 1) := dk_176 (dk_at dksJ3_removeFirst_0 22 rfl rfl)
abbrev cJ3_unlinkFirst : ByteArray := prog_58_method_6_code
def yJ3_unlinkFirst : MethodName := ⟨RJ3, "unlinkFirst", "(Ljava/util/LinkedList$Node;)Ljava/lang/Object;"⟩
def dkwJ3_unlinkFirst_2 : List UInt8 := [180, 0, 7, 4, 100, 181, 0, 7, 42, 89, 180, 0, 33, 4, 96, 181, 0, 33, 44, 176]
abbrev dktJ3_unlinkFirst_2 : List UInt8 := dkwJ3_unlinkFirst_2 ++ []
def dkwJ3_unlinkFirst_1 : List UInt8 := [181, 0, 18, 45, 199, 0, 11, 42, 1, 181, 0, 27, 167, 0, 8, 45, 1, 181, 0, 30, 42, 89]
abbrev dktJ3_unlinkFirst_1 : List UInt8 := dkwJ3_unlinkFirst_1 ++ dktJ3_unlinkFirst_2
def dkwJ3_unlinkFirst_0 : List UInt8 := [43, 180, 0, 39, 77, 43, 180, 0, 36, 78, 43, 1, 181, 0, 39, 43, 1, 181, 0, 36, 42, 45]
abbrev dktJ3_unlinkFirst_0 : List UInt8 := dkwJ3_unlinkFirst_0 ++ dktJ3_unlinkFirst_1
theorem dksJ3_unlinkFirst_0 : cJ3_unlinkFirst.data.toList.drop 0 = dktJ3_unlinkFirst_0 := by decide +kernel
theorem dksJ3_unlinkFirst_1 : cJ3_unlinkFirst.data.toList.drop 22 = dktJ3_unlinkFirst_1 := dk_seg dksJ3_unlinkFirst_0 22 rfl rfl
theorem dksJ3_unlinkFirst_2 : cJ3_unlinkFirst.data.toList.drop 44 = dktJ3_unlinkFirst_2 := dk_seg dksJ3_unlinkFirst_1 22 rfl rfl
theorem dJ3_unlinkFirst_0 : decode cJ3_unlinkFirst 0 = .ok (.aload_n 1, 1) := dk_43 (dk_at dksJ3_unlinkFirst_0 0 rfl rfl)
theorem dJ3_unlinkFirst_1 : decode cJ3_unlinkFirst 1 = .ok (.getfield 39, 3) := dk_180 0 39 (dk_at dksJ3_unlinkFirst_0 1 rfl rfl)
theorem dJ3_unlinkFirst_4 : decode cJ3_unlinkFirst 4 = .ok (.astore_n 2, 1) := dk_77 (dk_at dksJ3_unlinkFirst_0 4 rfl rfl)
theorem dJ3_unlinkFirst_5 : decode cJ3_unlinkFirst 5 = .ok (.aload_n 1, 1) := dk_43 (dk_at dksJ3_unlinkFirst_0 5 rfl rfl)
theorem dJ3_unlinkFirst_6 : decode cJ3_unlinkFirst 6 = .ok (.getfield 36, 3) := dk_180 0 36 (dk_at dksJ3_unlinkFirst_0 6 rfl rfl)
theorem dJ3_unlinkFirst_9 : decode cJ3_unlinkFirst 9 = .ok (.astore_n 3, 1) := dk_78 (dk_at dksJ3_unlinkFirst_0 9 rfl rfl)
theorem dJ3_unlinkFirst_10 : decode cJ3_unlinkFirst 10 = .ok (.aload_n 1, 1) := dk_43 (dk_at dksJ3_unlinkFirst_0 10 rfl rfl)
theorem dJ3_unlinkFirst_11 : decode cJ3_unlinkFirst 11 = .ok (.aconst_null, 1) := dk_1 (dk_at dksJ3_unlinkFirst_0 11 rfl rfl)
theorem dJ3_unlinkFirst_12 : decode cJ3_unlinkFirst 12 = .ok (.putfield 39, 3) := dk_181 0 39 (dk_at dksJ3_unlinkFirst_0 12 rfl rfl)
theorem dJ3_unlinkFirst_15 : decode cJ3_unlinkFirst 15 = .ok (.aload_n 1, 1) := dk_43 (dk_at dksJ3_unlinkFirst_0 15 rfl rfl)
theorem dJ3_unlinkFirst_16 : decode cJ3_unlinkFirst 16 = .ok (.aconst_null, 1) := dk_1 (dk_at dksJ3_unlinkFirst_0 16 rfl rfl)
theorem dJ3_unlinkFirst_17 : decode cJ3_unlinkFirst 17 = .ok (.putfield 36, 3) := dk_181 0 36 (dk_at dksJ3_unlinkFirst_0 17 rfl rfl)
theorem dJ3_unlinkFirst_20 : decode cJ3_unlinkFirst 20 = .ok (.aload_n 0, 1) := dk_42 (dk_at dksJ3_unlinkFirst_0 20 rfl rfl)
theorem dJ3_unlinkFirst_21 : decode cJ3_unlinkFirst 21 = .ok (.aload_n 3, 1) := dk_45 (dk_at dksJ3_unlinkFirst_0 21 rfl rfl)
theorem dJ3_unlinkFirst_22 : decode cJ3_unlinkFirst 22 = .ok (.putfield 18, 3) := dk_181 0 18 (dk_at dksJ3_unlinkFirst_1 0 rfl rfl)
theorem dJ3_unlinkFirst_25 : decode cJ3_unlinkFirst 25 = .ok (.aload_n 3, 1) := dk_45 (dk_at dksJ3_unlinkFirst_1 3 rfl rfl)
theorem dJ3_unlinkFirst_26 : decode cJ3_unlinkFirst 26 = .ok (.ifnonnull 11, 3) := dk_199 0 11 (dk_at dksJ3_unlinkFirst_1 4 rfl rfl)
theorem dJ3_unlinkFirst_29 : decode cJ3_unlinkFirst 29 = .ok (.aload_n 0, 1) := dk_42 (dk_at dksJ3_unlinkFirst_1 7 rfl rfl)
theorem dJ3_unlinkFirst_30 : decode cJ3_unlinkFirst 30 = .ok (.aconst_null, 1) := dk_1 (dk_at dksJ3_unlinkFirst_1 8 rfl rfl)
theorem dJ3_unlinkFirst_31 : decode cJ3_unlinkFirst 31 = .ok (.putfield 27, 3) := dk_181 0 27 (dk_at dksJ3_unlinkFirst_1 9 rfl rfl)
theorem dJ3_unlinkFirst_34 : decode cJ3_unlinkFirst 34 = .ok (.goto 8, 3) := dk_167 0 8 (dk_at dksJ3_unlinkFirst_1 12 rfl rfl)
theorem dJ3_unlinkFirst_37 : decode cJ3_unlinkFirst 37 = .ok (.aload_n 3, 1) := dk_45 (dk_at dksJ3_unlinkFirst_1 15 rfl rfl)
theorem dJ3_unlinkFirst_38 : decode cJ3_unlinkFirst 38 = .ok (.aconst_null, 1) := dk_1 (dk_at dksJ3_unlinkFirst_1 16 rfl rfl)
theorem dJ3_unlinkFirst_39 : decode cJ3_unlinkFirst 39 = .ok (.putfield 30, 3) := dk_181 0 30 (dk_at dksJ3_unlinkFirst_1 17 rfl rfl)
theorem dJ3_unlinkFirst_42 : decode cJ3_unlinkFirst 42 = .ok (.aload_n 0, 1) := dk_42 (dk_at dksJ3_unlinkFirst_1 20 rfl rfl)
theorem dJ3_unlinkFirst_43 : decode cJ3_unlinkFirst 43 = .ok (.dup, 1) := dk_89 (dk_at dksJ3_unlinkFirst_1 21 rfl rfl)
theorem dJ3_unlinkFirst_44 : decode cJ3_unlinkFirst 44 = .ok (.getfield 7, 3) := dk_180 0 7 (dk_at dksJ3_unlinkFirst_2 0 rfl rfl)
theorem dJ3_unlinkFirst_47 : decode cJ3_unlinkFirst 47 = .ok (.iconst 1, 1) := dk_4 (dk_at dksJ3_unlinkFirst_2 3 rfl rfl)
theorem dJ3_unlinkFirst_48 : decode cJ3_unlinkFirst 48 = .ok (.isub, 1) := dk_100 (dk_at dksJ3_unlinkFirst_2 4 rfl rfl)
theorem dJ3_unlinkFirst_49 : decode cJ3_unlinkFirst 49 = .ok (.putfield 7, 3) := dk_181 0 7 (dk_at dksJ3_unlinkFirst_2 5 rfl rfl)
theorem dJ3_unlinkFirst_52 : decode cJ3_unlinkFirst 52 = .ok (.aload_n 0, 1) := dk_42 (dk_at dksJ3_unlinkFirst_2 8 rfl rfl)
theorem dJ3_unlinkFirst_53 : decode cJ3_unlinkFirst 53 = .ok (.dup, 1) := dk_89 (dk_at dksJ3_unlinkFirst_2 9 rfl rfl)
theorem dJ3_unlinkFirst_54 : decode cJ3_unlinkFirst 54 = .ok (.getfield 33, 3) := dk_180 0 33 (dk_at dksJ3_unlinkFirst_2 10 rfl rfl)
theorem dJ3_unlinkFirst_57 : decode cJ3_unlinkFirst 57 = .ok (.iconst 1, 1) := dk_4 (dk_at dksJ3_unlinkFirst_2 13 rfl rfl)
theorem dJ3_unlinkFirst_58 : decode cJ3_unlinkFirst 58 = .ok (.iadd, 1) := dk_96 (dk_at dksJ3_unlinkFirst_2 14 rfl rfl)
theorem dJ3_unlinkFirst_59 : decode cJ3_unlinkFirst 59 = .ok (.putfield 33, 3) := dk_181 0 33 (dk_at dksJ3_unlinkFirst_2 15 rfl rfl)
theorem dJ3_unlinkFirst_62 : decode cJ3_unlinkFirst 62 = .ok (.aload_n 2, 1) := dk_44 (dk_at dksJ3_unlinkFirst_2 18 rfl rfl)
theorem dJ3_unlinkFirst_63 : decode cJ3_unlinkFirst 63 = .ok (.areturn, 1) := dk_176 (dk_at dksJ3_unlinkFirst_2 19 rfl rfl)
abbrev cJ3_contains : ByteArray := prog_58_method_15_code
def yJ3_contains : MethodName := ⟨RJ3, "contains", "(Ljava/lang/Object;)Z"⟩
def dkwJ3_contains_0 : List UInt8 := [42, 43, 182, 0, 60, 155, 0, 7, 4, 167, 0, 4, 3, 172]
abbrev dktJ3_contains_0 : List UInt8 := dkwJ3_contains_0 ++ []
theorem dksJ3_contains_0 : cJ3_contains.data.toList.drop 0 = dktJ3_contains_0 := by decide +kernel
theorem dJ3_contains_0 : decode cJ3_contains 0 = .ok (.aload_n 0, 1) := dk_42 (dk_at dksJ3_contains_0 0 rfl rfl)
theorem dJ3_contains_1 : decode cJ3_contains 1 = .ok (.aload_n 1, 1) := dk_43 (dk_at dksJ3_contains_0 1 rfl rfl)
theorem dJ3_contains_2 : decode cJ3_contains 2 = .ok (.invokevirtual 60, 3) := dk_182 0 60 (dk_at dksJ3_contains_0 2 rfl rfl)
theorem dJ3_contains_5 : decode cJ3_contains 5 = .ok (.ifCond .lt 7, 3) := dk_155 0 7 (dk_at dksJ3_contains_0 5 rfl rfl)
theorem dJ3_contains_8 : decode cJ3_contains 8 = .ok (.iconst 1, 1) := dk_4 (dk_at dksJ3_contains_0 8 rfl rfl)
theorem dJ3_contains_9 : decode cJ3_contains 9 = .ok (.goto 4, 3) := dk_167 0 4 (dk_at dksJ3_contains_0 9 rfl rfl)
theorem dJ3_contains_12 : decode cJ3_contains 12 = .ok (.iconst 0, 1) := dk_3 (dk_at dksJ3_contains_0 12 rfl rfl)
theorem dJ3_contains_13 : decode cJ3_contains 13 = .ok (.ireturn, 1) := dk_172 (dk_at dksJ3_contains_0 13 rfl rfl)
abbrev cJ3_indexOf : ByteArray := prog_58_method_32_code
def yJ3_indexOf : MethodName := ⟨RJ3, "indexOf", "(Ljava/lang/Object;)I"⟩
def dkwJ3_indexOf_3 : List UInt8 := [172]
abbrev dktJ3_indexOf_3 : List UInt8 := dkwJ3_indexOf_3 ++ []
def dkwJ3_indexOf_2 : List UInt8 := [45, 180, 0, 39, 182, 0, 67, 153, 0, 5, 28, 172, 132, 2, 1, 45, 180, 0, 36, 78, 167, 255, 231, 2]
abbrev dktJ3_indexOf_2 : List UInt8 := dkwJ3_indexOf_2 ++ dktJ3_indexOf_3
def dkwJ3_indexOf_1 : List UInt8 := [132, 2, 1, 45, 180, 0, 36, 78, 167, 255, 235, 167, 0, 36, 42, 180, 0, 18, 78, 45, 198, 0, 27, 43]
abbrev dktJ3_indexOf_1 : List UInt8 := dkwJ3_indexOf_1 ++ dktJ3_indexOf_2
def dkwJ3_indexOf_0 : List UInt8 := [3, 61, 43, 199, 0, 35, 42, 180, 0, 18, 78, 45, 198, 0, 23, 45, 180, 0, 39, 199, 0, 5, 28, 172]
abbrev dktJ3_indexOf_0 : List UInt8 := dkwJ3_indexOf_0 ++ dktJ3_indexOf_1
theorem dksJ3_indexOf_0 : cJ3_indexOf.data.toList.drop 0 = dktJ3_indexOf_0 := by decide +kernel
theorem dksJ3_indexOf_1 : cJ3_indexOf.data.toList.drop 24 = dktJ3_indexOf_1 := dk_seg dksJ3_indexOf_0 24 rfl rfl
theorem dksJ3_indexOf_2 : cJ3_indexOf.data.toList.drop 48 = dktJ3_indexOf_2 := dk_seg dksJ3_indexOf_1 24 rfl rfl
theorem dksJ3_indexOf_3 : cJ3_indexOf.data.toList.drop 72 = dktJ3_indexOf_3 := dk_seg dksJ3_indexOf_2 24 rfl rfl
theorem dJ3_indexOf_0 : decode cJ3_indexOf 0 = .ok (.iconst 0, 1) := dk_3 (dk_at dksJ3_indexOf_0 0 rfl rfl)
theorem dJ3_indexOf_1 : decode cJ3_indexOf 1 = .ok (.istore_n 2, 1) := dk_61 (dk_at dksJ3_indexOf_0 1 rfl rfl)
theorem dJ3_indexOf_2 : decode cJ3_indexOf 2 = .ok (.aload_n 1, 1) := dk_43 (dk_at dksJ3_indexOf_0 2 rfl rfl)
theorem dJ3_indexOf_3 : decode cJ3_indexOf 3 = .ok (.ifnonnull 35, 3) := dk_199 0 35 (dk_at dksJ3_indexOf_0 3 rfl rfl)
theorem dJ3_indexOf_6 : decode cJ3_indexOf 6 = .ok (.aload_n 0, 1) := dk_42 (dk_at dksJ3_indexOf_0 6 rfl rfl)
theorem dJ3_indexOf_7 : decode cJ3_indexOf 7 = .ok (.getfield 18, 3) := dk_180 0 18 (dk_at dksJ3_indexOf_0 7 rfl rfl)
theorem dJ3_indexOf_10 : decode cJ3_indexOf 10 = .ok (.astore_n 3, 1) := dk_78 (dk_at dksJ3_indexOf_0 10 rfl rfl)
theorem dJ3_indexOf_11 : decode cJ3_indexOf 11 = .ok (.aload_n 3, 1) := dk_45 (dk_at dksJ3_indexOf_0 11 rfl rfl)
theorem dJ3_indexOf_12 : decode cJ3_indexOf 12 = .ok (.ifnull 23, 3) := dk_198 0 23 (dk_at dksJ3_indexOf_0 12 rfl rfl)
theorem dJ3_indexOf_15 : decode cJ3_indexOf 15 = .ok (.aload_n 3, 1) := dk_45 (dk_at dksJ3_indexOf_0 15 rfl rfl)
theorem dJ3_indexOf_16 : decode cJ3_indexOf 16 = .ok (.getfield 39, 3) := dk_180 0 39 (dk_at dksJ3_indexOf_0 16 rfl rfl)
theorem dJ3_indexOf_19 : decode cJ3_indexOf 19 = .ok (.ifnonnull 5, 3) := dk_199 0 5 (dk_at dksJ3_indexOf_0 19 rfl rfl)
theorem dJ3_indexOf_22 : decode cJ3_indexOf 22 = .ok (.iload_n 2, 1) := dk_28 (dk_at dksJ3_indexOf_0 22 rfl rfl)
theorem dJ3_indexOf_23 : decode cJ3_indexOf 23 = .ok (.ireturn, 1) := dk_172 (dk_at dksJ3_indexOf_0 23 rfl rfl)
theorem dJ3_indexOf_24 : decode cJ3_indexOf 24 = .ok (.iinc 2 1, 3) := dk_132 2 1 (dk_at dksJ3_indexOf_1 0 rfl rfl)
theorem dJ3_indexOf_27 : decode cJ3_indexOf 27 = .ok (.aload_n 3, 1) := dk_45 (dk_at dksJ3_indexOf_1 3 rfl rfl)
theorem dJ3_indexOf_28 : decode cJ3_indexOf 28 = .ok (.getfield 36, 3) := dk_180 0 36 (dk_at dksJ3_indexOf_1 4 rfl rfl)
theorem dJ3_indexOf_31 : decode cJ3_indexOf 31 = .ok (.astore_n 3, 1) := dk_78 (dk_at dksJ3_indexOf_1 7 rfl rfl)
theorem dJ3_indexOf_32 : decode cJ3_indexOf 32 = .ok (.goto (-21), 3) := dk_167 255 235 (dk_at dksJ3_indexOf_1 8 rfl rfl)
theorem dJ3_indexOf_35 : decode cJ3_indexOf 35 = .ok (.goto 36, 3) := dk_167 0 36 (dk_at dksJ3_indexOf_1 11 rfl rfl)
theorem dJ3_indexOf_38 : decode cJ3_indexOf 38 = .ok (.aload_n 0, 1) := dk_42 (dk_at dksJ3_indexOf_1 14 rfl rfl)
theorem dJ3_indexOf_39 : decode cJ3_indexOf 39 = .ok (.getfield 18, 3) := dk_180 0 18 (dk_at dksJ3_indexOf_1 15 rfl rfl)
theorem dJ3_indexOf_42 : decode cJ3_indexOf 42 = .ok (.astore_n 3, 1) := dk_78 (dk_at dksJ3_indexOf_1 18 rfl rfl)
theorem dJ3_indexOf_43 : decode cJ3_indexOf 43 = .ok (.aload_n 3, 1) := dk_45 (dk_at dksJ3_indexOf_1 19 rfl rfl)
theorem dJ3_indexOf_44 : decode cJ3_indexOf 44 = .ok (.ifnull 27, 3) := dk_198 0 27 (dk_at dksJ3_indexOf_1 20 rfl rfl)
theorem dJ3_indexOf_47 : decode cJ3_indexOf 47 = .ok (.aload_n 1, 1) := dk_43 (dk_at dksJ3_indexOf_1 23 rfl rfl)
theorem dJ3_indexOf_48 : decode cJ3_indexOf 48 = .ok (.aload_n 3, 1) := dk_45 (dk_at dksJ3_indexOf_2 0 rfl rfl)
theorem dJ3_indexOf_49 : decode cJ3_indexOf 49 = .ok (.getfield 39, 3) := dk_180 0 39 (dk_at dksJ3_indexOf_2 1 rfl rfl)
theorem dJ3_indexOf_52 : decode cJ3_indexOf 52 = .ok (.invokevirtual 67, 3) := dk_182 0 67 (dk_at dksJ3_indexOf_2 4 rfl rfl)
theorem dJ3_indexOf_55 : decode cJ3_indexOf 55 = .ok (.ifCond .eq 5, 3) := dk_153 0 5 (dk_at dksJ3_indexOf_2 7 rfl rfl)
theorem dJ3_indexOf_58 : decode cJ3_indexOf 58 = .ok (.iload_n 2, 1) := dk_28 (dk_at dksJ3_indexOf_2 10 rfl rfl)
theorem dJ3_indexOf_59 : decode cJ3_indexOf 59 = .ok (.ireturn, 1) := dk_172 (dk_at dksJ3_indexOf_2 11 rfl rfl)
theorem dJ3_indexOf_60 : decode cJ3_indexOf 60 = .ok (.iinc 2 1, 3) := dk_132 2 1 (dk_at dksJ3_indexOf_2 12 rfl rfl)
theorem dJ3_indexOf_63 : decode cJ3_indexOf 63 = .ok (.aload_n 3, 1) := dk_45 (dk_at dksJ3_indexOf_2 15 rfl rfl)
theorem dJ3_indexOf_64 : decode cJ3_indexOf 64 = .ok (.getfield 36, 3) := dk_180 0 36 (dk_at dksJ3_indexOf_2 16 rfl rfl)
theorem dJ3_indexOf_67 : decode cJ3_indexOf 67 = .ok (.astore_n 3, 1) := dk_78 (dk_at dksJ3_indexOf_2 19 rfl rfl)
theorem dJ3_indexOf_68 : decode cJ3_indexOf 68 = .ok (.goto (-25), 3) := dk_167 255 231 (dk_at dksJ3_indexOf_2 20 rfl rfl)
theorem dJ3_indexOf_71 : decode cJ3_indexOf 71 = .ok (.iconst (-1), 1) := dk_2 (dk_at dksJ3_indexOf_2 23 rfl rfl)
theorem dJ3_indexOf_72 : decode cJ3_indexOf 72 = .ok (.ireturn, 1) := dk_172 (dk_at dksJ3_indexOf_3 0 rfl rfl)
theorem q100 : (Jvm.Cond.initialized "java/util/LinkedList") ∈ lw_all := lw_g (lw_at lw_m1 6 rfl) rfl
theorem q160 : (Jvm.Cond.instantiable "java/util/LinkedList" (4 : Nat)) ∈ lw_all := lw_g (lw_at lw_m1 66 rfl) rfl
theorem q162 : (Jvm.Cond.instanceMethod ({ cls := "java/util/LinkedList", name := "<init>", desc := "()V" } : Jvm.MethodName)) ∈ lw_all := lw_g (lw_at lw_m1 68 rfl) rfl
theorem q163 : (Jvm.Cond.code ({ cls := "java/util/LinkedList", name := "<init>", desc := "()V" } : Jvm.MethodName) prog_58_method_1_code (1 : Nat) (Option.none : Option Jvm.ClassFile.FieldType)) ∈ lw_all := lw_g (lw_at lw_m1 69 rfl) rfl
theorem q164 : (Jvm.Cond.methodLink "java/util/LinkedList" (1 : Nat) ({ cls := "java/util/AbstractSequentialList", name := "<init>", desc := "()V" } : Jvm.MethodName)) ∈ lw_all := lw_g (lw_at lw_m1 70 rfl) rfl
theorem q174 : (Jvm.Cond.fieldLink "java/util/LinkedList" (7 : Nat) "java/util/LinkedList" "size" "I") ∈ lw_all := lw_g (lw_at lw_m1 80 rfl) rfl
theorem q176 : (Jvm.Cond.fieldLink "java/util/LinkedList" (18 : Nat) "java/util/LinkedList" "first" "Ljava/util/LinkedList$Node;") ∈ lw_all := lw_g (lw_at lw_m1 82 rfl) rfl
theorem q177 : (Jvm.Cond.fieldLink "java/util/LinkedList" (27 : Nat) "java/util/LinkedList" "last" "Ljava/util/LinkedList$Node;") ∈ lw_all := lw_g (lw_at lw_m1 83 rfl) rfl
theorem q180 : (Jvm.Cond.sameField "java/util/LinkedList" "java/util/AbstractList" "modCount" "I") ∈ lw_all := lw_g (lw_at lw_m1 86 rfl) rfl
theorem q184 : (Jvm.Cond.fieldLink "java/util/LinkedList" (33 : Nat) "java/util/LinkedList" "modCount" "I") ∈ lw_all := lw_g (lw_at lw_m1 90 rfl) rfl
theorem q186 : (Jvm.Cond.lays "java/util/LinkedList" "java/util/LinkedList" "size" "I") ∈ lw_all := lw_g (lw_at lw_m1 92 rfl) rfl
theorem q187 : (Jvm.Cond.soleField "java/util/LinkedList" "size") ∈ lw_all := lw_g (lw_at lw_m1 93 rfl) rfl
theorem q188 : (Jvm.Cond.lays "java/util/LinkedList" "java/util/LinkedList" "first" "Ljava/util/LinkedList$Node;") ∈ lw_all := lw_g (lw_at lw_m1 94 rfl) rfl
theorem q189 : (Jvm.Cond.soleField "java/util/LinkedList" "first") ∈ lw_all := lw_g (lw_at lw_m1 95 rfl) rfl
theorem q190 : (Jvm.Cond.lays "java/util/LinkedList" "java/util/LinkedList" "last" "Ljava/util/LinkedList$Node;") ∈ lw_all := lw_g (lw_at lw_m1 96 rfl) rfl
theorem q191 : (Jvm.Cond.soleField "java/util/LinkedList" "last") ∈ lw_all := lw_g (lw_at lw_m1 97 rfl) rfl
theorem q192 : (Jvm.Cond.lays "java/util/LinkedList" "java/util/AbstractList" "modCount" "I") ∈ lw_all := lw_g (lw_at lw_m1 98 rfl) rfl
theorem q194 : (Jvm.Cond.superclass "java/util/LinkedList" "java/util/AbstractSequentialList") ∈ lw_all := lw_g (lw_at lw_m1 100 rfl) rfl
theorem q339 : (Jvm.Cond.sameMethod "java/util/LinkedList" "java/util/AbstractSequentialList" "iterator" "()Ljava/util/Iterator;") ∈ lw_all := lw_g (lw_at lw_m2 5 rfl) rfl
theorem q341 : (Jvm.Cond.selects "java/util/LinkedList" ({ cls := "java/util/LinkedList", name := "iterator", desc := "()Ljava/util/Iterator;" } : Jvm.MethodName) ({ cls := "java/util/AbstractSequentialList", name := "iterator", desc := "()Ljava/util/Iterator;" } : Jvm.MethodName)) ∈ lw_all := lw_g (lw_at lw_m2 7 rfl) rfl
theorem q347 : (Jvm.Cond.selects "java/util/LinkedList" ({ cls := "java/util/AbstractSequentialList", name := "listIterator", desc := "()Ljava/util/ListIterator;" } : Jvm.MethodName) ({ cls := "java/util/AbstractList", name := "listIterator", desc := "()Ljava/util/ListIterator;" } : Jvm.MethodName)) ∈ lw_all := lw_g (lw_at lw_m2 13 rfl) rfl
theorem q694 : (Jvm.Cond.selects "java/util/LinkedList" ({ cls := "java/util/AbstractList", name := "listIterator", desc := "(I)Ljava/util/ListIterator;" } : Jvm.MethodName) ({ cls := "java/util/LinkedList", name := "listIterator", desc := "(I)Ljava/util/ListIterator;" } : Jvm.MethodName)) ∈ lw_all := lw_g (lw_at lw_m3 120 rfl) rfl
theorem q695 : (Jvm.Cond.instanceMethod ({ cls := "java/util/LinkedList", name := "listIterator", desc := "(I)Ljava/util/ListIterator;" } : Jvm.MethodName)) ∈ lw_all := lw_g (lw_at lw_m3 121 rfl) rfl
theorem q696 : (Jvm.Cond.code ({ cls := "java/util/LinkedList", name := "listIterator", desc := "(I)Ljava/util/ListIterator;" } : Jvm.MethodName) prog_58_method_49_code (2 : Nat) (Option.some (Jvm.ClassFile.FieldType.object "java/util/ListIterator"))) ∈ lw_all := lw_g (lw_at lw_m3 122 rfl) rfl
theorem q697 : (Jvm.Cond.methodLink "java/util/LinkedList" (76 : Nat) ({ cls := "java/util/LinkedList", name := "checkPositionIndex", desc := "(I)V" } : Jvm.MethodName)) ∈ lw_all := lw_g (lw_at lw_m3 123 rfl) rfl
theorem q698 : (Jvm.Cond.privateMethod ({ cls := "java/util/LinkedList", name := "checkPositionIndex", desc := "(I)V" } : Jvm.MethodName)) ∈ lw_tbl := lw_at lw_m3 124 rfl
theorem q699 : (Jvm.Cond.instanceMethod ({ cls := "java/util/LinkedList", name := "checkPositionIndex", desc := "(I)V" } : Jvm.MethodName)) ∈ lw_all := lw_g (lw_at lw_m3 125 rfl) rfl
theorem q700 : (Jvm.Cond.code ({ cls := "java/util/LinkedList", name := "checkPositionIndex", desc := "(I)V" } : Jvm.MethodName) prog_58_method_30_code (2 : Nat) (Option.none : Option Jvm.ClassFile.FieldType)) ∈ lw_all := lw_g (lw_at lw_m3 126 rfl) rfl
theorem q701 : (Jvm.Cond.methodLink "java/util/LinkedList" (128 : Nat) ({ cls := "java/util/LinkedList", name := "isPositionIndex", desc := "(I)Z" } : Jvm.MethodName)) ∈ lw_all := lw_g (lw_at lw_m3 127 rfl) rfl
theorem q702 : (Jvm.Cond.privateMethod ({ cls := "java/util/LinkedList", name := "isPositionIndex", desc := "(I)Z" } : Jvm.MethodName)) ∈ lw_tbl := lw_at lw_m3 128 rfl
theorem q703 : (Jvm.Cond.instanceMethod ({ cls := "java/util/LinkedList", name := "isPositionIndex", desc := "(I)Z" } : Jvm.MethodName)) ∈ lw_all := lw_g (lw_at lw_m3 129 rfl) rfl
theorem q704 : (Jvm.Cond.code ({ cls := "java/util/LinkedList", name := "isPositionIndex", desc := "(I)Z" } : Jvm.MethodName) prog_58_method_27_code (2 : Nat) (Option.some Jvm.ClassFile.FieldType.boolean)) ∈ lw_all := lw_g (lw_at lw_m3 130 rfl) rfl
theorem q705 : (Jvm.Cond.classLink "java/util/LinkedList" (119 : Nat) "java/lang/IndexOutOfBoundsException") ∈ lw_all := lw_g (lw_at lw_m3 131 rfl) rfl
theorem q706 : (Jvm.Cond.methodLink "java/util/LinkedList" (121 : Nat) ({ cls := "java/util/LinkedList", name := "outOfBoundsMsg", desc := "(I)Ljava/lang/String;" } : Jvm.MethodName)) ∈ lw_all := lw_g (lw_at lw_m3 132 rfl) rfl
theorem q707 : (Jvm.Cond.privateMethod ({ cls := "java/util/LinkedList", name := "outOfBoundsMsg", desc := "(I)Ljava/lang/String;" } : Jvm.MethodName)) ∈ lw_tbl := lw_at lw_m3 133 rfl
theorem q708 : (Jvm.Cond.instanceMethod ({ cls := "java/util/LinkedList", name := "outOfBoundsMsg", desc := "(I)Ljava/lang/String;" } : Jvm.MethodName)) ∈ lw_all := lw_g (lw_at lw_m3 134 rfl) rfl
theorem q709 : (Jvm.Cond.code ({ cls := "java/util/LinkedList", name := "outOfBoundsMsg", desc := "(I)Ljava/lang/String;" } : Jvm.MethodName) prog_58_method_28_code (2 : Nat) (Option.some (Jvm.ClassFile.FieldType.object "java/lang/String"))) ∈ lw_all := lw_g (lw_at lw_m3 135 rfl) rfl
theorem q710 : (Jvm.Cond.classLink "java/util/LinkedList" (97 : Nat) "java/lang/StringBuilder") ∈ lw_all := lw_g (lw_at lw_m3 136 rfl) rfl
theorem q711 : (Jvm.Cond.methodLink "java/util/LinkedList" (99 : Nat) ({ cls := "java/lang/StringBuilder", name := "<init>", desc := "()V" } : Jvm.MethodName)) ∈ lw_all := lw_g (lw_at lw_m3 137 rfl) rfl
theorem q712 : (Jvm.Cond.stringRef "java/util/LinkedList" (100 : Nat) "Index: ") ∈ lw_tbl := lw_at lw_m3 138 rfl
theorem q713 : (Jvm.Cond.methodLink "java/util/LinkedList" (102 : Nat) ({ cls := "java/lang/StringBuilder", name := "append", desc := "(Ljava/lang/String;)Ljava/lang/StringBuilder;" } : Jvm.MethodName)) ∈ lw_all := lw_g (lw_at lw_m3 139 rfl) rfl
theorem q714 : (Jvm.Cond.methodLink "java/util/LinkedList" (106 : Nat) ({ cls := "java/lang/StringBuilder", name := "append", desc := "(I)Ljava/lang/StringBuilder;" } : Jvm.MethodName)) ∈ lw_all := lw_g (lw_at lw_m3 140 rfl) rfl
theorem q715 : (Jvm.Cond.stringRef "java/util/LinkedList" (109 : Nat) ", Size: ") ∈ lw_tbl := lw_at lw_m3 141 rfl
theorem q716 : (Jvm.Cond.methodLink "java/util/LinkedList" (111 : Nat) ({ cls := "java/lang/StringBuilder", name := "toString", desc := "()Ljava/lang/String;" } : Jvm.MethodName)) ∈ lw_all := lw_g (lw_at lw_m3 142 rfl) rfl
theorem q717 : (Jvm.Cond.methodLink "java/util/LinkedList" (125 : Nat) ({ cls := "java/lang/IndexOutOfBoundsException", name := "<init>", desc := "(Ljava/lang/String;)V" } : Jvm.MethodName)) ∈ lw_all := lw_g (lw_at lw_m3 143 rfl) rfl
theorem q718 : (Jvm.Cond.classLink "java/util/LinkedList" (150 : Nat) "java/util/LinkedList$ListItr") ∈ lw_all := lw_g (lw_at lw_m3 144 rfl) rfl
theorem q720 : (Jvm.Cond.methodLink "java/util/LinkedList" (152 : Nat) ({ cls := "java/util/LinkedList$ListItr", name := "<init>", desc := "(Ljava/util/LinkedList;I)V" } : Jvm.MethodName)) ∈ lw_all := lw_g (lw_at lw_m3 146 rfl) rfl
theorem q725 : (Jvm.Cond.instanceMethod ({ cls := "java/util/LinkedList", name := "node", desc := "(I)Ljava/util/LinkedList$Node;" } : Jvm.MethodName)) ∈ lw_all := lw_g (lw_at lw_m3 151 rfl) rfl
theorem q726 : (Jvm.Cond.selects "java/util/LinkedList" ({ cls := "java/util/LinkedList", name := "node", desc := "(I)Ljava/util/LinkedList$Node;" } : Jvm.MethodName) ({ cls := "java/util/LinkedList", name := "node", desc := "(I)Ljava/util/LinkedList$Node;" } : Jvm.MethodName)) ∈ lw_all := lw_g (lw_at lw_m3 152 rfl) rfl
theorem q727 : (Jvm.Cond.code ({ cls := "java/util/LinkedList", name := "node", desc := "(I)Ljava/util/LinkedList$Node;" } : Jvm.MethodName) prog_58_method_31_code (4 : Nat) (Option.some (Jvm.ClassFile.FieldType.object "java/util/LinkedList$Node"))) ∈ lw_all := lw_g (lw_at lw_m3 153 rfl) rfl
theorem q761 : (Jvm.Cond.selects "java/util/LinkedList" ({ cls := "java/util/AbstractList", name := "size", desc := "()I" } : Jvm.MethodName) ({ cls := "java/util/LinkedList", name := "size", desc := "()I" } : Jvm.MethodName)) ∈ lw_all := lw_g (lw_at lw_m3 187 rfl) rfl
theorem q762 : (Jvm.Cond.instanceMethod ({ cls := "java/util/LinkedList", name := "size", desc := "()I" } : Jvm.MethodName)) ∈ lw_all := lw_g (lw_at lw_m3 188 rfl) rfl
theorem q763 : (Jvm.Cond.code ({ cls := "java/util/LinkedList", name := "size", desc := "()I" } : Jvm.MethodName) prog_58_method_16_code (1 : Nat) (Option.some Jvm.ClassFile.FieldType.int)) ∈ lw_all := lw_g (lw_at lw_m3 189 rfl) rfl
theorem q821 : (Jvm.Cond.selects "java/util/LinkedList" ({ cls := "java/util/AbstractList", name := "get", desc := "(I)Ljava/lang/Object;" } : Jvm.MethodName) ({ cls := "java/util/LinkedList", name := "get", desc := "(I)Ljava/lang/Object;" } : Jvm.MethodName)) ∈ lw_all := lw_g (lw_at lw_m4 7 rfl) rfl
theorem q822 : (Jvm.Cond.instanceMethod ({ cls := "java/util/LinkedList", name := "get", desc := "(I)Ljava/lang/Object;" } : Jvm.MethodName)) ∈ lw_all := lw_g (lw_at lw_m4 8 rfl) rfl
theorem q823 : (Jvm.Cond.code ({ cls := "java/util/LinkedList", name := "get", desc := "(I)Ljava/lang/Object;" } : Jvm.MethodName) prog_58_method_22_code (2 : Nat) (Option.some (Jvm.ClassFile.FieldType.object "java/lang/Object"))) ∈ lw_all := lw_g (lw_at lw_m4 9 rfl) rfl
theorem q824 : (Jvm.Cond.methodLink "java/util/LinkedList" (90 : Nat) ({ cls := "java/util/LinkedList", name := "checkElementIndex", desc := "(I)V" } : Jvm.MethodName)) ∈ lw_all := lw_g (lw_at lw_m4 10 rfl) rfl
theorem q825 : (Jvm.Cond.privateMethod ({ cls := "java/util/LinkedList", name := "checkElementIndex", desc := "(I)V" } : Jvm.MethodName)) ∈ lw_tbl := lw_at lw_m4 11 rfl
theorem q826 : (Jvm.Cond.instanceMethod ({ cls := "java/util/LinkedList", name := "checkElementIndex", desc := "(I)V" } : Jvm.MethodName)) ∈ lw_all := lw_g (lw_at lw_m4 12 rfl) rfl
theorem q827 : (Jvm.Cond.code ({ cls := "java/util/LinkedList", name := "checkElementIndex", desc := "(I)V" } : Jvm.MethodName) prog_58_method_29_code (2 : Nat) (Option.none : Option Jvm.ClassFile.FieldType)) ∈ lw_all := lw_g (lw_at lw_m4 13 rfl) rfl
theorem q828 : (Jvm.Cond.methodLink "java/util/LinkedList" (115 : Nat) ({ cls := "java/util/LinkedList", name := "isElementIndex", desc := "(I)Z" } : Jvm.MethodName)) ∈ lw_all := lw_g (lw_at lw_m4 14 rfl) rfl
theorem q829 : (Jvm.Cond.privateMethod ({ cls := "java/util/LinkedList", name := "isElementIndex", desc := "(I)Z" } : Jvm.MethodName)) ∈ lw_tbl := lw_at lw_m4 15 rfl
theorem q830 : (Jvm.Cond.instanceMethod ({ cls := "java/util/LinkedList", name := "isElementIndex", desc := "(I)Z" } : Jvm.MethodName)) ∈ lw_all := lw_g (lw_at lw_m4 16 rfl) rfl
theorem q831 : (Jvm.Cond.code ({ cls := "java/util/LinkedList", name := "isElementIndex", desc := "(I)Z" } : Jvm.MethodName) prog_58_method_26_code (2 : Nat) (Option.some Jvm.ClassFile.FieldType.boolean)) ∈ lw_all := lw_g (lw_at lw_m4 17 rfl) rfl
theorem q832 : (Jvm.Cond.methodLink "java/util/LinkedList" (86 : Nat) ({ cls := "java/util/LinkedList", name := "node", desc := "(I)Ljava/util/LinkedList$Node;" } : Jvm.MethodName)) ∈ lw_all := lw_g (lw_at lw_m4 18 rfl) rfl
theorem q893 : (Jvm.Cond.selects "java/util/LinkedList" ({ cls := "java/lang/Object", name := "getClass", desc := "()Ljava/lang/Class;" } : Jvm.MethodName) ({ cls := "java/lang/Object", name := "getClass", desc := "()Ljava/lang/Class;" } : Jvm.MethodName)) ∈ lw_all := lw_g (lw_at lw_m4 79 rfl) rfl
theorem q1014 : (Jvm.Cond.castable "java/util/LinkedList" "java/util/List") ∈ lw_tbl := lw_at lw_m4 200 rfl
theorem q1015 : (Jvm.Cond.selects "java/util/LinkedList" ({ cls := "java/util/List", name := "get", desc := "(I)Ljava/lang/Object;" } : Jvm.MethodName) ({ cls := "java/util/LinkedList", name := "get", desc := "(I)Ljava/lang/Object;" } : Jvm.MethodName)) ∈ lw_all := lw_g (lw_at lw_m4 201 rfl) rfl
theorem q1016 : (Jvm.Cond.unhidden "java/util/LinkedList" "get" "(I)Ljava/lang/Object;") ∈ lw_tbl := lw_at lw_m4 202 rfl
theorem q1017 : (Jvm.Cond.publicMethod ({ cls := "java/util/LinkedList", name := "get", desc := "(I)Ljava/lang/Object;" } : Jvm.MethodName)) ∈ lw_tbl := lw_at lw_m4 203 rfl
theorem q1080 : (Jvm.Cond.instanceMethod ({ cls := "java/util/LinkedList", name := "addLast", desc := "(Ljava/lang/Object;)V" } : Jvm.MethodName)) ∈ lw_all := lw_g (lw_at lw_m5 26 rfl) rfl
theorem q1081 : (Jvm.Cond.selects "java/util/LinkedList" ({ cls := "java/util/LinkedList", name := "addLast", desc := "(Ljava/lang/Object;)V" } : Jvm.MethodName) ({ cls := "java/util/LinkedList", name := "addLast", desc := "(Ljava/lang/Object;)V" } : Jvm.MethodName)) ∈ lw_all := lw_g (lw_at lw_m5 27 rfl) rfl
theorem q1082 : (Jvm.Cond.code ({ cls := "java/util/LinkedList", name := "addLast", desc := "(Ljava/lang/Object;)V" } : Jvm.MethodName) prog_58_method_14_code (2 : Nat) (Option.none : Option Jvm.ClassFile.FieldType)) ∈ lw_all := lw_g (lw_at lw_m5 28 rfl) rfl
theorem q1083 : (Jvm.Cond.methodLink "java/util/LinkedList" (57 : Nat) ({ cls := "java/util/LinkedList", name := "linkLast", desc := "(Ljava/lang/Object;)V" } : Jvm.MethodName)) ∈ lw_all := lw_g (lw_at lw_m5 29 rfl) rfl
theorem q1084 : (Jvm.Cond.instanceMethod ({ cls := "java/util/LinkedList", name := "linkLast", desc := "(Ljava/lang/Object;)V" } : Jvm.MethodName)) ∈ lw_all := lw_g (lw_at lw_m5 30 rfl) rfl
theorem q1085 : (Jvm.Cond.selects "java/util/LinkedList" ({ cls := "java/util/LinkedList", name := "linkLast", desc := "(Ljava/lang/Object;)V" } : Jvm.MethodName) ({ cls := "java/util/LinkedList", name := "linkLast", desc := "(Ljava/lang/Object;)V" } : Jvm.MethodName)) ∈ lw_all := lw_g (lw_at lw_m5 31 rfl) rfl
theorem q1086 : (Jvm.Cond.code ({ cls := "java/util/LinkedList", name := "linkLast", desc := "(Ljava/lang/Object;)V" } : Jvm.MethodName) prog_58_method_4_code (4 : Nat) (Option.none : Option Jvm.ClassFile.FieldType)) ∈ lw_all := lw_g (lw_at lw_m5 32 rfl) rfl
theorem q1087 : (Jvm.Cond.classLink "java/util/LinkedList" (22 : Nat) "java/util/LinkedList$Node") ∈ lw_all := lw_g (lw_at lw_m5 33 rfl) rfl
theorem q1089 : (Jvm.Cond.methodLink "java/util/LinkedList" (24 : Nat) ({ cls := "java/util/LinkedList$Node", name := "<init>", desc := "(Ljava/util/LinkedList$Node;Ljava/lang/Object;Ljava/util/LinkedList$Node;)V" } : Jvm.MethodName)) ∈ lw_all := lw_g (lw_at lw_m5 35 rfl) rfl
theorem q1095 : (Jvm.Cond.fieldLink "java/util/LinkedList" (39 : Nat) "java/util/LinkedList$Node" "item" "Ljava/lang/Object;") ∈ lw_all := lw_g (lw_at lw_m5 41 rfl) rfl
theorem q1098 : (Jvm.Cond.fieldLink "java/util/LinkedList" (36 : Nat) "java/util/LinkedList$Node" "next" "Ljava/util/LinkedList$Node;") ∈ lw_all := lw_g (lw_at lw_m5 44 rfl) rfl
theorem q1100 : (Jvm.Cond.fieldLink "java/util/LinkedList" (30 : Nat) "java/util/LinkedList$Node" "prev" "Ljava/util/LinkedList$Node;") ∈ lw_all := lw_g (lw_at lw_m5 46 rfl) rfl
theorem q1268 : (Jvm.Cond.selects "java/util/LinkedList" ({ cls := "java/util/AbstractList", name := "remove", desc := "(I)Ljava/lang/Object;" } : Jvm.MethodName) ({ cls := "java/util/LinkedList", name := "remove", desc := "(I)Ljava/lang/Object;" } : Jvm.MethodName)) ∈ lw_all := lw_g (lw_at lw_m5 214 rfl) rfl
theorem q1269 : (Jvm.Cond.instanceMethod ({ cls := "java/util/LinkedList", name := "remove", desc := "(I)Ljava/lang/Object;" } : Jvm.MethodName)) ∈ lw_all := lw_g (lw_at lw_m5 215 rfl) rfl
theorem q1270 : (Jvm.Cond.code ({ cls := "java/util/LinkedList", name := "remove", desc := "(I)Ljava/lang/Object;" } : Jvm.MethodName) prog_58_method_25_code (2 : Nat) (Option.some (Jvm.ClassFile.FieldType.object "java/lang/Object"))) ∈ lw_all := lw_g (lw_at lw_m5 216 rfl) rfl
theorem q1271 : (Jvm.Cond.methodLink "java/util/LinkedList" (64 : Nat) ({ cls := "java/util/LinkedList", name := "unlink", desc := "(Ljava/util/LinkedList$Node;)Ljava/lang/Object;" } : Jvm.MethodName)) ∈ lw_all := lw_g (lw_at lw_m5 217 rfl) rfl
theorem q1272 : (Jvm.Cond.instanceMethod ({ cls := "java/util/LinkedList", name := "unlink", desc := "(Ljava/util/LinkedList$Node;)Ljava/lang/Object;" } : Jvm.MethodName)) ∈ lw_all := lw_g (lw_at lw_m5 218 rfl) rfl
theorem q1273 : (Jvm.Cond.selects "java/util/LinkedList" ({ cls := "java/util/LinkedList", name := "unlink", desc := "(Ljava/util/LinkedList$Node;)Ljava/lang/Object;" } : Jvm.MethodName) ({ cls := "java/util/LinkedList", name := "unlink", desc := "(Ljava/util/LinkedList$Node;)Ljava/lang/Object;" } : Jvm.MethodName)) ∈ lw_all := lw_g (lw_at lw_m5 219 rfl) rfl
theorem q1274 : (Jvm.Cond.code ({ cls := "java/util/LinkedList", name := "unlink", desc := "(Ljava/util/LinkedList$Node;)Ljava/lang/Object;" } : Jvm.MethodName) prog_58_method_8_code (5 : Nat) (Option.some (Jvm.ClassFile.FieldType.object "java/lang/Object"))) ∈ lw_all := lw_g (lw_at lw_m5 220 rfl) rfl
theorem q1795 : (Jvm.Cond.sameMethod "java/util/LinkedList" "java/util/AbstractCollection" "isEmpty" "()Z") ∈ lw_all := lw_g (lw_at lw_m8 21 rfl) rfl
theorem q1797 : (Jvm.Cond.selects "java/util/LinkedList" ({ cls := "java/util/LinkedList", name := "isEmpty", desc := "()Z" } : Jvm.MethodName) ({ cls := "java/util/AbstractCollection", name := "isEmpty", desc := "()Z" } : Jvm.MethodName)) ∈ lw_all := lw_g (lw_at lw_m8 23 rfl) rfl
theorem q1908 : (Jvm.Cond.instanceMethod ({ cls := "java/util/LinkedList", name := "getFirst", desc := "()Ljava/lang/Object;" } : Jvm.MethodName)) ∈ lw_all := lw_g (lw_at lw_m8 134 rfl) rfl
theorem q1909 : (Jvm.Cond.selects "java/util/LinkedList" ({ cls := "java/util/LinkedList", name := "getFirst", desc := "()Ljava/lang/Object;" } : Jvm.MethodName) ({ cls := "java/util/LinkedList", name := "getFirst", desc := "()Ljava/lang/Object;" } : Jvm.MethodName)) ∈ lw_all := lw_g (lw_at lw_m8 135 rfl) rfl
theorem q1910 : (Jvm.Cond.code ({ cls := "java/util/LinkedList", name := "getFirst", desc := "()Ljava/lang/Object;" } : Jvm.MethodName) prog_58_method_9_code (2 : Nat) (Option.some (Jvm.ClassFile.FieldType.object "java/lang/Object"))) ∈ lw_all := lw_g (lw_at lw_m8 136 rfl) rfl
theorem q1911 : (Jvm.Cond.classLink "java/util/LinkedList" (43 : Nat) "java/util/NoSuchElementException") ∈ lw_all := lw_g (lw_at lw_m8 137 rfl) rfl
theorem q1912 : (Jvm.Cond.methodLink "java/util/LinkedList" (45 : Nat) ({ cls := "java/util/NoSuchElementException", name := "<init>", desc := "()V" } : Jvm.MethodName)) ∈ lw_all := lw_g (lw_at lw_m8 138 rfl) rfl
theorem q1917 : (Jvm.Cond.instanceMethod ({ cls := "java/util/LinkedList", name := "removeFirst", desc := "()Ljava/lang/Object;" } : Jvm.MethodName)) ∈ lw_all := lw_g (lw_at lw_m8 143 rfl) rfl
theorem q1918 : (Jvm.Cond.selects "java/util/LinkedList" ({ cls := "java/util/LinkedList", name := "removeFirst", desc := "()Ljava/lang/Object;" } : Jvm.MethodName) ({ cls := "java/util/LinkedList", name := "removeFirst", desc := "()Ljava/lang/Object;" } : Jvm.MethodName)) ∈ lw_all := lw_g (lw_at lw_m8 144 rfl) rfl
theorem q1919 : (Jvm.Cond.code ({ cls := "java/util/LinkedList", name := "removeFirst", desc := "()Ljava/lang/Object;" } : Jvm.MethodName) prog_58_method_11_code (2 : Nat) (Option.some (Jvm.ClassFile.FieldType.object "java/lang/Object"))) ∈ lw_all := lw_g (lw_at lw_m8 145 rfl) rfl
theorem q1920 : (Jvm.Cond.methodLink "java/util/LinkedList" (46 : Nat) ({ cls := "java/util/LinkedList", name := "unlinkFirst", desc := "(Ljava/util/LinkedList$Node;)Ljava/lang/Object;" } : Jvm.MethodName)) ∈ lw_all := lw_g (lw_at lw_m8 146 rfl) rfl
theorem q1921 : (Jvm.Cond.privateMethod ({ cls := "java/util/LinkedList", name := "unlinkFirst", desc := "(Ljava/util/LinkedList$Node;)Ljava/lang/Object;" } : Jvm.MethodName)) ∈ lw_tbl := lw_at lw_m8 147 rfl
theorem q1922 : (Jvm.Cond.instanceMethod ({ cls := "java/util/LinkedList", name := "unlinkFirst", desc := "(Ljava/util/LinkedList$Node;)Ljava/lang/Object;" } : Jvm.MethodName)) ∈ lw_all := lw_g (lw_at lw_m8 148 rfl) rfl
theorem q1923 : (Jvm.Cond.code ({ cls := "java/util/LinkedList", name := "unlinkFirst", desc := "(Ljava/util/LinkedList$Node;)Ljava/lang/Object;" } : Jvm.MethodName) prog_58_method_6_code (4 : Nat) (Option.some (Jvm.ClassFile.FieldType.object "java/lang/Object"))) ∈ lw_all := lw_g (lw_at lw_m8 149 rfl) rfl
theorem q2292 : (Jvm.Cond.selects "java/util/LinkedList" ({ cls := "java/util/List", name := "iterator", desc := "()Ljava/util/Iterator;" } : Jvm.MethodName) ({ cls := "java/util/AbstractSequentialList", name := "iterator", desc := "()Ljava/util/Iterator;" } : Jvm.MethodName)) ∈ lw_all := lw_g (lw_at lw_m10 38 rfl) rfl
theorem q2293 : (Jvm.Cond.unhidden "java/util/LinkedList" "iterator" "()Ljava/util/Iterator;") ∈ lw_tbl := lw_at lw_m10 39 rfl
theorem q2380 : (Jvm.Cond.selects "java/util/LinkedList" ({ cls := "java/util/List", name := "contains", desc := "(Ljava/lang/Object;)Z" } : Jvm.MethodName) ({ cls := "java/util/LinkedList", name := "contains", desc := "(Ljava/lang/Object;)Z" } : Jvm.MethodName)) ∈ lw_all := lw_g (lw_at lw_m10 126 rfl) rfl
theorem q2381 : (Jvm.Cond.unhidden "java/util/LinkedList" "contains" "(Ljava/lang/Object;)Z") ∈ lw_tbl := lw_at lw_m10 127 rfl
theorem q2382 : (Jvm.Cond.instanceMethod ({ cls := "java/util/LinkedList", name := "contains", desc := "(Ljava/lang/Object;)Z" } : Jvm.MethodName)) ∈ lw_all := lw_g (lw_at lw_m10 128 rfl) rfl
theorem q2383 : (Jvm.Cond.publicMethod ({ cls := "java/util/LinkedList", name := "contains", desc := "(Ljava/lang/Object;)Z" } : Jvm.MethodName)) ∈ lw_tbl := lw_at lw_m10 129 rfl
theorem q2384 : (Jvm.Cond.code ({ cls := "java/util/LinkedList", name := "contains", desc := "(Ljava/lang/Object;)Z" } : Jvm.MethodName) prog_58_method_15_code (2 : Nat) (Option.some Jvm.ClassFile.FieldType.boolean)) ∈ lw_all := lw_g (lw_at lw_m10 130 rfl) rfl
theorem q2385 : (Jvm.Cond.methodLink "java/util/LinkedList" (60 : Nat) ({ cls := "java/util/LinkedList", name := "indexOf", desc := "(Ljava/lang/Object;)I" } : Jvm.MethodName)) ∈ lw_all := lw_g (lw_at lw_m10 131 rfl) rfl
theorem q2386 : (Jvm.Cond.instanceMethod ({ cls := "java/util/LinkedList", name := "indexOf", desc := "(Ljava/lang/Object;)I" } : Jvm.MethodName)) ∈ lw_all := lw_g (lw_at lw_m10 132 rfl) rfl
theorem q2387 : (Jvm.Cond.selects "java/util/LinkedList" ({ cls := "java/util/LinkedList", name := "indexOf", desc := "(Ljava/lang/Object;)I" } : Jvm.MethodName) ({ cls := "java/util/LinkedList", name := "indexOf", desc := "(Ljava/lang/Object;)I" } : Jvm.MethodName)) ∈ lw_all := lw_g (lw_at lw_m10 133 rfl) rfl
theorem q2388 : (Jvm.Cond.code ({ cls := "java/util/LinkedList", name := "indexOf", desc := "(Ljava/lang/Object;)I" } : Jvm.MethodName) prog_58_method_32_code (4 : Nat) (Option.some Jvm.ClassFile.FieldType.int)) ∈ lw_all := lw_g (lw_at lw_m10 134 rfl) rfl
theorem q2389 : (Jvm.Cond.methodLink "java/util/LinkedList" (67 : Nat) ({ cls := "java/lang/Object", name := "equals", desc := "(Ljava/lang/Object;)Z" } : Jvm.MethodName)) ∈ lw_all := lw_g (lw_at lw_m10 135 rfl) rfl
theorem q3084 : (Jvm.Cond.selects "java/util/LinkedList" ({ cls := "java/util/LinkedList", name := "size", desc := "()I" } : Jvm.MethodName) ({ cls := "java/util/LinkedList", name := "size", desc := "()I" } : Jvm.MethodName)) ∈ lw_all := lw_g (lw_at lw_m13 110 rfl) rfl
theorem q3085 : (Jvm.Cond.selects "java/util/LinkedList" ({ cls := "java/util/LinkedList", name := "get", desc := "(I)Ljava/lang/Object;" } : Jvm.MethodName) ({ cls := "java/util/LinkedList", name := "get", desc := "(I)Ljava/lang/Object;" } : Jvm.MethodName)) ∈ lw_all := lw_g (lw_at lw_m13 111 rfl) rfl
theorem q3091 : (Jvm.Cond.selects "java/util/LinkedList" ({ cls := "java/util/AbstractCollection", name := "size", desc := "()I" } : Jvm.MethodName) ({ cls := "java/util/LinkedList", name := "size", desc := "()I" } : Jvm.MethodName)) ∈ lw_all := lw_g (lw_at lw_m13 117 rfl) rfl
theorem q3105 : (Jvm.Cond.castable "java/util/LinkedList" "java/lang/Object") ∈ lw_tbl := lw_at lw_m13 131 rfl
theorem in_J3 : ∀ w ∈ wsJ30, w ∈ lw_all := lw_in wsJ30 [192, 186, 188, 190] (by decide +kernel) (by decide +kernel)

/-! java/util/ArrayDeque$DeqIterator -/
set_option maxRecDepth 100000
def RJ30 : String := "java/util/ArrayDeque$DeqIterator"
def TJ30 : u_T := fun k => match k with
  | 0 => ("java/util/ArrayDeque$DeqIterator", "cursor", "I", false)
  | 1 => ("java/util/ArrayDeque$DeqIterator", "remaining", "I", false)
  | 2 => ("java/util/ArrayDeque$DeqIterator", "lastRet", "I", false)
  | _ => ("java/util/ArrayDeque$DeqIterator", "this$0", "Ljava/util/ArrayDeque;", true)
def tyJ30 : Nat → FieldType := fun k => match k with
  | 0 => .int
  | 1 => .int
  | 2 => .int
  | _ => .object "java/util/ArrayDeque"
abbrev wsJ300 : List Cond := u_ws RJ30 TJ30 4
theorem nmJ30 : ∀ a, a < 4 → ∀ b, b < 4 → a ≠ b → (TJ30 a).2.1 ≠ (TJ30 b).2.1 := by decide +kernel
theorem tyJ30_ok : ∀ k, k < 4 → parseFieldDescriptor (TJ30 k).2.2.1 = some (tyJ30 k) := by decide +kernel
abbrev cJ30_hasNext : ByteArray := prog_43_method_2_code
def yJ30_hasNext : MethodName := ⟨RJ30, "hasNext", "()Z"⟩
def dkwJ30_hasNext_0 : List UInt8 := [42, 180, 0, 19, 158, 0, 7, 4, 167, 0, 4, 3, 172]
abbrev dktJ30_hasNext_0 : List UInt8 := dkwJ30_hasNext_0 ++ []
theorem dksJ30_hasNext_0 : cJ30_hasNext.data.toList.drop 0 = dktJ30_hasNext_0 := by decide +kernel
theorem dJ30_hasNext_0 : decode cJ30_hasNext 0 = .ok (.aload_n 0, 1) := dk_42 (dk_at dksJ30_hasNext_0 0 rfl rfl)
theorem dJ30_hasNext_1 : decode cJ30_hasNext 1 = .ok (.getfield 19, 3) := dk_180 0 19 (dk_at dksJ30_hasNext_0 1 rfl rfl)
theorem dJ30_hasNext_4 : decode cJ30_hasNext 4 = .ok (.ifCond .le 7, 3) := dk_158 0 7 (dk_at dksJ30_hasNext_0 4 rfl rfl)
theorem dJ30_hasNext_7 : decode cJ30_hasNext 7 = .ok (.iconst 1, 1) := dk_4 (dk_at dksJ30_hasNext_0 7 rfl rfl)
theorem dJ30_hasNext_8 : decode cJ30_hasNext 8 = .ok (.goto 4, 3) := dk_167 0 4 (dk_at dksJ30_hasNext_0 8 rfl rfl)
theorem dJ30_hasNext_11 : decode cJ30_hasNext 11 = .ok (.iconst 0, 1) := dk_3 (dk_at dksJ30_hasNext_0 11 rfl rfl)
theorem dJ30_hasNext_12 : decode cJ30_hasNext 12 = .ok (.ireturn, 1) := dk_172 (dk_at dksJ30_hasNext_0 12 rfl rfl)
abbrev cJ30_next : ByteArray := prog_43_method_3_code
def yJ30_next : MethodName := ⟨RJ30, "next", "()Ljava/lang/Object;"⟩
def dkwJ30_next_2 : List UInt8 := [181, 0, 29, 42, 89, 180, 0, 19, 4, 100, 181, 0, 19, 44, 176]
abbrev dktJ30_next_2 : List UInt8 := dkwJ30_next_2 ++ []
def dkwJ30_next_1 : List UInt8 := [42, 180, 0, 29, 184, 0, 39, 77, 42, 42, 42, 180, 0, 29, 90, 181, 0, 23, 43, 190, 184, 0, 43]
abbrev dktJ30_next_1 : List UInt8 := dkwJ30_next_1 ++ dktJ30_next_2
def dkwJ30_next_0 : List UInt8 := [42, 180, 0, 19, 157, 0, 11, 187, 0, 32, 89, 183, 0, 34, 191, 42, 180, 0, 1, 180, 0, 35, 76, 43]
abbrev dktJ30_next_0 : List UInt8 := dkwJ30_next_0 ++ dktJ30_next_1
theorem dksJ30_next_0 : cJ30_next.data.toList.drop 0 = dktJ30_next_0 := by decide +kernel
theorem dksJ30_next_1 : cJ30_next.data.toList.drop 24 = dktJ30_next_1 := dk_seg dksJ30_next_0 24 rfl rfl
theorem dksJ30_next_2 : cJ30_next.data.toList.drop 47 = dktJ30_next_2 := dk_seg dksJ30_next_1 23 rfl rfl
theorem dJ30_next_0 : decode cJ30_next 0 = .ok (.aload_n 0, 1) := dk_42 (dk_at dksJ30_next_0 0 rfl rfl)
theorem dJ30_next_1 : decode cJ30_next 1 = .ok (.getfield 19, 3) := dk_180 0 19 (dk_at dksJ30_next_0 1 rfl rfl)
theorem dJ30_next_4 : decode cJ30_next 4 = .ok (.ifCond .gt 11, 3) := dk_157 0 11 (dk_at dksJ30_next_0 4 rfl rfl)
theorem dJ30_next_7 : decode cJ30_next 7 = .ok (.new 32, 3) := dk_187 0 32 (dk_at dksJ30_next_0 7 rfl rfl)
theorem dJ30_next_10 : decode cJ30_next 10 = .ok (.dup, 1) := dk_89 (dk_at dksJ30_next_0 10 rfl rfl)
theorem dJ30_next_11 : decode cJ30_next 11 = .ok (.invokespecial 34, 3) := dk_183 0 34 (dk_at dksJ30_next_0 11 rfl rfl)
theorem dJ30_next_14 : decode cJ30_next 14 = .ok (.athrow, 1) := dk_191 (dk_at dksJ30_next_0 14 rfl rfl)
theorem dJ30_next_15 : decode cJ30_next 15 = .ok (.aload_n 0, 1) := dk_42 (dk_at dksJ30_next_0 15 rfl rfl)
theorem dJ30_next_16 : decode cJ30_next 16 = .ok (.getfield 1, 3) := dk_180 0 1 (dk_at dksJ30_next_0 16 rfl rfl)
theorem dJ30_next_19 : decode cJ30_next 19 = .ok (.getfield 35, 3) := dk_180 0 35 (dk_at dksJ30_next_0 19 rfl rfl)
theorem dJ30_next_22 : decode cJ30_next 22 = .ok (.astore_n 1, 1) := dk_76 (dk_at dksJ30_next_0 22 rfl rfl)
theorem dJ30_next_23 : decode cJ30_next 23 = .ok (.aload_n 1, 1) := dk_43 (dk_at dksJ30_next_0 23 rfl rfl)
theorem dJ30_next_24 : decode cJ30_next 24 = .ok (.aload_n 0, 1) := dk_42 (dk_at dksJ30_next_1 0 rfl rfl)
theorem dJ30_next_25 : decode cJ30_next 25 = .ok (.getfield 29, 3) := dk_180 0 29 (dk_at dksJ30_next_1 1 rfl rfl)
theorem dJ30_next_28 : decode cJ30_next 28 = .ok (.invokestatic 39, 3) := dk_184 0 39 (dk_at dksJ30_next_1 4 rfl rfl)
theorem dJ30_next_31 : decode cJ30_next 31 = .ok (.astore_n 2, 1) := dk_77 (dk_at dksJ30_next_1 7 rfl rfl)
theorem dJ30_next_32 : decode cJ30_next 32 = .ok (.aload_n 0, 1) := dk_42 (dk_at dksJ30_next_1 8 rfl rfl)
theorem dJ30_next_33 : decode cJ30_next 33 = .ok (.aload_n 0, 1) := dk_42 (dk_at dksJ30_next_1 9 rfl rfl)
theorem dJ30_next_34 : decode cJ30_next 34 = .ok (.aload_n 0, 1) := dk_42 (dk_at dksJ30_next_1 10 rfl rfl)
theorem dJ30_next_35 : decode cJ30_next 35 = .ok (.getfield 29, 3) := dk_180 0 29 (dk_at dksJ30_next_1 11 rfl rfl)
theorem dJ30_next_38 : decode cJ30_next 38 = .ok (.dup_x1, 1) := dk_90 (dk_at dksJ30_next_1 14 rfl rfl)
theorem dJ30_next_39 : decode cJ30_next 39 = .ok (.putfield 23, 3) := dk_181 0 23 (dk_at dksJ30_next_1 15 rfl rfl)
theorem dJ30_next_42 : decode cJ30_next 42 = .ok (.aload_n 1, 1) := dk_43 (dk_at dksJ30_next_1 18 rfl rfl)
theorem dJ30_next_43 : decode cJ30_next 43 = .ok (.arraylength, 1) := dk_190 (dk_at dksJ30_next_1 19 rfl rfl)
theorem dJ30_next_44 : decode cJ30_next 44 = .ok (.invokestatic 43, 3) := dk_184 0 43 (dk_at dksJ30_next_1 20 rfl rfl)
theorem dJ30_next_47 : decode cJ30_next 47 = .ok (.putfield 29, 3) := dk_181 0 29 (dk_at dksJ30_next_2 0 rfl rfl)
theorem dJ30_next_50 : decode cJ30_next 50 = .ok (.aload_n 0, 1) := dk_42 (dk_at dksJ30_next_2 3 rfl rfl)
theorem dJ30_next_51 : decode cJ30_next 51 = .ok (.dup, 1) := dk_89 (dk_at dksJ30_next_2 4 rfl rfl)
theorem dJ30_next_52 : decode cJ30_next 52 = .ok (.getfield 19, 3) := dk_180 0 19 (dk_at dksJ30_next_2 5 rfl rfl)
theorem dJ30_next_55 : decode cJ30_next 55 = .ok (.iconst 1, 1) := dk_4 (dk_at dksJ30_next_2 8 rfl rfl)
theorem dJ30_next_56 : decode cJ30_next 56 = .ok (.isub, 1) := dk_100 (dk_at dksJ30_next_2 9 rfl rfl)
theorem dJ30_next_57 : decode cJ30_next 57 = .ok (.putfield 19, 3) := dk_181 0 19 (dk_at dksJ30_next_2 10 rfl rfl)
theorem dJ30_next_60 : decode cJ30_next 60 = .ok (.aload_n 2, 1) := dk_44 (dk_at dksJ30_next_2 13 rfl rfl)
theorem dJ30_next_61 : decode cJ30_next 61 = .ok (.areturn, 1) := dk_176 (dk_at dksJ30_next_2 14 rfl rfl)
abbrev cJ30_init : ByteArray := prog_43_method_1_code
def yJ30_init : MethodName := ⟨RJ30, "<init>", "(Ljava/util/ArrayDeque;)V"⟩
def dkwJ30_init_1 : List UInt8 := [181, 0, 23, 42, 43, 180, 0, 26, 181, 0, 29, 177]
abbrev dktJ30_init_1 : List UInt8 := dkwJ30_init_1 ++ []
def dkwJ30_init_0 : List UInt8 := [42, 43, 181, 0, 1, 42, 183, 0, 7, 42, 42, 180, 0, 1, 182, 0, 13, 181, 0, 19, 42, 2]
abbrev dktJ30_init_0 : List UInt8 := dkwJ30_init_0 ++ dktJ30_init_1
theorem dksJ30_init_0 : cJ30_init.data.toList.drop 0 = dktJ30_init_0 := by decide +kernel
theorem dksJ30_init_1 : cJ30_init.data.toList.drop 22 = dktJ30_init_1 := dk_seg dksJ30_init_0 22 rfl rfl
theorem dJ30_init_0 : decode cJ30_init 0 = .ok (.aload_n 0, 1) := dk_42 (dk_at dksJ30_init_0 0 rfl rfl)
theorem dJ30_init_1 : decode cJ30_init 1 = .ok (.aload_n 1, 1) := dk_43 (dk_at dksJ30_init_0 1 rfl rfl)
theorem dJ30_init_2 : decode cJ30_init 2 = .ok (.putfield 1, 3) := dk_181 0 1 (dk_at dksJ30_init_0 2 rfl rfl)
theorem dJ30_init_5 : decode cJ30_init 5 = .ok (.aload_n 0, 1) := dk_42 (dk_at dksJ30_init_0 5 rfl rfl)
theorem dJ30_init_6 : decode cJ30_init 6 = .ok (.invokespecial 7, 3) := dk_183 0 7 (dk_at dksJ30_init_0 6 rfl rfl)
theorem dJ30_init_9 : decode cJ30_init 9 = .ok (.aload_n 0, 1) := dk_42 (dk_at dksJ30_init_0 9 rfl rfl)
theorem dJ30_init_10 : decode cJ30_init 10 = .ok (.aload_n 0, 1) := dk_42 (dk_at dksJ30_init_0 10 rfl rfl)
theorem dJ30_init_11 : decode cJ30_init 11 = .ok (.getfield 1, 3) := dk_180 0 1 (dk_at dksJ30_init_0 11 rfl rfl)
theorem dJ30_init_14 : decode cJ30_init 14 = .ok (.invokevirtual 13, 3) := dk_182 0 13 (dk_at dksJ30_init_0 14 rfl rfl)
theorem dJ30_init_17 : decode cJ30_init 17 = .ok (.putfield 19, 3) := dk_181 0 19 (dk_at dksJ30_init_0 17 rfl rfl)
theorem dJ30_init_20 : decode cJ30_init 20 = .ok (.aload_n 0, 1) := dk_42 (dk_at dksJ30_init_0 20 rfl rfl)
theorem dJ30_init_21 : decode cJ30_init 21 = .ok (.iconst (-1), 1) := dk_2 (dk_at dksJ30_init_0 21 rfl rfl)
theorem dJ30_init_22 : decode cJ30_init 22 = .ok (.putfield 23, 3) := dk_181 0 23 (dk_at dksJ30_init_1 0 rfl rfl)
theorem dJ30_init_25 : decode cJ30_init 25 = .ok (.aload_n 0, 1) := dk_42 (dk_at dksJ30_init_1 3 rfl rfl)
theorem dJ30_init_26 : decode cJ30_init 26 = .ok (.aload_n 1, 1) := dk_43 (dk_at dksJ30_init_1 4 rfl rfl)
theorem dJ30_init_27 : decode cJ30_init 27 = .ok (.getfield 26, 3) := dk_180 0 26 (dk_at dksJ30_init_1 5 rfl rfl)
theorem dJ30_init_30 : decode cJ30_init 30 = .ok (.putfield 29, 3) := dk_181 0 29 (dk_at dksJ30_init_1 8 rfl rfl)
theorem dJ30_init_33 : decode cJ30_init 33 = .ok (.return_, 1) := dk_177 (dk_at dksJ30_init_1 11 rfl rfl)
abbrev cJ30_remove : ByteArray := prog_43_method_5_code
def yJ30_remove : MethodName := ⟨RJ30, "remove", "()V"⟩
def dkwJ30_remove_1 : List UInt8 := [182, 0, 53, 182, 0, 57, 42, 2, 181, 0, 23, 177]
abbrev dktJ30_remove_1 : List UInt8 := dkwJ30_remove_1 ++ []
def dkwJ30_remove_0 : List UInt8 := [42, 180, 0, 23, 156, 0, 11, 187, 0, 50, 89, 183, 0, 52, 191, 42, 42, 180, 0, 1, 42, 180, 0, 23]
abbrev dktJ30_remove_0 : List UInt8 := dkwJ30_remove_0 ++ dktJ30_remove_1
theorem dksJ30_remove_0 : cJ30_remove.data.toList.drop 0 = dktJ30_remove_0 := by decide +kernel
theorem dksJ30_remove_1 : cJ30_remove.data.toList.drop 24 = dktJ30_remove_1 := dk_seg dksJ30_remove_0 24 rfl rfl
theorem dJ30_remove_0 : decode cJ30_remove 0 = .ok (.aload_n 0, 1) := dk_42 (dk_at dksJ30_remove_0 0 rfl rfl)
theorem dJ30_remove_1 : decode cJ30_remove 1 = .ok (.getfield 23, 3) := dk_180 0 23 (dk_at dksJ30_remove_0 1 rfl rfl)
theorem dJ30_remove_4 : decode cJ30_remove 4 = .ok (.ifCond .ge 11, 3) := dk_156 0 11 (dk_at dksJ30_remove_0 4 rfl rfl)
theorem dJ30_remove_7 : decode cJ30_remove 7 = .ok (.new 50, 3) := dk_187 0 50 (dk_at dksJ30_remove_0 7 rfl rfl)
theorem dJ30_remove_10 : decode cJ30_remove 10 = .ok (.dup, 1) := dk_89 (dk_at dksJ30_remove_0 10 rfl rfl)
theorem dJ30_remove_11 : decode cJ30_remove 11 = .ok (.invokespecial 52, 3) := dk_183 0 52 (dk_at dksJ30_remove_0 11 rfl rfl)
theorem dJ30_remove_14 : decode cJ30_remove 14 = .ok (.athrow, 1) := dk_191 (dk_at dksJ30_remove_0 14 rfl rfl)
theorem dJ30_remove_15 : decode cJ30_remove 15 = .ok (.aload_n 0, 1) := dk_42 (dk_at dksJ30_remove_0 15 rfl rfl)
theorem dJ30_remove_16 : decode cJ30_remove 16 = .ok (.aload_n 0, 1) := dk_42 (dk_at dksJ30_remove_0 16 rfl rfl)
theorem dJ30_remove_17 : decode cJ30_remove 17 = .ok (.getfield 1, 3) := dk_180 0 1 (dk_at dksJ30_remove_0 17 rfl rfl)
theorem dJ30_remove_20 : decode cJ30_remove 20 = .ok (.aload_n 0, 1) := dk_42 (dk_at dksJ30_remove_0 20 rfl rfl)
theorem dJ30_remove_21 : decode cJ30_remove 21 = .ok (.getfield 23, 3) := dk_180 0 23 (dk_at dksJ30_remove_0 21 rfl rfl)
theorem dJ30_remove_24 : decode cJ30_remove 24 = .ok (.invokevirtual 53, 3) := dk_182 0 53 (dk_at dksJ30_remove_1 0 rfl rfl)
theorem dJ30_remove_27 : decode cJ30_remove 27 = .ok (.invokevirtual 57, 3) := dk_182 0 57 (dk_at dksJ30_remove_1 3 rfl rfl)
theorem dJ30_remove_30 : decode cJ30_remove 30 = .ok (.aload_n 0, 1) := dk_42 (dk_at dksJ30_remove_1 6 rfl rfl)
theorem dJ30_remove_31 : decode cJ30_remove 31 = .ok (.iconst (-1), 1) := dk_2 (dk_at dksJ30_remove_1 7 rfl rfl)
theorem dJ30_remove_32 : decode cJ30_remove 32 = .ok (.putfield 23, 3) := dk_181 0 23 (dk_at dksJ30_remove_1 8 rfl rfl)
theorem dJ30_remove_35 : decode cJ30_remove 35 = .ok (.return_, 1) := dk_177 (dk_at dksJ30_remove_1 11 rfl rfl)
abbrev cJ30_postDelete : ByteArray := prog_43_method_4_code
def yJ30_postDelete : MethodName := ⟨RJ30, "postDelete", "(Z)V"⟩
def dkwJ30_postDelete_0 : List UInt8 := [27, 153, 0, 22, 42, 42, 180, 0, 29, 42, 180, 0, 1, 180, 0, 35, 190, 184, 0, 47, 181, 0, 29, 177]
abbrev dktJ30_postDelete_0 : List UInt8 := dkwJ30_postDelete_0 ++ []
theorem dksJ30_postDelete_0 : cJ30_postDelete.data.toList.drop 0 = dktJ30_postDelete_0 := by decide +kernel
theorem dJ30_postDelete_0 : decode cJ30_postDelete 0 = .ok (.iload_n 1, 1) := dk_27 (dk_at dksJ30_postDelete_0 0 rfl rfl)
theorem dJ30_postDelete_1 : decode cJ30_postDelete 1 = .ok (.ifCond .eq 22, 3) := dk_153 0 22 (dk_at dksJ30_postDelete_0 1 rfl rfl)
theorem dJ30_postDelete_4 : decode cJ30_postDelete 4 = .ok (.aload_n 0, 1) := dk_42 (dk_at dksJ30_postDelete_0 4 rfl rfl)
theorem dJ30_postDelete_5 : decode cJ30_postDelete 5 = .ok (.aload_n 0, 1) := dk_42 (dk_at dksJ30_postDelete_0 5 rfl rfl)
theorem dJ30_postDelete_6 : decode cJ30_postDelete 6 = .ok (.getfield 29, 3) := dk_180 0 29 (dk_at dksJ30_postDelete_0 6 rfl rfl)
theorem dJ30_postDelete_9 : decode cJ30_postDelete 9 = .ok (.aload_n 0, 1) := dk_42 (dk_at dksJ30_postDelete_0 9 rfl rfl)
theorem dJ30_postDelete_10 : decode cJ30_postDelete 10 = .ok (.getfield 1, 3) := dk_180 0 1 (dk_at dksJ30_postDelete_0 10 rfl rfl)
theorem dJ30_postDelete_13 : decode cJ30_postDelete 13 = .ok (.getfield 35, 3) := dk_180 0 35 (dk_at dksJ30_postDelete_0 13 rfl rfl)
theorem dJ30_postDelete_16 : decode cJ30_postDelete 16 = .ok (.arraylength, 1) := dk_190 (dk_at dksJ30_postDelete_0 16 rfl rfl)
theorem dJ30_postDelete_17 : decode cJ30_postDelete 17 = .ok (.invokestatic 47, 3) := dk_184 0 47 (dk_at dksJ30_postDelete_0 17 rfl rfl)
theorem dJ30_postDelete_20 : decode cJ30_postDelete 20 = .ok (.putfield 29, 3) := dk_181 0 29 (dk_at dksJ30_postDelete_0 20 rfl rfl)
theorem dJ30_postDelete_23 : decode cJ30_postDelete 23 = .ok (.return_, 1) := dk_177 (dk_at dksJ30_postDelete_0 23 rfl rfl)
theorem q131 : (Jvm.Cond.initialized "java/util/ArrayDeque$DeqIterator") ∈ lw_all := lw_g (lw_at lw_m1 37 rfl) rfl
theorem q204 : (Jvm.Cond.fieldLink "java/util/ArrayDeque$DeqIterator" (35 : Nat) "java/util/ArrayDeque" "elements" "[Ljava/lang/Object;") ∈ lw_all := lw_g (lw_at lw_m1 110 rfl) rfl
theorem q205 : (Jvm.Cond.fieldLink "java/util/ArrayDeque$DeqIterator" (26 : Nat) "java/util/ArrayDeque" "head" "I") ∈ lw_all := lw_g (lw_at lw_m1 111 rfl) rfl
theorem q764 : (Jvm.Cond.castable "java/util/ArrayDeque$DeqIterator" "java/util/Iterator") ∈ lw_tbl := lw_at lw_m3 190 rfl
theorem q765 : (Jvm.Cond.selects "java/util/ArrayDeque$DeqIterator" ({ cls := "java/util/Iterator", name := "hasNext", desc := "()Z" } : Jvm.MethodName) ({ cls := "java/util/ArrayDeque$DeqIterator", name := "hasNext", desc := "()Z" } : Jvm.MethodName)) ∈ lw_all := lw_g (lw_at lw_m3 191 rfl) rfl
theorem q766 : (Jvm.Cond.unhidden "java/util/ArrayDeque$DeqIterator" "hasNext" "()Z") ∈ lw_tbl := lw_at lw_m3 192 rfl
theorem q767 : (Jvm.Cond.instanceMethod ({ cls := "java/util/ArrayDeque$DeqIterator", name := "hasNext", desc := "()Z" } : Jvm.MethodName)) ∈ lw_all := lw_g (lw_at lw_m3 193 rfl) rfl
theorem q768 : (Jvm.Cond.publicMethod ({ cls := "java/util/ArrayDeque$DeqIterator", name := "hasNext", desc := "()Z" } : Jvm.MethodName)) ∈ lw_tbl := lw_at lw_m3 194 rfl
theorem q769 : (Jvm.Cond.code ({ cls := "java/util/ArrayDeque$DeqIterator", name := "hasNext", desc := "()Z" } : Jvm.MethodName) prog_43_method_2_code (1 : Nat) (Option.some Jvm.ClassFile.FieldType.boolean)) ∈ lw_all := lw_g (lw_at lw_m3 195 rfl) rfl
theorem q885 : (Jvm.Cond.selects "java/util/ArrayDeque$DeqIterator" ({ cls := "java/lang/Object", name := "getClass", desc := "()Ljava/lang/Class;" } : Jvm.MethodName) ({ cls := "java/lang/Object", name := "getClass", desc := "()Ljava/lang/Class;" } : Jvm.MethodName)) ∈ lw_all := lw_g (lw_at lw_m4 71 rfl) rfl
theorem q927 : (Jvm.Cond.selects "java/util/ArrayDeque$DeqIterator" ({ cls := "java/util/Iterator", name := "next", desc := "()Ljava/lang/Object;" } : Jvm.MethodName) ({ cls := "java/util/ArrayDeque$DeqIterator", name := "next", desc := "()Ljava/lang/Object;" } : Jvm.MethodName)) ∈ lw_all := lw_g (lw_at lw_m4 113 rfl) rfl
theorem q928 : (Jvm.Cond.unhidden "java/util/ArrayDeque$DeqIterator" "next" "()Ljava/lang/Object;") ∈ lw_tbl := lw_at lw_m4 114 rfl
theorem q929 : (Jvm.Cond.instanceMethod ({ cls := "java/util/ArrayDeque$DeqIterator", name := "next", desc := "()Ljava/lang/Object;" } : Jvm.MethodName)) ∈ lw_all := lw_g (lw_at lw_m4 115 rfl) rfl
theorem q930 : (Jvm.Cond.publicMethod ({ cls := "java/util/ArrayDeque$DeqIterator", name := "next", desc := "()Ljava/lang/Object;" } : Jvm.MethodName)) ∈ lw_tbl := lw_at lw_m4 116 rfl
theorem q931 : (Jvm.Cond.code ({ cls := "java/util/ArrayDeque$DeqIterator", name := "next", desc := "()Ljava/lang/Object;" } : Jvm.MethodName) prog_43_method_3_code (3 : Nat) (Option.some (Jvm.ClassFile.FieldType.object "java/lang/Object"))) ∈ lw_all := lw_g (lw_at lw_m4 117 rfl) rfl
theorem q932 : (Jvm.Cond.classLink "java/util/ArrayDeque$DeqIterator" (32 : Nat) "java/util/NoSuchElementException") ∈ lw_all := lw_g (lw_at lw_m4 118 rfl) rfl
theorem q933 : (Jvm.Cond.methodLink "java/util/ArrayDeque$DeqIterator" (34 : Nat) ({ cls := "java/util/NoSuchElementException", name := "<init>", desc := "()V" } : Jvm.MethodName)) ∈ lw_all := lw_g (lw_at lw_m4 119 rfl) rfl
theorem q943 : (Jvm.Cond.methodLink "java/util/ArrayDeque$DeqIterator" (39 : Nat) ({ cls := "java/util/ArrayDeque", name := "nonNullElementAt", desc := "([Ljava/lang/Object;I)Ljava/lang/Object;" } : Jvm.MethodName)) ∈ lw_all := lw_g (lw_at lw_m4 129 rfl) rfl
theorem q946 : (Jvm.Cond.methodLink "java/util/ArrayDeque$DeqIterator" (43 : Nat) ({ cls := "java/util/ArrayDeque", name := "inc", desc := "(II)I" } : Jvm.MethodName)) ∈ lw_all := lw_g (lw_at lw_m4 132 rfl) rfl
theorem q1113 : (Jvm.Cond.instantiable "java/util/ArrayDeque$DeqIterator" (4 : Nat)) ∈ lw_all := lw_g (lw_at lw_m5 59 rfl) rfl
theorem q1115 : (Jvm.Cond.instanceMethod ({ cls := "java/util/ArrayDeque$DeqIterator", name := "<init>", desc := "(Ljava/util/ArrayDeque;)V" } : Jvm.MethodName)) ∈ lw_all := lw_g (lw_at lw_m5 61 rfl) rfl
theorem q1116 : (Jvm.Cond.code ({ cls := "java/util/ArrayDeque$DeqIterator", name := "<init>", desc := "(Ljava/util/ArrayDeque;)V" } : Jvm.MethodName) prog_43_method_1_code (2 : Nat) (Option.none : Option Jvm.ClassFile.FieldType)) ∈ lw_all := lw_g (lw_at lw_m5 62 rfl) rfl
theorem q1117 : (Jvm.Cond.methodLink "java/util/ArrayDeque$DeqIterator" (7 : Nat) ({ cls := "java/lang/Object", name := "<init>", desc := "()V" } : Jvm.MethodName)) ∈ lw_all := lw_g (lw_at lw_m5 63 rfl) rfl
theorem q1118 : (Jvm.Cond.methodLink "java/util/ArrayDeque$DeqIterator" (13 : Nat) ({ cls := "java/util/ArrayDeque", name := "size", desc := "()I" } : Jvm.MethodName)) ∈ lw_all := lw_g (lw_at lw_m5 64 rfl) rfl
theorem q1125 : (Jvm.Cond.fieldLink "java/util/ArrayDeque$DeqIterator" (29 : Nat) "java/util/ArrayDeque$DeqIterator" "cursor" "I") ∈ lw_all := lw_g (lw_at lw_m5 71 rfl) rfl
theorem q1126 : (Jvm.Cond.fieldLink "java/util/ArrayDeque$DeqIterator" (19 : Nat) "java/util/ArrayDeque$DeqIterator" "remaining" "I") ∈ lw_all := lw_g (lw_at lw_m5 72 rfl) rfl
theorem q1127 : (Jvm.Cond.fieldLink "java/util/ArrayDeque$DeqIterator" (23 : Nat) "java/util/ArrayDeque$DeqIterator" "lastRet" "I") ∈ lw_all := lw_g (lw_at lw_m5 73 rfl) rfl
theorem q1128 : (Jvm.Cond.fieldLink "java/util/ArrayDeque$DeqIterator" (1 : Nat) "java/util/ArrayDeque$DeqIterator" "this$0" "Ljava/util/ArrayDeque;") ∈ lw_all := lw_g (lw_at lw_m5 74 rfl) rfl
theorem q1129 : (Jvm.Cond.lays "java/util/ArrayDeque$DeqIterator" "java/util/ArrayDeque$DeqIterator" "cursor" "I") ∈ lw_all := lw_g (lw_at lw_m5 75 rfl) rfl
theorem q1130 : (Jvm.Cond.soleField "java/util/ArrayDeque$DeqIterator" "cursor") ∈ lw_all := lw_g (lw_at lw_m5 76 rfl) rfl
theorem q1131 : (Jvm.Cond.lays "java/util/ArrayDeque$DeqIterator" "java/util/ArrayDeque$DeqIterator" "remaining" "I") ∈ lw_all := lw_g (lw_at lw_m5 77 rfl) rfl
theorem q1132 : (Jvm.Cond.soleField "java/util/ArrayDeque$DeqIterator" "remaining") ∈ lw_all := lw_g (lw_at lw_m5 78 rfl) rfl
theorem q1133 : (Jvm.Cond.lays "java/util/ArrayDeque$DeqIterator" "java/util/ArrayDeque$DeqIterator" "lastRet" "I") ∈ lw_all := lw_g (lw_at lw_m5 79 rfl) rfl
theorem q1134 : (Jvm.Cond.soleField "java/util/ArrayDeque$DeqIterator" "lastRet") ∈ lw_all := lw_g (lw_at lw_m5 80 rfl) rfl
theorem q1135 : (Jvm.Cond.laysFinal "java/util/ArrayDeque$DeqIterator" "java/util/ArrayDeque$DeqIterator" "this$0" "Ljava/util/ArrayDeque;") ∈ lw_all := lw_g (lw_at lw_m5 81 rfl) rfl
theorem q1136 : (Jvm.Cond.soleField "java/util/ArrayDeque$DeqIterator" "this$0") ∈ lw_all := lw_g (lw_at lw_m5 82 rfl) rfl
theorem q1137 : (Jvm.Cond.superclass "java/util/ArrayDeque$DeqIterator" "java/lang/Object") ∈ lw_all := lw_g (lw_at lw_m5 83 rfl) rfl
theorem q1291 : (Jvm.Cond.selects "java/util/ArrayDeque$DeqIterator" ({ cls := "java/util/Iterator", name := "remove", desc := "()V" } : Jvm.MethodName) ({ cls := "java/util/ArrayDeque$DeqIterator", name := "remove", desc := "()V" } : Jvm.MethodName)) ∈ lw_all := lw_g (lw_at lw_m5 237 rfl) rfl
theorem q1292 : (Jvm.Cond.unhidden "java/util/ArrayDeque$DeqIterator" "remove" "()V") ∈ lw_tbl := lw_at lw_m5 238 rfl
theorem q1293 : (Jvm.Cond.instanceMethod ({ cls := "java/util/ArrayDeque$DeqIterator", name := "remove", desc := "()V" } : Jvm.MethodName)) ∈ lw_all := lw_g (lw_at lw_m5 239 rfl) rfl
theorem q1294 : (Jvm.Cond.publicMethod ({ cls := "java/util/ArrayDeque$DeqIterator", name := "remove", desc := "()V" } : Jvm.MethodName)) ∈ lw_tbl := lw_at lw_m6 0 rfl
theorem q1295 : (Jvm.Cond.code ({ cls := "java/util/ArrayDeque$DeqIterator", name := "remove", desc := "()V" } : Jvm.MethodName) prog_43_method_5_code (1 : Nat) (Option.none : Option Jvm.ClassFile.FieldType)) ∈ lw_all := lw_g (lw_at lw_m6 1 rfl) rfl
theorem q1296 : (Jvm.Cond.classLink "java/util/ArrayDeque$DeqIterator" (50 : Nat) "java/lang/IllegalStateException") ∈ lw_all := lw_g (lw_at lw_m6 2 rfl) rfl
theorem q1297 : (Jvm.Cond.methodLink "java/util/ArrayDeque$DeqIterator" (52 : Nat) ({ cls := "java/lang/IllegalStateException", name := "<init>", desc := "()V" } : Jvm.MethodName)) ∈ lw_all := lw_g (lw_at lw_m6 3 rfl) rfl
theorem q1298 : (Jvm.Cond.methodLink "java/util/ArrayDeque$DeqIterator" (53 : Nat) ({ cls := "java/util/ArrayDeque", name := "delete", desc := "(I)Z" } : Jvm.MethodName)) ∈ lw_all := lw_g (lw_at lw_m6 4 rfl) rfl
theorem q1305 : (Jvm.Cond.methodLink "java/util/ArrayDeque$DeqIterator" (57 : Nat) ({ cls := "java/util/ArrayDeque$DeqIterator", name := "postDelete", desc := "(Z)V" } : Jvm.MethodName)) ∈ lw_all := lw_g (lw_at lw_m6 11 rfl) rfl
theorem q1306 : (Jvm.Cond.instanceMethod ({ cls := "java/util/ArrayDeque$DeqIterator", name := "postDelete", desc := "(Z)V" } : Jvm.MethodName)) ∈ lw_all := lw_g (lw_at lw_m6 12 rfl) rfl
theorem q1307 : (Jvm.Cond.selects "java/util/ArrayDeque$DeqIterator" ({ cls := "java/util/ArrayDeque$DeqIterator", name := "postDelete", desc := "(Z)V" } : Jvm.MethodName) ({ cls := "java/util/ArrayDeque$DeqIterator", name := "postDelete", desc := "(Z)V" } : Jvm.MethodName)) ∈ lw_all := lw_g (lw_at lw_m6 13 rfl) rfl
theorem q1308 : (Jvm.Cond.code ({ cls := "java/util/ArrayDeque$DeqIterator", name := "postDelete", desc := "(Z)V" } : Jvm.MethodName) prog_43_method_4_code (2 : Nat) (Option.none : Option Jvm.ClassFile.FieldType)) ∈ lw_all := lw_g (lw_at lw_m6 14 rfl) rfl
theorem q1309 : (Jvm.Cond.methodLink "java/util/ArrayDeque$DeqIterator" (47 : Nat) ({ cls := "java/util/ArrayDeque", name := "dec", desc := "(II)I" } : Jvm.MethodName)) ∈ lw_all := lw_g (lw_at lw_m6 15 rfl) rfl
theorem q3118 : (Jvm.Cond.castable "java/util/ArrayDeque$DeqIterator" "java/lang/Object") ∈ lw_tbl := lw_at lw_m13 144 rfl
theorem in_J30 : ∀ w ∈ wsJ300, w ∈ lw_all := lw_in wsJ300 [1129, 1131, 1133, 1135] (by decide +kernel) (by decide +kernel)

/-! java/util/ConcurrentModificationException -/
set_option maxRecDepth 100000
def RJ31 : String := "java/util/ConcurrentModificationException"
def TJ31 : u_T := fun k => match k with
  | 0 => ("java/lang/Throwable", "cause", "Ljava/lang/Throwable;", false)
  | 1 => ("java/lang/Throwable", "stackTrace", "[Ljava/lang/StackTraceElement;", false)
  | 2 => ("java/lang/Throwable", "suppressedExceptions", "Ljava/util/List;", false)
  | 3 => ("java/lang/Throwable", "detailMessage", "Ljava/lang/String;", false)
  | 4 => ("java/lang/Throwable", "backtrace", "Ljava/lang/Object;", false)
  | _ => ("java/lang/Throwable", "depth", "I", false)
def tyJ31 : Nat → FieldType := fun k => match k with
  | 0 => .object "java/lang/Throwable"
  | 1 => .array (.object "java/lang/StackTraceElement")
  | 2 => .object "java/util/List"
  | 3 => .object "java/lang/String"
  | 4 => .object "java/lang/Object"
  | _ => .int
abbrev wsJ310 : List Cond := u_ws RJ31 TJ31 6
theorem nmJ31 : ∀ a, a < 6 → ∀ b, b < 6 → a ≠ b → (TJ31 a).2.1 ≠ (TJ31 b).2.1 := by decide +kernel
theorem tyJ31_ok : ∀ k, k < 6 → parseFieldDescriptor (TJ31 k).2.2.1 = some (tyJ31 k) := by decide +kernel
abbrev cJ31_init : ByteArray := prog_49_method_1_code
def yJ31_init : MethodName := ⟨RJ31, "<init>", "()V"⟩
theorem dJ31_init_0 : decode cJ31_init 0 = .ok (.aload_n 0, 1) := by decide +kernel
theorem dJ31_init_1 : decode cJ31_init 1 = .ok (.invokespecial 1, 3) := by decide +kernel
theorem dJ31_init_4 : decode cJ31_init 4 = .ok (.return_, 1) := by decide +kernel
theorem q133 : (Jvm.Cond.initialized "java/util/ConcurrentModificationException") ∈ lw_all := lw_g (lw_at lw_m1 39 rfl) rfl
theorem q398 : (Jvm.Cond.selects "java/util/ConcurrentModificationException" ({ cls := "java/lang/Throwable", name := "fillInStackTrace", desc := "()Ljava/lang/Throwable;" } : Jvm.MethodName) ({ cls := "java/lang/Throwable", name := "fillInStackTrace", desc := "()Ljava/lang/Throwable;" } : Jvm.MethodName)) ∈ lw_all := lw_g (lw_at lw_m2 64 rfl) rfl
theorem q862 : (Jvm.Cond.selects "java/util/ConcurrentModificationException" ({ cls := "java/lang/Throwable", name := "toString", desc := "()Ljava/lang/String;" } : Jvm.MethodName) ({ cls := "java/lang/Throwable", name := "toString", desc := "()Ljava/lang/String;" } : Jvm.MethodName)) ∈ lw_all := lw_g (lw_at lw_m4 48 rfl) rfl
theorem q889 : (Jvm.Cond.selects "java/util/ConcurrentModificationException" ({ cls := "java/lang/Object", name := "getClass", desc := "()Ljava/lang/Class;" } : Jvm.MethodName) ({ cls := "java/lang/Object", name := "getClass", desc := "()Ljava/lang/Class;" } : Jvm.MethodName)) ∈ lw_all := lw_g (lw_at lw_m4 75 rfl) rfl
theorem q906 : (Jvm.Cond.selects "java/util/ConcurrentModificationException" ({ cls := "java/lang/Throwable", name := "getLocalizedMessage", desc := "()Ljava/lang/String;" } : Jvm.MethodName) ({ cls := "java/lang/Throwable", name := "getLocalizedMessage", desc := "()Ljava/lang/String;" } : Jvm.MethodName)) ∈ lw_all := lw_g (lw_at lw_m4 92 rfl) rfl
theorem q917 : (Jvm.Cond.selects "java/util/ConcurrentModificationException" ({ cls := "java/lang/Throwable", name := "getMessage", desc := "()Ljava/lang/String;" } : Jvm.MethodName) ({ cls := "java/lang/Throwable", name := "getMessage", desc := "()Ljava/lang/String;" } : Jvm.MethodName)) ∈ lw_all := lw_g (lw_at lw_m4 103 rfl) rfl
theorem q1277 : (Jvm.Cond.instantiable "java/util/ConcurrentModificationException" (6 : Nat)) ∈ lw_all := lw_g (lw_at lw_m5 223 rfl) rfl
theorem q1278 : (Jvm.Cond.castable "java/util/ConcurrentModificationException" "java/util/ConcurrentModificationException") ∈ lw_tbl := lw_at lw_m5 224 rfl
theorem q1279 : (Jvm.Cond.selects "java/util/ConcurrentModificationException" ({ cls := "java/lang/Throwable", name := "fillInStackTrace", desc := "(I)Ljava/lang/Throwable;" } : Jvm.MethodName) ({ cls := "java/lang/Throwable", name := "fillInStackTrace", desc := "(I)Ljava/lang/Throwable;" } : Jvm.MethodName)) ∈ lw_all := lw_g (lw_at lw_m5 225 rfl) rfl
theorem q1280 : (Jvm.Cond.lays "java/util/ConcurrentModificationException" "java/lang/Throwable" "cause" "Ljava/lang/Throwable;") ∈ lw_all := lw_g (lw_at lw_m5 226 rfl) rfl
theorem q1281 : (Jvm.Cond.lays "java/util/ConcurrentModificationException" "java/lang/Throwable" "stackTrace" "[Ljava/lang/StackTraceElement;") ∈ lw_all := lw_g (lw_at lw_m5 227 rfl) rfl
theorem q1282 : (Jvm.Cond.lays "java/util/ConcurrentModificationException" "java/lang/Throwable" "suppressedExceptions" "Ljava/util/List;") ∈ lw_all := lw_g (lw_at lw_m5 228 rfl) rfl
theorem q1283 : (Jvm.Cond.lays "java/util/ConcurrentModificationException" "java/lang/Throwable" "detailMessage" "Ljava/lang/String;") ∈ lw_all := lw_g (lw_at lw_m5 229 rfl) rfl
theorem q1284 : (Jvm.Cond.lays "java/util/ConcurrentModificationException" "java/lang/Throwable" "backtrace" "Ljava/lang/Object;") ∈ lw_all := lw_g (lw_at lw_m5 230 rfl) rfl
theorem q1286 : (Jvm.Cond.instanceMethod ({ cls := "java/util/ConcurrentModificationException", name := "<init>", desc := "()V" } : Jvm.MethodName)) ∈ lw_all := lw_g (lw_at lw_m5 232 rfl) rfl
theorem q1287 : (Jvm.Cond.code ({ cls := "java/util/ConcurrentModificationException", name := "<init>", desc := "()V" } : Jvm.MethodName) prog_49_method_1_code (1 : Nat) (Option.none : Option Jvm.ClassFile.FieldType)) ∈ lw_all := lw_g (lw_at lw_m5 233 rfl) rfl
theorem q1288 : (Jvm.Cond.methodLink "java/util/ConcurrentModificationException" (1 : Nat) ({ cls := "java/lang/RuntimeException", name := "<init>", desc := "()V" } : Jvm.MethodName)) ∈ lw_all := lw_g (lw_at lw_m5 234 rfl) rfl
theorem q1289 : (Jvm.Cond.lays "java/util/ConcurrentModificationException" "java/lang/Throwable" "depth" "I") ∈ lw_all := lw_g (lw_at lw_m5 235 rfl) rfl
theorem q1290 : (Jvm.Cond.superclass "java/util/ConcurrentModificationException" "java/lang/RuntimeException") ∈ lw_all := lw_g (lw_at lw_m5 236 rfl) rfl
theorem q3120 : (Jvm.Cond.castable "java/util/ConcurrentModificationException" "java/lang/Object") ∈ lw_tbl := lw_at lw_m13 146 rfl
theorem in_J31 : ∀ w ∈ wsJ310, w ∈ lw_all := lw_in wsJ310 [1280, 1281, 1282, 1283, 1284, 1289] (by decide +kernel) (by decide +kernel)

/-! java/lang/ArrayIndexOutOfBoundsException -/
set_option maxRecDepth 100000
def RJ32 : String := "java/lang/ArrayIndexOutOfBoundsException"
def TJ32 : u_T := fun k => match k with
  | 0 => ("java/lang/Throwable", "backtrace", "Ljava/lang/Object;", false)
  | 1 => ("java/lang/Throwable", "detailMessage", "Ljava/lang/String;", false)
  | 2 => ("java/lang/Throwable", "cause", "Ljava/lang/Throwable;", false)
  | 3 => ("java/lang/Throwable", "stackTrace", "[Ljava/lang/StackTraceElement;", false)
  | 4 => ("java/lang/Throwable", "depth", "I", false)
  | _ => ("java/lang/Throwable", "suppressedExceptions", "Ljava/util/List;", false)
def tyJ32 : Nat → FieldType := fun k => match k with
  | 0 => .object "java/lang/Object"
  | 1 => .object "java/lang/String"
  | 2 => .object "java/lang/Throwable"
  | 3 => .array (.object "java/lang/StackTraceElement")
  | 4 => .int
  | _ => .object "java/util/List"
abbrev wsJ320 : List Cond := u_ws RJ32 TJ32 6
theorem nmJ32 : ∀ a, a < 6 → ∀ b, b < 6 → a ≠ b → (TJ32 a).2.1 ≠ (TJ32 b).2.1 := by decide +kernel
theorem tyJ32_ok : ∀ k, k < 6 → parseFieldDescriptor (TJ32 k).2.2.1 = some (tyJ32 k) := by decide +kernel
abbrev cJ32_init : ByteArray := prog_13_method_2_code
def yJ32_init : MethodName := ⟨RJ32, "<init>", "(Ljava/lang/String;)V"⟩
def dkwJ32_init_0 : List UInt8 := [42, 43, 183, 0, 7, 177]
abbrev dktJ32_init_0 : List UInt8 := dkwJ32_init_0 ++ []
theorem dksJ32_init_0 : cJ32_init.data.toList.drop 0 = dktJ32_init_0 := by decide +kernel
theorem dJ32_init_0 : decode cJ32_init 0 = .ok (.aload_n 0, 1) := dk_42 (dk_at dksJ32_init_0 0 rfl rfl)
theorem dJ32_init_1 : decode cJ32_init 1 = .ok (.aload_n 1, 1) := dk_43 (dk_at dksJ32_init_0 1 rfl rfl)
theorem dJ32_init_2 : decode cJ32_init 2 = .ok (.invokespecial 7, 3) := dk_183 0 7 (dk_at dksJ32_init_0 2 rfl rfl)
theorem dJ32_init_5 : decode cJ32_init 5 = .ok (.return_, 1) := dk_177 (dk_at dksJ32_init_0 5 rfl rfl)
abbrev cJ32_init_2 : ByteArray := prog_13_method_3_code
def yJ32_init_2 : MethodName := ⟨RJ32, "<init>", "(I)V"⟩
def dkwJ32_init_2_0 : List UInt8 := [42, 187, 0, 10, 89, 183, 0, 12, 18, 13, 182, 0, 15, 27, 182, 0, 19, 182, 0, 22, 183, 0, 7, 177]
abbrev dktJ32_init_2_0 : List UInt8 := dkwJ32_init_2_0 ++ []
theorem dksJ32_init_2_0 : cJ32_init_2.data.toList.drop 0 = dktJ32_init_2_0 := by decide +kernel
theorem dJ32_init_2_0 : decode cJ32_init_2 0 = .ok (.aload_n 0, 1) := dk_42 (dk_at dksJ32_init_2_0 0 rfl rfl)
theorem dJ32_init_2_1 : decode cJ32_init_2 1 = .ok (.new 10, 3) := dk_187 0 10 (dk_at dksJ32_init_2_0 1 rfl rfl)
theorem dJ32_init_2_4 : decode cJ32_init_2 4 = .ok (.dup, 1) := dk_89 (dk_at dksJ32_init_2_0 4 rfl rfl)
theorem dJ32_init_2_5 : decode cJ32_init_2 5 = .ok (.invokespecial 12, 3) := dk_183 0 12 (dk_at dksJ32_init_2_0 5 rfl rfl)
theorem dJ32_init_2_8 : decode cJ32_init_2 8 = .ok (.ldc 13, 2) := dk_18 13 (dk_at dksJ32_init_2_0 8 rfl rfl)
theorem dJ32_init_2_10 : decode cJ32_init_2 10 = .ok (.invokevirtual 15, 3) := dk_182 0 15 (dk_at dksJ32_init_2_0 10 rfl rfl)
theorem dJ32_init_2_13 : decode cJ32_init_2 13 = .ok (.iload_n 1, 1) := dk_27 (dk_at dksJ32_init_2_0 13 rfl rfl)
theorem dJ32_init_2_14 : decode cJ32_init_2 14 = .ok (.invokevirtual 19, 3) := dk_182 0 19 (dk_at dksJ32_init_2_0 14 rfl rfl)
theorem dJ32_init_2_17 : decode cJ32_init_2 17 = .ok (.invokevirtual 22, 3) := dk_182 0 22 (dk_at dksJ32_init_2_0 17 rfl rfl)
theorem dJ32_init_2_20 : decode cJ32_init_2 20 = .ok (.invokespecial 7, 3) := dk_183 0 7 (dk_at dksJ32_init_2_0 20 rfl rfl)
theorem dJ32_init_2_23 : decode cJ32_init_2 23 = .ok (.return_, 1) := dk_177 (dk_at dksJ32_init_2_0 23 rfl rfl)
theorem q134 : (Jvm.Cond.initialized "java/lang/ArrayIndexOutOfBoundsException") ∈ lw_all := lw_g (lw_at lw_m1 40 rfl) rfl
theorem q394 : (Jvm.Cond.selects "java/lang/ArrayIndexOutOfBoundsException" ({ cls := "java/lang/Throwable", name := "fillInStackTrace", desc := "()Ljava/lang/Throwable;" } : Jvm.MethodName) ({ cls := "java/lang/Throwable", name := "fillInStackTrace", desc := "()Ljava/lang/Throwable;" } : Jvm.MethodName)) ∈ lw_all := lw_g (lw_at lw_m2 60 rfl) rfl
theorem q857 : (Jvm.Cond.selects "java/lang/ArrayIndexOutOfBoundsException" ({ cls := "java/lang/Throwable", name := "toString", desc := "()Ljava/lang/String;" } : Jvm.MethodName) ({ cls := "java/lang/Throwable", name := "toString", desc := "()Ljava/lang/String;" } : Jvm.MethodName)) ∈ lw_all := lw_g (lw_at lw_m4 43 rfl) rfl
theorem q874 : (Jvm.Cond.selects "java/lang/ArrayIndexOutOfBoundsException" ({ cls := "java/lang/Object", name := "getClass", desc := "()Ljava/lang/Class;" } : Jvm.MethodName) ({ cls := "java/lang/Object", name := "getClass", desc := "()Ljava/lang/Class;" } : Jvm.MethodName)) ∈ lw_all := lw_g (lw_at lw_m4 60 rfl) rfl
theorem q901 : (Jvm.Cond.selects "java/lang/ArrayIndexOutOfBoundsException" ({ cls := "java/lang/Throwable", name := "getLocalizedMessage", desc := "()Ljava/lang/String;" } : Jvm.MethodName) ({ cls := "java/lang/Throwable", name := "getLocalizedMessage", desc := "()Ljava/lang/String;" } : Jvm.MethodName)) ∈ lw_all := lw_g (lw_at lw_m4 87 rfl) rfl
theorem q912 : (Jvm.Cond.selects "java/lang/ArrayIndexOutOfBoundsException" ({ cls := "java/lang/Throwable", name := "getMessage", desc := "()Ljava/lang/String;" } : Jvm.MethodName) ({ cls := "java/lang/Throwable", name := "getMessage", desc := "()Ljava/lang/String;" } : Jvm.MethodName)) ∈ lw_all := lw_g (lw_at lw_m4 98 rfl) rfl
theorem q1657 : (Jvm.Cond.instantiable "java/lang/ArrayIndexOutOfBoundsException" (6 : Nat)) ∈ lw_all := lw_g (lw_at lw_m7 123 rfl) rfl
theorem q1658 : (Jvm.Cond.instanceMethod ({ cls := "java/lang/ArrayIndexOutOfBoundsException", name := "<init>", desc := "(Ljava/lang/String;)V" } : Jvm.MethodName)) ∈ lw_all := lw_g (lw_at lw_m7 124 rfl) rfl
theorem q1659 : (Jvm.Cond.code ({ cls := "java/lang/ArrayIndexOutOfBoundsException", name := "<init>", desc := "(Ljava/lang/String;)V" } : Jvm.MethodName) prog_13_method_2_code (2 : Nat) (Option.none : Option Jvm.ClassFile.FieldType)) ∈ lw_all := lw_g (lw_at lw_m7 125 rfl) rfl
theorem q1660 : (Jvm.Cond.methodLink "java/lang/ArrayIndexOutOfBoundsException" (7 : Nat) ({ cls := "java/lang/IndexOutOfBoundsException", name := "<init>", desc := "(Ljava/lang/String;)V" } : Jvm.MethodName)) ∈ lw_all := lw_g (lw_at lw_m7 126 rfl) rfl
theorem q1661 : (Jvm.Cond.lays "java/lang/ArrayIndexOutOfBoundsException" "java/lang/Throwable" "backtrace" "Ljava/lang/Object;") ∈ lw_all := lw_g (lw_at lw_m7 127 rfl) rfl
theorem q1662 : (Jvm.Cond.lays "java/lang/ArrayIndexOutOfBoundsException" "java/lang/Throwable" "detailMessage" "Ljava/lang/String;") ∈ lw_all := lw_g (lw_at lw_m7 128 rfl) rfl
theorem q1663 : (Jvm.Cond.lays "java/lang/ArrayIndexOutOfBoundsException" "java/lang/Throwable" "cause" "Ljava/lang/Throwable;") ∈ lw_all := lw_g (lw_at lw_m7 129 rfl) rfl
theorem q1664 : (Jvm.Cond.lays "java/lang/ArrayIndexOutOfBoundsException" "java/lang/Throwable" "stackTrace" "[Ljava/lang/StackTraceElement;") ∈ lw_all := lw_g (lw_at lw_m7 130 rfl) rfl
theorem q1665 : (Jvm.Cond.lays "java/lang/ArrayIndexOutOfBoundsException" "java/lang/Throwable" "depth" "I") ∈ lw_all := lw_g (lw_at lw_m7 131 rfl) rfl
theorem q1666 : (Jvm.Cond.lays "java/lang/ArrayIndexOutOfBoundsException" "java/lang/Throwable" "suppressedExceptions" "Ljava/util/List;") ∈ lw_all := lw_g (lw_at lw_m7 132 rfl) rfl
theorem q1667 : (Jvm.Cond.superclass "java/lang/ArrayIndexOutOfBoundsException" "java/lang/IndexOutOfBoundsException") ∈ lw_all := lw_g (lw_at lw_m7 133 rfl) rfl
theorem q1668 : (Jvm.Cond.castable "java/lang/ArrayIndexOutOfBoundsException" "java/lang/ArrayIndexOutOfBoundsException") ∈ lw_tbl := lw_at lw_m7 134 rfl
theorem q1671 : (Jvm.Cond.selects "java/lang/ArrayIndexOutOfBoundsException" ({ cls := "java/lang/Throwable", name := "fillInStackTrace", desc := "(I)Ljava/lang/Throwable;" } : Jvm.MethodName) ({ cls := "java/lang/Throwable", name := "fillInStackTrace", desc := "(I)Ljava/lang/Throwable;" } : Jvm.MethodName)) ∈ lw_all := lw_g (lw_at lw_m7 137 rfl) rfl
theorem q2027 : (Jvm.Cond.instanceMethod ({ cls := "java/lang/ArrayIndexOutOfBoundsException", name := "<init>", desc := "(I)V" } : Jvm.MethodName)) ∈ lw_all := lw_g (lw_at lw_m9 13 rfl) rfl
theorem q2028 : (Jvm.Cond.code ({ cls := "java/lang/ArrayIndexOutOfBoundsException", name := "<init>", desc := "(I)V" } : Jvm.MethodName) prog_13_method_3_code (2 : Nat) (Option.none : Option Jvm.ClassFile.FieldType)) ∈ lw_all := lw_g (lw_at lw_m9 14 rfl) rfl
theorem q2029 : (Jvm.Cond.classLink "java/lang/ArrayIndexOutOfBoundsException" (10 : Nat) "java/lang/StringBuilder") ∈ lw_all := lw_g (lw_at lw_m9 15 rfl) rfl
theorem q2030 : (Jvm.Cond.methodLink "java/lang/ArrayIndexOutOfBoundsException" (12 : Nat) ({ cls := "java/lang/StringBuilder", name := "<init>", desc := "()V" } : Jvm.MethodName)) ∈ lw_all := lw_g (lw_at lw_m9 16 rfl) rfl
theorem q2031 : (Jvm.Cond.stringRef "java/lang/ArrayIndexOutOfBoundsException" (13 : Nat) "Array index out of range: ") ∈ lw_tbl := lw_at lw_m9 17 rfl
theorem q2032 : (Jvm.Cond.methodLink "java/lang/ArrayIndexOutOfBoundsException" (15 : Nat) ({ cls := "java/lang/StringBuilder", name := "append", desc := "(Ljava/lang/String;)Ljava/lang/StringBuilder;" } : Jvm.MethodName)) ∈ lw_all := lw_g (lw_at lw_m9 18 rfl) rfl
theorem q2033 : (Jvm.Cond.methodLink "java/lang/ArrayIndexOutOfBoundsException" (19 : Nat) ({ cls := "java/lang/StringBuilder", name := "append", desc := "(I)Ljava/lang/StringBuilder;" } : Jvm.MethodName)) ∈ lw_all := lw_g (lw_at lw_m9 19 rfl) rfl
theorem q2034 : (Jvm.Cond.methodLink "java/lang/ArrayIndexOutOfBoundsException" (22 : Nat) ({ cls := "java/lang/StringBuilder", name := "toString", desc := "()Ljava/lang/String;" } : Jvm.MethodName)) ∈ lw_all := lw_g (lw_at lw_m9 20 rfl) rfl
theorem q2341 : (Jvm.Cond.selects "java/lang/ArrayIndexOutOfBoundsException" ({ cls := "java/lang/Object", name := "equals", desc := "(Ljava/lang/Object;)Z" } : Jvm.MethodName) ({ cls := "java/lang/Object", name := "equals", desc := "(Ljava/lang/Object;)Z" } : Jvm.MethodName)) ∈ lw_all := lw_g (lw_at lw_m10 87 rfl) rfl
theorem q3100 : (Jvm.Cond.castable "java/lang/ArrayIndexOutOfBoundsException" "java/lang/IndexOutOfBoundsException") ∈ lw_tbl := lw_at lw_m13 126 rfl
theorem q3121 : (Jvm.Cond.castable "java/lang/ArrayIndexOutOfBoundsException" "java/lang/Object") ∈ lw_tbl := lw_at lw_m13 147 rfl
theorem in_J32 : ∀ w ∈ wsJ320, w ∈ lw_all := lw_in wsJ320 [1661, 1662, 1663, 1664, 1665, 1666] (by decide +kernel) (by decide +kernel)

/-! java/lang/StringIndexOutOfBoundsException -/
set_option maxRecDepth 100000
def RJ33 : String := "java/lang/StringIndexOutOfBoundsException"
def TJ33 : u_T := fun k => match k with
  | 0 => ("java/lang/Throwable", "backtrace", "Ljava/lang/Object;", false)
  | 1 => ("java/lang/Throwable", "detailMessage", "Ljava/lang/String;", false)
  | 2 => ("java/lang/Throwable", "cause", "Ljava/lang/Throwable;", false)
  | 3 => ("java/lang/Throwable", "stackTrace", "[Ljava/lang/StackTraceElement;", false)
  | 4 => ("java/lang/Throwable", "depth", "I", false)
  | _ => ("java/lang/Throwable", "suppressedExceptions", "Ljava/util/List;", false)
def tyJ33 : Nat → FieldType := fun k => match k with
  | 0 => .object "java/lang/Object"
  | 1 => .object "java/lang/String"
  | 2 => .object "java/lang/Throwable"
  | 3 => .array (.object "java/lang/StackTraceElement")
  | 4 => .int
  | _ => .object "java/util/List"
abbrev wsJ330 : List Cond := u_ws RJ33 TJ33 6
theorem nmJ33 : ∀ a, a < 6 → ∀ b, b < 6 → a ≠ b → (TJ33 a).2.1 ≠ (TJ33 b).2.1 := by decide +kernel
theorem tyJ33_ok : ∀ k, k < 6 → parseFieldDescriptor (TJ33 k).2.2.1 = some (tyJ33 k) := by decide +kernel
abbrev cJ33_init : ByteArray := prog_29_method_3_code
def yJ33_init : MethodName := ⟨RJ33, "<init>", "(I)V"⟩
def dkwJ33_init_0 : List UInt8 := [42, 187, 0, 10, 89, 183, 0, 12, 18, 13, 182, 0, 15, 27, 182, 0, 19, 182, 0, 22, 183, 0, 7, 177]
abbrev dktJ33_init_0 : List UInt8 := dkwJ33_init_0 ++ []
theorem dksJ33_init_0 : cJ33_init.data.toList.drop 0 = dktJ33_init_0 := by decide +kernel
theorem dJ33_init_0 : decode cJ33_init 0 = .ok (.aload_n 0, 1) := dk_42 (dk_at dksJ33_init_0 0 rfl rfl)
theorem dJ33_init_1 : decode cJ33_init 1 = .ok (.new 10, 3) := dk_187 0 10 (dk_at dksJ33_init_0 1 rfl rfl)
theorem dJ33_init_4 : decode cJ33_init 4 = .ok (.dup, 1) := dk_89 (dk_at dksJ33_init_0 4 rfl rfl)
theorem dJ33_init_5 : decode cJ33_init 5 = .ok (.invokespecial 12, 3) := dk_183 0 12 (dk_at dksJ33_init_0 5 rfl rfl)
theorem dJ33_init_8 : decode cJ33_init 8 = .ok (.ldc 13, 2) := dk_18 13 (dk_at dksJ33_init_0 8 rfl rfl)
theorem dJ33_init_10 : decode cJ33_init 10 = .ok (.invokevirtual 15, 3) := dk_182 0 15 (dk_at dksJ33_init_0 10 rfl rfl)
theorem dJ33_init_13 : decode cJ33_init 13 = .ok (.iload_n 1, 1) := dk_27 (dk_at dksJ33_init_0 13 rfl rfl)
theorem dJ33_init_14 : decode cJ33_init 14 = .ok (.invokevirtual 19, 3) := dk_182 0 19 (dk_at dksJ33_init_0 14 rfl rfl)
theorem dJ33_init_17 : decode cJ33_init 17 = .ok (.invokevirtual 22, 3) := dk_182 0 22 (dk_at dksJ33_init_0 17 rfl rfl)
theorem dJ33_init_20 : decode cJ33_init 20 = .ok (.invokespecial 7, 3) := dk_183 0 7 (dk_at dksJ33_init_0 20 rfl rfl)
theorem dJ33_init_23 : decode cJ33_init 23 = .ok (.return_, 1) := dk_177 (dk_at dksJ33_init_0 23 rfl rfl)
theorem q135 : (Jvm.Cond.initialized "java/lang/StringIndexOutOfBoundsException") ∈ lw_all := lw_g (lw_at lw_m1 41 rfl) rfl
theorem q397 : (Jvm.Cond.selects "java/lang/StringIndexOutOfBoundsException" ({ cls := "java/lang/Throwable", name := "fillInStackTrace", desc := "()Ljava/lang/Throwable;" } : Jvm.MethodName) ({ cls := "java/lang/Throwable", name := "fillInStackTrace", desc := "()Ljava/lang/Throwable;" } : Jvm.MethodName)) ∈ lw_all := lw_g (lw_at lw_m2 63 rfl) rfl
theorem q861 : (Jvm.Cond.selects "java/lang/StringIndexOutOfBoundsException" ({ cls := "java/lang/Throwable", name := "toString", desc := "()Ljava/lang/String;" } : Jvm.MethodName) ({ cls := "java/lang/Throwable", name := "toString", desc := "()Ljava/lang/String;" } : Jvm.MethodName)) ∈ lw_all := lw_g (lw_at lw_m4 47 rfl) rfl
theorem q881 : (Jvm.Cond.selects "java/lang/StringIndexOutOfBoundsException" ({ cls := "java/lang/Object", name := "getClass", desc := "()Ljava/lang/Class;" } : Jvm.MethodName) ({ cls := "java/lang/Object", name := "getClass", desc := "()Ljava/lang/Class;" } : Jvm.MethodName)) ∈ lw_all := lw_g (lw_at lw_m4 67 rfl) rfl
theorem q905 : (Jvm.Cond.selects "java/lang/StringIndexOutOfBoundsException" ({ cls := "java/lang/Throwable", name := "getLocalizedMessage", desc := "()Ljava/lang/String;" } : Jvm.MethodName) ({ cls := "java/lang/Throwable", name := "getLocalizedMessage", desc := "()Ljava/lang/String;" } : Jvm.MethodName)) ∈ lw_all := lw_g (lw_at lw_m4 91 rfl) rfl
theorem q916 : (Jvm.Cond.selects "java/lang/StringIndexOutOfBoundsException" ({ cls := "java/lang/Throwable", name := "getMessage", desc := "()Ljava/lang/String;" } : Jvm.MethodName) ({ cls := "java/lang/Throwable", name := "getMessage", desc := "()Ljava/lang/String;" } : Jvm.MethodName)) ∈ lw_all := lw_g (lw_at lw_m4 102 rfl) rfl
theorem q1995 : (Jvm.Cond.instantiable "java/lang/StringIndexOutOfBoundsException" (6 : Nat)) ∈ lw_all := lw_g (lw_at lw_m8 221 rfl) rfl
theorem q1997 : (Jvm.Cond.instanceMethod ({ cls := "java/lang/StringIndexOutOfBoundsException", name := "<init>", desc := "(I)V" } : Jvm.MethodName)) ∈ lw_all := lw_g (lw_at lw_m8 223 rfl) rfl
theorem q1998 : (Jvm.Cond.code ({ cls := "java/lang/StringIndexOutOfBoundsException", name := "<init>", desc := "(I)V" } : Jvm.MethodName) prog_29_method_3_code (2 : Nat) (Option.none : Option Jvm.ClassFile.FieldType)) ∈ lw_all := lw_g (lw_at lw_m8 224 rfl) rfl
theorem q1999 : (Jvm.Cond.classLink "java/lang/StringIndexOutOfBoundsException" (10 : Nat) "java/lang/StringBuilder") ∈ lw_all := lw_g (lw_at lw_m8 225 rfl) rfl
theorem q2000 : (Jvm.Cond.methodLink "java/lang/StringIndexOutOfBoundsException" (12 : Nat) ({ cls := "java/lang/StringBuilder", name := "<init>", desc := "()V" } : Jvm.MethodName)) ∈ lw_all := lw_g (lw_at lw_m8 226 rfl) rfl
theorem q2001 : (Jvm.Cond.stringRef "java/lang/StringIndexOutOfBoundsException" (13 : Nat) "String index out of range: ") ∈ lw_tbl := lw_at lw_m8 227 rfl
theorem q2002 : (Jvm.Cond.methodLink "java/lang/StringIndexOutOfBoundsException" (15 : Nat) ({ cls := "java/lang/StringBuilder", name := "append", desc := "(Ljava/lang/String;)Ljava/lang/StringBuilder;" } : Jvm.MethodName)) ∈ lw_all := lw_g (lw_at lw_m8 228 rfl) rfl
theorem q2003 : (Jvm.Cond.methodLink "java/lang/StringIndexOutOfBoundsException" (19 : Nat) ({ cls := "java/lang/StringBuilder", name := "append", desc := "(I)Ljava/lang/StringBuilder;" } : Jvm.MethodName)) ∈ lw_all := lw_g (lw_at lw_m8 229 rfl) rfl
theorem q2004 : (Jvm.Cond.methodLink "java/lang/StringIndexOutOfBoundsException" (22 : Nat) ({ cls := "java/lang/StringBuilder", name := "toString", desc := "()Ljava/lang/String;" } : Jvm.MethodName)) ∈ lw_all := lw_g (lw_at lw_m8 230 rfl) rfl
theorem q2005 : (Jvm.Cond.methodLink "java/lang/StringIndexOutOfBoundsException" (7 : Nat) ({ cls := "java/lang/IndexOutOfBoundsException", name := "<init>", desc := "(Ljava/lang/String;)V" } : Jvm.MethodName)) ∈ lw_all := lw_g (lw_at lw_m8 231 rfl) rfl
theorem q2006 : (Jvm.Cond.lays "java/lang/StringIndexOutOfBoundsException" "java/lang/Throwable" "backtrace" "Ljava/lang/Object;") ∈ lw_all := lw_g (lw_at lw_m8 232 rfl) rfl
theorem q2007 : (Jvm.Cond.lays "java/lang/StringIndexOutOfBoundsException" "java/lang/Throwable" "detailMessage" "Ljava/lang/String;") ∈ lw_all := lw_g (lw_at lw_m8 233 rfl) rfl
theorem q2008 : (Jvm.Cond.lays "java/lang/StringIndexOutOfBoundsException" "java/lang/Throwable" "cause" "Ljava/lang/Throwable;") ∈ lw_all := lw_g (lw_at lw_m8 234 rfl) rfl
theorem q2009 : (Jvm.Cond.lays "java/lang/StringIndexOutOfBoundsException" "java/lang/Throwable" "stackTrace" "[Ljava/lang/StackTraceElement;") ∈ lw_all := lw_g (lw_at lw_m8 235 rfl) rfl
theorem q2010 : (Jvm.Cond.lays "java/lang/StringIndexOutOfBoundsException" "java/lang/Throwable" "depth" "I") ∈ lw_all := lw_g (lw_at lw_m8 236 rfl) rfl
theorem q2011 : (Jvm.Cond.lays "java/lang/StringIndexOutOfBoundsException" "java/lang/Throwable" "suppressedExceptions" "Ljava/util/List;") ∈ lw_all := lw_g (lw_at lw_m8 237 rfl) rfl
theorem q2012 : (Jvm.Cond.superclass "java/lang/StringIndexOutOfBoundsException" "java/lang/IndexOutOfBoundsException") ∈ lw_all := lw_g (lw_at lw_m8 238 rfl) rfl
theorem q2357 : (Jvm.Cond.selects "java/lang/StringIndexOutOfBoundsException" ({ cls := "java/lang/Object", name := "equals", desc := "(Ljava/lang/Object;)Z" } : Jvm.MethodName) ({ cls := "java/lang/Object", name := "equals", desc := "(Ljava/lang/Object;)Z" } : Jvm.MethodName)) ∈ lw_all := lw_g (lw_at lw_m10 103 rfl) rfl
theorem q3101 : (Jvm.Cond.castable "java/lang/StringIndexOutOfBoundsException" "java/lang/IndexOutOfBoundsException") ∈ lw_tbl := lw_at lw_m13 127 rfl
theorem q3122 : (Jvm.Cond.castable "java/lang/StringIndexOutOfBoundsException" "java/lang/Object") ∈ lw_tbl := lw_at lw_m13 148 rfl
theorem in_J33 : ∀ w ∈ wsJ330, w ∈ lw_all := lw_in wsJ330 [2006, 2007, 2008, 2009, 2010, 2011] (by decide +kernel) (by decide +kernel)

/-! java/util/List -/
set_option maxRecDepth 100000
def RJ34 : String := "java/util/List"
abbrev cJ34_of : ByteArray := prog_61_method_43_code
def yJ34_of : MethodName := ⟨RJ34, "of", "(Ljava/lang/Object;Ljava/lang/Object;Ljava/lang/Object;Ljava/lang/Object;Ljava/lang/Object;Ljava/lang/Object;Ljava/lang/Object;)Ljava/util/List;"⟩
def dkwJ34_of_1 : List UInt8 := [25, 4, 83, 89, 8, 25, 5, 83, 89, 16, 6, 25, 6, 83, 184, 0, 105, 176]
abbrev dktJ34_of_1 : List UInt8 := dkwJ34_of_1 ++ []
def dkwJ34_of_0 : List UInt8 := [16, 7, 189, 0, 103, 89, 3, 42, 83, 89, 4, 43, 83, 89, 5, 44, 83, 89, 6, 45, 83, 89, 7]
abbrev dktJ34_of_0 : List UInt8 := dkwJ34_of_0 ++ dktJ34_of_1
theorem dksJ34_of_0 : cJ34_of.data.toList.drop 0 = dktJ34_of_0 := by decide +kernel
theorem dksJ34_of_1 : cJ34_of.data.toList.drop 23 = dktJ34_of_1 := dk_seg dksJ34_of_0 23 rfl rfl
theorem dJ34_of_0 : decode cJ34_of 0 = .ok (.bipush 7, 2) := dk_16 7 (dk_at dksJ34_of_0 0 rfl rfl)
theorem dJ34_of_2 : decode cJ34_of 2 = .ok (.anewarray 103, 3) := dk_189 0 103 (dk_at dksJ34_of_0 2 rfl rfl)
theorem dJ34_of_5 : decode cJ34_of 5 = .ok (.dup, 1) := dk_89 (dk_at dksJ34_of_0 5 rfl rfl)
theorem dJ34_of_6 : decode cJ34_of 6 = .ok (.iconst 0, 1) := dk_3 (dk_at dksJ34_of_0 6 rfl rfl)
theorem dJ34_of_7 : decode cJ34_of 7 = .ok (.aload_n 0, 1) := dk_42 (dk_at dksJ34_of_0 7 rfl rfl)
theorem dJ34_of_8 : decode cJ34_of 8 = .ok (.aastore, 1) := dk_83 (dk_at dksJ34_of_0 8 rfl rfl)
theorem dJ34_of_9 : decode cJ34_of 9 = .ok (.dup, 1) := dk_89 (dk_at dksJ34_of_0 9 rfl rfl)
theorem dJ34_of_10 : decode cJ34_of 10 = .ok (.iconst 1, 1) := dk_4 (dk_at dksJ34_of_0 10 rfl rfl)
theorem dJ34_of_11 : decode cJ34_of 11 = .ok (.aload_n 1, 1) := dk_43 (dk_at dksJ34_of_0 11 rfl rfl)
theorem dJ34_of_12 : decode cJ34_of 12 = .ok (.aastore, 1) := dk_83 (dk_at dksJ34_of_0 12 rfl rfl)
theorem dJ34_of_13 : decode cJ34_of 13 = .ok (.dup, 1) := dk_89 (dk_at dksJ34_of_0 13 rfl rfl)
theorem dJ34_of_14 : decode cJ34_of 14 = .ok (.iconst 2, 1) := dk_5 (dk_at dksJ34_of_0 14 rfl rfl)
theorem dJ34_of_15 : decode cJ34_of 15 = .ok (.aload_n 2, 1) := dk_44 (dk_at dksJ34_of_0 15 rfl rfl)
theorem dJ34_of_16 : decode cJ34_of 16 = .ok (.aastore, 1) := dk_83 (dk_at dksJ34_of_0 16 rfl rfl)
theorem dJ34_of_17 : decode cJ34_of 17 = .ok (.dup, 1) := dk_89 (dk_at dksJ34_of_0 17 rfl rfl)
theorem dJ34_of_18 : decode cJ34_of 18 = .ok (.iconst 3, 1) := dk_6 (dk_at dksJ34_of_0 18 rfl rfl)
theorem dJ34_of_19 : decode cJ34_of 19 = .ok (.aload_n 3, 1) := dk_45 (dk_at dksJ34_of_0 19 rfl rfl)
theorem dJ34_of_20 : decode cJ34_of 20 = .ok (.aastore, 1) := dk_83 (dk_at dksJ34_of_0 20 rfl rfl)
theorem dJ34_of_21 : decode cJ34_of 21 = .ok (.dup, 1) := dk_89 (dk_at dksJ34_of_0 21 rfl rfl)
theorem dJ34_of_22 : decode cJ34_of 22 = .ok (.iconst 4, 1) := dk_7 (dk_at dksJ34_of_0 22 rfl rfl)
theorem dJ34_of_23 : decode cJ34_of 23 = .ok (.aload 4, 2) := dk_25 4 (dk_at dksJ34_of_1 0 rfl rfl)
theorem dJ34_of_25 : decode cJ34_of 25 = .ok (.aastore, 1) := dk_83 (dk_at dksJ34_of_1 2 rfl rfl)
theorem dJ34_of_26 : decode cJ34_of 26 = .ok (.dup, 1) := dk_89 (dk_at dksJ34_of_1 3 rfl rfl)
theorem dJ34_of_27 : decode cJ34_of 27 = .ok (.iconst 5, 1) := dk_8 (dk_at dksJ34_of_1 4 rfl rfl)
theorem dJ34_of_28 : decode cJ34_of 28 = .ok (.aload 5, 2) := dk_25 5 (dk_at dksJ34_of_1 5 rfl rfl)
theorem dJ34_of_30 : decode cJ34_of 30 = .ok (.aastore, 1) := dk_83 (dk_at dksJ34_of_1 7 rfl rfl)
theorem dJ34_of_31 : decode cJ34_of 31 = .ok (.dup, 1) := dk_89 (dk_at dksJ34_of_1 8 rfl rfl)
theorem dJ34_of_32 : decode cJ34_of 32 = .ok (.bipush 6, 2) := dk_16 6 (dk_at dksJ34_of_1 9 rfl rfl)
theorem dJ34_of_34 : decode cJ34_of 34 = .ok (.aload 6, 2) := dk_25 6 (dk_at dksJ34_of_1 11 rfl rfl)
theorem dJ34_of_36 : decode cJ34_of 36 = .ok (.aastore, 1) := dk_83 (dk_at dksJ34_of_1 13 rfl rfl)
theorem dJ34_of_37 : decode cJ34_of 37 = .ok (.invokestatic 105, 3) := dk_184 0 105 (dk_at dksJ34_of_1 14 rfl rfl)
theorem dJ34_of_40 : decode cJ34_of 40 = .ok (.areturn, 1) := dk_176 (dk_at dksJ34_of_1 17 rfl rfl)
theorem q137 : (Jvm.Cond.initialized "java/util/List") ∈ lw_all := lw_g (lw_at lw_m1 43 rfl) rfl
theorem q971 : (Jvm.Cond.interfaceMethod "java/util/List" "java/util/List" "get" "(I)Ljava/lang/Object;") ∈ lw_tbl := lw_at lw_m4 157 rfl
theorem q972 : (Jvm.Cond.declares ({ cls := "java/util/List", name := "get", desc := "(I)Ljava/lang/Object;" } : Jvm.MethodName)) ∈ lw_tbl := lw_at lw_m4 158 rfl
theorem q2112 : (Jvm.Cond.static ({ cls := "java/util/List", name := "of", desc := "(Ljava/lang/Object;Ljava/lang/Object;Ljava/lang/Object;Ljava/lang/Object;Ljava/lang/Object;Ljava/lang/Object;Ljava/lang/Object;)Ljava/util/List;" } : Jvm.MethodName)) ∈ lw_all := lw_g (lw_at lw_m9 98 rfl) rfl
theorem q2113 : (Jvm.Cond.code ({ cls := "java/util/List", name := "of", desc := "(Ljava/lang/Object;Ljava/lang/Object;Ljava/lang/Object;Ljava/lang/Object;Ljava/lang/Object;Ljava/lang/Object;Ljava/lang/Object;)Ljava/util/List;" } : Jvm.MethodName) prog_61_method_43_code (7 : Nat) (Option.some (Jvm.ClassFile.FieldType.object "java/util/List"))) ∈ lw_all := lw_g (lw_at lw_m9 99 rfl) rfl
theorem q2114 : (Jvm.Cond.classLink "java/util/List" (103 : Nat) "java/lang/Object") ∈ lw_all := lw_g (lw_at lw_m9 100 rfl) rfl
theorem q2115 : (Jvm.Cond.methodLink "java/util/List" (105 : Nat) ({ cls := "java/util/ImmutableCollections", name := "listFromTrustedArray", desc := "([Ljava/lang/Object;)Ljava/util/List;" } : Jvm.MethodName)) ∈ lw_all := lw_g (lw_at lw_m9 101 rfl) rfl
theorem q2251 : (Jvm.Cond.interfaceMethod "java/util/List" "java/util/List" "iterator" "()Ljava/util/Iterator;") ∈ lw_tbl := lw_at lw_m9 237 rfl
theorem q2252 : (Jvm.Cond.declares ({ cls := "java/util/List", name := "iterator", desc := "()Ljava/util/Iterator;" } : Jvm.MethodName)) ∈ lw_tbl := lw_at lw_m9 238 rfl
theorem q2316 : (Jvm.Cond.interfaceMethod "java/util/List" "java/util/List" "contains" "(Ljava/lang/Object;)Z") ∈ lw_tbl := lw_at lw_m10 62 rfl
theorem q2317 : (Jvm.Cond.declares ({ cls := "java/util/List", name := "contains", desc := "(Ljava/lang/Object;)Z" } : Jvm.MethodName)) ∈ lw_tbl := lw_at lw_m10 63 rfl
theorem q2366 : (Jvm.Cond.declares ({ cls := "java/util/List", name := "indexOf", desc := "(Ljava/lang/Object;)I" } : Jvm.MethodName)) ∈ lw_tbl := lw_at lw_m10 112 rfl

/-! java/util/ImmutableCollections$AbstractImmutableCollection -/
set_option maxRecDepth 100000
def RJ35 : String := "java/util/ImmutableCollections$AbstractImmutableCollection"
abbrev cJ35_init : ByteArray := prog_52_method_1_code
def yJ35_init : MethodName := ⟨RJ35, "<init>", "()V"⟩
theorem dJ35_init_0 : decode cJ35_init 0 = .ok (.aload_n 0, 1) := by decide +kernel
theorem dJ35_init_1 : decode cJ35_init 1 = .ok (.invokespecial 1, 3) := by decide +kernel
theorem dJ35_init_4 : decode cJ35_init 4 = .ok (.return_, 1) := by decide +kernel
theorem q138 : (Jvm.Cond.initialized "java/util/ImmutableCollections$AbstractImmutableCollection") ∈ lw_all := lw_g (lw_at lw_m1 44 rfl) rfl
theorem q2136 : (Jvm.Cond.instanceMethod ({ cls := "java/util/ImmutableCollections$AbstractImmutableCollection", name := "<init>", desc := "()V" } : Jvm.MethodName)) ∈ lw_all := lw_g (lw_at lw_m9 122 rfl) rfl
theorem q2137 : (Jvm.Cond.code ({ cls := "java/util/ImmutableCollections$AbstractImmutableCollection", name := "<init>", desc := "()V" } : Jvm.MethodName) prog_52_method_1_code (1 : Nat) (Option.none : Option Jvm.ClassFile.FieldType)) ∈ lw_all := lw_g (lw_at lw_m9 123 rfl) rfl
theorem q2138 : (Jvm.Cond.methodLink "java/util/ImmutableCollections$AbstractImmutableCollection" (1 : Nat) ({ cls := "java/util/AbstractCollection", name := "<init>", desc := "()V" } : Jvm.MethodName)) ∈ lw_all := lw_g (lw_at lw_m9 124 rfl) rfl

/-! java/util/ImmutableCollections$AbstractImmutableList -/
set_option maxRecDepth 100000
def RJ36 : String := "java/util/ImmutableCollections$AbstractImmutableList"
abbrev cJ36_outOfBounds : ByteArray := prog_53_method_17_code
def yJ36_outOfBounds : MethodName := ⟨RJ36, "outOfBounds", "(I)Ljava/lang/IndexOutOfBoundsException;"⟩
def dkwJ36_outOfBounds_1 : List UInt8 := [182, 0, 36, 42, 182, 0, 13, 182, 0, 40, 182, 0, 43, 183, 0, 47, 176]
abbrev dktJ36_outOfBounds_1 : List UInt8 := dkwJ36_outOfBounds_1 ++ []
def dkwJ36_outOfBounds_0 : List UInt8 := [187, 0, 29, 89, 187, 0, 31, 89, 183, 0, 33, 18, 116, 182, 0, 36, 27, 182, 0, 40, 18, 118]
abbrev dktJ36_outOfBounds_0 : List UInt8 := dkwJ36_outOfBounds_0 ++ dktJ36_outOfBounds_1
theorem dksJ36_outOfBounds_0 : cJ36_outOfBounds.data.toList.drop 0 = dktJ36_outOfBounds_0 := by decide +kernel
theorem dksJ36_outOfBounds_1 : cJ36_outOfBounds.data.toList.drop 22 = dktJ36_outOfBounds_1 := dk_seg dksJ36_outOfBounds_0 22 rfl rfl
theorem dJ36_outOfBounds_0 : decode cJ36_outOfBounds 0 = .ok (.new 29, 3) := dk_187 0 29 (dk_at dksJ36_outOfBounds_0 0 rfl rfl)
theorem dJ36_outOfBounds_3 : decode cJ36_outOfBounds 3 = .ok (.dup, 1) := dk_89 (dk_at dksJ36_outOfBounds_0 3 rfl rfl)
theorem dJ36_outOfBounds_4 : decode cJ36_outOfBounds 4 = .ok (.new 31, 3) := dk_187 0 31 (dk_at dksJ36_outOfBounds_0 4 rfl rfl)
theorem dJ36_outOfBounds_7 : decode cJ36_outOfBounds 7 = .ok (.dup, 1) := dk_89 (dk_at dksJ36_outOfBounds_0 7 rfl rfl)
theorem dJ36_outOfBounds_8 : decode cJ36_outOfBounds 8 = .ok (.invokespecial 33, 3) := dk_183 0 33 (dk_at dksJ36_outOfBounds_0 8 rfl rfl)
theorem dJ36_outOfBounds_11 : decode cJ36_outOfBounds 11 = .ok (.ldc 116, 2) := dk_18 116 (dk_at dksJ36_outOfBounds_0 11 rfl rfl)
theorem dJ36_outOfBounds_13 : decode cJ36_outOfBounds 13 = .ok (.invokevirtual 36, 3) := dk_182 0 36 (dk_at dksJ36_outOfBounds_0 13 rfl rfl)
theorem dJ36_outOfBounds_16 : decode cJ36_outOfBounds 16 = .ok (.iload_n 1, 1) := dk_27 (dk_at dksJ36_outOfBounds_0 16 rfl rfl)
theorem dJ36_outOfBounds_17 : decode cJ36_outOfBounds 17 = .ok (.invokevirtual 40, 3) := dk_182 0 40 (dk_at dksJ36_outOfBounds_0 17 rfl rfl)
theorem dJ36_outOfBounds_20 : decode cJ36_outOfBounds 20 = .ok (.ldc 118, 2) := dk_18 118 (dk_at dksJ36_outOfBounds_0 20 rfl rfl)
theorem dJ36_outOfBounds_22 : decode cJ36_outOfBounds 22 = .ok (.invokevirtual 36, 3) := dk_182 0 36 (dk_at dksJ36_outOfBounds_1 0 rfl rfl)
theorem dJ36_outOfBounds_25 : decode cJ36_outOfBounds 25 = .ok (.aload_n 0, 1) := dk_42 (dk_at dksJ36_outOfBounds_1 3 rfl rfl)
theorem dJ36_outOfBounds_26 : decode cJ36_outOfBounds 26 = .ok (.invokevirtual 13, 3) := dk_182 0 13 (dk_at dksJ36_outOfBounds_1 4 rfl rfl)
theorem dJ36_outOfBounds_29 : decode cJ36_outOfBounds 29 = .ok (.invokevirtual 40, 3) := dk_182 0 40 (dk_at dksJ36_outOfBounds_1 7 rfl rfl)
theorem dJ36_outOfBounds_32 : decode cJ36_outOfBounds 32 = .ok (.invokevirtual 43, 3) := dk_182 0 43 (dk_at dksJ36_outOfBounds_1 10 rfl rfl)
theorem dJ36_outOfBounds_35 : decode cJ36_outOfBounds 35 = .ok (.invokespecial 47, 3) := dk_183 0 47 (dk_at dksJ36_outOfBounds_1 13 rfl rfl)
theorem dJ36_outOfBounds_38 : decode cJ36_outOfBounds 38 = .ok (.areturn, 1) := dk_176 (dk_at dksJ36_outOfBounds_1 16 rfl rfl)
abbrev cJ36_init : ByteArray := prog_53_method_1_code
def yJ36_init : MethodName := ⟨RJ36, "<init>", "()V"⟩
theorem dJ36_init_0 : decode cJ36_init 0 = .ok (.aload_n 0, 1) := by decide +kernel
theorem dJ36_init_1 : decode cJ36_init 1 = .ok (.invokespecial 1, 3) := by decide +kernel
theorem dJ36_init_4 : decode cJ36_init 4 = .ok (.return_, 1) := by decide +kernel
abbrev cJ36_iterator : ByteArray := prog_53_method_10_code
def yJ36_iterator : MethodName := ⟨RJ36, "iterator", "()Ljava/util/Iterator;"⟩
def dkwJ36_iterator_0 : List UInt8 := [187, 0, 61, 89, 42, 42, 182, 0, 13, 183, 0, 63, 176]
abbrev dktJ36_iterator_0 : List UInt8 := dkwJ36_iterator_0 ++ []
theorem dksJ36_iterator_0 : cJ36_iterator.data.toList.drop 0 = dktJ36_iterator_0 := by decide +kernel
theorem dJ36_iterator_0 : decode cJ36_iterator 0 = .ok (.new 61, 3) := dk_187 0 61 (dk_at dksJ36_iterator_0 0 rfl rfl)
theorem dJ36_iterator_3 : decode cJ36_iterator 3 = .ok (.dup, 1) := dk_89 (dk_at dksJ36_iterator_0 3 rfl rfl)
theorem dJ36_iterator_4 : decode cJ36_iterator 4 = .ok (.aload_n 0, 1) := dk_42 (dk_at dksJ36_iterator_0 4 rfl rfl)
theorem dJ36_iterator_5 : decode cJ36_iterator 5 = .ok (.aload_n 0, 1) := dk_42 (dk_at dksJ36_iterator_0 5 rfl rfl)
theorem dJ36_iterator_6 : decode cJ36_iterator 6 = .ok (.invokevirtual 13, 3) := dk_182 0 13 (dk_at dksJ36_iterator_0 6 rfl rfl)
theorem dJ36_iterator_9 : decode cJ36_iterator 9 = .ok (.invokespecial 63, 3) := dk_183 0 63 (dk_at dksJ36_iterator_0 9 rfl rfl)
theorem dJ36_iterator_12 : decode cJ36_iterator 12 = .ok (.areturn, 1) := dk_176 (dk_at dksJ36_iterator_0 12 rfl rfl)
abbrev cJ36_contains : ByteArray := prog_53_method_15_code
def yJ36_contains : MethodName := ⟨RJ36, "contains", "(Ljava/lang/Object;)Z"⟩
def dkwJ36_contains_0 : List UInt8 := [42, 43, 182, 0, 107, 155, 0, 7, 4, 167, 0, 4, 3, 172]
abbrev dktJ36_contains_0 : List UInt8 := dkwJ36_contains_0 ++ []
theorem dksJ36_contains_0 : cJ36_contains.data.toList.drop 0 = dktJ36_contains_0 := by decide +kernel
theorem dJ36_contains_0 : decode cJ36_contains 0 = .ok (.aload_n 0, 1) := dk_42 (dk_at dksJ36_contains_0 0 rfl rfl)
theorem dJ36_contains_1 : decode cJ36_contains 1 = .ok (.aload_n 1, 1) := dk_43 (dk_at dksJ36_contains_0 1 rfl rfl)
theorem dJ36_contains_2 : decode cJ36_contains 2 = .ok (.invokevirtual 107, 3) := dk_182 0 107 (dk_at dksJ36_contains_0 2 rfl rfl)
theorem dJ36_contains_5 : decode cJ36_contains 5 = .ok (.ifCond .lt 7, 3) := dk_155 0 7 (dk_at dksJ36_contains_0 5 rfl rfl)
theorem dJ36_contains_8 : decode cJ36_contains 8 = .ok (.iconst 1, 1) := dk_4 (dk_at dksJ36_contains_0 8 rfl rfl)
theorem dJ36_contains_9 : decode cJ36_contains 9 = .ok (.goto 4, 3) := dk_167 0 4 (dk_at dksJ36_contains_0 9 rfl rfl)
theorem dJ36_contains_12 : decode cJ36_contains 12 = .ok (.iconst 0, 1) := dk_3 (dk_at dksJ36_contains_0 12 rfl rfl)
theorem dJ36_contains_13 : decode cJ36_contains 13 = .ok (.ireturn, 1) := dk_172 (dk_at dksJ36_contains_0 13 rfl rfl)
theorem q139 : (Jvm.Cond.initialized "java/util/ImmutableCollections$AbstractImmutableList") ∈ lw_all := lw_g (lw_at lw_m1 45 rfl) rfl
theorem q987 : (Jvm.Cond.declares ({ cls := "java/util/ImmutableCollections$AbstractImmutableList", name := "outOfBounds", desc := "(I)Ljava/lang/IndexOutOfBoundsException;" } : Jvm.MethodName)) ∈ lw_tbl := lw_at lw_m4 173 rfl
theorem q989 : (Jvm.Cond.instanceMethod ({ cls := "java/util/ImmutableCollections$AbstractImmutableList", name := "outOfBounds", desc := "(I)Ljava/lang/IndexOutOfBoundsException;" } : Jvm.MethodName)) ∈ lw_all := lw_g (lw_at lw_m4 175 rfl) rfl
theorem q990 : (Jvm.Cond.code ({ cls := "java/util/ImmutableCollections$AbstractImmutableList", name := "outOfBounds", desc := "(I)Ljava/lang/IndexOutOfBoundsException;" } : Jvm.MethodName) prog_53_method_17_code (2 : Nat) (Option.some (Jvm.ClassFile.FieldType.object "java/lang/IndexOutOfBoundsException"))) ∈ lw_all := lw_g (lw_at lw_m4 176 rfl) rfl
theorem q991 : (Jvm.Cond.classLink "java/util/ImmutableCollections$AbstractImmutableList" (29 : Nat) "java/lang/IndexOutOfBoundsException") ∈ lw_all := lw_g (lw_at lw_m4 177 rfl) rfl
theorem q992 : (Jvm.Cond.classLink "java/util/ImmutableCollections$AbstractImmutableList" (31 : Nat) "java/lang/StringBuilder") ∈ lw_all := lw_g (lw_at lw_m4 178 rfl) rfl
theorem q993 : (Jvm.Cond.methodLink "java/util/ImmutableCollections$AbstractImmutableList" (33 : Nat) ({ cls := "java/lang/StringBuilder", name := "<init>", desc := "()V" } : Jvm.MethodName)) ∈ lw_all := lw_g (lw_at lw_m4 179 rfl) rfl
theorem q994 : (Jvm.Cond.stringRef "java/util/ImmutableCollections$AbstractImmutableList" (116 : Nat) "Index: ") ∈ lw_tbl := lw_at lw_m4 180 rfl
theorem q995 : (Jvm.Cond.methodLink "java/util/ImmutableCollections$AbstractImmutableList" (36 : Nat) ({ cls := "java/lang/StringBuilder", name := "append", desc := "(Ljava/lang/String;)Ljava/lang/StringBuilder;" } : Jvm.MethodName)) ∈ lw_all := lw_g (lw_at lw_m4 181 rfl) rfl
theorem q996 : (Jvm.Cond.methodLink "java/util/ImmutableCollections$AbstractImmutableList" (40 : Nat) ({ cls := "java/lang/StringBuilder", name := "append", desc := "(I)Ljava/lang/StringBuilder;" } : Jvm.MethodName)) ∈ lw_all := lw_g (lw_at lw_m4 182 rfl) rfl
theorem q997 : (Jvm.Cond.stringRef "java/util/ImmutableCollections$AbstractImmutableList" (118 : Nat) " Size: ") ∈ lw_tbl := lw_at lw_m4 183 rfl
theorem q998 : (Jvm.Cond.methodLink "java/util/ImmutableCollections$AbstractImmutableList" (13 : Nat) ({ cls := "java/util/ImmutableCollections$AbstractImmutableList", name := "size", desc := "()I" } : Jvm.MethodName)) ∈ lw_all := lw_g (lw_at lw_m4 184 rfl) rfl
theorem q999 : (Jvm.Cond.sameMethod "java/util/ImmutableCollections$AbstractImmutableList" "java/util/AbstractCollection" "size" "()I") ∈ lw_all := lw_g (lw_at lw_m4 185 rfl) rfl
theorem q1006 : (Jvm.Cond.methodLink "java/util/ImmutableCollections$AbstractImmutableList" (43 : Nat) ({ cls := "java/lang/StringBuilder", name := "toString", desc := "()Ljava/lang/String;" } : Jvm.MethodName)) ∈ lw_all := lw_g (lw_at lw_m4 192 rfl) rfl
theorem q1007 : (Jvm.Cond.methodLink "java/util/ImmutableCollections$AbstractImmutableList" (47 : Nat) ({ cls := "java/lang/IndexOutOfBoundsException", name := "<init>", desc := "(Ljava/lang/String;)V" } : Jvm.MethodName)) ∈ lw_all := lw_g (lw_at lw_m4 193 rfl) rfl
theorem q2133 : (Jvm.Cond.instanceMethod ({ cls := "java/util/ImmutableCollections$AbstractImmutableList", name := "<init>", desc := "()V" } : Jvm.MethodName)) ∈ lw_all := lw_g (lw_at lw_m9 119 rfl) rfl
theorem q2134 : (Jvm.Cond.code ({ cls := "java/util/ImmutableCollections$AbstractImmutableList", name := "<init>", desc := "()V" } : Jvm.MethodName) prog_53_method_1_code (1 : Nat) (Option.none : Option Jvm.ClassFile.FieldType)) ∈ lw_all := lw_g (lw_at lw_m9 120 rfl) rfl
theorem q2135 : (Jvm.Cond.methodLink "java/util/ImmutableCollections$AbstractImmutableList" (1 : Nat) ({ cls := "java/util/ImmutableCollections$AbstractImmutableCollection", name := "<init>", desc := "()V" } : Jvm.MethodName)) ∈ lw_all := lw_g (lw_at lw_m9 121 rfl) rfl
theorem q2268 : (Jvm.Cond.instanceMethod ({ cls := "java/util/ImmutableCollections$AbstractImmutableList", name := "iterator", desc := "()Ljava/util/Iterator;" } : Jvm.MethodName)) ∈ lw_all := lw_g (lw_at lw_m10 14 rfl) rfl
theorem q2269 : (Jvm.Cond.publicMethod ({ cls := "java/util/ImmutableCollections$AbstractImmutableList", name := "iterator", desc := "()Ljava/util/Iterator;" } : Jvm.MethodName)) ∈ lw_tbl := lw_at lw_m10 15 rfl
theorem q2270 : (Jvm.Cond.code ({ cls := "java/util/ImmutableCollections$AbstractImmutableList", name := "iterator", desc := "()Ljava/util/Iterator;" } : Jvm.MethodName) prog_53_method_10_code (1 : Nat) (Option.some (Jvm.ClassFile.FieldType.object "java/util/Iterator"))) ∈ lw_all := lw_g (lw_at lw_m10 16 rfl) rfl
theorem q2271 : (Jvm.Cond.classLink "java/util/ImmutableCollections$AbstractImmutableList" (61 : Nat) "java/util/ImmutableCollections$ListItr") ∈ lw_all := lw_g (lw_at lw_m10 17 rfl) rfl
theorem q2273 : (Jvm.Cond.methodLink "java/util/ImmutableCollections$AbstractImmutableList" (63 : Nat) ({ cls := "java/util/ImmutableCollections$ListItr", name := "<init>", desc := "(Ljava/util/List;I)V" } : Jvm.MethodName)) ∈ lw_all := lw_g (lw_at lw_m10 19 rfl) rfl
theorem q2362 : (Jvm.Cond.instanceMethod ({ cls := "java/util/ImmutableCollections$AbstractImmutableList", name := "contains", desc := "(Ljava/lang/Object;)Z" } : Jvm.MethodName)) ∈ lw_all := lw_g (lw_at lw_m10 108 rfl) rfl
theorem q2363 : (Jvm.Cond.publicMethod ({ cls := "java/util/ImmutableCollections$AbstractImmutableList", name := "contains", desc := "(Ljava/lang/Object;)Z" } : Jvm.MethodName)) ∈ lw_tbl := lw_at lw_m10 109 rfl
theorem q2364 : (Jvm.Cond.code ({ cls := "java/util/ImmutableCollections$AbstractImmutableList", name := "contains", desc := "(Ljava/lang/Object;)Z" } : Jvm.MethodName) prog_53_method_15_code (2 : Nat) (Option.some Jvm.ClassFile.FieldType.boolean)) ∈ lw_all := lw_g (lw_at lw_m10 110 rfl) rfl
theorem q2365 : (Jvm.Cond.superclass "java/util/ImmutableCollections$AbstractImmutableList" "java/util/ImmutableCollections$AbstractImmutableCollection") ∈ lw_all := lw_g (lw_at lw_m10 111 rfl) rfl

/-! java/util/ImmutableCollections$List12 -/
set_option maxRecDepth 100000
def RJ37 : String := "java/util/ImmutableCollections$List12"
def TJ37 : u_T := fun k => match k with
  | 0 => ("java/util/ImmutableCollections$List12", "e0", "Ljava/lang/Object;", true)
  | _ => ("java/util/ImmutableCollections$List12", "e1", "Ljava/lang/Object;", true)
def tyJ37 : Nat → FieldType := fun k => match k with
  | 0 => .object "java/lang/Object"
  | _ => .object "java/lang/Object"
abbrev wsJ370 : List Cond := u_ws RJ37 TJ37 2
theorem nmJ37 : ∀ a, a < 2 → ∀ b, b < 2 → a ≠ b → (TJ37 a).2.1 ≠ (TJ37 b).2.1 := by decide +kernel
theorem tyJ37_ok : ∀ k, k < 2 → parseFieldDescriptor (TJ37 k).2.2.1 = some (tyJ37 k) := by decide +kernel
abbrev cJ37_get : ByteArray := prog_54_method_5_code
def yJ37_get : MethodName := ⟨RJ37, "get", "(I)Ljava/lang/Object;"⟩
def dkwJ37_get_1 : List UInt8 := [42, 180, 0, 24, 176, 42, 27, 182, 0, 27, 191]
abbrev dktJ37_get_1 : List UInt8 := dkwJ37_get_1 ++ []
def dkwJ37_get_0 : List UInt8 := [27, 154, 0, 8, 42, 180, 0, 13, 176, 27, 4, 160, 0, 18, 42, 180, 0, 24, 178, 0, 19, 165, 0, 8]
abbrev dktJ37_get_0 : List UInt8 := dkwJ37_get_0 ++ dktJ37_get_1
theorem dksJ37_get_0 : cJ37_get.data.toList.drop 0 = dktJ37_get_0 := by decide +kernel
theorem dksJ37_get_1 : cJ37_get.data.toList.drop 24 = dktJ37_get_1 := dk_seg dksJ37_get_0 24 rfl rfl
theorem dJ37_get_0 : decode cJ37_get 0 = .ok (.iload_n 1, 1) := dk_27 (dk_at dksJ37_get_0 0 rfl rfl)
theorem dJ37_get_1 : decode cJ37_get 1 = .ok (.ifCond .ne 8, 3) := dk_154 0 8 (dk_at dksJ37_get_0 1 rfl rfl)
theorem dJ37_get_4 : decode cJ37_get 4 = .ok (.aload_n 0, 1) := dk_42 (dk_at dksJ37_get_0 4 rfl rfl)
theorem dJ37_get_5 : decode cJ37_get 5 = .ok (.getfield 13, 3) := dk_180 0 13 (dk_at dksJ37_get_0 5 rfl rfl)
theorem dJ37_get_8 : decode cJ37_get 8 = .ok (.areturn, 1) := dk_176 (dk_at dksJ37_get_0 8 rfl rfl)
theorem dJ37_get_9 : decode cJ37_get 9 = .ok (.iload_n 1, 1) := dk_27 (dk_at dksJ37_get_0 9 rfl rfl)
theorem dJ37_get_10 : decode cJ37_get 10 = .ok (.iconst 1, 1) := dk_4 (dk_at dksJ37_get_0 10 rfl rfl)
theorem dJ37_get_11 : decode cJ37_get 11 = .ok (.if_icmp .ne 18, 3) := dk_160 0 18 (dk_at dksJ37_get_0 11 rfl rfl)
theorem dJ37_get_14 : decode cJ37_get 14 = .ok (.aload_n 0, 1) := dk_42 (dk_at dksJ37_get_0 14 rfl rfl)
theorem dJ37_get_15 : decode cJ37_get 15 = .ok (.getfield 24, 3) := dk_180 0 24 (dk_at dksJ37_get_0 15 rfl rfl)
theorem dJ37_get_18 : decode cJ37_get 18 = .ok (.getstatic 19, 3) := dk_178 0 19 (dk_at dksJ37_get_0 18 rfl rfl)
theorem dJ37_get_21 : decode cJ37_get 21 = .ok (.if_acmp .eq 8, 3) := dk_165 0 8 (dk_at dksJ37_get_0 21 rfl rfl)
theorem dJ37_get_24 : decode cJ37_get 24 = .ok (.aload_n 0, 1) := dk_42 (dk_at dksJ37_get_1 0 rfl rfl)
theorem dJ37_get_25 : decode cJ37_get 25 = .ok (.getfield 24, 3) := dk_180 0 24 (dk_at dksJ37_get_1 1 rfl rfl)
theorem dJ37_get_28 : decode cJ37_get 28 = .ok (.areturn, 1) := dk_176 (dk_at dksJ37_get_1 4 rfl rfl)
theorem dJ37_get_29 : decode cJ37_get 29 = .ok (.aload_n 0, 1) := dk_42 (dk_at dksJ37_get_1 5 rfl rfl)
theorem dJ37_get_30 : decode cJ37_get 30 = .ok (.iload_n 1, 1) := dk_27 (dk_at dksJ37_get_1 6 rfl rfl)
theorem dJ37_get_31 : decode cJ37_get 31 = .ok (.invokevirtual 27, 3) := dk_182 0 27 (dk_at dksJ37_get_1 7 rfl rfl)
theorem dJ37_get_34 : decode cJ37_get 34 = .ok (.athrow, 1) := dk_191 (dk_at dksJ37_get_1 10 rfl rfl)
abbrev cJ37_size : ByteArray := prog_54_method_3_code
def yJ37_size : MethodName := ⟨RJ37, "size", "()I"⟩
def dkwJ37_size_0 : List UInt8 := [42, 180, 0, 24, 178, 0, 19, 165, 0, 7, 5, 167, 0, 4, 4, 172]
abbrev dktJ37_size_0 : List UInt8 := dkwJ37_size_0 ++ []
theorem dksJ37_size_0 : cJ37_size.data.toList.drop 0 = dktJ37_size_0 := by decide +kernel
theorem dJ37_size_0 : decode cJ37_size 0 = .ok (.aload_n 0, 1) := dk_42 (dk_at dksJ37_size_0 0 rfl rfl)
theorem dJ37_size_1 : decode cJ37_size 1 = .ok (.getfield 24, 3) := dk_180 0 24 (dk_at dksJ37_size_0 1 rfl rfl)
theorem dJ37_size_4 : decode cJ37_size 4 = .ok (.getstatic 19, 3) := dk_178 0 19 (dk_at dksJ37_size_0 4 rfl rfl)
theorem dJ37_size_7 : decode cJ37_size 7 = .ok (.if_acmp .eq 7, 3) := dk_165 0 7 (dk_at dksJ37_size_0 7 rfl rfl)
theorem dJ37_size_10 : decode cJ37_size 10 = .ok (.iconst 2, 1) := dk_5 (dk_at dksJ37_size_0 10 rfl rfl)
theorem dJ37_size_11 : decode cJ37_size 11 = .ok (.goto 4, 3) := dk_167 0 4 (dk_at dksJ37_size_0 11 rfl rfl)
theorem dJ37_size_14 : decode cJ37_size 14 = .ok (.iconst 1, 1) := dk_4 (dk_at dksJ37_size_0 14 rfl rfl)
theorem dJ37_size_15 : decode cJ37_size 15 = .ok (.ireturn, 1) := dk_172 (dk_at dksJ37_size_0 15 rfl rfl)
abbrev cJ37_init : ByteArray := prog_54_method_1_code
def yJ37_init : MethodName := ⟨RJ37, "<init>", "(Ljava/lang/Object;)V"⟩
def dkwJ37_init_0 : List UInt8 := [42, 183, 0, 1, 42, 43, 184, 0, 7, 181, 0, 13, 42, 178, 0, 19, 181, 0, 24, 177]
abbrev dktJ37_init_0 : List UInt8 := dkwJ37_init_0 ++ []
theorem dksJ37_init_0 : cJ37_init.data.toList.drop 0 = dktJ37_init_0 := by decide +kernel
theorem dJ37_init_0 : decode cJ37_init 0 = .ok (.aload_n 0, 1) := dk_42 (dk_at dksJ37_init_0 0 rfl rfl)
theorem dJ37_init_1 : decode cJ37_init 1 = .ok (.invokespecial 1, 3) := dk_183 0 1 (dk_at dksJ37_init_0 1 rfl rfl)
theorem dJ37_init_4 : decode cJ37_init 4 = .ok (.aload_n 0, 1) := dk_42 (dk_at dksJ37_init_0 4 rfl rfl)
theorem dJ37_init_5 : decode cJ37_init 5 = .ok (.aload_n 1, 1) := dk_43 (dk_at dksJ37_init_0 5 rfl rfl)
theorem dJ37_init_6 : decode cJ37_init 6 = .ok (.invokestatic 7, 3) := dk_184 0 7 (dk_at dksJ37_init_0 6 rfl rfl)
theorem dJ37_init_9 : decode cJ37_init 9 = .ok (.putfield 13, 3) := dk_181 0 13 (dk_at dksJ37_init_0 9 rfl rfl)
theorem dJ37_init_12 : decode cJ37_init 12 = .ok (.aload_n 0, 1) := dk_42 (dk_at dksJ37_init_0 12 rfl rfl)
theorem dJ37_init_13 : decode cJ37_init 13 = .ok (.getstatic 19, 3) := dk_178 0 19 (dk_at dksJ37_init_0 13 rfl rfl)
theorem dJ37_init_16 : decode cJ37_init 16 = .ok (.putfield 24, 3) := dk_181 0 24 (dk_at dksJ37_init_0 16 rfl rfl)
theorem dJ37_init_19 : decode cJ37_init 19 = .ok (.return_, 1) := dk_177 (dk_at dksJ37_init_0 19 rfl rfl)
abbrev cJ37_init_2 : ByteArray := prog_54_method_2_code
def yJ37_init_2 : MethodName := ⟨RJ37, "<init>", "(Ljava/lang/Object;Ljava/lang/Object;)V"⟩
def dkwJ37_init_2_0 : List UInt8 := [42, 183, 0, 1, 42, 43, 184, 0, 7, 181, 0, 13, 42, 44, 184, 0, 7, 181, 0, 24, 177]
abbrev dktJ37_init_2_0 : List UInt8 := dkwJ37_init_2_0 ++ []
theorem dksJ37_init_2_0 : cJ37_init_2.data.toList.drop 0 = dktJ37_init_2_0 := by decide +kernel
theorem dJ37_init_2_0 : decode cJ37_init_2 0 = .ok (.aload_n 0, 1) := dk_42 (dk_at dksJ37_init_2_0 0 rfl rfl)
theorem dJ37_init_2_1 : decode cJ37_init_2 1 = .ok (.invokespecial 1, 3) := dk_183 0 1 (dk_at dksJ37_init_2_0 1 rfl rfl)
theorem dJ37_init_2_4 : decode cJ37_init_2 4 = .ok (.aload_n 0, 1) := dk_42 (dk_at dksJ37_init_2_0 4 rfl rfl)
theorem dJ37_init_2_5 : decode cJ37_init_2 5 = .ok (.aload_n 1, 1) := dk_43 (dk_at dksJ37_init_2_0 5 rfl rfl)
theorem dJ37_init_2_6 : decode cJ37_init_2 6 = .ok (.invokestatic 7, 3) := dk_184 0 7 (dk_at dksJ37_init_2_0 6 rfl rfl)
theorem dJ37_init_2_9 : decode cJ37_init_2 9 = .ok (.putfield 13, 3) := dk_181 0 13 (dk_at dksJ37_init_2_0 9 rfl rfl)
theorem dJ37_init_2_12 : decode cJ37_init_2 12 = .ok (.aload_n 0, 1) := dk_42 (dk_at dksJ37_init_2_0 12 rfl rfl)
theorem dJ37_init_2_13 : decode cJ37_init_2 13 = .ok (.aload_n 2, 1) := dk_44 (dk_at dksJ37_init_2_0 13 rfl rfl)
theorem dJ37_init_2_14 : decode cJ37_init_2 14 = .ok (.invokestatic 7, 3) := dk_184 0 7 (dk_at dksJ37_init_2_0 14 rfl rfl)
theorem dJ37_init_2_17 : decode cJ37_init_2 17 = .ok (.putfield 24, 3) := dk_181 0 24 (dk_at dksJ37_init_2_0 17 rfl rfl)
theorem dJ37_init_2_20 : decode cJ37_init_2 20 = .ok (.return_, 1) := dk_177 (dk_at dksJ37_init_2_0 20 rfl rfl)
abbrev cJ37_indexOf : ByteArray := prog_54_method_6_code
def yJ37_indexOf : MethodName := ⟨RJ37, "indexOf", "(Ljava/lang/Object;)I"⟩
def dkwJ37_indexOf_1 : List UInt8 := [178, 0, 19, 165, 0, 16, 43, 42, 180, 0, 24, 182, 0, 31, 153, 0, 5, 4, 172, 2, 172]
abbrev dktJ37_indexOf_1 : List UInt8 := dkwJ37_indexOf_1 ++ []
def dkwJ37_indexOf_0 : List UInt8 := [43, 184, 0, 7, 87, 43, 42, 180, 0, 13, 182, 0, 31, 153, 0, 5, 3, 172, 42, 180, 0, 24]
abbrev dktJ37_indexOf_0 : List UInt8 := dkwJ37_indexOf_0 ++ dktJ37_indexOf_1
theorem dksJ37_indexOf_0 : cJ37_indexOf.data.toList.drop 0 = dktJ37_indexOf_0 := by decide +kernel
theorem dksJ37_indexOf_1 : cJ37_indexOf.data.toList.drop 22 = dktJ37_indexOf_1 := dk_seg dksJ37_indexOf_0 22 rfl rfl
theorem dJ37_indexOf_0 : decode cJ37_indexOf 0 = .ok (.aload_n 1, 1) := dk_43 (dk_at dksJ37_indexOf_0 0 rfl rfl)
theorem dJ37_indexOf_1 : decode cJ37_indexOf 1 = .ok (.invokestatic 7, 3) := dk_184 0 7 (dk_at dksJ37_indexOf_0 1 rfl rfl)
theorem dJ37_indexOf_4 : decode cJ37_indexOf 4 = .ok (.pop, 1) := dk_87 (dk_at dksJ37_indexOf_0 4 rfl rfl)
theorem dJ37_indexOf_5 : decode cJ37_indexOf 5 = .ok (.aload_n 1, 1) := dk_43 (dk_at dksJ37_indexOf_0 5 rfl rfl)
theorem dJ37_indexOf_6 : decode cJ37_indexOf 6 = .ok (.aload_n 0, 1) := dk_42 (dk_at dksJ37_indexOf_0 6 rfl rfl)
theorem dJ37_indexOf_7 : decode cJ37_indexOf 7 = .ok (.getfield 13, 3) := dk_180 0 13 (dk_at dksJ37_indexOf_0 7 rfl rfl)
theorem dJ37_indexOf_10 : decode cJ37_indexOf 10 = .ok (.invokevirtual 31, 3) := dk_182 0 31 (dk_at dksJ37_indexOf_0 10 rfl rfl)
theorem dJ37_indexOf_13 : decode cJ37_indexOf 13 = .ok (.ifCond .eq 5, 3) := dk_153 0 5 (dk_at dksJ37_indexOf_0 13 rfl rfl)
theorem dJ37_indexOf_16 : decode cJ37_indexOf 16 = .ok (.iconst 0, 1) := dk_3 (dk_at dksJ37_indexOf_0 16 rfl rfl)
theorem dJ37_indexOf_17 : decode cJ37_indexOf 17 = .ok (.ireturn, 1) := dk_172 (dk_at dksJ37_indexOf_0 17 rfl rfl)
theorem dJ37_indexOf_18 : decode cJ37_indexOf 18 = .ok (.aload_n 0, 1) := dk_42 (dk_at dksJ37_indexOf_0 18 rfl rfl)
theorem dJ37_indexOf_19 : decode cJ37_indexOf 19 = .ok (.getfield 24, 3) := dk_180 0 24 (dk_at dksJ37_indexOf_0 19 rfl rfl)
theorem dJ37_indexOf_22 : decode cJ37_indexOf 22 = .ok (.getstatic 19, 3) := dk_178 0 19 (dk_at dksJ37_indexOf_1 0 rfl rfl)
theorem dJ37_indexOf_25 : decode cJ37_indexOf 25 = .ok (.if_acmp .eq 16, 3) := dk_165 0 16 (dk_at dksJ37_indexOf_1 3 rfl rfl)
theorem dJ37_indexOf_28 : decode cJ37_indexOf 28 = .ok (.aload_n 1, 1) := dk_43 (dk_at dksJ37_indexOf_1 6 rfl rfl)
theorem dJ37_indexOf_29 : decode cJ37_indexOf 29 = .ok (.aload_n 0, 1) := dk_42 (dk_at dksJ37_indexOf_1 7 rfl rfl)
theorem dJ37_indexOf_30 : decode cJ37_indexOf 30 = .ok (.getfield 24, 3) := dk_180 0 24 (dk_at dksJ37_indexOf_1 8 rfl rfl)
theorem dJ37_indexOf_33 : decode cJ37_indexOf 33 = .ok (.invokevirtual 31, 3) := dk_182 0 31 (dk_at dksJ37_indexOf_1 11 rfl rfl)
theorem dJ37_indexOf_36 : decode cJ37_indexOf 36 = .ok (.ifCond .eq 5, 3) := dk_153 0 5 (dk_at dksJ37_indexOf_1 14 rfl rfl)
theorem dJ37_indexOf_39 : decode cJ37_indexOf 39 = .ok (.iconst 1, 1) := dk_4 (dk_at dksJ37_indexOf_1 17 rfl rfl)
theorem dJ37_indexOf_40 : decode cJ37_indexOf 40 = .ok (.ireturn, 1) := dk_172 (dk_at dksJ37_indexOf_1 18 rfl rfl)
theorem dJ37_indexOf_41 : decode cJ37_indexOf 41 = .ok (.iconst (-1), 1) := dk_2 (dk_at dksJ37_indexOf_1 19 rfl rfl)
theorem dJ37_indexOf_42 : decode cJ37_indexOf 42 = .ok (.ireturn, 1) := dk_172 (dk_at dksJ37_indexOf_1 20 rfl rfl)
theorem q140 : (Jvm.Cond.initialized "java/util/ImmutableCollections$List12") ∈ lw_all := lw_g (lw_at lw_m1 46 rfl) rfl
theorem q890 : (Jvm.Cond.selects "java/util/ImmutableCollections$List12" ({ cls := "java/lang/Object", name := "getClass", desc := "()Ljava/lang/Class;" } : Jvm.MethodName) ({ cls := "java/lang/Object", name := "getClass", desc := "()Ljava/lang/Class;" } : Jvm.MethodName)) ∈ lw_all := lw_g (lw_at lw_m4 76 rfl) rfl
theorem q977 : (Jvm.Cond.castable "java/util/ImmutableCollections$List12" "java/util/List") ∈ lw_tbl := lw_at lw_m4 163 rfl
theorem q978 : (Jvm.Cond.selects "java/util/ImmutableCollections$List12" ({ cls := "java/util/List", name := "get", desc := "(I)Ljava/lang/Object;" } : Jvm.MethodName) ({ cls := "java/util/ImmutableCollections$List12", name := "get", desc := "(I)Ljava/lang/Object;" } : Jvm.MethodName)) ∈ lw_all := lw_g (lw_at lw_m4 164 rfl) rfl
theorem q979 : (Jvm.Cond.unhidden "java/util/ImmutableCollections$List12" "get" "(I)Ljava/lang/Object;") ∈ lw_tbl := lw_at lw_m4 165 rfl
theorem q980 : (Jvm.Cond.instanceMethod ({ cls := "java/util/ImmutableCollections$List12", name := "get", desc := "(I)Ljava/lang/Object;" } : Jvm.MethodName)) ∈ lw_all := lw_g (lw_at lw_m4 166 rfl) rfl
theorem q981 : (Jvm.Cond.publicMethod ({ cls := "java/util/ImmutableCollections$List12", name := "get", desc := "(I)Ljava/lang/Object;" } : Jvm.MethodName)) ∈ lw_tbl := lw_at lw_m4 167 rfl
theorem q982 : (Jvm.Cond.code ({ cls := "java/util/ImmutableCollections$List12", name := "get", desc := "(I)Ljava/lang/Object;" } : Jvm.MethodName) prog_54_method_5_code (2 : Nat) (Option.some (Jvm.ClassFile.FieldType.object "java/lang/Object"))) ∈ lw_all := lw_g (lw_at lw_m4 168 rfl) rfl
theorem q983 : (Jvm.Cond.fieldLinkNest "java/util/ImmutableCollections$List12" (19 : Nat) "java/util/ImmutableCollections" "EMPTY" "Ljava/lang/Object;" "java/util/ImmutableCollections") ∈ lw_tbl := lw_at lw_m4 169 rfl
theorem q985 : (Jvm.Cond.methodLink "java/util/ImmutableCollections$List12" (27 : Nat) ({ cls := "java/util/ImmutableCollections$List12", name := "outOfBounds", desc := "(I)Ljava/lang/IndexOutOfBoundsException;" } : Jvm.MethodName)) ∈ lw_all := lw_g (lw_at lw_m4 171 rfl) rfl
theorem q986 : (Jvm.Cond.sameMethod "java/util/ImmutableCollections$List12" "java/util/ImmutableCollections$AbstractImmutableList" "outOfBounds" "(I)Ljava/lang/IndexOutOfBoundsException;") ∈ lw_all := lw_g (lw_at lw_m4 172 rfl) rfl
theorem q988 : (Jvm.Cond.selects "java/util/ImmutableCollections$List12" ({ cls := "java/util/ImmutableCollections$List12", name := "outOfBounds", desc := "(I)Ljava/lang/IndexOutOfBoundsException;" } : Jvm.MethodName) ({ cls := "java/util/ImmutableCollections$AbstractImmutableList", name := "outOfBounds", desc := "(I)Ljava/lang/IndexOutOfBoundsException;" } : Jvm.MethodName)) ∈ lw_all := lw_g (lw_at lw_m4 174 rfl) rfl
theorem q1000 : (Jvm.Cond.selects "java/util/ImmutableCollections$List12" ({ cls := "java/util/ImmutableCollections$AbstractImmutableList", name := "size", desc := "()I" } : Jvm.MethodName) ({ cls := "java/util/ImmutableCollections$List12", name := "size", desc := "()I" } : Jvm.MethodName)) ∈ lw_all := lw_g (lw_at lw_m4 186 rfl) rfl
theorem q1001 : (Jvm.Cond.instanceMethod ({ cls := "java/util/ImmutableCollections$List12", name := "size", desc := "()I" } : Jvm.MethodName)) ∈ lw_all := lw_g (lw_at lw_m4 187 rfl) rfl
theorem q1002 : (Jvm.Cond.code ({ cls := "java/util/ImmutableCollections$List12", name := "size", desc := "()I" } : Jvm.MethodName) prog_54_method_3_code (1 : Nat) (Option.some Jvm.ClassFile.FieldType.int)) ∈ lw_all := lw_g (lw_at lw_m4 188 rfl) rfl
theorem q2128 : (Jvm.Cond.instantiable "java/util/ImmutableCollections$List12" (2 : Nat)) ∈ lw_all := lw_g (lw_at lw_m9 114 rfl) rfl
theorem q2130 : (Jvm.Cond.instanceMethod ({ cls := "java/util/ImmutableCollections$List12", name := "<init>", desc := "(Ljava/lang/Object;)V" } : Jvm.MethodName)) ∈ lw_all := lw_g (lw_at lw_m9 116 rfl) rfl
theorem q2131 : (Jvm.Cond.code ({ cls := "java/util/ImmutableCollections$List12", name := "<init>", desc := "(Ljava/lang/Object;)V" } : Jvm.MethodName) prog_54_method_1_code (2 : Nat) (Option.none : Option Jvm.ClassFile.FieldType)) ∈ lw_all := lw_g (lw_at lw_m9 117 rfl) rfl
theorem q2132 : (Jvm.Cond.methodLink "java/util/ImmutableCollections$List12" (1 : Nat) ({ cls := "java/util/ImmutableCollections$AbstractImmutableList", name := "<init>", desc := "()V" } : Jvm.MethodName)) ∈ lw_all := lw_g (lw_at lw_m9 118 rfl) rfl
theorem q2139 : (Jvm.Cond.methodLink "java/util/ImmutableCollections$List12" (7 : Nat) ({ cls := "java/util/Objects", name := "requireNonNull", desc := "(Ljava/lang/Object;)Ljava/lang/Object;" } : Jvm.MethodName)) ∈ lw_all := lw_g (lw_at lw_m9 125 rfl) rfl
theorem q2140 : (Jvm.Cond.fieldLink "java/util/ImmutableCollections$List12" (13 : Nat) "java/util/ImmutableCollections$List12" "e0" "Ljava/lang/Object;") ∈ lw_all := lw_g (lw_at lw_m9 126 rfl) rfl
theorem q2141 : (Jvm.Cond.fieldLink "java/util/ImmutableCollections$List12" (24 : Nat) "java/util/ImmutableCollections$List12" "e1" "Ljava/lang/Object;") ∈ lw_all := lw_g (lw_at lw_m9 127 rfl) rfl
theorem q2142 : (Jvm.Cond.laysFinal "java/util/ImmutableCollections$List12" "java/util/ImmutableCollections$List12" "e0" "Ljava/lang/Object;") ∈ lw_all := lw_g (lw_at lw_m9 128 rfl) rfl
theorem q2143 : (Jvm.Cond.soleField "java/util/ImmutableCollections$List12" "e0") ∈ lw_all := lw_g (lw_at lw_m9 129 rfl) rfl
theorem q2144 : (Jvm.Cond.laysFinal "java/util/ImmutableCollections$List12" "java/util/ImmutableCollections$List12" "e1" "Ljava/lang/Object;") ∈ lw_all := lw_g (lw_at lw_m9 130 rfl) rfl
theorem q2145 : (Jvm.Cond.soleField "java/util/ImmutableCollections$List12" "e1") ∈ lw_all := lw_g (lw_at lw_m9 131 rfl) rfl
theorem q2146 : (Jvm.Cond.superclass "java/util/ImmutableCollections$List12" "java/util/ImmutableCollections$AbstractImmutableList") ∈ lw_all := lw_g (lw_at lw_m9 132 rfl) rfl
theorem q2148 : (Jvm.Cond.instanceMethod ({ cls := "java/util/ImmutableCollections$List12", name := "<init>", desc := "(Ljava/lang/Object;Ljava/lang/Object;)V" } : Jvm.MethodName)) ∈ lw_all := lw_g (lw_at lw_m9 134 rfl) rfl
theorem q2149 : (Jvm.Cond.code ({ cls := "java/util/ImmutableCollections$List12", name := "<init>", desc := "(Ljava/lang/Object;Ljava/lang/Object;)V" } : Jvm.MethodName) prog_54_method_2_code (3 : Nat) (Option.none : Option Jvm.ClassFile.FieldType)) ∈ lw_all := lw_g (lw_at lw_m9 135 rfl) rfl
theorem q2266 : (Jvm.Cond.selects "java/util/ImmutableCollections$List12" ({ cls := "java/util/List", name := "iterator", desc := "()Ljava/util/Iterator;" } : Jvm.MethodName) ({ cls := "java/util/ImmutableCollections$AbstractImmutableList", name := "iterator", desc := "()Ljava/util/Iterator;" } : Jvm.MethodName)) ∈ lw_all := lw_g (lw_at lw_m10 12 rfl) rfl
theorem q2267 : (Jvm.Cond.unhidden "java/util/ImmutableCollections$List12" "iterator" "()Ljava/util/Iterator;") ∈ lw_tbl := lw_at lw_m10 13 rfl
theorem q2360 : (Jvm.Cond.selects "java/util/ImmutableCollections$List12" ({ cls := "java/util/List", name := "contains", desc := "(Ljava/lang/Object;)Z" } : Jvm.MethodName) ({ cls := "java/util/ImmutableCollections$AbstractImmutableList", name := "contains", desc := "(Ljava/lang/Object;)Z" } : Jvm.MethodName)) ∈ lw_all := lw_g (lw_at lw_m10 106 rfl) rfl
theorem q2361 : (Jvm.Cond.unhidden "java/util/ImmutableCollections$List12" "contains" "(Ljava/lang/Object;)Z") ∈ lw_tbl := lw_at lw_m10 107 rfl
theorem q2367 : (Jvm.Cond.selects "java/util/ImmutableCollections$List12" ({ cls := "java/util/List", name := "indexOf", desc := "(Ljava/lang/Object;)I" } : Jvm.MethodName) ({ cls := "java/util/ImmutableCollections$List12", name := "indexOf", desc := "(Ljava/lang/Object;)I" } : Jvm.MethodName)) ∈ lw_all := lw_g (lw_at lw_m10 113 rfl) rfl
theorem q2368 : (Jvm.Cond.instanceMethod ({ cls := "java/util/ImmutableCollections$List12", name := "indexOf", desc := "(Ljava/lang/Object;)I" } : Jvm.MethodName)) ∈ lw_all := lw_g (lw_at lw_m10 114 rfl) rfl
theorem q2369 : (Jvm.Cond.code ({ cls := "java/util/ImmutableCollections$List12", name := "indexOf", desc := "(Ljava/lang/Object;)I" } : Jvm.MethodName) prog_54_method_6_code (2 : Nat) (Option.some Jvm.ClassFile.FieldType.int)) ∈ lw_all := lw_g (lw_at lw_m10 115 rfl) rfl
theorem q2370 : (Jvm.Cond.methodLink "java/util/ImmutableCollections$List12" (31 : Nat) ({ cls := "java/lang/Object", name := "equals", desc := "(Ljava/lang/Object;)Z" } : Jvm.MethodName)) ∈ lw_all := lw_g (lw_at lw_m10 116 rfl) rfl
theorem q3089 : (Jvm.Cond.selects "java/util/ImmutableCollections$List12" ({ cls := "java/util/AbstractCollection", name := "size", desc := "()I" } : Jvm.MethodName) ({ cls := "java/util/ImmutableCollections$List12", name := "size", desc := "()I" } : Jvm.MethodName)) ∈ lw_all := lw_g (lw_at lw_m13 115 rfl) rfl
theorem q3125 : (Jvm.Cond.castable "java/util/ImmutableCollections$List12" "java/lang/Object") ∈ lw_tbl := lw_at lw_m13 151 rfl
theorem in_J37 : ∀ w ∈ wsJ370, w ∈ lw_all := lw_in wsJ370 [2142, 2144] (by decide +kernel) (by decide +kernel)

/-! java/util/ImmutableCollections$ListN -/
set_option maxRecDepth 100000
def RJ38 : String := "java/util/ImmutableCollections$ListN"
def TJ38 : u_T := fun k => match k with
  | 0 => ("java/util/ImmutableCollections$ListN", "elements", "[Ljava/lang/Object;", true)
  | _ => ("java/util/ImmutableCollections$ListN", "allowNulls", "Z", true)
def tyJ38 : Nat → FieldType := fun k => match k with
  | 0 => .array (.object "java/lang/Object")
  | _ => .boolean
abbrev wsJ380 : List Cond := u_ws RJ38 TJ38 2
theorem nmJ38 : ∀ a, a < 2 → ∀ b, b < 2 → a ≠ b → (TJ38 a).2.1 ≠ (TJ38 b).2.1 := by decide +kernel
theorem tyJ38_ok : ∀ k, k < 2 → parseFieldDescriptor (TJ38 k).2.2.1 = some (tyJ38 k) := by decide +kernel
abbrev cJ38_size : ByteArray := prog_56_method_3_code
def yJ38_size : MethodName := ⟨RJ38, "size", "()I"⟩
def dkwJ38_size_0 : List UInt8 := [42, 180, 0, 7, 190, 172]
abbrev dktJ38_size_0 : List UInt8 := dkwJ38_size_0 ++ []
theorem dksJ38_size_0 : cJ38_size.data.toList.drop 0 = dktJ38_size_0 := by decide +kernel
theorem dJ38_size_0 : decode cJ38_size 0 = .ok (.aload_n 0, 1) := dk_42 (dk_at dksJ38_size_0 0 rfl rfl)
theorem dJ38_size_1 : decode cJ38_size 1 = .ok (.getfield 7, 3) := dk_180 0 7 (dk_at dksJ38_size_0 1 rfl rfl)
theorem dJ38_size_4 : decode cJ38_size 4 = .ok (.arraylength, 1) := dk_190 (dk_at dksJ38_size_0 4 rfl rfl)
theorem dJ38_size_5 : decode cJ38_size 5 = .ok (.ireturn, 1) := dk_172 (dk_at dksJ38_size_0 5 rfl rfl)
abbrev cJ38_get : ByteArray := prog_56_method_4_code
def yJ38_get : MethodName := ⟨RJ38, "get", "(I)Ljava/lang/Object;"⟩
def dkwJ38_get_0 : List UInt8 := [42, 180, 0, 7, 27, 50, 176]
abbrev dktJ38_get_0 : List UInt8 := dkwJ38_get_0 ++ []
theorem dksJ38_get_0 : cJ38_get.data.toList.drop 0 = dktJ38_get_0 := by decide +kernel
theorem dJ38_get_0 : decode cJ38_get 0 = .ok (.aload_n 0, 1) := dk_42 (dk_at dksJ38_get_0 0 rfl rfl)
theorem dJ38_get_1 : decode cJ38_get 1 = .ok (.getfield 7, 3) := dk_180 0 7 (dk_at dksJ38_get_0 1 rfl rfl)
theorem dJ38_get_4 : decode cJ38_get 4 = .ok (.iload_n 1, 1) := dk_27 (dk_at dksJ38_get_0 4 rfl rfl)
theorem dJ38_get_5 : decode cJ38_get 5 = .ok (.aaload, 1) := dk_50 (dk_at dksJ38_get_0 5 rfl rfl)
theorem dJ38_get_6 : decode cJ38_get 6 = .ok (.areturn, 1) := dk_176 (dk_at dksJ38_get_0 6 rfl rfl)
abbrev cJ38_init : ByteArray := prog_56_method_1_code
def yJ38_init : MethodName := ⟨RJ38, "<init>", "([Ljava/lang/Object;Z)V"⟩
def dkwJ38_init_0 : List UInt8 := [42, 183, 0, 1, 42, 43, 181, 0, 7, 42, 28, 181, 0, 13, 177]
abbrev dktJ38_init_0 : List UInt8 := dkwJ38_init_0 ++ []
theorem dksJ38_init_0 : cJ38_init.data.toList.drop 0 = dktJ38_init_0 := by decide +kernel
theorem dJ38_init_0 : decode cJ38_init 0 = .ok (.aload_n 0, 1) := dk_42 (dk_at dksJ38_init_0 0 rfl rfl)
theorem dJ38_init_1 : decode cJ38_init 1 = .ok (.invokespecial 1, 3) := dk_183 0 1 (dk_at dksJ38_init_0 1 rfl rfl)
theorem dJ38_init_4 : decode cJ38_init 4 = .ok (.aload_n 0, 1) := dk_42 (dk_at dksJ38_init_0 4 rfl rfl)
theorem dJ38_init_5 : decode cJ38_init 5 = .ok (.aload_n 1, 1) := dk_43 (dk_at dksJ38_init_0 5 rfl rfl)
theorem dJ38_init_6 : decode cJ38_init 6 = .ok (.putfield 7, 3) := dk_181 0 7 (dk_at dksJ38_init_0 6 rfl rfl)
theorem dJ38_init_9 : decode cJ38_init 9 = .ok (.aload_n 0, 1) := dk_42 (dk_at dksJ38_init_0 9 rfl rfl)
theorem dJ38_init_10 : decode cJ38_init 10 = .ok (.iload_n 2, 1) := dk_28 (dk_at dksJ38_init_0 10 rfl rfl)
theorem dJ38_init_11 : decode cJ38_init 11 = .ok (.putfield 13, 3) := dk_181 0 13 (dk_at dksJ38_init_0 11 rfl rfl)
theorem dJ38_init_14 : decode cJ38_init 14 = .ok (.return_, 1) := dk_177 (dk_at dksJ38_init_0 14 rfl rfl)
abbrev cJ38_indexOf : ByteArray := prog_56_method_9_code
def yJ38_indexOf : MethodName := ⟨RJ38, "indexOf", "(Ljava/lang/Object;)I"⟩
def dkwJ38_indexOf_2 : List UInt8 := [167, 255, 235, 2, 172]
abbrev dktJ38_indexOf_2 : List UInt8 := dkwJ38_indexOf_2 ++ []
def dkwJ38_indexOf_1 : List UInt8 := [3, 62, 29, 44, 190, 162, 0, 21, 43, 44, 29, 50, 184, 0, 53, 153, 0, 5, 29, 172, 132, 3, 1]
abbrev dktJ38_indexOf_1 : List UInt8 := dkwJ38_indexOf_1 ++ dktJ38_indexOf_2
def dkwJ38_indexOf_0 : List UInt8 := [42, 180, 0, 13, 154, 0, 15, 43, 199, 0, 11, 187, 0, 50, 89, 183, 0, 52, 191, 42, 180, 0, 7, 77]
abbrev dktJ38_indexOf_0 : List UInt8 := dkwJ38_indexOf_0 ++ dktJ38_indexOf_1
theorem dksJ38_indexOf_0 : cJ38_indexOf.data.toList.drop 0 = dktJ38_indexOf_0 := by decide +kernel
theorem dksJ38_indexOf_1 : cJ38_indexOf.data.toList.drop 24 = dktJ38_indexOf_1 := dk_seg dksJ38_indexOf_0 24 rfl rfl
theorem dksJ38_indexOf_2 : cJ38_indexOf.data.toList.drop 47 = dktJ38_indexOf_2 := dk_seg dksJ38_indexOf_1 23 rfl rfl
theorem dJ38_indexOf_0 : decode cJ38_indexOf 0 = .ok (.aload_n 0, 1) := dk_42 (dk_at dksJ38_indexOf_0 0 rfl rfl)
theorem dJ38_indexOf_1 : decode cJ38_indexOf 1 = .ok (.getfield 13, 3) := dk_180 0 13 (dk_at dksJ38_indexOf_0 1 rfl rfl)
theorem dJ38_indexOf_4 : decode cJ38_indexOf 4 = .ok (.ifCond .ne 15, 3) := dk_154 0 15 (dk_at dksJ38_indexOf_0 4 rfl rfl)
theorem dJ38_indexOf_7 : decode cJ38_indexOf 7 = .ok (.aload_n 1, 1) := dk_43 (dk_at dksJ38_indexOf_0 7 rfl rfl)
theorem dJ38_indexOf_8 : decode cJ38_indexOf 8 = .ok (.ifnonnull 11, 3) := dk_199 0 11 (dk_at dksJ38_indexOf_0 8 rfl rfl)
theorem dJ38_indexOf_11 : decode cJ38_indexOf 11 = .ok (.new 50, 3) := dk_187 0 50 (dk_at dksJ38_indexOf_0 11 rfl rfl)
theorem dJ38_indexOf_14 : decode cJ38_indexOf 14 = .ok (.dup, 1) := dk_89 (dk_at dksJ38_indexOf_0 14 rfl rfl)
theorem dJ38_indexOf_15 : decode cJ38_indexOf 15 = .ok (.invokespecial 52, 3) := dk_183 0 52 (dk_at dksJ38_indexOf_0 15 rfl rfl)
theorem dJ38_indexOf_18 : decode cJ38_indexOf 18 = .ok (.athrow, 1) := dk_191 (dk_at dksJ38_indexOf_0 18 rfl rfl)
theorem dJ38_indexOf_19 : decode cJ38_indexOf 19 = .ok (.aload_n 0, 1) := dk_42 (dk_at dksJ38_indexOf_0 19 rfl rfl)
theorem dJ38_indexOf_20 : decode cJ38_indexOf 20 = .ok (.getfield 7, 3) := dk_180 0 7 (dk_at dksJ38_indexOf_0 20 rfl rfl)
theorem dJ38_indexOf_23 : decode cJ38_indexOf 23 = .ok (.astore_n 2, 1) := dk_77 (dk_at dksJ38_indexOf_0 23 rfl rfl)
theorem dJ38_indexOf_24 : decode cJ38_indexOf 24 = .ok (.iconst 0, 1) := dk_3 (dk_at dksJ38_indexOf_1 0 rfl rfl)
theorem dJ38_indexOf_25 : decode cJ38_indexOf 25 = .ok (.istore_n 3, 1) := dk_62 (dk_at dksJ38_indexOf_1 1 rfl rfl)
theorem dJ38_indexOf_26 : decode cJ38_indexOf 26 = .ok (.iload_n 3, 1) := dk_29 (dk_at dksJ38_indexOf_1 2 rfl rfl)
theorem dJ38_indexOf_27 : decode cJ38_indexOf 27 = .ok (.aload_n 2, 1) := dk_44 (dk_at dksJ38_indexOf_1 3 rfl rfl)
theorem dJ38_indexOf_28 : decode cJ38_indexOf 28 = .ok (.arraylength, 1) := dk_190 (dk_at dksJ38_indexOf_1 4 rfl rfl)
theorem dJ38_indexOf_29 : decode cJ38_indexOf 29 = .ok (.if_icmp .ge 21, 3) := dk_162 0 21 (dk_at dksJ38_indexOf_1 5 rfl rfl)
theorem dJ38_indexOf_32 : decode cJ38_indexOf 32 = .ok (.aload_n 1, 1) := dk_43 (dk_at dksJ38_indexOf_1 8 rfl rfl)
theorem dJ38_indexOf_33 : decode cJ38_indexOf 33 = .ok (.aload_n 2, 1) := dk_44 (dk_at dksJ38_indexOf_1 9 rfl rfl)
theorem dJ38_indexOf_34 : decode cJ38_indexOf 34 = .ok (.iload_n 3, 1) := dk_29 (dk_at dksJ38_indexOf_1 10 rfl rfl)
theorem dJ38_indexOf_35 : decode cJ38_indexOf 35 = .ok (.aaload, 1) := dk_50 (dk_at dksJ38_indexOf_1 11 rfl rfl)
theorem dJ38_indexOf_36 : decode cJ38_indexOf 36 = .ok (.invokestatic 53, 3) := dk_184 0 53 (dk_at dksJ38_indexOf_1 12 rfl rfl)
theorem dJ38_indexOf_39 : decode cJ38_indexOf 39 = .ok (.ifCond .eq 5, 3) := dk_153 0 5 (dk_at dksJ38_indexOf_1 15 rfl rfl)
theorem dJ38_indexOf_42 : decode cJ38_indexOf 42 = .ok (.iload_n 3, 1) := dk_29 (dk_at dksJ38_indexOf_1 18 rfl rfl)
theorem dJ38_indexOf_43 : decode cJ38_indexOf 43 = .ok (.ireturn, 1) := dk_172 (dk_at dksJ38_indexOf_1 19 rfl rfl)
theorem dJ38_indexOf_44 : decode cJ38_indexOf 44 = .ok (.iinc 3 1, 3) := dk_132 3 1 (dk_at dksJ38_indexOf_1 20 rfl rfl)
theorem dJ38_indexOf_47 : decode cJ38_indexOf 47 = .ok (.goto (-21), 3) := dk_167 255 235 (dk_at dksJ38_indexOf_2 0 rfl rfl)
theorem dJ38_indexOf_50 : decode cJ38_indexOf 50 = .ok (.iconst (-1), 1) := dk_2 (dk_at dksJ38_indexOf_2 3 rfl rfl)
theorem dJ38_indexOf_51 : decode cJ38_indexOf 51 = .ok (.ireturn, 1) := dk_172 (dk_at dksJ38_indexOf_2 4 rfl rfl)
theorem q141 : (Jvm.Cond.initialized "java/util/ImmutableCollections$ListN") ∈ lw_all := lw_g (lw_at lw_m1 47 rfl) rfl
theorem q892 : (Jvm.Cond.selects "java/util/ImmutableCollections$ListN" ({ cls := "java/lang/Object", name := "getClass", desc := "()Ljava/lang/Class;" } : Jvm.MethodName) ({ cls := "java/lang/Object", name := "getClass", desc := "()Ljava/lang/Class;" } : Jvm.MethodName)) ∈ lw_all := lw_g (lw_at lw_m4 78 rfl) rfl
theorem q1003 : (Jvm.Cond.selects "java/util/ImmutableCollections$ListN" ({ cls := "java/util/ImmutableCollections$AbstractImmutableList", name := "size", desc := "()I" } : Jvm.MethodName) ({ cls := "java/util/ImmutableCollections$ListN", name := "size", desc := "()I" } : Jvm.MethodName)) ∈ lw_all := lw_g (lw_at lw_m4 189 rfl) rfl
theorem q1004 : (Jvm.Cond.instanceMethod ({ cls := "java/util/ImmutableCollections$ListN", name := "size", desc := "()I" } : Jvm.MethodName)) ∈ lw_all := lw_g (lw_at lw_m4 190 rfl) rfl
theorem q1005 : (Jvm.Cond.code ({ cls := "java/util/ImmutableCollections$ListN", name := "size", desc := "()I" } : Jvm.MethodName) prog_56_method_3_code (1 : Nat) (Option.some Jvm.ClassFile.FieldType.int)) ∈ lw_all := lw_g (lw_at lw_m4 191 rfl) rfl
theorem q1008 : (Jvm.Cond.castable "java/util/ImmutableCollections$ListN" "java/util/List") ∈ lw_tbl := lw_at lw_m4 194 rfl
theorem q1009 : (Jvm.Cond.selects "java/util/ImmutableCollections$ListN" ({ cls := "java/util/List", name := "get", desc := "(I)Ljava/lang/Object;" } : Jvm.MethodName) ({ cls := "java/util/ImmutableCollections$ListN", name := "get", desc := "(I)Ljava/lang/Object;" } : Jvm.MethodName)) ∈ lw_all := lw_g (lw_at lw_m4 195 rfl) rfl
theorem q1010 : (Jvm.Cond.unhidden "java/util/ImmutableCollections$ListN" "get" "(I)Ljava/lang/Object;") ∈ lw_tbl := lw_at lw_m4 196 rfl
theorem q1011 : (Jvm.Cond.instanceMethod ({ cls := "java/util/ImmutableCollections$ListN", name := "get", desc := "(I)Ljava/lang/Object;" } : Jvm.MethodName)) ∈ lw_all := lw_g (lw_at lw_m4 197 rfl) rfl
theorem q1012 : (Jvm.Cond.publicMethod ({ cls := "java/util/ImmutableCollections$ListN", name := "get", desc := "(I)Ljava/lang/Object;" } : Jvm.MethodName)) ∈ lw_tbl := lw_at lw_m4 198 rfl
theorem q1013 : (Jvm.Cond.code ({ cls := "java/util/ImmutableCollections$ListN", name := "get", desc := "(I)Ljava/lang/Object;" } : Jvm.MethodName) prog_56_method_4_code (2 : Nat) (Option.some (Jvm.ClassFile.FieldType.object "java/lang/Object"))) ∈ lw_all := lw_g (lw_at lw_m4 199 rfl) rfl
theorem q2151 : (Jvm.Cond.instantiable "java/util/ImmutableCollections$ListN" (2 : Nat)) ∈ lw_all := lw_g (lw_at lw_m9 137 rfl) rfl
theorem q2153 : (Jvm.Cond.instanceMethod ({ cls := "java/util/ImmutableCollections$ListN", name := "<init>", desc := "([Ljava/lang/Object;Z)V" } : Jvm.MethodName)) ∈ lw_all := lw_g (lw_at lw_m9 139 rfl) rfl
theorem q2154 : (Jvm.Cond.code ({ cls := "java/util/ImmutableCollections$ListN", name := "<init>", desc := "([Ljava/lang/Object;Z)V" } : Jvm.MethodName) prog_56_method_1_code (3 : Nat) (Option.none : Option Jvm.ClassFile.FieldType)) ∈ lw_all := lw_g (lw_at lw_m9 140 rfl) rfl
theorem q2155 : (Jvm.Cond.methodLink "java/util/ImmutableCollections$ListN" (1 : Nat) ({ cls := "java/util/ImmutableCollections$AbstractImmutableList", name := "<init>", desc := "()V" } : Jvm.MethodName)) ∈ lw_all := lw_g (lw_at lw_m9 141 rfl) rfl
theorem q2156 : (Jvm.Cond.fieldLink "java/util/ImmutableCollections$ListN" (7 : Nat) "java/util/ImmutableCollections$ListN" "elements" "[Ljava/lang/Object;") ∈ lw_all := lw_g (lw_at lw_m9 142 rfl) rfl
theorem q2157 : (Jvm.Cond.fieldLink "java/util/ImmutableCollections$ListN" (13 : Nat) "java/util/ImmutableCollections$ListN" "allowNulls" "Z") ∈ lw_all := lw_g (lw_at lw_m9 143 rfl) rfl
theorem q2158 : (Jvm.Cond.laysFinal "java/util/ImmutableCollections$ListN" "java/util/ImmutableCollections$ListN" "elements" "[Ljava/lang/Object;") ∈ lw_all := lw_g (lw_at lw_m9 144 rfl) rfl
theorem q2159 : (Jvm.Cond.soleField "java/util/ImmutableCollections$ListN" "elements") ∈ lw_all := lw_g (lw_at lw_m9 145 rfl) rfl
theorem q2160 : (Jvm.Cond.laysFinal "java/util/ImmutableCollections$ListN" "java/util/ImmutableCollections$ListN" "allowNulls" "Z") ∈ lw_all := lw_g (lw_at lw_m9 146 rfl) rfl
theorem q2161 : (Jvm.Cond.soleField "java/util/ImmutableCollections$ListN" "allowNulls") ∈ lw_all := lw_g (lw_at lw_m9 147 rfl) rfl
theorem q2162 : (Jvm.Cond.superclass "java/util/ImmutableCollections$ListN" "java/util/ImmutableCollections$AbstractImmutableList") ∈ lw_all := lw_g (lw_at lw_m9 148 rfl) rfl
theorem q2290 : (Jvm.Cond.selects "java/util/ImmutableCollections$ListN" ({ cls := "java/util/List", name := "iterator", desc := "()Ljava/util/Iterator;" } : Jvm.MethodName) ({ cls := "java/util/ImmutableCollections$AbstractImmutableList", name := "iterator", desc := "()Ljava/util/Iterator;" } : Jvm.MethodName)) ∈ lw_all := lw_g (lw_at lw_m10 36 rfl) rfl
theorem q2291 : (Jvm.Cond.unhidden "java/util/ImmutableCollections$ListN" "iterator" "()Ljava/util/Iterator;") ∈ lw_tbl := lw_at lw_m10 37 rfl
theorem q2371 : (Jvm.Cond.selects "java/util/ImmutableCollections$ListN" ({ cls := "java/util/List", name := "indexOf", desc := "(Ljava/lang/Object;)I" } : Jvm.MethodName) ({ cls := "java/util/ImmutableCollections$ListN", name := "indexOf", desc := "(Ljava/lang/Object;)I" } : Jvm.MethodName)) ∈ lw_all := lw_g (lw_at lw_m10 117 rfl) rfl
theorem q2372 : (Jvm.Cond.instanceMethod ({ cls := "java/util/ImmutableCollections$ListN", name := "indexOf", desc := "(Ljava/lang/Object;)I" } : Jvm.MethodName)) ∈ lw_all := lw_g (lw_at lw_m10 118 rfl) rfl
theorem q2373 : (Jvm.Cond.code ({ cls := "java/util/ImmutableCollections$ListN", name := "indexOf", desc := "(Ljava/lang/Object;)I" } : Jvm.MethodName) prog_56_method_9_code (4 : Nat) (Option.some Jvm.ClassFile.FieldType.int)) ∈ lw_all := lw_g (lw_at lw_m10 119 rfl) rfl
theorem q2374 : (Jvm.Cond.methodLink "java/util/ImmutableCollections$ListN" (53 : Nat) ({ cls := "java/util/Objects", name := "equals", desc := "(Ljava/lang/Object;Ljava/lang/Object;)Z" } : Jvm.MethodName)) ∈ lw_all := lw_g (lw_at lw_m10 120 rfl) rfl
theorem q2378 : (Jvm.Cond.selects "java/util/ImmutableCollections$ListN" ({ cls := "java/util/List", name := "contains", desc := "(Ljava/lang/Object;)Z" } : Jvm.MethodName) ({ cls := "java/util/ImmutableCollections$AbstractImmutableList", name := "contains", desc := "(Ljava/lang/Object;)Z" } : Jvm.MethodName)) ∈ lw_all := lw_g (lw_at lw_m10 124 rfl) rfl
theorem q2379 : (Jvm.Cond.unhidden "java/util/ImmutableCollections$ListN" "contains" "(Ljava/lang/Object;)Z") ∈ lw_tbl := lw_at lw_m10 125 rfl
theorem q3090 : (Jvm.Cond.selects "java/util/ImmutableCollections$ListN" ({ cls := "java/util/AbstractCollection", name := "size", desc := "()I" } : Jvm.MethodName) ({ cls := "java/util/ImmutableCollections$ListN", name := "size", desc := "()I" } : Jvm.MethodName)) ∈ lw_all := lw_g (lw_at lw_m13 116 rfl) rfl
theorem q3124 : (Jvm.Cond.castable "java/util/ImmutableCollections$ListN" "java/lang/Object") ∈ lw_tbl := lw_at lw_m13 150 rfl
theorem in_J38 : ∀ w ∈ wsJ380, w ∈ lw_all := lw_in wsJ380 [2158, 2160] (by decide +kernel) (by decide +kernel)

/-! java/util/ArrayList -/
set_option maxRecDepth 100000
def RJ39 : String := "java/util/ArrayList"
def TJ39 : u_T := fun k => match k with
  | 0 => ("java/util/AbstractList", "modCount", "I", false)
  | 1 => ("java/util/ArrayList", "elementData", "[Ljava/lang/Object;", false)
  | _ => ("java/util/ArrayList", "size", "I", false)
def tyJ39 : Nat → FieldType := fun k => match k with
  | 0 => .int
  | 1 => .array (.object "java/lang/Object")
  | _ => .int
abbrev wsJ390 : List Cond := u_ws RJ39 TJ39 3
theorem nmJ39 : ∀ a, a < 3 → ∀ b, b < 3 → a ≠ b → (TJ39 a).2.1 ≠ (TJ39 b).2.1 := by decide +kernel
theorem tyJ39_ok : ∀ k, k < 3 → parseFieldDescriptor (TJ39 k).2.2.1 = some (tyJ39 k) := by decide +kernel
abbrev cJ39_listIterator : ByteArray := prog_44_method_53_code
def yJ39_listIterator : MethodName := ⟨RJ39, "listIterator", "(I)Ljava/util/ListIterator;"⟩
def dkwJ39_listIterator_0 : List UInt8 := [42, 27, 182, 0, 135, 187, 1, 6, 89, 42, 27, 183, 1, 8, 176]
abbrev dktJ39_listIterator_0 : List UInt8 := dkwJ39_listIterator_0 ++ []
theorem dksJ39_listIterator_0 : cJ39_listIterator.data.toList.drop 0 = dktJ39_listIterator_0 := by decide +kernel
theorem dJ39_listIterator_0 : decode cJ39_listIterator 0 = .ok (.aload_n 0, 1) := dk_42 (dk_at dksJ39_listIterator_0 0 rfl rfl)
theorem dJ39_listIterator_1 : decode cJ39_listIterator 1 = .ok (.iload_n 1, 1) := dk_27 (dk_at dksJ39_listIterator_0 1 rfl rfl)
theorem dJ39_listIterator_2 : decode cJ39_listIterator 2 = .ok (.invokevirtual 135, 3) := dk_182 0 135 (dk_at dksJ39_listIterator_0 2 rfl rfl)
theorem dJ39_listIterator_5 : decode cJ39_listIterator 5 = .ok (.new 262, 3) := dk_187 1 6 (dk_at dksJ39_listIterator_0 5 rfl rfl)
theorem dJ39_listIterator_8 : decode cJ39_listIterator 8 = .ok (.dup, 1) := dk_89 (dk_at dksJ39_listIterator_0 8 rfl rfl)
theorem dJ39_listIterator_9 : decode cJ39_listIterator 9 = .ok (.aload_n 0, 1) := dk_42 (dk_at dksJ39_listIterator_0 9 rfl rfl)
theorem dJ39_listIterator_10 : decode cJ39_listIterator 10 = .ok (.iload_n 1, 1) := dk_27 (dk_at dksJ39_listIterator_0 10 rfl rfl)
theorem dJ39_listIterator_11 : decode cJ39_listIterator 11 = .ok (.invokespecial 264, 3) := dk_183 1 8 (dk_at dksJ39_listIterator_0 11 rfl rfl)
theorem dJ39_listIterator_14 : decode cJ39_listIterator 14 = .ok (.areturn, 1) := dk_176 (dk_at dksJ39_listIterator_0 14 rfl rfl)
abbrev cJ39_rangeCheckForAdd : ByteArray := prog_44_method_45_code
def yJ39_rangeCheckForAdd : MethodName := ⟨RJ39, "rangeCheckForAdd", "(I)V"⟩
def dkwJ39_rangeCheckForAdd_1 : List UInt8 := [191, 177]
abbrev dktJ39_rangeCheckForAdd_1 : List UInt8 := dkwJ39_rangeCheckForAdd_1 ++ []
def dkwJ39_rangeCheckForAdd_0 : List UInt8 := [27, 42, 180, 0, 48, 163, 0, 7, 27, 156, 0, 16, 187, 0, 187, 89, 42, 27, 182, 0, 198, 183, 0, 193]
abbrev dktJ39_rangeCheckForAdd_0 : List UInt8 := dkwJ39_rangeCheckForAdd_0 ++ dktJ39_rangeCheckForAdd_1
theorem dksJ39_rangeCheckForAdd_0 : cJ39_rangeCheckForAdd.data.toList.drop 0 = dktJ39_rangeCheckForAdd_0 := by decide +kernel
theorem dksJ39_rangeCheckForAdd_1 : cJ39_rangeCheckForAdd.data.toList.drop 24 = dktJ39_rangeCheckForAdd_1 := dk_seg dksJ39_rangeCheckForAdd_0 24 rfl rfl
theorem dJ39_rangeCheckForAdd_0 : decode cJ39_rangeCheckForAdd 0 = .ok (.iload_n 1, 1) := dk_27 (dk_at dksJ39_rangeCheckForAdd_0 0 rfl rfl)
theorem dJ39_rangeCheckForAdd_1 : decode cJ39_rangeCheckForAdd 1 = .ok (.aload_n 0, 1) := dk_42 (dk_at dksJ39_rangeCheckForAdd_0 1 rfl rfl)
theorem dJ39_rangeCheckForAdd_2 : decode cJ39_rangeCheckForAdd 2 = .ok (.getfield 48, 3) := dk_180 0 48 (dk_at dksJ39_rangeCheckForAdd_0 2 rfl rfl)
theorem dJ39_rangeCheckForAdd_5 : decode cJ39_rangeCheckForAdd 5 = .ok (.if_icmp .gt 7, 3) := dk_163 0 7 (dk_at dksJ39_rangeCheckForAdd_0 5 rfl rfl)
theorem dJ39_rangeCheckForAdd_8 : decode cJ39_rangeCheckForAdd 8 = .ok (.iload_n 1, 1) := dk_27 (dk_at dksJ39_rangeCheckForAdd_0 8 rfl rfl)
theorem dJ39_rangeCheckForAdd_9 : decode cJ39_rangeCheckForAdd 9 = .ok (.ifCond .ge 16, 3) := dk_156 0 16 (dk_at dksJ39_rangeCheckForAdd_0 9 rfl rfl)
theorem dJ39_rangeCheckForAdd_12 : decode cJ39_rangeCheckForAdd 12 = .ok (.new 187, 3) := dk_187 0 187 (dk_at dksJ39_rangeCheckForAdd_0 12 rfl rfl)
theorem dJ39_rangeCheckForAdd_15 : decode cJ39_rangeCheckForAdd 15 = .ok (.dup, 1) := dk_89 (dk_at dksJ39_rangeCheckForAdd_0 15 rfl rfl)
theorem dJ39_rangeCheckForAdd_16 : decode cJ39_rangeCheckForAdd 16 = .ok (.aload_n 0, 1) := dk_42 (dk_at dksJ39_rangeCheckForAdd_0 16 rfl rfl)
theorem dJ39_rangeCheckForAdd_17 : decode cJ39_rangeCheckForAdd 17 = .ok (.iload_n 1, 1) := dk_27 (dk_at dksJ39_rangeCheckForAdd_0 17 rfl rfl)
theorem dJ39_rangeCheckForAdd_18 : decode cJ39_rangeCheckForAdd 18 = .ok (.invokevirtual 198, 3) := dk_182 0 198 (dk_at dksJ39_rangeCheckForAdd_0 18 rfl rfl)
theorem dJ39_rangeCheckForAdd_21 : decode cJ39_rangeCheckForAdd 21 = .ok (.invokespecial 193, 3) := dk_183 0 193 (dk_at dksJ39_rangeCheckForAdd_0 21 rfl rfl)
theorem dJ39_rangeCheckForAdd_24 : decode cJ39_rangeCheckForAdd 24 = .ok (.athrow, 1) := dk_191 (dk_at dksJ39_rangeCheckForAdd_1 0 rfl rfl)
theorem dJ39_rangeCheckForAdd_25 : decode cJ39_rangeCheckForAdd 25 = .ok (.return_, 1) := dk_177 (dk_at dksJ39_rangeCheckForAdd_1 1 rfl rfl)
abbrev cJ39_outOfBoundsMsg : ByteArray := prog_44_method_46_code
def yJ39_outOfBoundsMsg : MethodName := ⟨RJ39, "outOfBoundsMsg", "(I)Ljava/lang/String;"⟩
def dkwJ39_outOfBoundsMsg_1 : List UInt8 := [180, 0, 48, 182, 0, 29, 182, 0, 32, 176]
abbrev dktJ39_outOfBoundsMsg_1 : List UInt8 := dkwJ39_outOfBoundsMsg_1 ++ []
def dkwJ39_outOfBoundsMsg_0 : List UInt8 := [187, 0, 20, 89, 183, 0, 22, 18, 201, 182, 0, 25, 27, 182, 0, 29, 18, 203, 182, 0, 25, 42]
abbrev dktJ39_outOfBoundsMsg_0 : List UInt8 := dkwJ39_outOfBoundsMsg_0 ++ dktJ39_outOfBoundsMsg_1
theorem dksJ39_outOfBoundsMsg_0 : cJ39_outOfBoundsMsg.data.toList.drop 0 = dktJ39_outOfBoundsMsg_0 := by decide +kernel
theorem dksJ39_outOfBoundsMsg_1 : cJ39_outOfBoundsMsg.data.toList.drop 22 = dktJ39_outOfBoundsMsg_1 := dk_seg dksJ39_outOfBoundsMsg_0 22 rfl rfl
theorem dJ39_outOfBoundsMsg_0 : decode cJ39_outOfBoundsMsg 0 = .ok (.new 20, 3) := dk_187 0 20 (dk_at dksJ39_outOfBoundsMsg_0 0 rfl rfl)
theorem dJ39_outOfBoundsMsg_3 : decode cJ39_outOfBoundsMsg 3 = .ok (.dup, 1) := dk_89 (dk_at dksJ39_outOfBoundsMsg_0 3 rfl rfl)
theorem dJ39_outOfBoundsMsg_4 : decode cJ39_outOfBoundsMsg 4 = .ok (.invokespecial 22, 3) := dk_183 0 22 (dk_at dksJ39_outOfBoundsMsg_0 4 rfl rfl)
theorem dJ39_outOfBoundsMsg_7 : decode cJ39_outOfBoundsMsg 7 = .ok (.ldc 201, 2) := dk_18 201 (dk_at dksJ39_outOfBoundsMsg_0 7 rfl rfl)
theorem dJ39_outOfBoundsMsg_9 : decode cJ39_outOfBoundsMsg 9 = .ok (.invokevirtual 25, 3) := dk_182 0 25 (dk_at dksJ39_outOfBoundsMsg_0 9 rfl rfl)
theorem dJ39_outOfBoundsMsg_12 : decode cJ39_outOfBoundsMsg 12 = .ok (.iload_n 1, 1) := dk_27 (dk_at dksJ39_outOfBoundsMsg_0 12 rfl rfl)
theorem dJ39_outOfBoundsMsg_13 : decode cJ39_outOfBoundsMsg 13 = .ok (.invokevirtual 29, 3) := dk_182 0 29 (dk_at dksJ39_outOfBoundsMsg_0 13 rfl rfl)
theorem dJ39_outOfBoundsMsg_16 : decode cJ39_outOfBoundsMsg 16 = .ok (.ldc 203, 2) := dk_18 203 (dk_at dksJ39_outOfBoundsMsg_0 16 rfl rfl)
theorem dJ39_outOfBoundsMsg_18 : decode cJ39_outOfBoundsMsg 18 = .ok (.invokevirtual 25, 3) := dk_182 0 25 (dk_at dksJ39_outOfBoundsMsg_0 18 rfl rfl)
theorem dJ39_outOfBoundsMsg_21 : decode cJ39_outOfBoundsMsg 21 = .ok (.aload_n 0, 1) := dk_42 (dk_at dksJ39_outOfBoundsMsg_0 21 rfl rfl)
theorem dJ39_outOfBoundsMsg_22 : decode cJ39_outOfBoundsMsg 22 = .ok (.getfield 48, 3) := dk_180 0 48 (dk_at dksJ39_outOfBoundsMsg_1 0 rfl rfl)
theorem dJ39_outOfBoundsMsg_25 : decode cJ39_outOfBoundsMsg 25 = .ok (.invokevirtual 29, 3) := dk_182 0 29 (dk_at dksJ39_outOfBoundsMsg_1 3 rfl rfl)
theorem dJ39_outOfBoundsMsg_28 : decode cJ39_outOfBoundsMsg 28 = .ok (.invokevirtual 32, 3) := dk_182 0 32 (dk_at dksJ39_outOfBoundsMsg_1 6 rfl rfl)
theorem dJ39_outOfBoundsMsg_31 : decode cJ39_outOfBoundsMsg 31 = .ok (.areturn, 1) := dk_176 (dk_at dksJ39_outOfBoundsMsg_1 9 rfl rfl)
abbrev cJ39_size : ByteArray := prog_44_method_8_code
def yJ39_size : MethodName := ⟨RJ39, "size", "()I"⟩
theorem dJ39_size_0 : decode cJ39_size 0 = .ok (.aload_n 0, 1) := by decide +kernel
theorem dJ39_size_1 : decode cJ39_size 1 = .ok (.getfield 48, 3) := by decide +kernel
theorem dJ39_size_4 : decode cJ39_size 4 = .ok (.ireturn, 1) := by decide +kernel
abbrev cJ39_get : ByteArray := prog_44_method_20_code
def yJ39_get : MethodName := ⟨RJ39, "get", "(I)Ljava/lang/Object;"⟩
def dkwJ39_get_0 : List UInt8 := [27, 42, 180, 0, 48, 184, 0, 118, 87, 42, 27, 182, 0, 123, 176]
abbrev dktJ39_get_0 : List UInt8 := dkwJ39_get_0 ++ []
theorem dksJ39_get_0 : cJ39_get.data.toList.drop 0 = dktJ39_get_0 := by decide +kernel
theorem dJ39_get_0 : decode cJ39_get 0 = .ok (.iload_n 1, 1) := dk_27 (dk_at dksJ39_get_0 0 rfl rfl)
theorem dJ39_get_1 : decode cJ39_get 1 = .ok (.aload_n 0, 1) := dk_42 (dk_at dksJ39_get_0 1 rfl rfl)
theorem dJ39_get_2 : decode cJ39_get 2 = .ok (.getfield 48, 3) := dk_180 0 48 (dk_at dksJ39_get_0 2 rfl rfl)
theorem dJ39_get_5 : decode cJ39_get 5 = .ok (.invokestatic 118, 3) := dk_184 0 118 (dk_at dksJ39_get_0 5 rfl rfl)
theorem dJ39_get_8 : decode cJ39_get 8 = .ok (.pop, 1) := dk_87 (dk_at dksJ39_get_0 8 rfl rfl)
theorem dJ39_get_9 : decode cJ39_get 9 = .ok (.aload_n 0, 1) := dk_42 (dk_at dksJ39_get_0 9 rfl rfl)
theorem dJ39_get_10 : decode cJ39_get 10 = .ok (.iload_n 1, 1) := dk_27 (dk_at dksJ39_get_0 10 rfl rfl)
theorem dJ39_get_11 : decode cJ39_get 11 = .ok (.invokevirtual 123, 3) := dk_182 0 123 (dk_at dksJ39_get_0 11 rfl rfl)
theorem dJ39_get_14 : decode cJ39_get 14 = .ok (.areturn, 1) := dk_176 (dk_at dksJ39_get_0 14 rfl rfl)
abbrev cJ39_elementData : ByteArray := prog_44_method_18_code
def yJ39_elementData : MethodName := ⟨RJ39, "elementData", "(I)Ljava/lang/Object;"⟩
def dkwJ39_elementData_0 : List UInt8 := [42, 180, 0, 9, 27, 50, 176]
abbrev dktJ39_elementData_0 : List UInt8 := dkwJ39_elementData_0 ++ []
theorem dksJ39_elementData_0 : cJ39_elementData.data.toList.drop 0 = dktJ39_elementData_0 := by decide +kernel
theorem dJ39_elementData_0 : decode cJ39_elementData 0 = .ok (.aload_n 0, 1) := dk_42 (dk_at dksJ39_elementData_0 0 rfl rfl)
theorem dJ39_elementData_1 : decode cJ39_elementData 1 = .ok (.getfield 9, 3) := dk_180 0 9 (dk_at dksJ39_elementData_0 1 rfl rfl)
theorem dJ39_elementData_4 : decode cJ39_elementData 4 = .ok (.iload_n 1, 1) := dk_27 (dk_at dksJ39_elementData_0 4 rfl rfl)
theorem dJ39_elementData_5 : decode cJ39_elementData 5 = .ok (.aaload, 1) := dk_50 (dk_at dksJ39_elementData_0 5 rfl rfl)
theorem dJ39_elementData_6 : decode cJ39_elementData 6 = .ok (.areturn, 1) := dk_176 (dk_at dksJ39_elementData_0 6 rfl rfl)
abbrev cJ39_remove : ByteArray := prog_44_method_29_code
def yJ39_remove : MethodName := ⟨RJ39, "remove", "(I)Ljava/lang/Object;"⟩
def dkwJ39_remove_1 : List UInt8 := [45, 176]
abbrev dktJ39_remove_1 : List UInt8 := dkwJ39_remove_1 ++ []
def dkwJ39_remove_0 : List UInt8 := [27, 42, 180, 0, 48, 184, 0, 118, 87, 42, 180, 0, 9, 77, 44, 27, 50, 78, 42, 44, 27, 182, 0, 144]
abbrev dktJ39_remove_0 : List UInt8 := dkwJ39_remove_0 ++ dktJ39_remove_1
theorem dksJ39_remove_0 : cJ39_remove.data.toList.drop 0 = dktJ39_remove_0 := by decide +kernel
theorem dksJ39_remove_1 : cJ39_remove.data.toList.drop 24 = dktJ39_remove_1 := dk_seg dksJ39_remove_0 24 rfl rfl
theorem dJ39_remove_0 : decode cJ39_remove 0 = .ok (.iload_n 1, 1) := dk_27 (dk_at dksJ39_remove_0 0 rfl rfl)
theorem dJ39_remove_1 : decode cJ39_remove 1 = .ok (.aload_n 0, 1) := dk_42 (dk_at dksJ39_remove_0 1 rfl rfl)
theorem dJ39_remove_2 : decode cJ39_remove 2 = .ok (.getfield 48, 3) := dk_180 0 48 (dk_at dksJ39_remove_0 2 rfl rfl)
theorem dJ39_remove_5 : decode cJ39_remove 5 = .ok (.invokestatic 118, 3) := dk_184 0 118 (dk_at dksJ39_remove_0 5 rfl rfl)
theorem dJ39_remove_8 : decode cJ39_remove 8 = .ok (.pop, 1) := dk_87 (dk_at dksJ39_remove_0 8 rfl rfl)
theorem dJ39_remove_9 : decode cJ39_remove 9 = .ok (.aload_n 0, 1) := dk_42 (dk_at dksJ39_remove_0 9 rfl rfl)
theorem dJ39_remove_10 : decode cJ39_remove 10 = .ok (.getfield 9, 3) := dk_180 0 9 (dk_at dksJ39_remove_0 10 rfl rfl)
theorem dJ39_remove_13 : decode cJ39_remove 13 = .ok (.astore_n 2, 1) := dk_77 (dk_at dksJ39_remove_0 13 rfl rfl)
theorem dJ39_remove_14 : decode cJ39_remove 14 = .ok (.aload_n 2, 1) := dk_44 (dk_at dksJ39_remove_0 14 rfl rfl)
theorem dJ39_remove_15 : decode cJ39_remove 15 = .ok (.iload_n 1, 1) := dk_27 (dk_at dksJ39_remove_0 15 rfl rfl)
theorem dJ39_remove_16 : decode cJ39_remove 16 = .ok (.aaload, 1) := dk_50 (dk_at dksJ39_remove_0 16 rfl rfl)
theorem dJ39_remove_17 : decode cJ39_remove 17 = .ok (.astore_n 3, 1) := dk_78 (dk_at dksJ39_remove_0 17 rfl rfl)
theorem dJ39_remove_18 : decode cJ39_remove 18 = .ok (.aload_n 0, 1) := dk_42 (dk_at dksJ39_remove_0 18 rfl rfl)
theorem dJ39_remove_19 : decode cJ39_remove 19 = .ok (.aload_n 2, 1) := dk_44 (dk_at dksJ39_remove_0 19 rfl rfl)
theorem dJ39_remove_20 : decode cJ39_remove 20 = .ok (.iload_n 1, 1) := dk_27 (dk_at dksJ39_remove_0 20 rfl rfl)
theorem dJ39_remove_21 : decode cJ39_remove 21 = .ok (.invokevirtual 144, 3) := dk_182 0 144 (dk_at dksJ39_remove_0 21 rfl rfl)
theorem dJ39_remove_24 : decode cJ39_remove 24 = .ok (.aload_n 3, 1) := dk_45 (dk_at dksJ39_remove_1 0 rfl rfl)
theorem dJ39_remove_25 : decode cJ39_remove 25 = .ok (.areturn, 1) := dk_176 (dk_at dksJ39_remove_1 1 rfl rfl)
abbrev cJ39_fastRemove : ByteArray := prog_44_method_39_code
def yJ39_fastRemove : MethodName := ⟨RJ39, "fastRemove", "([Ljava/lang/Object;I)V"⟩
def dkwJ39_fastRemove_1 : List UInt8 := [4, 96, 43, 28, 29, 28, 100, 184, 0, 112, 43, 42, 29, 90, 181, 0, 48, 1, 83, 177]
abbrev dktJ39_fastRemove_1 : List UInt8 := dkwJ39_fastRemove_1 ++ []
def dkwJ39_fastRemove_0 : List UInt8 := [42, 89, 180, 0, 63, 4, 96, 181, 0, 63, 42, 180, 0, 48, 4, 100, 89, 62, 28, 164, 0, 15, 43, 28]
abbrev dktJ39_fastRemove_0 : List UInt8 := dkwJ39_fastRemove_0 ++ dktJ39_fastRemove_1
theorem dksJ39_fastRemove_0 : cJ39_fastRemove.data.toList.drop 0 = dktJ39_fastRemove_0 := by decide +kernel
theorem dksJ39_fastRemove_1 : cJ39_fastRemove.data.toList.drop 24 = dktJ39_fastRemove_1 := dk_seg dksJ39_fastRemove_0 24 rfl rfl
theorem dJ39_fastRemove_0 : decode cJ39_fastRemove 0 = .ok (.aload_n 0, 1) := dk_42 (dk_at dksJ39_fastRemove_0 0 rfl rfl)
theorem dJ39_fastRemove_1 : decode cJ39_fastRemove 1 = .ok (.dup, 1) := dk_89 (dk_at dksJ39_fastRemove_0 1 rfl rfl)
theorem dJ39_fastRemove_2 : decode cJ39_fastRemove 2 = .ok (.getfield 63, 3) := dk_180 0 63 (dk_at dksJ39_fastRemove_0 2 rfl rfl)
theorem dJ39_fastRemove_5 : decode cJ39_fastRemove 5 = .ok (.iconst 1, 1) := dk_4 (dk_at dksJ39_fastRemove_0 5 rfl rfl)
theorem dJ39_fastRemove_6 : decode cJ39_fastRemove 6 = .ok (.iadd, 1) := dk_96 (dk_at dksJ39_fastRemove_0 6 rfl rfl)
theorem dJ39_fastRemove_7 : decode cJ39_fastRemove 7 = .ok (.putfield 63, 3) := dk_181 0 63 (dk_at dksJ39_fastRemove_0 7 rfl rfl)
theorem dJ39_fastRemove_10 : decode cJ39_fastRemove 10 = .ok (.aload_n 0, 1) := dk_42 (dk_at dksJ39_fastRemove_0 10 rfl rfl)
theorem dJ39_fastRemove_11 : decode cJ39_fastRemove 11 = .ok (.getfield 48, 3) := dk_180 0 48 (dk_at dksJ39_fastRemove_0 11 rfl rfl)
theorem dJ39_fastRemove_14 : decode cJ39_fastRemove 14 = .ok (.iconst 1, 1) := dk_4 (dk_at dksJ39_fastRemove_0 14 rfl rfl)
theorem dJ39_fastRemove_15 : decode cJ39_fastRemove 15 = .ok (.isub, 1) := dk_100 (dk_at dksJ39_fastRemove_0 15 rfl rfl)
theorem dJ39_fastRemove_16 : decode cJ39_fastRemove 16 = .ok (.dup, 1) := dk_89 (dk_at dksJ39_fastRemove_0 16 rfl rfl)
theorem dJ39_fastRemove_17 : decode cJ39_fastRemove 17 = .ok (.istore_n 3, 1) := dk_62 (dk_at dksJ39_fastRemove_0 17 rfl rfl)
theorem dJ39_fastRemove_18 : decode cJ39_fastRemove 18 = .ok (.iload_n 2, 1) := dk_28 (dk_at dksJ39_fastRemove_0 18 rfl rfl)
theorem dJ39_fastRemove_19 : decode cJ39_fastRemove 19 = .ok (.if_icmp .le 15, 3) := dk_164 0 15 (dk_at dksJ39_fastRemove_0 19 rfl rfl)
theorem dJ39_fastRemove_22 : decode cJ39_fastRemove 22 = .ok (.aload_n 1, 1) := dk_43 (dk_at dksJ39_fastRemove_0 22 rfl rfl)
theorem dJ39_fastRemove_23 : decode cJ39_fastRemove 23 = .ok (.iload_n 2, 1) := dk_28 (dk_at dksJ39_fastRemove_0 23 rfl rfl)
theorem dJ39_fastRemove_24 : decode cJ39_fastRemove 24 = .ok (.iconst 1, 1) := dk_4 (dk_at dksJ39_fastRemove_1 0 rfl rfl)
theorem dJ39_fastRemove_25 : decode cJ39_fastRemove 25 = .ok (.iadd, 1) := dk_96 (dk_at dksJ39_fastRemove_1 1 rfl rfl)
theorem dJ39_fastRemove_26 : decode cJ39_fastRemove 26 = .ok (.aload_n 1, 1) := dk_43 (dk_at dksJ39_fastRemove_1 2 rfl rfl)
theorem dJ39_fastRemove_27 : decode cJ39_fastRemove 27 = .ok (.iload_n 2, 1) := dk_28 (dk_at dksJ39_fastRemove_1 3 rfl rfl)
theorem dJ39_fastRemove_28 : decode cJ39_fastRemove 28 = .ok (.iload_n 3, 1) := dk_29 (dk_at dksJ39_fastRemove_1 4 rfl rfl)
theorem dJ39_fastRemove_29 : decode cJ39_fastRemove 29 = .ok (.iload_n 2, 1) := dk_28 (dk_at dksJ39_fastRemove_1 5 rfl rfl)
theorem dJ39_fastRemove_30 : decode cJ39_fastRemove 30 = .ok (.isub, 1) := dk_100 (dk_at dksJ39_fastRemove_1 6 rfl rfl)
theorem dJ39_fastRemove_31 : decode cJ39_fastRemove 31 = .ok (.invokestatic 112, 3) := dk_184 0 112 (dk_at dksJ39_fastRemove_1 7 rfl rfl)
theorem dJ39_fastRemove_34 : decode cJ39_fastRemove 34 = .ok (.aload_n 1, 1) := dk_43 (dk_at dksJ39_fastRemove_1 10 rfl rfl)
theorem dJ39_fastRemove_35 : decode cJ39_fastRemove 35 = .ok (.aload_n 0, 1) := dk_42 (dk_at dksJ39_fastRemove_1 11 rfl rfl)
theorem dJ39_fastRemove_36 : decode cJ39_fastRemove 36 = .ok (.iload_n 3, 1) := dk_29 (dk_at dksJ39_fastRemove_1 12 rfl rfl)
theorem dJ39_fastRemove_37 : decode cJ39_fastRemove 37 = .ok (.dup_x1, 1) := dk_90 (dk_at dksJ39_fastRemove_1 13 rfl rfl)
theorem dJ39_fastRemove_38 : decode cJ39_fastRemove 38 = .ok (.putfield 48, 3) := dk_181 0 48 (dk_at dksJ39_fastRemove_1 14 rfl rfl)
theorem dJ39_fastRemove_41 : decode cJ39_fastRemove 41 = .ok (.aconst_null, 1) := dk_1 (dk_at dksJ39_fastRemove_1 17 rfl rfl)
theorem dJ39_fastRemove_42 : decode cJ39_fastRemove 42 = .ok (.aastore, 1) := dk_83 (dk_at dksJ39_fastRemove_1 18 rfl rfl)
theorem dJ39_fastRemove_43 : decode cJ39_fastRemove 43 = .ok (.return_, 1) := dk_177 (dk_at dksJ39_fastRemove_1 19 rfl rfl)
abbrev cJ39_init : ByteArray := prog_44_method_2_code
def yJ39_init : MethodName := ⟨RJ39, "<init>", "()V"⟩
def dkwJ39_init_0 : List UInt8 := [42, 183, 0, 1, 42, 178, 0, 39, 181, 0, 9, 177]
abbrev dktJ39_init_0 : List UInt8 := dkwJ39_init_0 ++ []
theorem dksJ39_init_0 : cJ39_init.data.toList.drop 0 = dktJ39_init_0 := by decide +kernel
theorem dJ39_init_0 : decode cJ39_init 0 = .ok (.aload_n 0, 1) := dk_42 (dk_at dksJ39_init_0 0 rfl rfl)
theorem dJ39_init_1 : decode cJ39_init 1 = .ok (.invokespecial 1, 3) := dk_183 0 1 (dk_at dksJ39_init_0 1 rfl rfl)
theorem dJ39_init_4 : decode cJ39_init 4 = .ok (.aload_n 0, 1) := dk_42 (dk_at dksJ39_init_0 4 rfl rfl)
theorem dJ39_init_5 : decode cJ39_init 5 = .ok (.getstatic 39, 3) := dk_178 0 39 (dk_at dksJ39_init_0 5 rfl rfl)
theorem dJ39_init_8 : decode cJ39_init 8 = .ok (.putfield 9, 3) := dk_181 0 9 (dk_at dksJ39_init_0 8 rfl rfl)
theorem dJ39_init_11 : decode cJ39_init 11 = .ok (.return_, 1) := dk_177 (dk_at dksJ39_init_0 11 rfl rfl)
abbrev cJ39_iterator : ByteArray := prog_44_method_55_code
def yJ39_iterator : MethodName := ⟨RJ39, "iterator", "()Ljava/util/Iterator;"⟩
def dkwJ39_iterator_0 : List UInt8 := [187, 1, 11, 89, 42, 183, 1, 13, 176]
abbrev dktJ39_iterator_0 : List UInt8 := dkwJ39_iterator_0 ++ []
theorem dksJ39_iterator_0 : cJ39_iterator.data.toList.drop 0 = dktJ39_iterator_0 := by decide +kernel
theorem dJ39_iterator_0 : decode cJ39_iterator 0 = .ok (.new 267, 3) := dk_187 1 11 (dk_at dksJ39_iterator_0 0 rfl rfl)
theorem dJ39_iterator_3 : decode cJ39_iterator 3 = .ok (.dup, 1) := dk_89 (dk_at dksJ39_iterator_0 3 rfl rfl)
theorem dJ39_iterator_4 : decode cJ39_iterator 4 = .ok (.aload_n 0, 1) := dk_42 (dk_at dksJ39_iterator_0 4 rfl rfl)
theorem dJ39_iterator_5 : decode cJ39_iterator 5 = .ok (.invokespecial 269, 3) := dk_183 1 13 (dk_at dksJ39_iterator_0 5 rfl rfl)
theorem dJ39_iterator_8 : decode cJ39_iterator 8 = .ok (.areturn, 1) := dk_176 (dk_at dksJ39_iterator_0 8 rfl rfl)
abbrev cJ39_contains : ByteArray := prog_44_method_10_code
def yJ39_contains : MethodName := ⟨RJ39, "contains", "(Ljava/lang/Object;)Z"⟩
def dkwJ39_contains_0 : List UInt8 := [42, 43, 182, 0, 85, 155, 0, 7, 4, 167, 0, 4, 3, 172]
abbrev dktJ39_contains_0 : List UInt8 := dkwJ39_contains_0 ++ []
theorem dksJ39_contains_0 : cJ39_contains.data.toList.drop 0 = dktJ39_contains_0 := by decide +kernel
theorem dJ39_contains_0 : decode cJ39_contains 0 = .ok (.aload_n 0, 1) := dk_42 (dk_at dksJ39_contains_0 0 rfl rfl)
theorem dJ39_contains_1 : decode cJ39_contains 1 = .ok (.aload_n 1, 1) := dk_43 (dk_at dksJ39_contains_0 1 rfl rfl)
theorem dJ39_contains_2 : decode cJ39_contains 2 = .ok (.invokevirtual 85, 3) := dk_182 0 85 (dk_at dksJ39_contains_0 2 rfl rfl)
theorem dJ39_contains_5 : decode cJ39_contains 5 = .ok (.ifCond .lt 7, 3) := dk_155 0 7 (dk_at dksJ39_contains_0 5 rfl rfl)
theorem dJ39_contains_8 : decode cJ39_contains 8 = .ok (.iconst 1, 1) := dk_4 (dk_at dksJ39_contains_0 8 rfl rfl)
theorem dJ39_contains_9 : decode cJ39_contains 9 = .ok (.goto 4, 3) := dk_167 0 4 (dk_at dksJ39_contains_0 9 rfl rfl)
theorem dJ39_contains_12 : decode cJ39_contains 12 = .ok (.iconst 0, 1) := dk_3 (dk_at dksJ39_contains_0 12 rfl rfl)
theorem dJ39_contains_13 : decode cJ39_contains 13 = .ok (.ireturn, 1) := dk_172 (dk_at dksJ39_contains_0 13 rfl rfl)
abbrev cJ39_indexOf : ByteArray := prog_44_method_11_code
def yJ39_indexOf : MethodName := ⟨RJ39, "indexOf", "(Ljava/lang/Object;)I"⟩
def dkwJ39_indexOf_0 : List UInt8 := [42, 43, 3, 42, 180, 0, 48, 182, 0, 89, 172]
abbrev dktJ39_indexOf_0 : List UInt8 := dkwJ39_indexOf_0 ++ []
theorem dksJ39_indexOf_0 : cJ39_indexOf.data.toList.drop 0 = dktJ39_indexOf_0 := by decide +kernel
theorem dJ39_indexOf_0 : decode cJ39_indexOf 0 = .ok (.aload_n 0, 1) := dk_42 (dk_at dksJ39_indexOf_0 0 rfl rfl)
theorem dJ39_indexOf_1 : decode cJ39_indexOf 1 = .ok (.aload_n 1, 1) := dk_43 (dk_at dksJ39_indexOf_0 1 rfl rfl)
theorem dJ39_indexOf_2 : decode cJ39_indexOf 2 = .ok (.iconst 0, 1) := dk_3 (dk_at dksJ39_indexOf_0 2 rfl rfl)
theorem dJ39_indexOf_3 : decode cJ39_indexOf 3 = .ok (.aload_n 0, 1) := dk_42 (dk_at dksJ39_indexOf_0 3 rfl rfl)
theorem dJ39_indexOf_4 : decode cJ39_indexOf 4 = .ok (.getfield 48, 3) := dk_180 0 48 (dk_at dksJ39_indexOf_0 4 rfl rfl)
theorem dJ39_indexOf_7 : decode cJ39_indexOf 7 = .ok (.invokevirtual 89, 3) := dk_182 0 89 (dk_at dksJ39_indexOf_0 7 rfl rfl)
theorem dJ39_indexOf_10 : decode cJ39_indexOf 10 = .ok (.ireturn, 1) := dk_172 (dk_at dksJ39_indexOf_0 10 rfl rfl)
abbrev cJ39_indexOfRange : ByteArray := prog_44_method_12_code
def yJ39_indexOfRange : MethodName := ⟨RJ39, "indexOfRange", "(Ljava/lang/Object;II)I"⟩
def dkwJ39_indexOfRange_2 : List UInt8 := [43, 25, 4, 21, 5, 50, 182, 0, 93, 153, 0, 6, 21, 5, 172, 132, 5, 1, 167, 255, 232, 2, 172]
abbrev dktJ39_indexOfRange_2 : List UInt8 := dkwJ39_indexOfRange_2 ++ []
def dkwJ39_indexOfRange_1 : List UInt8 := [199, 0, 6, 21, 5, 172, 132, 5, 1, 167, 255, 236, 167, 0, 33, 28, 54, 5, 21, 5, 29, 162, 0, 24]
abbrev dktJ39_indexOfRange_1 : List UInt8 := dkwJ39_indexOfRange_1 ++ dktJ39_indexOfRange_2
def dkwJ39_indexOfRange_0 : List UInt8 := [42, 180, 0, 9, 58, 4, 43, 199, 0, 32, 28, 54, 5, 21, 5, 29, 162, 0, 20, 25, 4, 21, 5, 50]
abbrev dktJ39_indexOfRange_0 : List UInt8 := dkwJ39_indexOfRange_0 ++ dktJ39_indexOfRange_1
theorem dksJ39_indexOfRange_0 : cJ39_indexOfRange.data.toList.drop 0 = dktJ39_indexOfRange_0 := by decide +kernel
theorem dksJ39_indexOfRange_1 : cJ39_indexOfRange.data.toList.drop 24 = dktJ39_indexOfRange_1 := dk_seg dksJ39_indexOfRange_0 24 rfl rfl
theorem dksJ39_indexOfRange_2 : cJ39_indexOfRange.data.toList.drop 48 = dktJ39_indexOfRange_2 := dk_seg dksJ39_indexOfRange_1 24 rfl rfl
theorem dJ39_indexOfRange_0 : decode cJ39_indexOfRange 0 = .ok (.aload_n 0, 1) := dk_42 (dk_at dksJ39_indexOfRange_0 0 rfl rfl)
theorem dJ39_indexOfRange_1 : decode cJ39_indexOfRange 1 = .ok (.getfield 9, 3) := dk_180 0 9 (dk_at dksJ39_indexOfRange_0 1 rfl rfl)
theorem dJ39_indexOfRange_4 : decode cJ39_indexOfRange 4 = .ok (.astore 4, 2) := dk_58 4 (dk_at dksJ39_indexOfRange_0 4 rfl rfl)
theorem dJ39_indexOfRange_6 : decode cJ39_indexOfRange 6 = .ok (.aload_n 1, 1) := dk_43 (dk_at dksJ39_indexOfRange_0 6 rfl rfl)
theorem dJ39_indexOfRange_7 : decode cJ39_indexOfRange 7 = .ok (.ifnonnull 32, 3) := dk_199 0 32 (dk_at dksJ39_indexOfRange_0 7 rfl rfl)
theorem dJ39_indexOfRange_10 : decode cJ39_indexOfRange 10 = .ok (.iload_n 2, 1) := dk_28 (dk_at dksJ39_indexOfRange_0 10 rfl rfl)
theorem dJ39_indexOfRange_11 : decode cJ39_indexOfRange 11 = .ok (.istore 5, 2) := dk_54 5 (dk_at dksJ39_indexOfRange_0 11 rfl rfl)
theorem dJ39_indexOfRange_13 : decode cJ39_indexOfRange 13 = .ok (.iload 5, 2) := dk_21 5 (dk_at dksJ39_indexOfRange_0 13 rfl rfl)
theorem dJ39_indexOfRange_15 : decode cJ39_indexOfRange 15 = .ok (.iload_n 3, 1) := dk_29 (dk_at dksJ39_indexOfRange_0 15 rfl rfl)
theorem dJ39_indexOfRange_16 : decode cJ39_indexOfRange 16 = .ok (.if_icmp .ge 20, 3) := dk_162 0 20 (dk_at dksJ39_indexOfRange_0 16 rfl rfl)
theorem dJ39_indexOfRange_19 : decode cJ39_indexOfRange 19 = .ok (.aload 4, 2) := dk_25 4 (dk_at dksJ39_indexOfRange_0 19 rfl rfl)
theorem dJ39_indexOfRange_21 : decode cJ39_indexOfRange 21 = .ok (.iload 5, 2) := dk_21 5 (dk_at dksJ39_indexOfRange_0 21 rfl rfl)
theorem dJ39_indexOfRange_23 : decode cJ39_indexOfRange 23 = .ok (.aaload, 1) := dk_50 (dk_at dksJ39_indexOfRange_0 23 rfl rfl)
theorem dJ39_indexOfRange_24 : decode cJ39_indexOfRange 24 = .ok (.ifnonnull 6, 3) := dk_199 0 6 (dk_at dksJ39_indexOfRange_1 0 rfl rfl)
theorem dJ39_indexOfRange_27 : decode cJ39_indexOfRange 27 = .ok (.iload 5, 2) := dk_21 5 (dk_at dksJ39_indexOfRange_1 3 rfl rfl)
theorem dJ39_indexOfRange_29 : decode cJ39_indexOfRange 29 = .ok (.ireturn, 1) := dk_172 (dk_at dksJ39_indexOfRange_1 5 rfl rfl)
theorem dJ39_indexOfRange_30 : decode cJ39_indexOfRange 30 = .ok (.iinc 5 1, 3) := dk_132 5 1 (dk_at dksJ39_indexOfRange_1 6 rfl rfl)
theorem dJ39_indexOfRange_33 : decode cJ39_indexOfRange 33 = .ok (.goto (-20), 3) := dk_167 255 236 (dk_at dksJ39_indexOfRange_1 9 rfl rfl)
theorem dJ39_indexOfRange_36 : decode cJ39_indexOfRange 36 = .ok (.goto 33, 3) := dk_167 0 33 (dk_at dksJ39_indexOfRange_1 12 rfl rfl)
theorem dJ39_indexOfRange_39 : decode cJ39_indexOfRange 39 = .ok (.iload_n 2, 1) := dk_28 (dk_at dksJ39_indexOfRange_1 15 rfl rfl)
theorem dJ39_indexOfRange_40 : decode cJ39_indexOfRange 40 = .ok (.istore 5, 2) := dk_54 5 (dk_at dksJ39_indexOfRange_1 16 rfl rfl)
theorem dJ39_indexOfRange_42 : decode cJ39_indexOfRange 42 = .ok (.iload 5, 2) := dk_21 5 (dk_at dksJ39_indexOfRange_1 18 rfl rfl)
theorem dJ39_indexOfRange_44 : decode cJ39_indexOfRange 44 = .ok (.iload_n 3, 1) := dk_29 (dk_at dksJ39_indexOfRange_1 20 rfl rfl)
theorem dJ39_indexOfRange_45 : decode cJ39_indexOfRange 45 = .ok (.if_icmp .ge 24, 3) := dk_162 0 24 (dk_at dksJ39_indexOfRange_1 21 rfl rfl)
theorem dJ39_indexOfRange_48 : decode cJ39_indexOfRange 48 = .ok (.aload_n 1, 1) := dk_43 (dk_at dksJ39_indexOfRange_2 0 rfl rfl)
theorem dJ39_indexOfRange_49 : decode cJ39_indexOfRange 49 = .ok (.aload 4, 2) := dk_25 4 (dk_at dksJ39_indexOfRange_2 1 rfl rfl)
theorem dJ39_indexOfRange_51 : decode cJ39_indexOfRange 51 = .ok (.iload 5, 2) := dk_21 5 (dk_at dksJ39_indexOfRange_2 3 rfl rfl)
theorem dJ39_indexOfRange_53 : decode cJ39_indexOfRange 53 = .ok (.aaload, 1) := dk_50 (dk_at dksJ39_indexOfRange_2 5 rfl rfl)
theorem dJ39_indexOfRange_54 : decode cJ39_indexOfRange 54 = .ok (.invokevirtual 93, 3) := dk_182 0 93 (dk_at dksJ39_indexOfRange_2 6 rfl rfl)
theorem dJ39_indexOfRange_57 : decode cJ39_indexOfRange 57 = .ok (.ifCond .eq 6, 3) := dk_153 0 6 (dk_at dksJ39_indexOfRange_2 9 rfl rfl)
theorem dJ39_indexOfRange_60 : decode cJ39_indexOfRange 60 = .ok (.iload 5, 2) := dk_21 5 (dk_at dksJ39_indexOfRange_2 12 rfl rfl)
theorem dJ39_indexOfRange_62 : decode cJ39_indexOfRange 62 = .ok (.ireturn, 1) := dk_172 (dk_at dksJ39_indexOfRange_2 14 rfl rfl)
theorem dJ39_indexOfRange_63 : decode cJ39_indexOfRange 63 = .ok (.iinc 5 1, 3) := dk_132 5 1 (dk_at dksJ39_indexOfRange_2 15 rfl rfl)
theorem dJ39_indexOfRange_66 : decode cJ39_indexOfRange 66 = .ok (.goto (-24), 3) := dk_167 255 232 (dk_at dksJ39_indexOfRange_2 18 rfl rfl)
theorem dJ39_indexOfRange_69 : decode cJ39_indexOfRange 69 = .ok (.iconst (-1), 1) := dk_2 (dk_at dksJ39_indexOfRange_2 21 rfl rfl)
theorem dJ39_indexOfRange_70 : decode cJ39_indexOfRange 70 = .ok (.ireturn, 1) := dk_172 (dk_at dksJ39_indexOfRange_2 22 rfl rfl)
abbrev cJ39_add : ByteArray := prog_44_method_25_code
def yJ39_add : MethodName := ⟨RJ39, "add", "(Ljava/lang/Object;)Z"⟩
def dkwJ39_add_1 : List UInt8 := [172]
abbrev dktJ39_add_1 : List UInt8 := dkwJ39_add_1 ++ []
def dkwJ39_add_0 : List UInt8 := [42, 89, 180, 0, 63, 4, 96, 181, 0, 63, 42, 43, 42, 180, 0, 9, 42, 180, 0, 48, 182, 0, 131, 4]
abbrev dktJ39_add_0 : List UInt8 := dkwJ39_add_0 ++ dktJ39_add_1
theorem dksJ39_add_0 : cJ39_add.data.toList.drop 0 = dktJ39_add_0 := by decide +kernel
theorem dksJ39_add_1 : cJ39_add.data.toList.drop 24 = dktJ39_add_1 := dk_seg dksJ39_add_0 24 rfl rfl
theorem dJ39_add_0 : decode cJ39_add 0 = .ok (.aload_n 0, 1) := dk_42 (dk_at dksJ39_add_0 0 rfl rfl)
theorem dJ39_add_1 : decode cJ39_add 1 = .ok (.dup, 1) := dk_89 (dk_at dksJ39_add_0 1 rfl rfl)
theorem dJ39_add_2 : decode cJ39_add 2 = .ok (.getfield 63, 3) := dk_180 0 63 (dk_at dksJ39_add_0 2 rfl rfl)
theorem dJ39_add_5 : decode cJ39_add 5 = .ok (.iconst 1, 1) := dk_4 (dk_at dksJ39_add_0 5 rfl rfl)
theorem dJ39_add_6 : decode cJ39_add 6 = .ok (.iadd, 1) := dk_96 (dk_at dksJ39_add_0 6 rfl rfl)
theorem dJ39_add_7 : decode cJ39_add 7 = .ok (.putfield 63, 3) := dk_181 0 63 (dk_at dksJ39_add_0 7 rfl rfl)
theorem dJ39_add_10 : decode cJ39_add 10 = .ok (.aload_n 0, 1) := dk_42 (dk_at dksJ39_add_0 10 rfl rfl)
theorem dJ39_add_11 : decode cJ39_add 11 = .ok (.aload_n 1, 1) := dk_43 (dk_at dksJ39_add_0 11 rfl rfl)
theorem dJ39_add_12 : decode cJ39_add 12 = .ok (.aload_n 0, 1) := dk_42 (dk_at dksJ39_add_0 12 rfl rfl)
theorem dJ39_add_13 : decode cJ39_add 13 = .ok (.getfield 9, 3) := dk_180 0 9 (dk_at dksJ39_add_0 13 rfl rfl)
theorem dJ39_add_16 : decode cJ39_add 16 = .ok (.aload_n 0, 1) := dk_42 (dk_at dksJ39_add_0 16 rfl rfl)
theorem dJ39_add_17 : decode cJ39_add 17 = .ok (.getfield 48, 3) := dk_180 0 48 (dk_at dksJ39_add_0 17 rfl rfl)
theorem dJ39_add_20 : decode cJ39_add 20 = .ok (.invokevirtual 131, 3) := dk_182 0 131 (dk_at dksJ39_add_0 20 rfl rfl)
theorem dJ39_add_23 : decode cJ39_add 23 = .ok (.iconst 1, 1) := dk_4 (dk_at dksJ39_add_0 23 rfl rfl)
theorem dJ39_add_24 : decode cJ39_add 24 = .ok (.ireturn, 1) := dk_172 (dk_at dksJ39_add_1 0 rfl rfl)
abbrev cJ39_add_2 : ByteArray := prog_44_method_24_code
def yJ39_add_2 : MethodName := ⟨RJ39, "add", "(Ljava/lang/Object;[Ljava/lang/Object;I)V"⟩
def dkwJ39_add_2_0 : List UInt8 := [29, 44, 190, 160, 0, 8, 42, 182, 0, 129, 77, 44, 29, 43, 83, 42, 29, 4, 96, 181, 0, 48, 177]
abbrev dktJ39_add_2_0 : List UInt8 := dkwJ39_add_2_0 ++ []
theorem dksJ39_add_2_0 : cJ39_add_2.data.toList.drop 0 = dktJ39_add_2_0 := by decide +kernel
theorem dJ39_add_2_0 : decode cJ39_add_2 0 = .ok (.iload_n 3, 1) := dk_29 (dk_at dksJ39_add_2_0 0 rfl rfl)
theorem dJ39_add_2_1 : decode cJ39_add_2 1 = .ok (.aload_n 2, 1) := dk_44 (dk_at dksJ39_add_2_0 1 rfl rfl)
theorem dJ39_add_2_2 : decode cJ39_add_2 2 = .ok (.arraylength, 1) := dk_190 (dk_at dksJ39_add_2_0 2 rfl rfl)
theorem dJ39_add_2_3 : decode cJ39_add_2 3 = .ok (.if_icmp .ne 8, 3) := dk_160 0 8 (dk_at dksJ39_add_2_0 3 rfl rfl)
theorem dJ39_add_2_6 : decode cJ39_add_2 6 = .ok (.aload_n 0, 1) := dk_42 (dk_at dksJ39_add_2_0 6 rfl rfl)
theorem dJ39_add_2_7 : decode cJ39_add_2 7 = .ok (.invokevirtual 129, 3) := dk_182 0 129 (dk_at dksJ39_add_2_0 7 rfl rfl)
theorem dJ39_add_2_10 : decode cJ39_add_2 10 = .ok (.astore_n 2, 1) := dk_77 (dk_at dksJ39_add_2_0 10 rfl rfl)
theorem dJ39_add_2_11 : decode cJ39_add_2 11 = .ok (.aload_n 2, 1) := dk_44 (dk_at dksJ39_add_2_0 11 rfl rfl)
theorem dJ39_add_2_12 : decode cJ39_add_2 12 = .ok (.iload_n 3, 1) := dk_29 (dk_at dksJ39_add_2_0 12 rfl rfl)
theorem dJ39_add_2_13 : decode cJ39_add_2 13 = .ok (.aload_n 1, 1) := dk_43 (dk_at dksJ39_add_2_0 13 rfl rfl)
theorem dJ39_add_2_14 : decode cJ39_add_2 14 = .ok (.aastore, 1) := dk_83 (dk_at dksJ39_add_2_0 14 rfl rfl)
theorem dJ39_add_2_15 : decode cJ39_add_2 15 = .ok (.aload_n 0, 1) := dk_42 (dk_at dksJ39_add_2_0 15 rfl rfl)
theorem dJ39_add_2_16 : decode cJ39_add_2 16 = .ok (.iload_n 3, 1) := dk_29 (dk_at dksJ39_add_2_0 16 rfl rfl)
theorem dJ39_add_2_17 : decode cJ39_add_2 17 = .ok (.iconst 1, 1) := dk_4 (dk_at dksJ39_add_2_0 17 rfl rfl)
theorem dJ39_add_2_18 : decode cJ39_add_2 18 = .ok (.iadd, 1) := dk_96 (dk_at dksJ39_add_2_0 18 rfl rfl)
theorem dJ39_add_2_19 : decode cJ39_add_2 19 = .ok (.putfield 48, 3) := dk_181 0 48 (dk_at dksJ39_add_2_0 19 rfl rfl)
theorem dJ39_add_2_22 : decode cJ39_add_2 22 = .ok (.return_, 1) := dk_177 (dk_at dksJ39_add_2_0 22 rfl rfl)
abbrev cJ39_grow : ByteArray := prog_44_method_7_code
def yJ39_grow : MethodName := ⟨RJ39, "grow", "()[Ljava/lang/Object;"⟩
def dkwJ39_grow_0 : List UInt8 := [42, 42, 180, 0, 48, 4, 96, 182, 0, 69, 176]
abbrev dktJ39_grow_0 : List UInt8 := dkwJ39_grow_0 ++ []
theorem dksJ39_grow_0 : cJ39_grow.data.toList.drop 0 = dktJ39_grow_0 := by decide +kernel
theorem dJ39_grow_0 : decode cJ39_grow 0 = .ok (.aload_n 0, 1) := dk_42 (dk_at dksJ39_grow_0 0 rfl rfl)
theorem dJ39_grow_1 : decode cJ39_grow 1 = .ok (.aload_n 0, 1) := dk_42 (dk_at dksJ39_grow_0 1 rfl rfl)
theorem dJ39_grow_2 : decode cJ39_grow 2 = .ok (.getfield 48, 3) := dk_180 0 48 (dk_at dksJ39_grow_0 2 rfl rfl)
theorem dJ39_grow_5 : decode cJ39_grow 5 = .ok (.iconst 1, 1) := dk_4 (dk_at dksJ39_grow_0 5 rfl rfl)
theorem dJ39_grow_6 : decode cJ39_grow 6 = .ok (.iadd, 1) := dk_96 (dk_at dksJ39_grow_0 6 rfl rfl)
theorem dJ39_grow_7 : decode cJ39_grow 7 = .ok (.invokevirtual 69, 3) := dk_182 0 69 (dk_at dksJ39_grow_0 7 rfl rfl)
theorem dJ39_grow_10 : decode cJ39_grow 10 = .ok (.areturn, 1) := dk_176 (dk_at dksJ39_grow_0 10 rfl rfl)
abbrev cJ39_grow_2 : ByteArray := prog_44_method_6_code
def yJ39_grow_2 : MethodName := ⟨RJ39, "grow", "(I)[Ljava/lang/Object;"⟩
def dkwJ39_grow_2_2 : List UInt8 := [27, 184, 0, 79, 189, 0, 7, 90, 181, 0, 9, 176]
abbrev dktJ39_grow_2_2 : List UInt8 := dkwJ39_grow_2_2 ++ []
def dkwJ39_grow_2_1 : List UInt8 := [28, 4, 122, 184, 0, 73, 62, 42, 42, 180, 0, 9, 29, 184, 0, 66, 90, 181, 0, 9, 176, 42, 16, 10]
abbrev dktJ39_grow_2_1 : List UInt8 := dkwJ39_grow_2_1 ++ dktJ39_grow_2_2
def dkwJ39_grow_2_0 : List UInt8 := [42, 180, 0, 9, 190, 61, 28, 157, 0, 13, 42, 180, 0, 9, 178, 0, 39, 165, 0, 28, 28, 27, 28, 100]
abbrev dktJ39_grow_2_0 : List UInt8 := dkwJ39_grow_2_0 ++ dktJ39_grow_2_1
theorem dksJ39_grow_2_0 : cJ39_grow_2.data.toList.drop 0 = dktJ39_grow_2_0 := by decide +kernel
theorem dksJ39_grow_2_1 : cJ39_grow_2.data.toList.drop 24 = dktJ39_grow_2_1 := dk_seg dksJ39_grow_2_0 24 rfl rfl
theorem dksJ39_grow_2_2 : cJ39_grow_2.data.toList.drop 48 = dktJ39_grow_2_2 := dk_seg dksJ39_grow_2_1 24 rfl rfl
theorem dJ39_grow_2_0 : decode cJ39_grow_2 0 = .ok (.aload_n 0, 1) := dk_42 (dk_at dksJ39_grow_2_0 0 rfl rfl)
theorem dJ39_grow_2_1 : decode cJ39_grow_2 1 = .ok (.getfield 9, 3) := dk_180 0 9 (dk_at dksJ39_grow_2_0 1 rfl rfl)
theorem dJ39_grow_2_4 : decode cJ39_grow_2 4 = .ok (.arraylength, 1) := dk_190 (dk_at dksJ39_grow_2_0 4 rfl rfl)
theorem dJ39_grow_2_5 : decode cJ39_grow_2 5 = .ok (.istore_n 2, 1) := dk_61 (dk_at dksJ39_grow_2_0 5 rfl rfl)
theorem dJ39_grow_2_6 : decode cJ39_grow_2 6 = .ok (.iload_n 2, 1) := dk_28 (dk_at dksJ39_grow_2_0 6 rfl rfl)
theorem dJ39_grow_2_7 : decode cJ39_grow_2 7 = .ok (.ifCond .gt 13, 3) := dk_157 0 13 (dk_at dksJ39_grow_2_0 7 rfl rfl)
theorem dJ39_grow_2_10 : decode cJ39_grow_2 10 = .ok (.aload_n 0, 1) := dk_42 (dk_at dksJ39_grow_2_0 10 rfl rfl)
theorem dJ39_grow_2_11 : decode cJ39_grow_2 11 = .ok (.getfield 9, 3) := dk_180 0 9 (dk_at dksJ39_grow_2_0 11 rfl rfl)
theorem dJ39_grow_2_14 : decode cJ39_grow_2 14 = .ok (.getstatic 39, 3) := dk_178 0 39 (dk_at dksJ39_grow_2_0 14 rfl rfl)
theorem dJ39_grow_2_17 : decode cJ39_grow_2 17 = .ok (.if_acmp .eq 28, 3) := dk_165 0 28 (dk_at dksJ39_grow_2_0 17 rfl rfl)
theorem dJ39_grow_2_20 : decode cJ39_grow_2 20 = .ok (.iload_n 2, 1) := dk_28 (dk_at dksJ39_grow_2_0 20 rfl rfl)
theorem dJ39_grow_2_21 : decode cJ39_grow_2 21 = .ok (.iload_n 1, 1) := dk_27 (dk_at dksJ39_grow_2_0 21 rfl rfl)
theorem dJ39_grow_2_22 : decode cJ39_grow_2 22 = .ok (.iload_n 2, 1) := dk_28 (dk_at dksJ39_grow_2_0 22 rfl rfl)
theorem dJ39_grow_2_23 : decode cJ39_grow_2 23 = .ok (.isub, 1) := dk_100 (dk_at dksJ39_grow_2_0 23 rfl rfl)
theorem dJ39_grow_2_24 : decode cJ39_grow_2 24 = .ok (.iload_n 2, 1) := dk_28 (dk_at dksJ39_grow_2_1 0 rfl rfl)
theorem dJ39_grow_2_25 : decode cJ39_grow_2 25 = .ok (.iconst 1, 1) := dk_4 (dk_at dksJ39_grow_2_1 1 rfl rfl)
theorem dJ39_grow_2_26 : decode cJ39_grow_2 26 = .ok (.ishr, 1) := dk_122 (dk_at dksJ39_grow_2_1 2 rfl rfl)
theorem dJ39_grow_2_27 : decode cJ39_grow_2 27 = .ok (.invokestatic 73, 3) := dk_184 0 73 (dk_at dksJ39_grow_2_1 3 rfl rfl)
theorem dJ39_grow_2_30 : decode cJ39_grow_2 30 = .ok (.istore_n 3, 1) := dk_62 (dk_at dksJ39_grow_2_1 6 rfl rfl)
theorem dJ39_grow_2_31 : decode cJ39_grow_2 31 = .ok (.aload_n 0, 1) := dk_42 (dk_at dksJ39_grow_2_1 7 rfl rfl)
theorem dJ39_grow_2_32 : decode cJ39_grow_2 32 = .ok (.aload_n 0, 1) := dk_42 (dk_at dksJ39_grow_2_1 8 rfl rfl)
theorem dJ39_grow_2_33 : decode cJ39_grow_2 33 = .ok (.getfield 9, 3) := dk_180 0 9 (dk_at dksJ39_grow_2_1 9 rfl rfl)
theorem dJ39_grow_2_36 : decode cJ39_grow_2 36 = .ok (.iload_n 3, 1) := dk_29 (dk_at dksJ39_grow_2_1 12 rfl rfl)
theorem dJ39_grow_2_37 : decode cJ39_grow_2 37 = .ok (.invokestatic 66, 3) := dk_184 0 66 (dk_at dksJ39_grow_2_1 13 rfl rfl)
theorem dJ39_grow_2_40 : decode cJ39_grow_2 40 = .ok (.dup_x1, 1) := dk_90 (dk_at dksJ39_grow_2_1 16 rfl rfl)
theorem dJ39_grow_2_41 : decode cJ39_grow_2 41 = .ok (.putfield 9, 3) := dk_181 0 9 (dk_at dksJ39_grow_2_1 17 rfl rfl)
theorem dJ39_grow_2_44 : decode cJ39_grow_2 44 = .ok (.areturn, 1) := dk_176 (dk_at dksJ39_grow_2_1 20 rfl rfl)
theorem dJ39_grow_2_45 : decode cJ39_grow_2 45 = .ok (.aload_n 0, 1) := dk_42 (dk_at dksJ39_grow_2_1 21 rfl rfl)
theorem dJ39_grow_2_46 : decode cJ39_grow_2 46 = .ok (.bipush 10, 2) := dk_16 10 (dk_at dksJ39_grow_2_1 22 rfl rfl)
theorem dJ39_grow_2_48 : decode cJ39_grow_2 48 = .ok (.iload_n 1, 1) := dk_27 (dk_at dksJ39_grow_2_2 0 rfl rfl)
theorem dJ39_grow_2_49 : decode cJ39_grow_2 49 = .ok (.invokestatic 79, 3) := dk_184 0 79 (dk_at dksJ39_grow_2_2 1 rfl rfl)
theorem dJ39_grow_2_52 : decode cJ39_grow_2 52 = .ok (.anewarray 7, 3) := dk_189 0 7 (dk_at dksJ39_grow_2_2 4 rfl rfl)
theorem dJ39_grow_2_55 : decode cJ39_grow_2 55 = .ok (.dup_x1, 1) := dk_90 (dk_at dksJ39_grow_2_2 7 rfl rfl)
theorem dJ39_grow_2_56 : decode cJ39_grow_2 56 = .ok (.putfield 9, 3) := dk_181 0 9 (dk_at dksJ39_grow_2_2 8 rfl rfl)
theorem dJ39_grow_2_59 : decode cJ39_grow_2 59 = .ok (.areturn, 1) := dk_176 (dk_at dksJ39_grow_2_2 11 rfl rfl)
theorem q142 : (Jvm.Cond.initialized "java/util/ArrayList") ∈ lw_all := lw_g (lw_at lw_m1 48 rfl) rfl
theorem q182 : (Jvm.Cond.sameField "java/util/ArrayList" "java/util/AbstractList" "modCount" "I") ∈ lw_all := lw_g (lw_at lw_m1 88 rfl) rfl
theorem q185 : (Jvm.Cond.fieldLink "java/util/ArrayList" (63 : Nat) "java/util/ArrayList" "modCount" "I") ∈ lw_all := lw_g (lw_at lw_m1 91 rfl) rfl
theorem q353 : (Jvm.Cond.selects "java/util/ArrayList" ({ cls := "java/util/AbstractList", name := "listIterator", desc := "(I)Ljava/util/ListIterator;" } : Jvm.MethodName) ({ cls := "java/util/ArrayList", name := "listIterator", desc := "(I)Ljava/util/ListIterator;" } : Jvm.MethodName)) ∈ lw_all := lw_g (lw_at lw_m2 19 rfl) rfl
theorem q354 : (Jvm.Cond.instanceMethod ({ cls := "java/util/ArrayList", name := "listIterator", desc := "(I)Ljava/util/ListIterator;" } : Jvm.MethodName)) ∈ lw_all := lw_g (lw_at lw_m2 20 rfl) rfl
theorem q355 : (Jvm.Cond.code ({ cls := "java/util/ArrayList", name := "listIterator", desc := "(I)Ljava/util/ListIterator;" } : Jvm.MethodName) prog_44_method_53_code (2 : Nat) (Option.some (Jvm.ClassFile.FieldType.object "java/util/ListIterator"))) ∈ lw_all := lw_g (lw_at lw_m2 21 rfl) rfl
theorem q356 : (Jvm.Cond.methodLink "java/util/ArrayList" (135 : Nat) ({ cls := "java/util/ArrayList", name := "rangeCheckForAdd", desc := "(I)V" } : Jvm.MethodName)) ∈ lw_all := lw_g (lw_at lw_m2 22 rfl) rfl
theorem q357 : (Jvm.Cond.privateMethod ({ cls := "java/util/ArrayList", name := "rangeCheckForAdd", desc := "(I)V" } : Jvm.MethodName)) ∈ lw_tbl := lw_at lw_m2 23 rfl
theorem q358 : (Jvm.Cond.instanceMethod ({ cls := "java/util/ArrayList", name := "rangeCheckForAdd", desc := "(I)V" } : Jvm.MethodName)) ∈ lw_all := lw_g (lw_at lw_m2 24 rfl) rfl
theorem q359 : (Jvm.Cond.instantiable "java/util/ArrayList" (3 : Nat)) ∈ lw_all := lw_g (lw_at lw_m2 25 rfl) rfl
theorem q360 : (Jvm.Cond.code ({ cls := "java/util/ArrayList", name := "rangeCheckForAdd", desc := "(I)V" } : Jvm.MethodName) prog_44_method_45_code (2 : Nat) (Option.none : Option Jvm.ClassFile.FieldType)) ∈ lw_all := lw_g (lw_at lw_m2 26 rfl) rfl
theorem q361 : (Jvm.Cond.classLink "java/util/ArrayList" (187 : Nat) "java/lang/IndexOutOfBoundsException") ∈ lw_all := lw_g (lw_at lw_m2 27 rfl) rfl
theorem q406 : (Jvm.Cond.methodLink "java/util/ArrayList" (198 : Nat) ({ cls := "java/util/ArrayList", name := "outOfBoundsMsg", desc := "(I)Ljava/lang/String;" } : Jvm.MethodName)) ∈ lw_all := lw_g (lw_at lw_m2 72 rfl) rfl
theorem q407 : (Jvm.Cond.privateMethod ({ cls := "java/util/ArrayList", name := "outOfBoundsMsg", desc := "(I)Ljava/lang/String;" } : Jvm.MethodName)) ∈ lw_tbl := lw_at lw_m2 73 rfl
theorem q408 : (Jvm.Cond.instanceMethod ({ cls := "java/util/ArrayList", name := "outOfBoundsMsg", desc := "(I)Ljava/lang/String;" } : Jvm.MethodName)) ∈ lw_all := lw_g (lw_at lw_m2 74 rfl) rfl
theorem q409 : (Jvm.Cond.code ({ cls := "java/util/ArrayList", name := "outOfBoundsMsg", desc := "(I)Ljava/lang/String;" } : Jvm.MethodName) prog_44_method_46_code (2 : Nat) (Option.some (Jvm.ClassFile.FieldType.object "java/lang/String"))) ∈ lw_all := lw_g (lw_at lw_m2 75 rfl) rfl
theorem q410 : (Jvm.Cond.classLink "java/util/ArrayList" (20 : Nat) "java/lang/StringBuilder") ∈ lw_all := lw_g (lw_at lw_m2 76 rfl) rfl
theorem q411 : (Jvm.Cond.methodLink "java/util/ArrayList" (22 : Nat) ({ cls := "java/lang/StringBuilder", name := "<init>", desc := "()V" } : Jvm.MethodName)) ∈ lw_all := lw_g (lw_at lw_m2 77 rfl) rfl
theorem q412 : (Jvm.Cond.stringRef "java/util/ArrayList" (201 : Nat) "Index: ") ∈ lw_tbl := lw_at lw_m2 78 rfl
theorem q413 : (Jvm.Cond.methodLink "java/util/ArrayList" (25 : Nat) ({ cls := "java/lang/StringBuilder", name := "append", desc := "(Ljava/lang/String;)Ljava/lang/StringBuilder;" } : Jvm.MethodName)) ∈ lw_all := lw_g (lw_at lw_m2 79 rfl) rfl
theorem q533 : (Jvm.Cond.methodLink "java/util/ArrayList" (29 : Nat) ({ cls := "java/lang/StringBuilder", name := "append", desc := "(I)Ljava/lang/StringBuilder;" } : Jvm.MethodName)) ∈ lw_all := lw_g (lw_at lw_m2 199 rfl) rfl
theorem q558 : (Jvm.Cond.stringRef "java/util/ArrayList" (203 : Nat) ", Size: ") ∈ lw_tbl := lw_at lw_m2 224 rfl
theorem q559 : (Jvm.Cond.methodLink "java/util/ArrayList" (32 : Nat) ({ cls := "java/lang/StringBuilder", name := "toString", desc := "()Ljava/lang/String;" } : Jvm.MethodName)) ∈ lw_all := lw_g (lw_at lw_m2 225 rfl) rfl
theorem q661 : (Jvm.Cond.methodLink "java/util/ArrayList" (193 : Nat) ({ cls := "java/lang/IndexOutOfBoundsException", name := "<init>", desc := "(Ljava/lang/String;)V" } : Jvm.MethodName)) ∈ lw_all := lw_g (lw_at lw_m3 87 rfl) rfl
theorem q667 : (Jvm.Cond.classLink "java/util/ArrayList" (262 : Nat) "java/util/ArrayList$ListItr") ∈ lw_all := lw_g (lw_at lw_m3 93 rfl) rfl
theorem q669 : (Jvm.Cond.methodLink "java/util/ArrayList" (264 : Nat) ({ cls := "java/util/ArrayList$ListItr", name := "<init>", desc := "(Ljava/util/ArrayList;I)V" } : Jvm.MethodName)) ∈ lw_all := lw_g (lw_at lw_m3 95 rfl) rfl
theorem q758 : (Jvm.Cond.selects "java/util/ArrayList" ({ cls := "java/util/AbstractList", name := "size", desc := "()I" } : Jvm.MethodName) ({ cls := "java/util/ArrayList", name := "size", desc := "()I" } : Jvm.MethodName)) ∈ lw_all := lw_g (lw_at lw_m3 184 rfl) rfl
theorem q759 : (Jvm.Cond.instanceMethod ({ cls := "java/util/ArrayList", name := "size", desc := "()I" } : Jvm.MethodName)) ∈ lw_all := lw_g (lw_at lw_m3 185 rfl) rfl
theorem q760 : (Jvm.Cond.code ({ cls := "java/util/ArrayList", name := "size", desc := "()I" } : Jvm.MethodName) prog_44_method_8_code (1 : Nat) (Option.some Jvm.ClassFile.FieldType.int)) ∈ lw_all := lw_g (lw_at lw_m3 186 rfl) rfl
theorem q808 : (Jvm.Cond.selects "java/util/ArrayList" ({ cls := "java/util/AbstractList", name := "get", desc := "(I)Ljava/lang/Object;" } : Jvm.MethodName) ({ cls := "java/util/ArrayList", name := "get", desc := "(I)Ljava/lang/Object;" } : Jvm.MethodName)) ∈ lw_all := lw_g (lw_at lw_m3 234 rfl) rfl
theorem q809 : (Jvm.Cond.instanceMethod ({ cls := "java/util/ArrayList", name := "get", desc := "(I)Ljava/lang/Object;" } : Jvm.MethodName)) ∈ lw_all := lw_g (lw_at lw_m3 235 rfl) rfl
theorem q810 : (Jvm.Cond.code ({ cls := "java/util/ArrayList", name := "get", desc := "(I)Ljava/lang/Object;" } : Jvm.MethodName) prog_44_method_20_code (2 : Nat) (Option.some (Jvm.ClassFile.FieldType.object "java/lang/Object"))) ∈ lw_all := lw_g (lw_at lw_m3 236 rfl) rfl
theorem q811 : (Jvm.Cond.methodLink "java/util/ArrayList" (118 : Nat) ({ cls := "java/util/Objects", name := "checkIndex", desc := "(II)I" } : Jvm.MethodName)) ∈ lw_all := lw_g (lw_at lw_m3 237 rfl) rfl
theorem q817 : (Jvm.Cond.methodLink "java/util/ArrayList" (123 : Nat) ({ cls := "java/util/ArrayList", name := "elementData", desc := "(I)Ljava/lang/Object;" } : Jvm.MethodName)) ∈ lw_all := lw_g (lw_at lw_m4 3 rfl) rfl
theorem q818 : (Jvm.Cond.instanceMethod ({ cls := "java/util/ArrayList", name := "elementData", desc := "(I)Ljava/lang/Object;" } : Jvm.MethodName)) ∈ lw_all := lw_g (lw_at lw_m4 4 rfl) rfl
theorem q819 : (Jvm.Cond.selects "java/util/ArrayList" ({ cls := "java/util/ArrayList", name := "elementData", desc := "(I)Ljava/lang/Object;" } : Jvm.MethodName) ({ cls := "java/util/ArrayList", name := "elementData", desc := "(I)Ljava/lang/Object;" } : Jvm.MethodName)) ∈ lw_all := lw_g (lw_at lw_m4 5 rfl) rfl
theorem q820 : (Jvm.Cond.code ({ cls := "java/util/ArrayList", name := "elementData", desc := "(I)Ljava/lang/Object;" } : Jvm.MethodName) prog_44_method_18_code (2 : Nat) (Option.some (Jvm.ClassFile.FieldType.object "java/lang/Object"))) ∈ lw_all := lw_g (lw_at lw_m4 6 rfl) rfl
theorem q886 : (Jvm.Cond.selects "java/util/ArrayList" ({ cls := "java/lang/Object", name := "getClass", desc := "()Ljava/lang/Class;" } : Jvm.MethodName) ({ cls := "java/lang/Object", name := "getClass", desc := "()Ljava/lang/Class;" } : Jvm.MethodName)) ∈ lw_all := lw_g (lw_at lw_m4 72 rfl) rfl
theorem q973 : (Jvm.Cond.castable "java/util/ArrayList" "java/util/List") ∈ lw_tbl := lw_at lw_m4 159 rfl
theorem q974 : (Jvm.Cond.selects "java/util/ArrayList" ({ cls := "java/util/List", name := "get", desc := "(I)Ljava/lang/Object;" } : Jvm.MethodName) ({ cls := "java/util/ArrayList", name := "get", desc := "(I)Ljava/lang/Object;" } : Jvm.MethodName)) ∈ lw_all := lw_g (lw_at lw_m4 160 rfl) rfl
theorem q975 : (Jvm.Cond.unhidden "java/util/ArrayList" "get" "(I)Ljava/lang/Object;") ∈ lw_tbl := lw_at lw_m4 161 rfl
theorem q976 : (Jvm.Cond.publicMethod ({ cls := "java/util/ArrayList", name := "get", desc := "(I)Ljava/lang/Object;" } : Jvm.MethodName)) ∈ lw_tbl := lw_at lw_m4 162 rfl
theorem q1260 : (Jvm.Cond.selects "java/util/ArrayList" ({ cls := "java/util/AbstractList", name := "remove", desc := "(I)Ljava/lang/Object;" } : Jvm.MethodName) ({ cls := "java/util/ArrayList", name := "remove", desc := "(I)Ljava/lang/Object;" } : Jvm.MethodName)) ∈ lw_all := lw_g (lw_at lw_m5 206 rfl) rfl
theorem q1261 : (Jvm.Cond.instanceMethod ({ cls := "java/util/ArrayList", name := "remove", desc := "(I)Ljava/lang/Object;" } : Jvm.MethodName)) ∈ lw_all := lw_g (lw_at lw_m5 207 rfl) rfl
theorem q1262 : (Jvm.Cond.code ({ cls := "java/util/ArrayList", name := "remove", desc := "(I)Ljava/lang/Object;" } : Jvm.MethodName) prog_44_method_29_code (4 : Nat) (Option.some (Jvm.ClassFile.FieldType.object "java/lang/Object"))) ∈ lw_all := lw_g (lw_at lw_m5 208 rfl) rfl
theorem q1263 : (Jvm.Cond.methodLink "java/util/ArrayList" (144 : Nat) ({ cls := "java/util/ArrayList", name := "fastRemove", desc := "([Ljava/lang/Object;I)V" } : Jvm.MethodName)) ∈ lw_all := lw_g (lw_at lw_m5 209 rfl) rfl
theorem q1264 : (Jvm.Cond.privateMethod ({ cls := "java/util/ArrayList", name := "fastRemove", desc := "([Ljava/lang/Object;I)V" } : Jvm.MethodName)) ∈ lw_tbl := lw_at lw_m5 210 rfl
theorem q1265 : (Jvm.Cond.instanceMethod ({ cls := "java/util/ArrayList", name := "fastRemove", desc := "([Ljava/lang/Object;I)V" } : Jvm.MethodName)) ∈ lw_all := lw_g (lw_at lw_m5 211 rfl) rfl
theorem q1266 : (Jvm.Cond.code ({ cls := "java/util/ArrayList", name := "fastRemove", desc := "([Ljava/lang/Object;I)V" } : Jvm.MethodName) prog_44_method_39_code (4 : Nat) (Option.none : Option Jvm.ClassFile.FieldType)) ∈ lw_all := lw_g (lw_at lw_m5 212 rfl) rfl
theorem q1267 : (Jvm.Cond.methodLink "java/util/ArrayList" (112 : Nat) ({ cls := "java/lang/System", name := "arraycopy", desc := "(Ljava/lang/Object;ILjava/lang/Object;II)V" } : Jvm.MethodName)) ∈ lw_all := lw_g (lw_at lw_m5 213 rfl) rfl
theorem q2165 : (Jvm.Cond.instanceMethod ({ cls := "java/util/ArrayList", name := "<init>", desc := "()V" } : Jvm.MethodName)) ∈ lw_all := lw_g (lw_at lw_m9 151 rfl) rfl
theorem q2166 : (Jvm.Cond.code ({ cls := "java/util/ArrayList", name := "<init>", desc := "()V" } : Jvm.MethodName) prog_44_method_2_code (1 : Nat) (Option.none : Option Jvm.ClassFile.FieldType)) ∈ lw_all := lw_g (lw_at lw_m9 152 rfl) rfl
theorem q2167 : (Jvm.Cond.methodLink "java/util/ArrayList" (1 : Nat) ({ cls := "java/util/AbstractList", name := "<init>", desc := "()V" } : Jvm.MethodName)) ∈ lw_all := lw_g (lw_at lw_m9 153 rfl) rfl
theorem q2168 : (Jvm.Cond.fieldLink "java/util/ArrayList" (39 : Nat) "java/util/ArrayList" "DEFAULTCAPACITY_EMPTY_ELEMENTDATA" "[Ljava/lang/Object;") ∈ lw_all := lw_g (lw_at lw_m9 154 rfl) rfl
theorem q2169 : (Jvm.Cond.laysStatic "java/util/ArrayList" "DEFAULTCAPACITY_EMPTY_ELEMENTDATA" "[Ljava/lang/Object;") ∈ lw_tbl := lw_at lw_m9 155 rfl
theorem q2170 : (Jvm.Cond.fieldLink "java/util/ArrayList" (9 : Nat) "java/util/ArrayList" "elementData" "[Ljava/lang/Object;") ∈ lw_all := lw_g (lw_at lw_m9 156 rfl) rfl
theorem q2173 : (Jvm.Cond.fieldLink "java/util/ArrayList" (48 : Nat) "java/util/ArrayList" "size" "I") ∈ lw_all := lw_g (lw_at lw_m9 159 rfl) rfl
theorem q2174 : (Jvm.Cond.lays "java/util/ArrayList" "java/util/ArrayList" "elementData" "[Ljava/lang/Object;") ∈ lw_all := lw_g (lw_at lw_m9 160 rfl) rfl
theorem q2175 : (Jvm.Cond.soleField "java/util/ArrayList" "elementData") ∈ lw_all := lw_g (lw_at lw_m9 161 rfl) rfl
theorem q2176 : (Jvm.Cond.lays "java/util/ArrayList" "java/util/ArrayList" "size" "I") ∈ lw_all := lw_g (lw_at lw_m9 162 rfl) rfl
theorem q2177 : (Jvm.Cond.soleField "java/util/ArrayList" "size") ∈ lw_all := lw_g (lw_at lw_m9 163 rfl) rfl
theorem q2178 : (Jvm.Cond.lays "java/util/ArrayList" "java/util/AbstractList" "modCount" "I") ∈ lw_all := lw_g (lw_at lw_m9 164 rfl) rfl
theorem q2179 : (Jvm.Cond.superclass "java/util/ArrayList" "java/util/AbstractList") ∈ lw_all := lw_g (lw_at lw_m9 165 rfl) rfl
theorem q2253 : (Jvm.Cond.selects "java/util/ArrayList" ({ cls := "java/util/List", name := "iterator", desc := "()Ljava/util/Iterator;" } : Jvm.MethodName) ({ cls := "java/util/ArrayList", name := "iterator", desc := "()Ljava/util/Iterator;" } : Jvm.MethodName)) ∈ lw_all := lw_g (lw_at lw_m9 239 rfl) rfl
theorem q2254 : (Jvm.Cond.unhidden "java/util/ArrayList" "iterator" "()Ljava/util/Iterator;") ∈ lw_tbl := lw_at lw_m10 0 rfl
theorem q2255 : (Jvm.Cond.instanceMethod ({ cls := "java/util/ArrayList", name := "iterator", desc := "()Ljava/util/Iterator;" } : Jvm.MethodName)) ∈ lw_all := lw_g (lw_at lw_m10 1 rfl) rfl
theorem q2256 : (Jvm.Cond.publicMethod ({ cls := "java/util/ArrayList", name := "iterator", desc := "()Ljava/util/Iterator;" } : Jvm.MethodName)) ∈ lw_tbl := lw_at lw_m10 2 rfl
theorem q2257 : (Jvm.Cond.code ({ cls := "java/util/ArrayList", name := "iterator", desc := "()Ljava/util/Iterator;" } : Jvm.MethodName) prog_44_method_55_code (1 : Nat) (Option.some (Jvm.ClassFile.FieldType.object "java/util/Iterator"))) ∈ lw_all := lw_g (lw_at lw_m10 3 rfl) rfl
theorem q2258 : (Jvm.Cond.classLink "java/util/ArrayList" (267 : Nat) "java/util/ArrayList$Itr") ∈ lw_all := lw_g (lw_at lw_m10 4 rfl) rfl
theorem q2260 : (Jvm.Cond.methodLink "java/util/ArrayList" (269 : Nat) ({ cls := "java/util/ArrayList$Itr", name := "<init>", desc := "(Ljava/util/ArrayList;)V" } : Jvm.MethodName)) ∈ lw_all := lw_g (lw_at lw_m10 6 rfl) rfl
theorem q2318 : (Jvm.Cond.selects "java/util/ArrayList" ({ cls := "java/util/List", name := "contains", desc := "(Ljava/lang/Object;)Z" } : Jvm.MethodName) ({ cls := "java/util/ArrayList", name := "contains", desc := "(Ljava/lang/Object;)Z" } : Jvm.MethodName)) ∈ lw_all := lw_g (lw_at lw_m10 64 rfl) rfl
theorem q2319 : (Jvm.Cond.unhidden "java/util/ArrayList" "contains" "(Ljava/lang/Object;)Z") ∈ lw_tbl := lw_at lw_m10 65 rfl
theorem q2320 : (Jvm.Cond.instanceMethod ({ cls := "java/util/ArrayList", name := "contains", desc := "(Ljava/lang/Object;)Z" } : Jvm.MethodName)) ∈ lw_all := lw_g (lw_at lw_m10 66 rfl) rfl
theorem q2321 : (Jvm.Cond.publicMethod ({ cls := "java/util/ArrayList", name := "contains", desc := "(Ljava/lang/Object;)Z" } : Jvm.MethodName)) ∈ lw_tbl := lw_at lw_m10 67 rfl
theorem q2322 : (Jvm.Cond.code ({ cls := "java/util/ArrayList", name := "contains", desc := "(Ljava/lang/Object;)Z" } : Jvm.MethodName) prog_44_method_10_code (2 : Nat) (Option.some Jvm.ClassFile.FieldType.boolean)) ∈ lw_all := lw_g (lw_at lw_m10 68 rfl) rfl
theorem q2323 : (Jvm.Cond.methodLink "java/util/ArrayList" (85 : Nat) ({ cls := "java/util/ArrayList", name := "indexOf", desc := "(Ljava/lang/Object;)I" } : Jvm.MethodName)) ∈ lw_all := lw_g (lw_at lw_m10 69 rfl) rfl
theorem q2324 : (Jvm.Cond.instanceMethod ({ cls := "java/util/ArrayList", name := "indexOf", desc := "(Ljava/lang/Object;)I" } : Jvm.MethodName)) ∈ lw_all := lw_g (lw_at lw_m10 70 rfl) rfl
theorem q2325 : (Jvm.Cond.selects "java/util/ArrayList" ({ cls := "java/util/ArrayList", name := "indexOf", desc := "(Ljava/lang/Object;)I" } : Jvm.MethodName) ({ cls := "java/util/ArrayList", name := "indexOf", desc := "(Ljava/lang/Object;)I" } : Jvm.MethodName)) ∈ lw_all := lw_g (lw_at lw_m10 71 rfl) rfl
theorem q2326 : (Jvm.Cond.code ({ cls := "java/util/ArrayList", name := "indexOf", desc := "(Ljava/lang/Object;)I" } : Jvm.MethodName) prog_44_method_11_code (2 : Nat) (Option.some Jvm.ClassFile.FieldType.int)) ∈ lw_all := lw_g (lw_at lw_m10 72 rfl) rfl
theorem q2327 : (Jvm.Cond.methodLink "java/util/ArrayList" (89 : Nat) ({ cls := "java/util/ArrayList", name := "indexOfRange", desc := "(Ljava/lang/Object;II)I" } : Jvm.MethodName)) ∈ lw_all := lw_g (lw_at lw_m10 73 rfl) rfl
theorem q2328 : (Jvm.Cond.instanceMethod ({ cls := "java/util/ArrayList", name := "indexOfRange", desc := "(Ljava/lang/Object;II)I" } : Jvm.MethodName)) ∈ lw_all := lw_g (lw_at lw_m10 74 rfl) rfl
theorem q2329 : (Jvm.Cond.selects "java/util/ArrayList" ({ cls := "java/util/ArrayList", name := "indexOfRange", desc := "(Ljava/lang/Object;II)I" } : Jvm.MethodName) ({ cls := "java/util/ArrayList", name := "indexOfRange", desc := "(Ljava/lang/Object;II)I" } : Jvm.MethodName)) ∈ lw_all := lw_g (lw_at lw_m10 75 rfl) rfl
theorem q2330 : (Jvm.Cond.code ({ cls := "java/util/ArrayList", name := "indexOfRange", desc := "(Ljava/lang/Object;II)I" } : Jvm.MethodName) prog_44_method_12_code (6 : Nat) (Option.some Jvm.ClassFile.FieldType.int)) ∈ lw_all := lw_g (lw_at lw_m10 76 rfl) rfl
theorem q2332 : (Jvm.Cond.methodLink "java/util/ArrayList" (93 : Nat) ({ cls := "java/lang/Object", name := "equals", desc := "(Ljava/lang/Object;)Z" } : Jvm.MethodName)) ∈ lw_all := lw_g (lw_at lw_m10 78 rfl) rfl
theorem q2406 : (Jvm.Cond.instanceMethod ({ cls := "java/util/ArrayList", name := "add", desc := "(Ljava/lang/Object;)Z" } : Jvm.MethodName)) ∈ lw_all := lw_g (lw_at lw_m10 152 rfl) rfl
theorem q2407 : (Jvm.Cond.selects "java/util/ArrayList" ({ cls := "java/util/ArrayList", name := "add", desc := "(Ljava/lang/Object;)Z" } : Jvm.MethodName) ({ cls := "java/util/ArrayList", name := "add", desc := "(Ljava/lang/Object;)Z" } : Jvm.MethodName)) ∈ lw_all := lw_g (lw_at lw_m10 153 rfl) rfl
theorem q2408 : (Jvm.Cond.code ({ cls := "java/util/ArrayList", name := "add", desc := "(Ljava/lang/Object;)Z" } : Jvm.MethodName) prog_44_method_25_code (2 : Nat) (Option.some Jvm.ClassFile.FieldType.boolean)) ∈ lw_all := lw_g (lw_at lw_m10 154 rfl) rfl
theorem q2409 : (Jvm.Cond.methodLink "java/util/ArrayList" (131 : Nat) ({ cls := "java/util/ArrayList", name := "add", desc := "(Ljava/lang/Object;[Ljava/lang/Object;I)V" } : Jvm.MethodName)) ∈ lw_all := lw_g (lw_at lw_m10 155 rfl) rfl
theorem q2410 : (Jvm.Cond.privateMethod ({ cls := "java/util/ArrayList", name := "add", desc := "(Ljava/lang/Object;[Ljava/lang/Object;I)V" } : Jvm.MethodName)) ∈ lw_tbl := lw_at lw_m10 156 rfl
theorem q2411 : (Jvm.Cond.instanceMethod ({ cls := "java/util/ArrayList", name := "add", desc := "(Ljava/lang/Object;[Ljava/lang/Object;I)V" } : Jvm.MethodName)) ∈ lw_all := lw_g (lw_at lw_m10 157 rfl) rfl
theorem q2412 : (Jvm.Cond.code ({ cls := "java/util/ArrayList", name := "add", desc := "(Ljava/lang/Object;[Ljava/lang/Object;I)V" } : Jvm.MethodName) prog_44_method_24_code (4 : Nat) (Option.none : Option Jvm.ClassFile.FieldType)) ∈ lw_all := lw_g (lw_at lw_m10 158 rfl) rfl
theorem q2413 : (Jvm.Cond.methodLink "java/util/ArrayList" (129 : Nat) ({ cls := "java/util/ArrayList", name := "grow", desc := "()[Ljava/lang/Object;" } : Jvm.MethodName)) ∈ lw_all := lw_g (lw_at lw_m10 159 rfl) rfl
theorem q2414 : (Jvm.Cond.privateMethod ({ cls := "java/util/ArrayList", name := "grow", desc := "()[Ljava/lang/Object;" } : Jvm.MethodName)) ∈ lw_tbl := lw_at lw_m10 160 rfl
theorem q2415 : (Jvm.Cond.instanceMethod ({ cls := "java/util/ArrayList", name := "grow", desc := "()[Ljava/lang/Object;" } : Jvm.MethodName)) ∈ lw_all := lw_g (lw_at lw_m10 161 rfl) rfl
theorem q2416 : (Jvm.Cond.code ({ cls := "java/util/ArrayList", name := "grow", desc := "()[Ljava/lang/Object;" } : Jvm.MethodName) prog_44_method_7_code (1 : Nat) (Option.some (Jvm.ClassFile.FieldType.array (Jvm.ClassFile.FieldType.object "java/lang/Object")))) ∈ lw_all := lw_g (lw_at lw_m10 162 rfl) rfl
theorem q2417 : (Jvm.Cond.methodLink "java/util/ArrayList" (69 : Nat) ({ cls := "java/util/ArrayList", name := "grow", desc := "(I)[Ljava/lang/Object;" } : Jvm.MethodName)) ∈ lw_all := lw_g (lw_at lw_m10 163 rfl) rfl
theorem q2418 : (Jvm.Cond.privateMethod ({ cls := "java/util/ArrayList", name := "grow", desc := "(I)[Ljava/lang/Object;" } : Jvm.MethodName)) ∈ lw_tbl := lw_at lw_m10 164 rfl
theorem q2419 : (Jvm.Cond.instanceMethod ({ cls := "java/util/ArrayList", name := "grow", desc := "(I)[Ljava/lang/Object;" } : Jvm.MethodName)) ∈ lw_all := lw_g (lw_at lw_m10 165 rfl) rfl
theorem q2420 : (Jvm.Cond.code ({ cls := "java/util/ArrayList", name := "grow", desc := "(I)[Ljava/lang/Object;" } : Jvm.MethodName) prog_44_method_6_code (4 : Nat) (Option.some (Jvm.ClassFile.FieldType.array (Jvm.ClassFile.FieldType.object "java/lang/Object")))) ∈ lw_all := lw_g (lw_at lw_m10 166 rfl) rfl
theorem q2421 : (Jvm.Cond.methodLink "java/util/ArrayList" (73 : Nat) ({ cls := "jdk/internal/util/ArraysSupport", name := "newLength", desc := "(III)I" } : Jvm.MethodName)) ∈ lw_all := lw_g (lw_at lw_m10 167 rfl) rfl
theorem q2422 : (Jvm.Cond.methodLink "java/util/ArrayList" (66 : Nat) ({ cls := "java/util/Arrays", name := "copyOf", desc := "([Ljava/lang/Object;I)[Ljava/lang/Object;" } : Jvm.MethodName)) ∈ lw_all := lw_g (lw_at lw_m10 168 rfl) rfl
theorem q2423 : (Jvm.Cond.methodLink "java/util/ArrayList" (79 : Nat) ({ cls := "java/lang/Math", name := "max", desc := "(II)I" } : Jvm.MethodName)) ∈ lw_all := lw_g (lw_at lw_m10 169 rfl) rfl
theorem q2424 : (Jvm.Cond.classLink "java/util/ArrayList" (7 : Nat) "java/lang/Object") ∈ lw_all := lw_g (lw_at lw_m10 170 rfl) rfl
theorem q3083 : (Jvm.Cond.selects "java/util/ArrayList" ({ cls := "java/util/ArrayList", name := "remove", desc := "(I)Ljava/lang/Object;" } : Jvm.MethodName) ({ cls := "java/util/ArrayList", name := "remove", desc := "(I)Ljava/lang/Object;" } : Jvm.MethodName)) ∈ lw_all := lw_g (lw_at lw_m13 109 rfl) rfl
theorem q3088 : (Jvm.Cond.selects "java/util/ArrayList" ({ cls := "java/util/AbstractCollection", name := "size", desc := "()I" } : Jvm.MethodName) ({ cls := "java/util/ArrayList", name := "size", desc := "()I" } : Jvm.MethodName)) ∈ lw_all := lw_g (lw_at lw_m13 114 rfl) rfl
theorem q3097 : (Jvm.Cond.selects "java/util/ArrayList" ({ cls := "java/util/ArrayList", name := "iterator", desc := "()Ljava/util/Iterator;" } : Jvm.MethodName) ({ cls := "java/util/ArrayList", name := "iterator", desc := "()Ljava/util/Iterator;" } : Jvm.MethodName)) ∈ lw_all := lw_g (lw_at lw_m13 123 rfl) rfl
theorem q3098 : (Jvm.Cond.selects "java/util/ArrayList" ({ cls := "java/util/ArrayList", name := "size", desc := "()I" } : Jvm.MethodName) ({ cls := "java/util/ArrayList", name := "size", desc := "()I" } : Jvm.MethodName)) ∈ lw_all := lw_g (lw_at lw_m13 124 rfl) rfl
theorem q3126 : (Jvm.Cond.castable "java/util/ArrayList" "java/lang/Object") ∈ lw_tbl := lw_at lw_m13 152 rfl
theorem in_J39 : ∀ w ∈ wsJ390, w ∈ lw_all := lw_in wsJ390 [2178, 2174, 2176] (by decide +kernel) (by decide +kernel)

/-! java/util/ArrayDeque -/
set_option maxRecDepth 100000
def RJ4 : String := "java/util/ArrayDeque"
def TJ4 : u_T := fun k => match k with
  | 0 => ("java/util/ArrayDeque", "elements", "[Ljava/lang/Object;", false)
  | 1 => ("java/util/ArrayDeque", "head", "I", false)
  | _ => ("java/util/ArrayDeque", "tail", "I", false)
def tyJ4 : Nat → FieldType := fun k => match k with
  | 0 => .array (.object "java/lang/Object")
  | 1 => .int
  | _ => .int
abbrev wsJ40 : List Cond := u_ws RJ4 TJ4 3
theorem nmJ4 : ∀ a, a < 3 → ∀ b, b < 3 → a ≠ b → (TJ4 a).2.1 ≠ (TJ4 b).2.1 := by decide +kernel
theorem tyJ4_ok : ∀ k, k < 3 → parseFieldDescriptor (TJ4 k).2.2.1 = some (tyJ4 k) := by decide +kernel
abbrev cJ4_init : ByteArray := prog_42_method_3_code
def yJ4_init : MethodName := ⟨RJ4, "<init>", "()V"⟩
def dkwJ4_init_0 : List UInt8 := [42, 183, 0, 42, 42, 16, 17, 189, 0, 47, 181, 0, 3, 177]
abbrev dktJ4_init_0 : List UInt8 := dkwJ4_init_0 ++ []
theorem dksJ4_init_0 : cJ4_init.data.toList.drop 0 = dktJ4_init_0 := by decide +kernel
theorem dJ4_init_0 : decode cJ4_init 0 = .ok (.aload_n 0, 1) := dk_42 (dk_at dksJ4_init_0 0 rfl rfl)
theorem dJ4_init_1 : decode cJ4_init 1 = .ok (.invokespecial 42, 3) := dk_183 0 42 (dk_at dksJ4_init_0 1 rfl rfl)
theorem dJ4_init_4 : decode cJ4_init 4 = .ok (.aload_n 0, 1) := dk_42 (dk_at dksJ4_init_0 4 rfl rfl)
theorem dJ4_init_5 : decode cJ4_init 5 = .ok (.bipush 17, 2) := dk_16 17 (dk_at dksJ4_init_0 5 rfl rfl)
theorem dJ4_init_7 : decode cJ4_init 7 = .ok (.anewarray 47, 3) := dk_189 0 47 (dk_at dksJ4_init_0 7 rfl rfl)
theorem dJ4_init_10 : decode cJ4_init 10 = .ok (.putfield 3, 3) := dk_181 0 3 (dk_at dksJ4_init_0 10 rfl rfl)
theorem dJ4_init_13 : decode cJ4_init 13 = .ok (.return_, 1) := dk_177 (dk_at dksJ4_init_0 13 rfl rfl)
abbrev cJ4_nonNullElementAt : ByteArray := prog_42_method_11_code
def yJ4_nonNullElementAt : MethodName := ⟨RJ4, "nonNullElementAt", "([Ljava/lang/Object;I)Ljava/lang/Object;"⟩
def dkwJ4_nonNullElementAt_0 : List UInt8 := [42, 27, 50, 77, 44, 199, 0, 11, 187, 0, 62, 89, 183, 0, 64, 191, 44, 176]
abbrev dktJ4_nonNullElementAt_0 : List UInt8 := dkwJ4_nonNullElementAt_0 ++ []
theorem dksJ4_nonNullElementAt_0 : cJ4_nonNullElementAt.data.toList.drop 0 = dktJ4_nonNullElementAt_0 := by decide +kernel
theorem dJ4_nonNullElementAt_0 : decode cJ4_nonNullElementAt 0 = .ok (.aload_n 0, 1) := dk_42 (dk_at dksJ4_nonNullElementAt_0 0 rfl rfl)
theorem dJ4_nonNullElementAt_1 : decode cJ4_nonNullElementAt 1 = .ok (.iload_n 1, 1) := dk_27 (dk_at dksJ4_nonNullElementAt_0 1 rfl rfl)
theorem dJ4_nonNullElementAt_2 : decode cJ4_nonNullElementAt 2 = .ok (.aaload, 1) := dk_50 (dk_at dksJ4_nonNullElementAt_0 2 rfl rfl)
theorem dJ4_nonNullElementAt_3 : decode cJ4_nonNullElementAt 3 = .ok (.astore_n 2, 1) := dk_77 (dk_at dksJ4_nonNullElementAt_0 3 rfl rfl)
theorem dJ4_nonNullElementAt_4 : decode cJ4_nonNullElementAt 4 = .ok (.aload_n 2, 1) := dk_44 (dk_at dksJ4_nonNullElementAt_0 4 rfl rfl)
theorem dJ4_nonNullElementAt_5 : decode cJ4_nonNullElementAt 5 = .ok (.ifnonnull 11, 3) := dk_199 0 11 (dk_at dksJ4_nonNullElementAt_0 5 rfl rfl)
theorem dJ4_nonNullElementAt_8 : decode cJ4_nonNullElementAt 8 = .ok (.new 62, 3) := dk_187 0 62 (dk_at dksJ4_nonNullElementAt_0 8 rfl rfl)
theorem dJ4_nonNullElementAt_11 : decode cJ4_nonNullElementAt 11 = .ok (.dup, 1) := dk_89 (dk_at dksJ4_nonNullElementAt_0 11 rfl rfl)
theorem dJ4_nonNullElementAt_12 : decode cJ4_nonNullElementAt 12 = .ok (.invokespecial 64, 3) := dk_183 0 64 (dk_at dksJ4_nonNullElementAt_0 12 rfl rfl)
theorem dJ4_nonNullElementAt_15 : decode cJ4_nonNullElementAt 15 = .ok (.athrow, 1) := dk_191 (dk_at dksJ4_nonNullElementAt_0 15 rfl rfl)
theorem dJ4_nonNullElementAt_16 : decode cJ4_nonNullElementAt 16 = .ok (.aload_n 2, 1) := dk_44 (dk_at dksJ4_nonNullElementAt_0 16 rfl rfl)
theorem dJ4_nonNullElementAt_17 : decode cJ4_nonNullElementAt 17 = .ok (.areturn, 1) := dk_176 (dk_at dksJ4_nonNullElementAt_0 17 rfl rfl)
abbrev cJ4_inc : ByteArray := prog_42_method_6_code
def yJ4_inc : MethodName := ⟨RJ4, "inc", "(II)I"⟩
def dkwJ4_inc_0 : List UInt8 := [132, 0, 1, 26, 27, 161, 0, 5, 3, 59, 26, 172]
abbrev dktJ4_inc_0 : List UInt8 := dkwJ4_inc_0 ++ []
theorem dksJ4_inc_0 : cJ4_inc.data.toList.drop 0 = dktJ4_inc_0 := by decide +kernel
theorem dJ4_inc_0 : decode cJ4_inc 0 = .ok (.iinc 0 1, 3) := dk_132 0 1 (dk_at dksJ4_inc_0 0 rfl rfl)
theorem dJ4_inc_3 : decode cJ4_inc 3 = .ok (.iload_n 0, 1) := dk_26 (dk_at dksJ4_inc_0 3 rfl rfl)
theorem dJ4_inc_4 : decode cJ4_inc 4 = .ok (.iload_n 1, 1) := dk_27 (dk_at dksJ4_inc_0 4 rfl rfl)
theorem dJ4_inc_5 : decode cJ4_inc 5 = .ok (.if_icmp .lt 5, 3) := dk_161 0 5 (dk_at dksJ4_inc_0 5 rfl rfl)
theorem dJ4_inc_8 : decode cJ4_inc 8 = .ok (.iconst 0, 1) := dk_3 (dk_at dksJ4_inc_0 8 rfl rfl)
theorem dJ4_inc_9 : decode cJ4_inc 9 = .ok (.istore_n 0, 1) := dk_59 (dk_at dksJ4_inc_0 9 rfl rfl)
theorem dJ4_inc_10 : decode cJ4_inc 10 = .ok (.iload_n 0, 1) := dk_26 (dk_at dksJ4_inc_0 10 rfl rfl)
theorem dJ4_inc_11 : decode cJ4_inc 11 = .ok (.ireturn, 1) := dk_172 (dk_at dksJ4_inc_0 11 rfl rfl)
abbrev cJ4_iterator : ByteArray := prog_42_method_39_code
def yJ4_iterator : MethodName := ⟨RJ4, "iterator", "()Ljava/util/Iterator;"⟩
def dkwJ4_iterator_0 : List UInt8 := [187, 0, 131, 89, 42, 183, 0, 133, 176]
abbrev dktJ4_iterator_0 : List UInt8 := dkwJ4_iterator_0 ++ []
theorem dksJ4_iterator_0 : cJ4_iterator.data.toList.drop 0 = dktJ4_iterator_0 := by decide +kernel
theorem dJ4_iterator_0 : decode cJ4_iterator 0 = .ok (.new 131, 3) := dk_187 0 131 (dk_at dksJ4_iterator_0 0 rfl rfl)
theorem dJ4_iterator_3 : decode cJ4_iterator 3 = .ok (.dup, 1) := dk_89 (dk_at dksJ4_iterator_0 3 rfl rfl)
theorem dJ4_iterator_4 : decode cJ4_iterator 4 = .ok (.aload_n 0, 1) := dk_42 (dk_at dksJ4_iterator_0 4 rfl rfl)
theorem dJ4_iterator_5 : decode cJ4_iterator 5 = .ok (.invokespecial 133, 3) := dk_183 0 133 (dk_at dksJ4_iterator_0 5 rfl rfl)
theorem dJ4_iterator_8 : decode cJ4_iterator 8 = .ok (.areturn, 1) := dk_176 (dk_at dksJ4_iterator_0 8 rfl rfl)
abbrev cJ4_size : ByteArray := prog_42_method_37_code
def yJ4_size : MethodName := ⟨RJ4, "size", "()I"⟩
def dkwJ4_size_0 : List UInt8 := [42, 180, 0, 20, 42, 180, 0, 24, 42, 180, 0, 3, 190, 184, 0, 127, 172]
abbrev dktJ4_size_0 : List UInt8 := dkwJ4_size_0 ++ []
theorem dksJ4_size_0 : cJ4_size.data.toList.drop 0 = dktJ4_size_0 := by decide +kernel
theorem dJ4_size_0 : decode cJ4_size 0 = .ok (.aload_n 0, 1) := dk_42 (dk_at dksJ4_size_0 0 rfl rfl)
theorem dJ4_size_1 : decode cJ4_size 1 = .ok (.getfield 20, 3) := dk_180 0 20 (dk_at dksJ4_size_0 1 rfl rfl)
theorem dJ4_size_4 : decode cJ4_size 4 = .ok (.aload_n 0, 1) := dk_42 (dk_at dksJ4_size_0 4 rfl rfl)
theorem dJ4_size_5 : decode cJ4_size 5 = .ok (.getfield 24, 3) := dk_180 0 24 (dk_at dksJ4_size_0 5 rfl rfl)
theorem dJ4_size_8 : decode cJ4_size 8 = .ok (.aload_n 0, 1) := dk_42 (dk_at dksJ4_size_0 8 rfl rfl)
theorem dJ4_size_9 : decode cJ4_size 9 = .ok (.getfield 3, 3) := dk_180 0 3 (dk_at dksJ4_size_0 9 rfl rfl)
theorem dJ4_size_12 : decode cJ4_size 12 = .ok (.arraylength, 1) := dk_190 (dk_at dksJ4_size_0 12 rfl rfl)
theorem dJ4_size_13 : decode cJ4_size 13 = .ok (.invokestatic 127, 3) := dk_184 0 127 (dk_at dksJ4_size_0 13 rfl rfl)
theorem dJ4_size_16 : decode cJ4_size 16 = .ok (.ireturn, 1) := dk_172 (dk_at dksJ4_size_0 16 rfl rfl)
abbrev cJ4_sub : ByteArray := prog_42_method_9_code
def yJ4_sub : MethodName := ⟨RJ4, "sub", "(III)I"⟩
def dkwJ4_sub_0 : List UInt8 := [26, 27, 100, 89, 59, 156, 0, 7, 26, 28, 96, 59, 26, 172]
abbrev dktJ4_sub_0 : List UInt8 := dkwJ4_sub_0 ++ []
theorem dksJ4_sub_0 : cJ4_sub.data.toList.drop 0 = dktJ4_sub_0 := by decide +kernel
theorem dJ4_sub_0 : decode cJ4_sub 0 = .ok (.iload_n 0, 1) := dk_26 (dk_at dksJ4_sub_0 0 rfl rfl)
theorem dJ4_sub_1 : decode cJ4_sub 1 = .ok (.iload_n 1, 1) := dk_27 (dk_at dksJ4_sub_0 1 rfl rfl)
theorem dJ4_sub_2 : decode cJ4_sub 2 = .ok (.isub, 1) := dk_100 (dk_at dksJ4_sub_0 2 rfl rfl)
theorem dJ4_sub_3 : decode cJ4_sub 3 = .ok (.dup, 1) := dk_89 (dk_at dksJ4_sub_0 3 rfl rfl)
theorem dJ4_sub_4 : decode cJ4_sub 4 = .ok (.istore_n 0, 1) := dk_59 (dk_at dksJ4_sub_0 4 rfl rfl)
theorem dJ4_sub_5 : decode cJ4_sub 5 = .ok (.ifCond .ge 7, 3) := dk_156 0 7 (dk_at dksJ4_sub_0 5 rfl rfl)
theorem dJ4_sub_8 : decode cJ4_sub 8 = .ok (.iload_n 0, 1) := dk_26 (dk_at dksJ4_sub_0 8 rfl rfl)
theorem dJ4_sub_9 : decode cJ4_sub 9 = .ok (.iload_n 2, 1) := dk_28 (dk_at dksJ4_sub_0 9 rfl rfl)
theorem dJ4_sub_10 : decode cJ4_sub 10 = .ok (.iadd, 1) := dk_96 (dk_at dksJ4_sub_0 10 rfl rfl)
theorem dJ4_sub_11 : decode cJ4_sub 11 = .ok (.istore_n 0, 1) := dk_59 (dk_at dksJ4_sub_0 11 rfl rfl)
theorem dJ4_sub_12 : decode cJ4_sub 12 = .ok (.iload_n 0, 1) := dk_26 (dk_at dksJ4_sub_0 12 rfl rfl)
theorem dJ4_sub_13 : decode cJ4_sub 13 = .ok (.ireturn, 1) := dk_172 (dk_at dksJ4_sub_0 13 rfl rfl)
abbrev cJ4_addLast : ByteArray := prog_42_method_13_code
def yJ4_addLast : MethodName := ⟨RJ4, "addLast", "(Ljava/lang/Object;)V"⟩
def dkwJ4_addLast_2 : List UInt8 := [182, 0, 71, 177]
abbrev dktJ4_addLast_2 : List UInt8 := dkwJ4_addLast_2 ++ []
def dkwJ4_addLast_1 : List UInt8 := [42, 180, 0, 24, 42, 42, 180, 0, 20, 44, 190, 184, 0, 74, 90, 181, 0, 20, 160, 0, 8, 42, 4]
abbrev dktJ4_addLast_1 : List UInt8 := dkwJ4_addLast_1 ++ dktJ4_addLast_2
def dkwJ4_addLast_0 : List UInt8 := [43, 199, 0, 11, 187, 0, 65, 89, 183, 0, 67, 191, 42, 180, 0, 3, 77, 44, 42, 180, 0, 20, 43, 83]
abbrev dktJ4_addLast_0 : List UInt8 := dkwJ4_addLast_0 ++ dktJ4_addLast_1
theorem dksJ4_addLast_0 : cJ4_addLast.data.toList.drop 0 = dktJ4_addLast_0 := by decide +kernel
theorem dksJ4_addLast_1 : cJ4_addLast.data.toList.drop 24 = dktJ4_addLast_1 := dk_seg dksJ4_addLast_0 24 rfl rfl
theorem dksJ4_addLast_2 : cJ4_addLast.data.toList.drop 47 = dktJ4_addLast_2 := dk_seg dksJ4_addLast_1 23 rfl rfl
theorem dJ4_addLast_0 : decode cJ4_addLast 0 = .ok (.aload_n 1, 1) := dk_43 (dk_at dksJ4_addLast_0 0 rfl rfl)
theorem dJ4_addLast_1 : decode cJ4_addLast 1 = .ok (.ifnonnull 11, 3) := dk_199 0 11 (dk_at dksJ4_addLast_0 1 rfl rfl)
theorem dJ4_addLast_4 : decode cJ4_addLast 4 = .ok (.new 65, 3) := dk_187 0 65 (dk_at dksJ4_addLast_0 4 rfl rfl)
theorem dJ4_addLast_7 : decode cJ4_addLast 7 = .ok (.dup, 1) := dk_89 (dk_at dksJ4_addLast_0 7 rfl rfl)
theorem dJ4_addLast_8 : decode cJ4_addLast 8 = .ok (.invokespecial 67, 3) := dk_183 0 67 (dk_at dksJ4_addLast_0 8 rfl rfl)
theorem dJ4_addLast_11 : decode cJ4_addLast 11 = .ok (.athrow, 1) := dk_191 (dk_at dksJ4_addLast_0 11 rfl rfl)
theorem dJ4_addLast_12 : decode cJ4_addLast 12 = .ok (.aload_n 0, 1) := dk_42 (dk_at dksJ4_addLast_0 12 rfl rfl)
theorem dJ4_addLast_13 : decode cJ4_addLast 13 = .ok (.getfield 3, 3) := dk_180 0 3 (dk_at dksJ4_addLast_0 13 rfl rfl)
theorem dJ4_addLast_16 : decode cJ4_addLast 16 = .ok (.astore_n 2, 1) := dk_77 (dk_at dksJ4_addLast_0 16 rfl rfl)
theorem dJ4_addLast_17 : decode cJ4_addLast 17 = .ok (.aload_n 2, 1) := dk_44 (dk_at dksJ4_addLast_0 17 rfl rfl)
theorem dJ4_addLast_18 : decode cJ4_addLast 18 = .ok (.aload_n 0, 1) := dk_42 (dk_at dksJ4_addLast_0 18 rfl rfl)
theorem dJ4_addLast_19 : decode cJ4_addLast 19 = .ok (.getfield 20, 3) := dk_180 0 20 (dk_at dksJ4_addLast_0 19 rfl rfl)
theorem dJ4_addLast_22 : decode cJ4_addLast 22 = .ok (.aload_n 1, 1) := dk_43 (dk_at dksJ4_addLast_0 22 rfl rfl)
theorem dJ4_addLast_23 : decode cJ4_addLast 23 = .ok (.aastore, 1) := dk_83 (dk_at dksJ4_addLast_0 23 rfl rfl)
theorem dJ4_addLast_24 : decode cJ4_addLast 24 = .ok (.aload_n 0, 1) := dk_42 (dk_at dksJ4_addLast_1 0 rfl rfl)
theorem dJ4_addLast_25 : decode cJ4_addLast 25 = .ok (.getfield 24, 3) := dk_180 0 24 (dk_at dksJ4_addLast_1 1 rfl rfl)
theorem dJ4_addLast_28 : decode cJ4_addLast 28 = .ok (.aload_n 0, 1) := dk_42 (dk_at dksJ4_addLast_1 4 rfl rfl)
theorem dJ4_addLast_29 : decode cJ4_addLast 29 = .ok (.aload_n 0, 1) := dk_42 (dk_at dksJ4_addLast_1 5 rfl rfl)
theorem dJ4_addLast_30 : decode cJ4_addLast 30 = .ok (.getfield 20, 3) := dk_180 0 20 (dk_at dksJ4_addLast_1 6 rfl rfl)
theorem dJ4_addLast_33 : decode cJ4_addLast 33 = .ok (.aload_n 2, 1) := dk_44 (dk_at dksJ4_addLast_1 9 rfl rfl)
theorem dJ4_addLast_34 : decode cJ4_addLast 34 = .ok (.arraylength, 1) := dk_190 (dk_at dksJ4_addLast_1 10 rfl rfl)
theorem dJ4_addLast_35 : decode cJ4_addLast 35 = .ok (.invokestatic 74, 3) := dk_184 0 74 (dk_at dksJ4_addLast_1 11 rfl rfl)
theorem dJ4_addLast_38 : decode cJ4_addLast 38 = .ok (.dup_x1, 1) := dk_90 (dk_at dksJ4_addLast_1 14 rfl rfl)
theorem dJ4_addLast_39 : decode cJ4_addLast 39 = .ok (.putfield 20, 3) := dk_181 0 20 (dk_at dksJ4_addLast_1 15 rfl rfl)
theorem dJ4_addLast_42 : decode cJ4_addLast 42 = .ok (.if_icmp .ne 8, 3) := dk_160 0 8 (dk_at dksJ4_addLast_1 18 rfl rfl)
theorem dJ4_addLast_45 : decode cJ4_addLast 45 = .ok (.aload_n 0, 1) := dk_42 (dk_at dksJ4_addLast_1 21 rfl rfl)
theorem dJ4_addLast_46 : decode cJ4_addLast 46 = .ok (.iconst 1, 1) := dk_4 (dk_at dksJ4_addLast_1 22 rfl rfl)
theorem dJ4_addLast_47 : decode cJ4_addLast 47 = .ok (.invokevirtual 71, 3) := dk_182 0 71 (dk_at dksJ4_addLast_2 0 rfl rfl)
theorem dJ4_addLast_50 : decode cJ4_addLast 50 = .ok (.return_, 1) := dk_177 (dk_at dksJ4_addLast_2 3 rfl rfl)
abbrev cJ4_grow : ByteArray := prog_42_method_1_code
def yJ4_grow : MethodName := ⟨RJ4, "grow", "(I)V"⟩
def dkwJ4_grow_7 : List UInt8 := [177]
abbrev dktJ4_grow_7 : List UInt8 := dkwJ4_grow_7 ++ []
def dkwJ4_grow_6 : List UInt8 := [181, 0, 24, 54, 8, 21, 7, 21, 8, 162, 0, 15, 25, 5, 21, 7, 1, 83, 132, 7, 1, 167, 255, 240]
abbrev dktJ4_grow_6 : List UInt8 := dkwJ4_grow_6 ++ dktJ4_grow_7
def dkwJ4_grow_5 : List UInt8 := [42, 180, 0, 24, 100, 184, 0, 27, 42, 180, 0, 24, 54, 7, 42, 89, 180, 0, 24, 21, 6, 96, 90]
abbrev dktJ4_grow_5 : List UInt8 := dkwJ4_grow_5 ++ dktJ4_grow_6
def dkwJ4_grow_4 : List UInt8 := [198, 0, 71, 29, 28, 100, 54, 6, 25, 5, 42, 180, 0, 24, 25, 5, 42, 180, 0, 24, 21, 6, 96, 28]
abbrev dktJ4_grow_4 : List UInt8 := dkwJ4_grow_4 ++ dktJ4_grow_5
def dkwJ4_grow_3 : List UInt8 := [180, 0, 24, 161, 0, 24, 42, 180, 0, 20, 42, 180, 0, 24, 160, 0, 81, 25, 5, 42, 180, 0, 24, 50]
abbrev dktJ4_grow_3 : List UInt8 := dkwJ4_grow_3 ++ dktJ4_grow_4
def dkwJ4_grow_2 : List UInt8 := [182, 0, 10, 62, 42, 42, 180, 0, 3, 29, 184, 0, 14, 90, 181, 0, 3, 58, 5, 42, 180, 0, 20, 42]
abbrev dktJ4_grow_2 : List UInt8 := dkwJ4_grow_2 ++ dktJ4_grow_3
def dkwJ4_grow_1 : List UInt8 := [21, 4, 27, 161, 0, 15, 28, 21, 4, 96, 89, 62, 18, 9, 100, 158, 0, 11, 42, 27, 21, 4]
abbrev dktJ4_grow_1 : List UInt8 := dkwJ4_grow_1 ++ dktJ4_grow_2
def dkwJ4_grow_0 : List UInt8 := [42, 180, 0, 3, 190, 61, 28, 16, 64, 162, 0, 9, 28, 5, 96, 167, 0, 6, 28, 4, 122, 54, 4]
abbrev dktJ4_grow_0 : List UInt8 := dkwJ4_grow_0 ++ dktJ4_grow_1
theorem dksJ4_grow_0 : cJ4_grow.data.toList.drop 0 = dktJ4_grow_0 := by decide +kernel
theorem dksJ4_grow_1 : cJ4_grow.data.toList.drop 23 = dktJ4_grow_1 := dk_seg dksJ4_grow_0 23 rfl rfl
theorem dksJ4_grow_2 : cJ4_grow.data.toList.drop 45 = dktJ4_grow_2 := dk_seg dksJ4_grow_1 22 rfl rfl
theorem dksJ4_grow_3 : cJ4_grow.data.toList.drop 69 = dktJ4_grow_3 := dk_seg dksJ4_grow_2 24 rfl rfl
theorem dksJ4_grow_4 : cJ4_grow.data.toList.drop 93 = dktJ4_grow_4 := dk_seg dksJ4_grow_3 24 rfl rfl
theorem dksJ4_grow_5 : cJ4_grow.data.toList.drop 117 = dktJ4_grow_5 := dk_seg dksJ4_grow_4 24 rfl rfl
theorem dksJ4_grow_6 : cJ4_grow.data.toList.drop 140 = dktJ4_grow_6 := dk_seg dksJ4_grow_5 23 rfl rfl
theorem dksJ4_grow_7 : cJ4_grow.data.toList.drop 164 = dktJ4_grow_7 := dk_seg dksJ4_grow_6 24 rfl rfl
theorem dJ4_grow_0 : decode cJ4_grow 0 = .ok (.aload_n 0, 1) := dk_42 (dk_at dksJ4_grow_0 0 rfl rfl)
theorem dJ4_grow_1 : decode cJ4_grow 1 = .ok (.getfield 3, 3) := dk_180 0 3 (dk_at dksJ4_grow_0 1 rfl rfl)
theorem dJ4_grow_4 : decode cJ4_grow 4 = .ok (.arraylength, 1) := dk_190 (dk_at dksJ4_grow_0 4 rfl rfl)
theorem dJ4_grow_5 : decode cJ4_grow 5 = .ok (.istore_n 2, 1) := dk_61 (dk_at dksJ4_grow_0 5 rfl rfl)
theorem dJ4_grow_6 : decode cJ4_grow 6 = .ok (.iload_n 2, 1) := dk_28 (dk_at dksJ4_grow_0 6 rfl rfl)
theorem dJ4_grow_7 : decode cJ4_grow 7 = .ok (.bipush 64, 2) := dk_16 64 (dk_at dksJ4_grow_0 7 rfl rfl)
theorem dJ4_grow_9 : decode cJ4_grow 9 = .ok (.if_icmp .ge 9, 3) := dk_162 0 9 (dk_at dksJ4_grow_0 9 rfl rfl)
theorem dJ4_grow_12 : decode cJ4_grow 12 = .ok (.iload_n 2, 1) := dk_28 (dk_at dksJ4_grow_0 12 rfl rfl)
theorem dJ4_grow_13 : decode cJ4_grow 13 = .ok (.iconst 2, 1) := dk_5 (dk_at dksJ4_grow_0 13 rfl rfl)
theorem dJ4_grow_14 : decode cJ4_grow 14 = .ok (.iadd, 1) := dk_96 (dk_at dksJ4_grow_0 14 rfl rfl)
theorem dJ4_grow_15 : decode cJ4_grow 15 = .ok (.goto 6, 3) := dk_167 0 6 (dk_at dksJ4_grow_0 15 rfl rfl)
theorem dJ4_grow_18 : decode cJ4_grow 18 = .ok (.iload_n 2, 1) := dk_28 (dk_at dksJ4_grow_0 18 rfl rfl)
theorem dJ4_grow_19 : decode cJ4_grow 19 = .ok (.iconst 1, 1) := dk_4 (dk_at dksJ4_grow_0 19 rfl rfl)
theorem dJ4_grow_20 : decode cJ4_grow 20 = .ok (.ishr, 1) := dk_122 (dk_at dksJ4_grow_0 20 rfl rfl)
theorem dJ4_grow_21 : decode cJ4_grow 21 = .ok (.istore 4, 2) := dk_54 4 (dk_at dksJ4_grow_0 21 rfl rfl)
theorem dJ4_grow_23 : decode cJ4_grow 23 = .ok (.iload 4, 2) := dk_21 4 (dk_at dksJ4_grow_1 0 rfl rfl)
theorem dJ4_grow_25 : decode cJ4_grow 25 = .ok (.iload_n 1, 1) := dk_27 (dk_at dksJ4_grow_1 2 rfl rfl)
theorem dJ4_grow_26 : decode cJ4_grow 26 = .ok (.if_icmp .lt 15, 3) := dk_161 0 15 (dk_at dksJ4_grow_1 3 rfl rfl)
theorem dJ4_grow_29 : decode cJ4_grow 29 = .ok (.iload_n 2, 1) := dk_28 (dk_at dksJ4_grow_1 6 rfl rfl)
theorem dJ4_grow_30 : decode cJ4_grow 30 = .ok (.iload 4, 2) := dk_21 4 (dk_at dksJ4_grow_1 7 rfl rfl)
theorem dJ4_grow_32 : decode cJ4_grow 32 = .ok (.iadd, 1) := dk_96 (dk_at dksJ4_grow_1 9 rfl rfl)
theorem dJ4_grow_33 : decode cJ4_grow 33 = .ok (.dup, 1) := dk_89 (dk_at dksJ4_grow_1 10 rfl rfl)
theorem dJ4_grow_34 : decode cJ4_grow 34 = .ok (.istore_n 3, 1) := dk_62 (dk_at dksJ4_grow_1 11 rfl rfl)
theorem dJ4_grow_35 : decode cJ4_grow 35 = .ok (.ldc 9, 2) := dk_18 9 (dk_at dksJ4_grow_1 12 rfl rfl)
theorem dJ4_grow_37 : decode cJ4_grow 37 = .ok (.isub, 1) := dk_100 (dk_at dksJ4_grow_1 14 rfl rfl)
theorem dJ4_grow_38 : decode cJ4_grow 38 = .ok (.ifCond .le 11, 3) := dk_158 0 11 (dk_at dksJ4_grow_1 15 rfl rfl)
theorem dJ4_grow_41 : decode cJ4_grow 41 = .ok (.aload_n 0, 1) := dk_42 (dk_at dksJ4_grow_1 18 rfl rfl)
theorem dJ4_grow_42 : decode cJ4_grow 42 = .ok (.iload_n 1, 1) := dk_27 (dk_at dksJ4_grow_1 19 rfl rfl)
theorem dJ4_grow_43 : decode cJ4_grow 43 = .ok (.iload 4, 2) := dk_21 4 (dk_at dksJ4_grow_1 20 rfl rfl)
theorem dJ4_grow_45 : decode cJ4_grow 45 = .ok (.invokevirtual 10, 3) := dk_182 0 10 (dk_at dksJ4_grow_2 0 rfl rfl)
theorem dJ4_grow_48 : decode cJ4_grow 48 = .ok (.istore_n 3, 1) := dk_62 (dk_at dksJ4_grow_2 3 rfl rfl)
theorem dJ4_grow_49 : decode cJ4_grow 49 = .ok (.aload_n 0, 1) := dk_42 (dk_at dksJ4_grow_2 4 rfl rfl)
theorem dJ4_grow_50 : decode cJ4_grow 50 = .ok (.aload_n 0, 1) := dk_42 (dk_at dksJ4_grow_2 5 rfl rfl)
theorem dJ4_grow_51 : decode cJ4_grow 51 = .ok (.getfield 3, 3) := dk_180 0 3 (dk_at dksJ4_grow_2 6 rfl rfl)
theorem dJ4_grow_54 : decode cJ4_grow 54 = .ok (.iload_n 3, 1) := dk_29 (dk_at dksJ4_grow_2 9 rfl rfl)
theorem dJ4_grow_55 : decode cJ4_grow 55 = .ok (.invokestatic 14, 3) := dk_184 0 14 (dk_at dksJ4_grow_2 10 rfl rfl)
theorem dJ4_grow_58 : decode cJ4_grow 58 = .ok (.dup_x1, 1) := dk_90 (dk_at dksJ4_grow_2 13 rfl rfl)
theorem dJ4_grow_59 : decode cJ4_grow 59 = .ok (.putfield 3, 3) := dk_181 0 3 (dk_at dksJ4_grow_2 14 rfl rfl)
theorem dJ4_grow_62 : decode cJ4_grow 62 = .ok (.astore 5, 2) := dk_58 5 (dk_at dksJ4_grow_2 17 rfl rfl)
theorem dJ4_grow_64 : decode cJ4_grow 64 = .ok (.aload_n 0, 1) := dk_42 (dk_at dksJ4_grow_2 19 rfl rfl)
theorem dJ4_grow_65 : decode cJ4_grow 65 = .ok (.getfield 20, 3) := dk_180 0 20 (dk_at dksJ4_grow_2 20 rfl rfl)
theorem dJ4_grow_68 : decode cJ4_grow 68 = .ok (.aload_n 0, 1) := dk_42 (dk_at dksJ4_grow_2 23 rfl rfl)
theorem dJ4_grow_69 : decode cJ4_grow 69 = .ok (.getfield 24, 3) := dk_180 0 24 (dk_at dksJ4_grow_3 0 rfl rfl)
theorem dJ4_grow_72 : decode cJ4_grow 72 = .ok (.if_icmp .lt 24, 3) := dk_161 0 24 (dk_at dksJ4_grow_3 3 rfl rfl)
theorem dJ4_grow_75 : decode cJ4_grow 75 = .ok (.aload_n 0, 1) := dk_42 (dk_at dksJ4_grow_3 6 rfl rfl)
theorem dJ4_grow_76 : decode cJ4_grow 76 = .ok (.getfield 20, 3) := dk_180 0 20 (dk_at dksJ4_grow_3 7 rfl rfl)
theorem dJ4_grow_79 : decode cJ4_grow 79 = .ok (.aload_n 0, 1) := dk_42 (dk_at dksJ4_grow_3 10 rfl rfl)
theorem dJ4_grow_80 : decode cJ4_grow 80 = .ok (.getfield 24, 3) := dk_180 0 24 (dk_at dksJ4_grow_3 11 rfl rfl)
theorem dJ4_grow_83 : decode cJ4_grow 83 = .ok (.if_icmp .ne 81, 3) := dk_160 0 81 (dk_at dksJ4_grow_3 14 rfl rfl)
theorem dJ4_grow_86 : decode cJ4_grow 86 = .ok (.aload 5, 2) := dk_25 5 (dk_at dksJ4_grow_3 17 rfl rfl)
theorem dJ4_grow_88 : decode cJ4_grow 88 = .ok (.aload_n 0, 1) := dk_42 (dk_at dksJ4_grow_3 19 rfl rfl)
theorem dJ4_grow_89 : decode cJ4_grow 89 = .ok (.getfield 24, 3) := dk_180 0 24 (dk_at dksJ4_grow_3 20 rfl rfl)
theorem dJ4_grow_92 : decode cJ4_grow 92 = .ok (.aaload, 1) := dk_50 (dk_at dksJ4_grow_3 23 rfl rfl)
theorem dJ4_grow_93 : decode cJ4_grow 93 = .ok (.ifnull 71, 3) := dk_198 0 71 (dk_at dksJ4_grow_4 0 rfl rfl)
theorem dJ4_grow_96 : decode cJ4_grow 96 = .ok (.iload_n 3, 1) := dk_29 (dk_at dksJ4_grow_4 3 rfl rfl)
theorem dJ4_grow_97 : decode cJ4_grow 97 = .ok (.iload_n 2, 1) := dk_28 (dk_at dksJ4_grow_4 4 rfl rfl)
theorem dJ4_grow_98 : decode cJ4_grow 98 = .ok (.isub, 1) := dk_100 (dk_at dksJ4_grow_4 5 rfl rfl)
theorem dJ4_grow_99 : decode cJ4_grow 99 = .ok (.istore 6, 2) := dk_54 6 (dk_at dksJ4_grow_4 6 rfl rfl)
theorem dJ4_grow_101 : decode cJ4_grow 101 = .ok (.aload 5, 2) := dk_25 5 (dk_at dksJ4_grow_4 8 rfl rfl)
theorem dJ4_grow_103 : decode cJ4_grow 103 = .ok (.aload_n 0, 1) := dk_42 (dk_at dksJ4_grow_4 10 rfl rfl)
theorem dJ4_grow_104 : decode cJ4_grow 104 = .ok (.getfield 24, 3) := dk_180 0 24 (dk_at dksJ4_grow_4 11 rfl rfl)
theorem dJ4_grow_107 : decode cJ4_grow 107 = .ok (.aload 5, 2) := dk_25 5 (dk_at dksJ4_grow_4 14 rfl rfl)
theorem dJ4_grow_109 : decode cJ4_grow 109 = .ok (.aload_n 0, 1) := dk_42 (dk_at dksJ4_grow_4 16 rfl rfl)
theorem dJ4_grow_110 : decode cJ4_grow 110 = .ok (.getfield 24, 3) := dk_180 0 24 (dk_at dksJ4_grow_4 17 rfl rfl)
theorem dJ4_grow_113 : decode cJ4_grow 113 = .ok (.iload 6, 2) := dk_21 6 (dk_at dksJ4_grow_4 20 rfl rfl)
theorem dJ4_grow_115 : decode cJ4_grow 115 = .ok (.iadd, 1) := dk_96 (dk_at dksJ4_grow_4 22 rfl rfl)
theorem dJ4_grow_116 : decode cJ4_grow 116 = .ok (.iload_n 2, 1) := dk_28 (dk_at dksJ4_grow_4 23 rfl rfl)
theorem dJ4_grow_117 : decode cJ4_grow 117 = .ok (.aload_n 0, 1) := dk_42 (dk_at dksJ4_grow_5 0 rfl rfl)
theorem dJ4_grow_118 : decode cJ4_grow 118 = .ok (.getfield 24, 3) := dk_180 0 24 (dk_at dksJ4_grow_5 1 rfl rfl)
theorem dJ4_grow_121 : decode cJ4_grow 121 = .ok (.isub, 1) := dk_100 (dk_at dksJ4_grow_5 4 rfl rfl)
theorem dJ4_grow_122 : decode cJ4_grow 122 = .ok (.invokestatic 27, 3) := dk_184 0 27 (dk_at dksJ4_grow_5 5 rfl rfl)
theorem dJ4_grow_125 : decode cJ4_grow 125 = .ok (.aload_n 0, 1) := dk_42 (dk_at dksJ4_grow_5 8 rfl rfl)
theorem dJ4_grow_126 : decode cJ4_grow 126 = .ok (.getfield 24, 3) := dk_180 0 24 (dk_at dksJ4_grow_5 9 rfl rfl)
theorem dJ4_grow_129 : decode cJ4_grow 129 = .ok (.istore 7, 2) := dk_54 7 (dk_at dksJ4_grow_5 12 rfl rfl)
theorem dJ4_grow_131 : decode cJ4_grow 131 = .ok (.aload_n 0, 1) := dk_42 (dk_at dksJ4_grow_5 14 rfl rfl)
theorem dJ4_grow_132 : decode cJ4_grow 132 = .ok (.dup, 1) := dk_89 (dk_at dksJ4_grow_5 15 rfl rfl)
theorem dJ4_grow_133 : decode cJ4_grow 133 = .ok (.getfield 24, 3) := dk_180 0 24 (dk_at dksJ4_grow_5 16 rfl rfl)
theorem dJ4_grow_136 : decode cJ4_grow 136 = .ok (.iload 6, 2) := dk_21 6 (dk_at dksJ4_grow_5 19 rfl rfl)
theorem dJ4_grow_138 : decode cJ4_grow 138 = .ok (.iadd, 1) := dk_96 (dk_at dksJ4_grow_5 21 rfl rfl)
theorem dJ4_grow_139 : decode cJ4_grow 139 = .ok (.dup_x1, 1) := dk_90 (dk_at dksJ4_grow_5 22 rfl rfl)
theorem dJ4_grow_140 : decode cJ4_grow 140 = .ok (.putfield 24, 3) := dk_181 0 24 (dk_at dksJ4_grow_6 0 rfl rfl)
theorem dJ4_grow_143 : decode cJ4_grow 143 = .ok (.istore 8, 2) := dk_54 8 (dk_at dksJ4_grow_6 3 rfl rfl)
theorem dJ4_grow_145 : decode cJ4_grow 145 = .ok (.iload 7, 2) := dk_21 7 (dk_at dksJ4_grow_6 5 rfl rfl)
theorem dJ4_grow_147 : decode cJ4_grow 147 = .ok (.iload 8, 2) := dk_21 8 (dk_at dksJ4_grow_6 7 rfl rfl)
theorem dJ4_grow_149 : decode cJ4_grow 149 = .ok (.if_icmp .ge 15, 3) := dk_162 0 15 (dk_at dksJ4_grow_6 9 rfl rfl)
theorem dJ4_grow_152 : decode cJ4_grow 152 = .ok (.aload 5, 2) := dk_25 5 (dk_at dksJ4_grow_6 12 rfl rfl)
theorem dJ4_grow_154 : decode cJ4_grow 154 = .ok (.iload 7, 2) := dk_21 7 (dk_at dksJ4_grow_6 14 rfl rfl)
theorem dJ4_grow_156 : decode cJ4_grow 156 = .ok (.aconst_null, 1) := dk_1 (dk_at dksJ4_grow_6 16 rfl rfl)
theorem dJ4_grow_157 : decode cJ4_grow 157 = .ok (.aastore, 1) := dk_83 (dk_at dksJ4_grow_6 17 rfl rfl)
theorem dJ4_grow_158 : decode cJ4_grow 158 = .ok (.iinc 7 1, 3) := dk_132 7 1 (dk_at dksJ4_grow_6 18 rfl rfl)
theorem dJ4_grow_161 : decode cJ4_grow 161 = .ok (.goto (-16), 3) := dk_167 255 240 (dk_at dksJ4_grow_6 21 rfl rfl)
theorem dJ4_grow_164 : decode cJ4_grow 164 = .ok (.return_, 1) := dk_177 (dk_at dksJ4_grow_7 0 rfl rfl)
abbrev cJ4_newCapacity : ByteArray := prog_42_method_2_code
def yJ4_newCapacity : MethodName := ⟨RJ4, "newCapacity", "(II)I"⟩
def dkwJ4_newCapacity_2 : List UInt8 := [18, 9, 100, 156, 0, 9, 29, 28, 96, 167, 0, 5, 18, 9, 172]
abbrev dktJ4_newCapacity_2 : List UInt8 := dkwJ4_newCapacity_2 ++ []
def dkwJ4_newCapacity_1 : List UInt8 := [187, 0, 33, 89, 18, 35, 183, 0, 37, 191, 18, 41, 172, 27, 28, 164, 0, 6, 21, 4, 172, 29, 28, 96]
abbrev dktJ4_newCapacity_1 : List UInt8 := dkwJ4_newCapacity_1 ++ dktJ4_newCapacity_2
def dkwJ4_newCapacity_0 : List UInt8 := [42, 180, 0, 3, 190, 62, 29, 27, 96, 89, 54, 4, 18, 9, 100, 158, 0, 21, 21, 4, 156, 0, 13]
abbrev dktJ4_newCapacity_0 : List UInt8 := dkwJ4_newCapacity_0 ++ dktJ4_newCapacity_1
theorem dksJ4_newCapacity_0 : cJ4_newCapacity.data.toList.drop 0 = dktJ4_newCapacity_0 := by decide +kernel
theorem dksJ4_newCapacity_1 : cJ4_newCapacity.data.toList.drop 23 = dktJ4_newCapacity_1 := dk_seg dksJ4_newCapacity_0 23 rfl rfl
theorem dksJ4_newCapacity_2 : cJ4_newCapacity.data.toList.drop 47 = dktJ4_newCapacity_2 := dk_seg dksJ4_newCapacity_1 24 rfl rfl
theorem dJ4_newCapacity_0 : decode cJ4_newCapacity 0 = .ok (.aload_n 0, 1) := dk_42 (dk_at dksJ4_newCapacity_0 0 rfl rfl)
theorem dJ4_newCapacity_1 : decode cJ4_newCapacity 1 = .ok (.getfield 3, 3) := dk_180 0 3 (dk_at dksJ4_newCapacity_0 1 rfl rfl)
theorem dJ4_newCapacity_4 : decode cJ4_newCapacity 4 = .ok (.arraylength, 1) := dk_190 (dk_at dksJ4_newCapacity_0 4 rfl rfl)
theorem dJ4_newCapacity_5 : decode cJ4_newCapacity 5 = .ok (.istore_n 3, 1) := dk_62 (dk_at dksJ4_newCapacity_0 5 rfl rfl)
theorem dJ4_newCapacity_6 : decode cJ4_newCapacity 6 = .ok (.iload_n 3, 1) := dk_29 (dk_at dksJ4_newCapacity_0 6 rfl rfl)
theorem dJ4_newCapacity_7 : decode cJ4_newCapacity 7 = .ok (.iload_n 1, 1) := dk_27 (dk_at dksJ4_newCapacity_0 7 rfl rfl)
theorem dJ4_newCapacity_8 : decode cJ4_newCapacity 8 = .ok (.iadd, 1) := dk_96 (dk_at dksJ4_newCapacity_0 8 rfl rfl)
theorem dJ4_newCapacity_9 : decode cJ4_newCapacity 9 = .ok (.dup, 1) := dk_89 (dk_at dksJ4_newCapacity_0 9 rfl rfl)
theorem dJ4_newCapacity_10 : decode cJ4_newCapacity 10 = .ok (.istore 4, 2) := dk_54 4 (dk_at dksJ4_newCapacity_0 10 rfl rfl)
theorem dJ4_newCapacity_12 : decode cJ4_newCapacity 12 = .ok (.ldc 9, 2) := dk_18 9 (dk_at dksJ4_newCapacity_0 12 rfl rfl)
theorem dJ4_newCapacity_14 : decode cJ4_newCapacity 14 = .ok (.isub, 1) := dk_100 (dk_at dksJ4_newCapacity_0 14 rfl rfl)
theorem dJ4_newCapacity_15 : decode cJ4_newCapacity 15 = .ok (.ifCond .le 21, 3) := dk_158 0 21 (dk_at dksJ4_newCapacity_0 15 rfl rfl)
theorem dJ4_newCapacity_18 : decode cJ4_newCapacity 18 = .ok (.iload 4, 2) := dk_21 4 (dk_at dksJ4_newCapacity_0 18 rfl rfl)
theorem dJ4_newCapacity_20 : decode cJ4_newCapacity 20 = .ok (.ifCond .ge 13, 3) := dk_156 0 13 (dk_at dksJ4_newCapacity_0 20 rfl rfl)
theorem dJ4_newCapacity_23 : decode cJ4_newCapacity 23 = .ok (.new 33, 3) := dk_187 0 33 (dk_at dksJ4_newCapacity_1 0 rfl rfl)
theorem dJ4_newCapacity_26 : decode cJ4_newCapacity 26 = .ok (.dup, 1) := dk_89 (dk_at dksJ4_newCapacity_1 3 rfl rfl)
theorem dJ4_newCapacity_27 : decode cJ4_newCapacity 27 = .ok (.ldc 35, 2) := dk_18 35 (dk_at dksJ4_newCapacity_1 4 rfl rfl)
theorem dJ4_newCapacity_29 : decode cJ4_newCapacity 29 = .ok (.invokespecial 37, 3) := dk_183 0 37 (dk_at dksJ4_newCapacity_1 6 rfl rfl)
theorem dJ4_newCapacity_32 : decode cJ4_newCapacity 32 = .ok (.athrow, 1) := dk_191 (dk_at dksJ4_newCapacity_1 9 rfl rfl)
theorem dJ4_newCapacity_33 : decode cJ4_newCapacity 33 = .ok (.ldc 41, 2) := dk_18 41 (dk_at dksJ4_newCapacity_1 10 rfl rfl)
theorem dJ4_newCapacity_35 : decode cJ4_newCapacity 35 = .ok (.ireturn, 1) := dk_172 (dk_at dksJ4_newCapacity_1 12 rfl rfl)
theorem dJ4_newCapacity_36 : decode cJ4_newCapacity 36 = .ok (.iload_n 1, 1) := dk_27 (dk_at dksJ4_newCapacity_1 13 rfl rfl)
theorem dJ4_newCapacity_37 : decode cJ4_newCapacity 37 = .ok (.iload_n 2, 1) := dk_28 (dk_at dksJ4_newCapacity_1 14 rfl rfl)
theorem dJ4_newCapacity_38 : decode cJ4_newCapacity 38 = .ok (.if_icmp .le 6, 3) := dk_164 0 6 (dk_at dksJ4_newCapacity_1 15 rfl rfl)
theorem dJ4_newCapacity_41 : decode cJ4_newCapacity 41 = .ok (.iload 4, 2) := dk_21 4 (dk_at dksJ4_newCapacity_1 18 rfl rfl)
theorem dJ4_newCapacity_43 : decode cJ4_newCapacity 43 = .ok (.ireturn, 1) := dk_172 (dk_at dksJ4_newCapacity_1 20 rfl rfl)
theorem dJ4_newCapacity_44 : decode cJ4_newCapacity 44 = .ok (.iload_n 3, 1) := dk_29 (dk_at dksJ4_newCapacity_1 21 rfl rfl)
theorem dJ4_newCapacity_45 : decode cJ4_newCapacity 45 = .ok (.iload_n 2, 1) := dk_28 (dk_at dksJ4_newCapacity_1 22 rfl rfl)
theorem dJ4_newCapacity_46 : decode cJ4_newCapacity 46 = .ok (.iadd, 1) := dk_96 (dk_at dksJ4_newCapacity_1 23 rfl rfl)
theorem dJ4_newCapacity_47 : decode cJ4_newCapacity 47 = .ok (.ldc 9, 2) := dk_18 9 (dk_at dksJ4_newCapacity_2 0 rfl rfl)
theorem dJ4_newCapacity_49 : decode cJ4_newCapacity 49 = .ok (.isub, 1) := dk_100 (dk_at dksJ4_newCapacity_2 2 rfl rfl)
theorem dJ4_newCapacity_50 : decode cJ4_newCapacity 50 = .ok (.ifCond .ge 9, 3) := dk_156 0 9 (dk_at dksJ4_newCapacity_2 3 rfl rfl)
theorem dJ4_newCapacity_53 : decode cJ4_newCapacity 53 = .ok (.iload_n 3, 1) := dk_29 (dk_at dksJ4_newCapacity_2 6 rfl rfl)
theorem dJ4_newCapacity_54 : decode cJ4_newCapacity 54 = .ok (.iload_n 2, 1) := dk_28 (dk_at dksJ4_newCapacity_2 7 rfl rfl)
theorem dJ4_newCapacity_55 : decode cJ4_newCapacity 55 = .ok (.iadd, 1) := dk_96 (dk_at dksJ4_newCapacity_2 8 rfl rfl)
theorem dJ4_newCapacity_56 : decode cJ4_newCapacity 56 = .ok (.goto 5, 3) := dk_167 0 5 (dk_at dksJ4_newCapacity_2 9 rfl rfl)
theorem dJ4_newCapacity_59 : decode cJ4_newCapacity 59 = .ok (.ldc 9, 2) := dk_18 9 (dk_at dksJ4_newCapacity_2 12 rfl rfl)
theorem dJ4_newCapacity_61 : decode cJ4_newCapacity 61 = .ok (.ireturn, 1) := dk_172 (dk_at dksJ4_newCapacity_2 14 rfl rfl)
abbrev cJ4_removeFirst : ByteArray := prog_42_method_18_code
def yJ4_removeFirst : MethodName := ⟨RJ4, "removeFirst", "()Ljava/lang/Object;"⟩
def dkwJ4_removeFirst_0 : List UInt8 := [42, 182, 0, 93, 76, 43, 199, 0, 11, 187, 0, 97, 89, 183, 0, 99, 191, 43, 176]
abbrev dktJ4_removeFirst_0 : List UInt8 := dkwJ4_removeFirst_0 ++ []
theorem dksJ4_removeFirst_0 : cJ4_removeFirst.data.toList.drop 0 = dktJ4_removeFirst_0 := by decide +kernel
theorem dJ4_removeFirst_0 : decode cJ4_removeFirst 0 = .ok (.aload_n 0, 1) := dk_42 (dk_at dksJ4_removeFirst_0 0 rfl rfl)
theorem dJ4_removeFirst_1 : decode cJ4_removeFirst 1 = .ok (.invokevirtual 93, 3) := dk_182 0 93 (dk_at dksJ4_removeFirst_0 1 rfl rfl)
theorem dJ4_removeFirst_4 : decode cJ4_removeFirst 4 = .ok (.astore_n 1, 1) := dk_76 (dk_at dksJ4_removeFirst_0 4 rfl rfl)
theorem dJ4_removeFirst_5 : decode cJ4_removeFirst 5 = .ok (.aload_n 1, 1) := dk_43 (dk_at dksJ4_removeFirst_0 5 rfl rfl)
theorem dJ4_removeFirst_6 : decode cJ4_removeFirst 6 = .ok (.ifnonnull 11, 3) := dk_199 0 11 (dk_at dksJ4_removeFirst_0 6 rfl rfl)
theorem dJ4_removeFirst_9 : decode cJ4_removeFirst 9 = .ok (.new 97, 3) := dk_187 0 97 (dk_at dksJ4_removeFirst_0 9 rfl rfl)
theorem dJ4_removeFirst_12 : decode cJ4_removeFirst 12 = .ok (.dup, 1) := dk_89 (dk_at dksJ4_removeFirst_0 12 rfl rfl)
theorem dJ4_removeFirst_13 : decode cJ4_removeFirst 13 = .ok (.invokespecial 99, 3) := dk_183 0 99 (dk_at dksJ4_removeFirst_0 13 rfl rfl)
theorem dJ4_removeFirst_16 : decode cJ4_removeFirst 16 = .ok (.athrow, 1) := dk_191 (dk_at dksJ4_removeFirst_0 16 rfl rfl)
theorem dJ4_removeFirst_17 : decode cJ4_removeFirst 17 = .ok (.aload_n 1, 1) := dk_43 (dk_at dksJ4_removeFirst_0 17 rfl rfl)
theorem dJ4_removeFirst_18 : decode cJ4_removeFirst 18 = .ok (.areturn, 1) := dk_176 (dk_at dksJ4_removeFirst_0 18 rfl rfl)
abbrev cJ4_pollFirst : ByteArray := prog_42_method_20_code
def yJ4_pollFirst : MethodName := ⟨RJ4, "pollFirst", "()Ljava/lang/Object;"⟩
def dkwJ4_pollFirst_1 : List UInt8 := [42, 28, 43, 190, 184, 0, 74, 181, 0, 24, 45, 176]
abbrev dktJ4_pollFirst_1 : List UInt8 := dkwJ4_pollFirst_1 ++ []
def dkwJ4_pollFirst_0 : List UInt8 := [42, 180, 0, 3, 89, 76, 42, 180, 0, 24, 89, 61, 184, 0, 103, 78, 45, 198, 0, 17, 43, 28, 1, 83]
abbrev dktJ4_pollFirst_0 : List UInt8 := dkwJ4_pollFirst_0 ++ dktJ4_pollFirst_1
theorem dksJ4_pollFirst_0 : cJ4_pollFirst.data.toList.drop 0 = dktJ4_pollFirst_0 := by decide +kernel
theorem dksJ4_pollFirst_1 : cJ4_pollFirst.data.toList.drop 24 = dktJ4_pollFirst_1 := dk_seg dksJ4_pollFirst_0 24 rfl rfl
theorem dJ4_pollFirst_0 : decode cJ4_pollFirst 0 = .ok (.aload_n 0, 1) := dk_42 (dk_at dksJ4_pollFirst_0 0 rfl rfl)
theorem dJ4_pollFirst_1 : decode cJ4_pollFirst 1 = .ok (.getfield 3, 3) := dk_180 0 3 (dk_at dksJ4_pollFirst_0 1 rfl rfl)
theorem dJ4_pollFirst_4 : decode cJ4_pollFirst 4 = .ok (.dup, 1) := dk_89 (dk_at dksJ4_pollFirst_0 4 rfl rfl)
theorem dJ4_pollFirst_5 : decode cJ4_pollFirst 5 = .ok (.astore_n 1, 1) := dk_76 (dk_at dksJ4_pollFirst_0 5 rfl rfl)
theorem dJ4_pollFirst_6 : decode cJ4_pollFirst 6 = .ok (.aload_n 0, 1) := dk_42 (dk_at dksJ4_pollFirst_0 6 rfl rfl)
theorem dJ4_pollFirst_7 : decode cJ4_pollFirst 7 = .ok (.getfield 24, 3) := dk_180 0 24 (dk_at dksJ4_pollFirst_0 7 rfl rfl)
theorem dJ4_pollFirst_10 : decode cJ4_pollFirst 10 = .ok (.dup, 1) := dk_89 (dk_at dksJ4_pollFirst_0 10 rfl rfl)
theorem dJ4_pollFirst_11 : decode cJ4_pollFirst 11 = .ok (.istore_n 2, 1) := dk_61 (dk_at dksJ4_pollFirst_0 11 rfl rfl)
theorem dJ4_pollFirst_12 : decode cJ4_pollFirst 12 = .ok (.invokestatic 103, 3) := dk_184 0 103 (dk_at dksJ4_pollFirst_0 12 rfl rfl)
theorem dJ4_pollFirst_15 : decode cJ4_pollFirst 15 = .ok (.astore_n 3, 1) := dk_78 (dk_at dksJ4_pollFirst_0 15 rfl rfl)
theorem dJ4_pollFirst_16 : decode cJ4_pollFirst 16 = .ok (.aload_n 3, 1) := dk_45 (dk_at dksJ4_pollFirst_0 16 rfl rfl)
theorem dJ4_pollFirst_17 : decode cJ4_pollFirst 17 = .ok (.ifnull 17, 3) := dk_198 0 17 (dk_at dksJ4_pollFirst_0 17 rfl rfl)
theorem dJ4_pollFirst_20 : decode cJ4_pollFirst 20 = .ok (.aload_n 1, 1) := dk_43 (dk_at dksJ4_pollFirst_0 20 rfl rfl)
theorem dJ4_pollFirst_21 : decode cJ4_pollFirst 21 = .ok (.iload_n 2, 1) := dk_28 (dk_at dksJ4_pollFirst_0 21 rfl rfl)
theorem dJ4_pollFirst_22 : decode cJ4_pollFirst 22 = .ok (.aconst_null, 1) := dk_1 (dk_at dksJ4_pollFirst_0 22 rfl rfl)
theorem dJ4_pollFirst_23 : decode cJ4_pollFirst 23 = .ok (.aastore, 1) := dk_83 (dk_at dksJ4_pollFirst_0 23 rfl rfl)
theorem dJ4_pollFirst_24 : decode cJ4_pollFirst 24 = .ok (.aload_n 0, 1) := dk_42 (dk_at dksJ4_pollFirst_1 0 rfl rfl)
theorem dJ4_pollFirst_25 : decode cJ4_pollFirst 25 = .ok (.iload_n 2, 1) := dk_28 (dk_at dksJ4_pollFirst_1 1 rfl rfl)
theorem dJ4_pollFirst_26 : decode cJ4_pollFirst 26 = .ok (.aload_n 1, 1) := dk_43 (dk_at dksJ4_pollFirst_1 2 rfl rfl)
theorem dJ4_pollFirst_27 : decode cJ4_pollFirst 27 = .ok (.arraylength, 1) := dk_190 (dk_at dksJ4_pollFirst_1 3 rfl rfl)
theorem dJ4_pollFirst_28 : decode cJ4_pollFirst 28 = .ok (.invokestatic 74, 3) := dk_184 0 74 (dk_at dksJ4_pollFirst_1 4 rfl rfl)
theorem dJ4_pollFirst_31 : decode cJ4_pollFirst 31 = .ok (.putfield 24, 3) := dk_181 0 24 (dk_at dksJ4_pollFirst_1 7 rfl rfl)
theorem dJ4_pollFirst_34 : decode cJ4_pollFirst 34 = .ok (.aload_n 3, 1) := dk_45 (dk_at dksJ4_pollFirst_1 10 rfl rfl)
theorem dJ4_pollFirst_35 : decode cJ4_pollFirst 35 = .ok (.areturn, 1) := dk_176 (dk_at dksJ4_pollFirst_1 11 rfl rfl)
abbrev cJ4_elementAt : ByteArray := prog_42_method_10_code
def yJ4_elementAt : MethodName := ⟨RJ4, "elementAt", "([Ljava/lang/Object;I)Ljava/lang/Object;"⟩
def dkwJ4_elementAt_0 : List UInt8 := [42, 27, 50, 176]
abbrev dktJ4_elementAt_0 : List UInt8 := dkwJ4_elementAt_0 ++ []
theorem dksJ4_elementAt_0 : cJ4_elementAt.data.toList.drop 0 = dktJ4_elementAt_0 := by decide +kernel
theorem dJ4_elementAt_0 : decode cJ4_elementAt 0 = .ok (.aload_n 0, 1) := dk_42 (dk_at dksJ4_elementAt_0 0 rfl rfl)
theorem dJ4_elementAt_1 : decode cJ4_elementAt 1 = .ok (.iload_n 1, 1) := dk_27 (dk_at dksJ4_elementAt_0 1 rfl rfl)
theorem dJ4_elementAt_2 : decode cJ4_elementAt 2 = .ok (.aaload, 1) := dk_50 (dk_at dksJ4_elementAt_0 2 rfl rfl)
theorem dJ4_elementAt_3 : decode cJ4_elementAt 3 = .ok (.areturn, 1) := dk_176 (dk_at dksJ4_elementAt_0 3 rfl rfl)
abbrev cJ4_delete : ByteArray := prog_42_method_36_code
def yJ4_delete : MethodName := ⟨RJ4, "delete", "(I)Z"⟩
def dkwJ4_delete_8 : List UInt8 := [4, 172]
abbrev dktJ4_delete_8 : List UInt8 := dkwJ4_delete_8 ++ []
def dkwJ4_delete_7 : List UInt8 := [4, 100, 44, 3, 50, 83, 44, 4, 44, 3, 21, 5, 4, 100, 184, 0, 27, 44, 42, 180, 0, 20, 1, 83]
abbrev dktJ4_delete_7 : List UInt8 := dkwJ4_delete_7 ++ dktJ4_delete_8
def dkwJ4_delete_6 : List UInt8 := [21, 7, 184, 0, 27, 167, 0, 36, 44, 27, 4, 96, 44, 27, 29, 27, 4, 96, 100, 184, 0, 27, 44, 29]
abbrev dktJ4_delete_6 : List UInt8 := dkwJ4_delete_6 ++ dktJ4_delete_7
def dkwJ4_delete_5 : List UInt8 := [21, 5, 29, 184, 0, 68, 181, 0, 20, 27, 42, 180, 0, 20, 163, 0, 17, 44, 27, 4, 96, 44, 27]
abbrev dktJ4_delete_5 : List UInt8 := dkwJ4_delete_5 ++ dktJ4_delete_6
def dkwJ4_delete_4 : List UInt8 := [96, 100, 184, 0, 27, 44, 21, 4, 1, 83, 42, 21, 4, 29, 184, 0, 74, 181, 0, 24, 3, 172, 42]
abbrev dktJ4_delete_4 : List UInt8 := dkwJ4_delete_4 ++ dktJ4_delete_5
def dkwJ4_delete_3 : List UInt8 := [27, 184, 0, 27, 44, 3, 44, 29, 4, 100, 50, 83, 44, 21, 4, 44, 21, 4, 4, 96, 21, 6, 27, 4]
abbrev dktJ4_delete_3 : List UInt8 := dkwJ4_delete_3 ++ dktJ4_delete_4
def dkwJ4_delete_2 : List UInt8 := [27, 163, 0, 19, 44, 21, 4, 44, 21, 4, 4, 96, 21, 6, 184, 0, 27, 167, 0, 36, 44, 3, 44, 4]
abbrev dktJ4_delete_2 : List UInt8 := dkwJ4_delete_2 ++ dktJ4_delete_3
def dkwJ4_delete_1 : List UInt8 := [180, 0, 20, 89, 54, 5, 27, 29, 184, 0, 127, 4, 100, 54, 7, 21, 6, 21, 7, 162, 0, 75, 21, 4]
abbrev dktJ4_delete_1 : List UInt8 := dkwJ4_delete_1 ++ dktJ4_delete_2
def dkwJ4_delete_0 : List UInt8 := [42, 180, 0, 3, 77, 44, 190, 62, 27, 42, 180, 0, 24, 89, 54, 4, 29, 184, 0, 127, 54, 6, 42]
abbrev dktJ4_delete_0 : List UInt8 := dkwJ4_delete_0 ++ dktJ4_delete_1
theorem dksJ4_delete_0 : cJ4_delete.data.toList.drop 0 = dktJ4_delete_0 := by decide +kernel
theorem dksJ4_delete_1 : cJ4_delete.data.toList.drop 23 = dktJ4_delete_1 := dk_seg dksJ4_delete_0 23 rfl rfl
theorem dksJ4_delete_2 : cJ4_delete.data.toList.drop 47 = dktJ4_delete_2 := dk_seg dksJ4_delete_1 24 rfl rfl
theorem dksJ4_delete_3 : cJ4_delete.data.toList.drop 71 = dktJ4_delete_3 := dk_seg dksJ4_delete_2 24 rfl rfl
theorem dksJ4_delete_4 : cJ4_delete.data.toList.drop 95 = dktJ4_delete_4 := dk_seg dksJ4_delete_3 24 rfl rfl
theorem dksJ4_delete_5 : cJ4_delete.data.toList.drop 118 = dktJ4_delete_5 := dk_seg dksJ4_delete_4 23 rfl rfl
theorem dksJ4_delete_6 : cJ4_delete.data.toList.drop 141 = dktJ4_delete_6 := dk_seg dksJ4_delete_5 23 rfl rfl
theorem dksJ4_delete_7 : cJ4_delete.data.toList.drop 165 = dktJ4_delete_7 := dk_seg dksJ4_delete_6 24 rfl rfl
theorem dksJ4_delete_8 : cJ4_delete.data.toList.drop 189 = dktJ4_delete_8 := dk_seg dksJ4_delete_7 24 rfl rfl
theorem dJ4_delete_0 : decode cJ4_delete 0 = .ok (.aload_n 0, 1) := dk_42 (dk_at dksJ4_delete_0 0 rfl rfl)
theorem dJ4_delete_1 : decode cJ4_delete 1 = .ok (.getfield 3, 3) := dk_180 0 3 (dk_at dksJ4_delete_0 1 rfl rfl)
theorem dJ4_delete_4 : decode cJ4_delete 4 = .ok (.astore_n 2, 1) := dk_77 (dk_at dksJ4_delete_0 4 rfl rfl)
theorem dJ4_delete_5 : decode cJ4_delete 5 = .ok (.aload_n 2, 1) := dk_44 (dk_at dksJ4_delete_0 5 rfl rfl)
theorem dJ4_delete_6 : decode cJ4_delete 6 = .ok (.arraylength, 1) := dk_190 (dk_at dksJ4_delete_0 6 rfl rfl)
theorem dJ4_delete_7 : decode cJ4_delete 7 = .ok (.istore_n 3, 1) := dk_62 (dk_at dksJ4_delete_0 7 rfl rfl)
theorem dJ4_delete_8 : decode cJ4_delete 8 = .ok (.iload_n 1, 1) := dk_27 (dk_at dksJ4_delete_0 8 rfl rfl)
theorem dJ4_delete_9 : decode cJ4_delete 9 = .ok (.aload_n 0, 1) := dk_42 (dk_at dksJ4_delete_0 9 rfl rfl)
theorem dJ4_delete_10 : decode cJ4_delete 10 = .ok (.getfield 24, 3) := dk_180 0 24 (dk_at dksJ4_delete_0 10 rfl rfl)
theorem dJ4_delete_13 : decode cJ4_delete 13 = .ok (.dup, 1) := dk_89 (dk_at dksJ4_delete_0 13 rfl rfl)
theorem dJ4_delete_14 : decode cJ4_delete 14 = .ok (.istore 4, 2) := dk_54 4 (dk_at dksJ4_delete_0 14 rfl rfl)
theorem dJ4_delete_16 : decode cJ4_delete 16 = .ok (.iload_n 3, 1) := dk_29 (dk_at dksJ4_delete_0 16 rfl rfl)
theorem dJ4_delete_17 : decode cJ4_delete 17 = .ok (.invokestatic 127, 3) := dk_184 0 127 (dk_at dksJ4_delete_0 17 rfl rfl)
theorem dJ4_delete_20 : decode cJ4_delete 20 = .ok (.istore 6, 2) := dk_54 6 (dk_at dksJ4_delete_0 20 rfl rfl)
theorem dJ4_delete_22 : decode cJ4_delete 22 = .ok (.aload_n 0, 1) := dk_42 (dk_at dksJ4_delete_0 22 rfl rfl)
theorem dJ4_delete_23 : decode cJ4_delete 23 = .ok (.getfield 20, 3) := dk_180 0 20 (dk_at dksJ4_delete_1 0 rfl rfl)
theorem dJ4_delete_26 : decode cJ4_delete 26 = .ok (.dup, 1) := dk_89 (dk_at dksJ4_delete_1 3 rfl rfl)
theorem dJ4_delete_27 : decode cJ4_delete 27 = .ok (.istore 5, 2) := dk_54 5 (dk_at dksJ4_delete_1 4 rfl rfl)
theorem dJ4_delete_29 : decode cJ4_delete 29 = .ok (.iload_n 1, 1) := dk_27 (dk_at dksJ4_delete_1 6 rfl rfl)
theorem dJ4_delete_30 : decode cJ4_delete 30 = .ok (.iload_n 3, 1) := dk_29 (dk_at dksJ4_delete_1 7 rfl rfl)
theorem dJ4_delete_31 : decode cJ4_delete 31 = .ok (.invokestatic 127, 3) := dk_184 0 127 (dk_at dksJ4_delete_1 8 rfl rfl)
theorem dJ4_delete_34 : decode cJ4_delete 34 = .ok (.iconst 1, 1) := dk_4 (dk_at dksJ4_delete_1 11 rfl rfl)
theorem dJ4_delete_35 : decode cJ4_delete 35 = .ok (.isub, 1) := dk_100 (dk_at dksJ4_delete_1 12 rfl rfl)
theorem dJ4_delete_36 : decode cJ4_delete 36 = .ok (.istore 7, 2) := dk_54 7 (dk_at dksJ4_delete_1 13 rfl rfl)
theorem dJ4_delete_38 : decode cJ4_delete 38 = .ok (.iload 6, 2) := dk_21 6 (dk_at dksJ4_delete_1 15 rfl rfl)
theorem dJ4_delete_40 : decode cJ4_delete 40 = .ok (.iload 7, 2) := dk_21 7 (dk_at dksJ4_delete_1 17 rfl rfl)
theorem dJ4_delete_42 : decode cJ4_delete 42 = .ok (.if_icmp .ge 75, 3) := dk_162 0 75 (dk_at dksJ4_delete_1 19 rfl rfl)
theorem dJ4_delete_45 : decode cJ4_delete 45 = .ok (.iload 4, 2) := dk_21 4 (dk_at dksJ4_delete_1 22 rfl rfl)
theorem dJ4_delete_47 : decode cJ4_delete 47 = .ok (.iload_n 1, 1) := dk_27 (dk_at dksJ4_delete_2 0 rfl rfl)
theorem dJ4_delete_48 : decode cJ4_delete 48 = .ok (.if_icmp .gt 19, 3) := dk_163 0 19 (dk_at dksJ4_delete_2 1 rfl rfl)
theorem dJ4_delete_51 : decode cJ4_delete 51 = .ok (.aload_n 2, 1) := dk_44 (dk_at dksJ4_delete_2 4 rfl rfl)
theorem dJ4_delete_52 : decode cJ4_delete 52 = .ok (.iload 4, 2) := dk_21 4 (dk_at dksJ4_delete_2 5 rfl rfl)
theorem dJ4_delete_54 : decode cJ4_delete 54 = .ok (.aload_n 2, 1) := dk_44 (dk_at dksJ4_delete_2 7 rfl rfl)
theorem dJ4_delete_55 : decode cJ4_delete 55 = .ok (.iload 4, 2) := dk_21 4 (dk_at dksJ4_delete_2 8 rfl rfl)
theorem dJ4_delete_57 : decode cJ4_delete 57 = .ok (.iconst 1, 1) := dk_4 (dk_at dksJ4_delete_2 10 rfl rfl)
theorem dJ4_delete_58 : decode cJ4_delete 58 = .ok (.iadd, 1) := dk_96 (dk_at dksJ4_delete_2 11 rfl rfl)
theorem dJ4_delete_59 : decode cJ4_delete 59 = .ok (.iload 6, 2) := dk_21 6 (dk_at dksJ4_delete_2 12 rfl rfl)
theorem dJ4_delete_61 : decode cJ4_delete 61 = .ok (.invokestatic 27, 3) := dk_184 0 27 (dk_at dksJ4_delete_2 14 rfl rfl)
theorem dJ4_delete_64 : decode cJ4_delete 64 = .ok (.goto 36, 3) := dk_167 0 36 (dk_at dksJ4_delete_2 17 rfl rfl)
theorem dJ4_delete_67 : decode cJ4_delete 67 = .ok (.aload_n 2, 1) := dk_44 (dk_at dksJ4_delete_2 20 rfl rfl)
theorem dJ4_delete_68 : decode cJ4_delete 68 = .ok (.iconst 0, 1) := dk_3 (dk_at dksJ4_delete_2 21 rfl rfl)
theorem dJ4_delete_69 : decode cJ4_delete 69 = .ok (.aload_n 2, 1) := dk_44 (dk_at dksJ4_delete_2 22 rfl rfl)
theorem dJ4_delete_70 : decode cJ4_delete 70 = .ok (.iconst 1, 1) := dk_4 (dk_at dksJ4_delete_2 23 rfl rfl)
theorem dJ4_delete_71 : decode cJ4_delete 71 = .ok (.iload_n 1, 1) := dk_27 (dk_at dksJ4_delete_3 0 rfl rfl)
theorem dJ4_delete_72 : decode cJ4_delete 72 = .ok (.invokestatic 27, 3) := dk_184 0 27 (dk_at dksJ4_delete_3 1 rfl rfl)
theorem dJ4_delete_75 : decode cJ4_delete 75 = .ok (.aload_n 2, 1) := dk_44 (dk_at dksJ4_delete_3 4 rfl rfl)
theorem dJ4_delete_76 : decode cJ4_delete 76 = .ok (.iconst 0, 1) := dk_3 (dk_at dksJ4_delete_3 5 rfl rfl)
theorem dJ4_delete_77 : decode cJ4_delete 77 = .ok (.aload_n 2, 1) := dk_44 (dk_at dksJ4_delete_3 6 rfl rfl)
theorem dJ4_delete_78 : decode cJ4_delete 78 = .ok (.iload_n 3, 1) := dk_29 (dk_at dksJ4_delete_3 7 rfl rfl)
theorem dJ4_delete_79 : decode cJ4_delete 79 = .ok (.iconst 1, 1) := dk_4 (dk_at dksJ4_delete_3 8 rfl rfl)
theorem dJ4_delete_80 : decode cJ4_delete 80 = .ok (.isub, 1) := dk_100 (dk_at dksJ4_delete_3 9 rfl rfl)
theorem dJ4_delete_81 : decode cJ4_delete 81 = .ok (.aaload, 1) := dk_50 (dk_at dksJ4_delete_3 10 rfl rfl)
theorem dJ4_delete_82 : decode cJ4_delete 82 = .ok (.aastore, 1) := dk_83 (dk_at dksJ4_delete_3 11 rfl rfl)
theorem dJ4_delete_83 : decode cJ4_delete 83 = .ok (.aload_n 2, 1) := dk_44 (dk_at dksJ4_delete_3 12 rfl rfl)
theorem dJ4_delete_84 : decode cJ4_delete 84 = .ok (.iload 4, 2) := dk_21 4 (dk_at dksJ4_delete_3 13 rfl rfl)
theorem dJ4_delete_86 : decode cJ4_delete 86 = .ok (.aload_n 2, 1) := dk_44 (dk_at dksJ4_delete_3 15 rfl rfl)
theorem dJ4_delete_87 : decode cJ4_delete 87 = .ok (.iload 4, 2) := dk_21 4 (dk_at dksJ4_delete_3 16 rfl rfl)
theorem dJ4_delete_89 : decode cJ4_delete 89 = .ok (.iconst 1, 1) := dk_4 (dk_at dksJ4_delete_3 18 rfl rfl)
theorem dJ4_delete_90 : decode cJ4_delete 90 = .ok (.iadd, 1) := dk_96 (dk_at dksJ4_delete_3 19 rfl rfl)
theorem dJ4_delete_91 : decode cJ4_delete 91 = .ok (.iload 6, 2) := dk_21 6 (dk_at dksJ4_delete_3 20 rfl rfl)
theorem dJ4_delete_93 : decode cJ4_delete 93 = .ok (.iload_n 1, 1) := dk_27 (dk_at dksJ4_delete_3 22 rfl rfl)
theorem dJ4_delete_94 : decode cJ4_delete 94 = .ok (.iconst 1, 1) := dk_4 (dk_at dksJ4_delete_3 23 rfl rfl)
theorem dJ4_delete_95 : decode cJ4_delete 95 = .ok (.iadd, 1) := dk_96 (dk_at dksJ4_delete_4 0 rfl rfl)
theorem dJ4_delete_96 : decode cJ4_delete 96 = .ok (.isub, 1) := dk_100 (dk_at dksJ4_delete_4 1 rfl rfl)
theorem dJ4_delete_97 : decode cJ4_delete 97 = .ok (.invokestatic 27, 3) := dk_184 0 27 (dk_at dksJ4_delete_4 2 rfl rfl)
theorem dJ4_delete_100 : decode cJ4_delete 100 = .ok (.aload_n 2, 1) := dk_44 (dk_at dksJ4_delete_4 5 rfl rfl)
theorem dJ4_delete_101 : decode cJ4_delete 101 = .ok (.iload 4, 2) := dk_21 4 (dk_at dksJ4_delete_4 6 rfl rfl)
theorem dJ4_delete_103 : decode cJ4_delete 103 = .ok (.aconst_null, 1) := dk_1 (dk_at dksJ4_delete_4 8 rfl rfl)
theorem dJ4_delete_104 : decode cJ4_delete 104 = .ok (.aastore, 1) := dk_83 (dk_at dksJ4_delete_4 9 rfl rfl)
theorem dJ4_delete_105 : decode cJ4_delete 105 = .ok (.aload_n 0, 1) := dk_42 (dk_at dksJ4_delete_4 10 rfl rfl)
theorem dJ4_delete_106 : decode cJ4_delete 106 = .ok (.iload 4, 2) := dk_21 4 (dk_at dksJ4_delete_4 11 rfl rfl)
theorem dJ4_delete_108 : decode cJ4_delete 108 = .ok (.iload_n 3, 1) := dk_29 (dk_at dksJ4_delete_4 13 rfl rfl)
theorem dJ4_delete_109 : decode cJ4_delete 109 = .ok (.invokestatic 74, 3) := dk_184 0 74 (dk_at dksJ4_delete_4 14 rfl rfl)
theorem dJ4_delete_112 : decode cJ4_delete 112 = .ok (.putfield 24, 3) := dk_181 0 24 (dk_at dksJ4_delete_4 17 rfl rfl)
theorem dJ4_delete_115 : decode cJ4_delete 115 = .ok (.iconst 0, 1) := dk_3 (dk_at dksJ4_delete_4 20 rfl rfl)
theorem dJ4_delete_116 : decode cJ4_delete 116 = .ok (.ireturn, 1) := dk_172 (dk_at dksJ4_delete_4 21 rfl rfl)
theorem dJ4_delete_117 : decode cJ4_delete 117 = .ok (.aload_n 0, 1) := dk_42 (dk_at dksJ4_delete_4 22 rfl rfl)
theorem dJ4_delete_118 : decode cJ4_delete 118 = .ok (.iload 5, 2) := dk_21 5 (dk_at dksJ4_delete_5 0 rfl rfl)
theorem dJ4_delete_120 : decode cJ4_delete 120 = .ok (.iload_n 3, 1) := dk_29 (dk_at dksJ4_delete_5 2 rfl rfl)
theorem dJ4_delete_121 : decode cJ4_delete 121 = .ok (.invokestatic 68, 3) := dk_184 0 68 (dk_at dksJ4_delete_5 3 rfl rfl)
theorem dJ4_delete_124 : decode cJ4_delete 124 = .ok (.putfield 20, 3) := dk_181 0 20 (dk_at dksJ4_delete_5 6 rfl rfl)
theorem dJ4_delete_127 : decode cJ4_delete 127 = .ok (.iload_n 1, 1) := dk_27 (dk_at dksJ4_delete_5 9 rfl rfl)
theorem dJ4_delete_128 : decode cJ4_delete 128 = .ok (.aload_n 0, 1) := dk_42 (dk_at dksJ4_delete_5 10 rfl rfl)
theorem dJ4_delete_129 : decode cJ4_delete 129 = .ok (.getfield 20, 3) := dk_180 0 20 (dk_at dksJ4_delete_5 11 rfl rfl)
theorem dJ4_delete_132 : decode cJ4_delete 132 = .ok (.if_icmp .gt 17, 3) := dk_163 0 17 (dk_at dksJ4_delete_5 14 rfl rfl)
theorem dJ4_delete_135 : decode cJ4_delete 135 = .ok (.aload_n 2, 1) := dk_44 (dk_at dksJ4_delete_5 17 rfl rfl)
theorem dJ4_delete_136 : decode cJ4_delete 136 = .ok (.iload_n 1, 1) := dk_27 (dk_at dksJ4_delete_5 18 rfl rfl)
theorem dJ4_delete_137 : decode cJ4_delete 137 = .ok (.iconst 1, 1) := dk_4 (dk_at dksJ4_delete_5 19 rfl rfl)
theorem dJ4_delete_138 : decode cJ4_delete 138 = .ok (.iadd, 1) := dk_96 (dk_at dksJ4_delete_5 20 rfl rfl)
theorem dJ4_delete_139 : decode cJ4_delete 139 = .ok (.aload_n 2, 1) := dk_44 (dk_at dksJ4_delete_5 21 rfl rfl)
theorem dJ4_delete_140 : decode cJ4_delete 140 = .ok (.iload_n 1, 1) := dk_27 (dk_at dksJ4_delete_5 22 rfl rfl)
theorem dJ4_delete_141 : decode cJ4_delete 141 = .ok (.iload 7, 2) := dk_21 7 (dk_at dksJ4_delete_6 0 rfl rfl)
theorem dJ4_delete_143 : decode cJ4_delete 143 = .ok (.invokestatic 27, 3) := dk_184 0 27 (dk_at dksJ4_delete_6 2 rfl rfl)
theorem dJ4_delete_146 : decode cJ4_delete 146 = .ok (.goto 36, 3) := dk_167 0 36 (dk_at dksJ4_delete_6 5 rfl rfl)
theorem dJ4_delete_149 : decode cJ4_delete 149 = .ok (.aload_n 2, 1) := dk_44 (dk_at dksJ4_delete_6 8 rfl rfl)
theorem dJ4_delete_150 : decode cJ4_delete 150 = .ok (.iload_n 1, 1) := dk_27 (dk_at dksJ4_delete_6 9 rfl rfl)
theorem dJ4_delete_151 : decode cJ4_delete 151 = .ok (.iconst 1, 1) := dk_4 (dk_at dksJ4_delete_6 10 rfl rfl)
theorem dJ4_delete_152 : decode cJ4_delete 152 = .ok (.iadd, 1) := dk_96 (dk_at dksJ4_delete_6 11 rfl rfl)
theorem dJ4_delete_153 : decode cJ4_delete 153 = .ok (.aload_n 2, 1) := dk_44 (dk_at dksJ4_delete_6 12 rfl rfl)
theorem dJ4_delete_154 : decode cJ4_delete 154 = .ok (.iload_n 1, 1) := dk_27 (dk_at dksJ4_delete_6 13 rfl rfl)
theorem dJ4_delete_155 : decode cJ4_delete 155 = .ok (.iload_n 3, 1) := dk_29 (dk_at dksJ4_delete_6 14 rfl rfl)
theorem dJ4_delete_156 : decode cJ4_delete 156 = .ok (.iload_n 1, 1) := dk_27 (dk_at dksJ4_delete_6 15 rfl rfl)
theorem dJ4_delete_157 : decode cJ4_delete 157 = .ok (.iconst 1, 1) := dk_4 (dk_at dksJ4_delete_6 16 rfl rfl)
theorem dJ4_delete_158 : decode cJ4_delete 158 = .ok (.iadd, 1) := dk_96 (dk_at dksJ4_delete_6 17 rfl rfl)
theorem dJ4_delete_159 : decode cJ4_delete 159 = .ok (.isub, 1) := dk_100 (dk_at dksJ4_delete_6 18 rfl rfl)
theorem dJ4_delete_160 : decode cJ4_delete 160 = .ok (.invokestatic 27, 3) := dk_184 0 27 (dk_at dksJ4_delete_6 19 rfl rfl)
theorem dJ4_delete_163 : decode cJ4_delete 163 = .ok (.aload_n 2, 1) := dk_44 (dk_at dksJ4_delete_6 22 rfl rfl)
theorem dJ4_delete_164 : decode cJ4_delete 164 = .ok (.iload_n 3, 1) := dk_29 (dk_at dksJ4_delete_6 23 rfl rfl)
theorem dJ4_delete_165 : decode cJ4_delete 165 = .ok (.iconst 1, 1) := dk_4 (dk_at dksJ4_delete_7 0 rfl rfl)
theorem dJ4_delete_166 : decode cJ4_delete 166 = .ok (.isub, 1) := dk_100 (dk_at dksJ4_delete_7 1 rfl rfl)
theorem dJ4_delete_167 : decode cJ4_delete 167 = .ok (.aload_n 2, 1) := dk_44 (dk_at dksJ4_delete_7 2 rfl rfl)
theorem dJ4_delete_168 : decode cJ4_delete 168 = .ok (.iconst 0, 1) := dk_3 (dk_at dksJ4_delete_7 3 rfl rfl)
theorem dJ4_delete_169 : decode cJ4_delete 169 = .ok (.aaload, 1) := dk_50 (dk_at dksJ4_delete_7 4 rfl rfl)
theorem dJ4_delete_170 : decode cJ4_delete 170 = .ok (.aastore, 1) := dk_83 (dk_at dksJ4_delete_7 5 rfl rfl)
theorem dJ4_delete_171 : decode cJ4_delete 171 = .ok (.aload_n 2, 1) := dk_44 (dk_at dksJ4_delete_7 6 rfl rfl)
theorem dJ4_delete_172 : decode cJ4_delete 172 = .ok (.iconst 1, 1) := dk_4 (dk_at dksJ4_delete_7 7 rfl rfl)
theorem dJ4_delete_173 : decode cJ4_delete 173 = .ok (.aload_n 2, 1) := dk_44 (dk_at dksJ4_delete_7 8 rfl rfl)
theorem dJ4_delete_174 : decode cJ4_delete 174 = .ok (.iconst 0, 1) := dk_3 (dk_at dksJ4_delete_7 9 rfl rfl)
theorem dJ4_delete_175 : decode cJ4_delete 175 = .ok (.iload 5, 2) := dk_21 5 (dk_at dksJ4_delete_7 10 rfl rfl)
theorem dJ4_delete_177 : decode cJ4_delete 177 = .ok (.iconst 1, 1) := dk_4 (dk_at dksJ4_delete_7 12 rfl rfl)
theorem dJ4_delete_178 : decode cJ4_delete 178 = .ok (.isub, 1) := dk_100 (dk_at dksJ4_delete_7 13 rfl rfl)
theorem dJ4_delete_179 : decode cJ4_delete 179 = .ok (.invokestatic 27, 3) := dk_184 0 27 (dk_at dksJ4_delete_7 14 rfl rfl)
theorem dJ4_delete_182 : decode cJ4_delete 182 = .ok (.aload_n 2, 1) := dk_44 (dk_at dksJ4_delete_7 17 rfl rfl)
theorem dJ4_delete_183 : decode cJ4_delete 183 = .ok (.aload_n 0, 1) := dk_42 (dk_at dksJ4_delete_7 18 rfl rfl)
theorem dJ4_delete_184 : decode cJ4_delete 184 = .ok (.getfield 20, 3) := dk_180 0 20 (dk_at dksJ4_delete_7 19 rfl rfl)
theorem dJ4_delete_187 : decode cJ4_delete 187 = .ok (.aconst_null, 1) := dk_1 (dk_at dksJ4_delete_7 22 rfl rfl)
theorem dJ4_delete_188 : decode cJ4_delete 188 = .ok (.aastore, 1) := dk_83 (dk_at dksJ4_delete_7 23 rfl rfl)
theorem dJ4_delete_189 : decode cJ4_delete 189 = .ok (.iconst 1, 1) := dk_4 (dk_at dksJ4_delete_8 0 rfl rfl)
theorem dJ4_delete_190 : decode cJ4_delete 190 = .ok (.ireturn, 1) := dk_172 (dk_at dksJ4_delete_8 1 rfl rfl)
abbrev cJ4_dec : ByteArray := prog_42_method_7_code
def yJ4_dec : MethodName := ⟨RJ4, "dec", "(II)I"⟩
def dkwJ4_dec_0 : List UInt8 := [132, 0, 255, 26, 156, 0, 7, 27, 4, 100, 59, 26, 172]
abbrev dktJ4_dec_0 : List UInt8 := dkwJ4_dec_0 ++ []
theorem dksJ4_dec_0 : cJ4_dec.data.toList.drop 0 = dktJ4_dec_0 := by decide +kernel
theorem dJ4_dec_0 : decode cJ4_dec 0 = .ok (.iinc 0 (-1), 3) := dk_132 0 255 (dk_at dksJ4_dec_0 0 rfl rfl)
theorem dJ4_dec_3 : decode cJ4_dec 3 = .ok (.iload_n 0, 1) := dk_26 (dk_at dksJ4_dec_0 3 rfl rfl)
theorem dJ4_dec_4 : decode cJ4_dec 4 = .ok (.ifCond .ge 7, 3) := dk_156 0 7 (dk_at dksJ4_dec_0 4 rfl rfl)
theorem dJ4_dec_7 : decode cJ4_dec 7 = .ok (.iload_n 1, 1) := dk_27 (dk_at dksJ4_dec_0 7 rfl rfl)
theorem dJ4_dec_8 : decode cJ4_dec 8 = .ok (.iconst 1, 1) := dk_4 (dk_at dksJ4_dec_0 8 rfl rfl)
theorem dJ4_dec_9 : decode cJ4_dec 9 = .ok (.isub, 1) := dk_100 (dk_at dksJ4_dec_0 9 rfl rfl)
theorem dJ4_dec_10 : decode cJ4_dec 10 = .ok (.istore_n 0, 1) := dk_59 (dk_at dksJ4_dec_0 10 rfl rfl)
theorem dJ4_dec_11 : decode cJ4_dec 11 = .ok (.iload_n 0, 1) := dk_26 (dk_at dksJ4_dec_0 11 rfl rfl)
theorem dJ4_dec_12 : decode cJ4_dec 12 = .ok (.ireturn, 1) := dk_172 (dk_at dksJ4_dec_0 12 rfl rfl)
abbrev cJ4_addFirst : ByteArray := prog_42_method_12_code
def yJ4_addFirst : MethodName := ⟨RJ4, "addFirst", "(Ljava/lang/Object;)V"⟩
def dkwJ4_addFirst_2 : List UInt8 := [182, 0, 71, 177]
abbrev dktJ4_addFirst_2 : List UInt8 := dkwJ4_addFirst_2 ++ []
def dkwJ4_addFirst_1 : List UInt8 := [190, 184, 0, 68, 90, 181, 0, 24, 43, 83, 42, 180, 0, 24, 42, 180, 0, 20, 160, 0, 8, 42, 4]
abbrev dktJ4_addFirst_1 : List UInt8 := dkwJ4_addFirst_1 ++ dktJ4_addFirst_2
def dkwJ4_addFirst_0 : List UInt8 := [43, 199, 0, 11, 187, 0, 65, 89, 183, 0, 67, 191, 42, 180, 0, 3, 77, 44, 42, 42, 180, 0, 24, 44]
abbrev dktJ4_addFirst_0 : List UInt8 := dkwJ4_addFirst_0 ++ dktJ4_addFirst_1
theorem dksJ4_addFirst_0 : cJ4_addFirst.data.toList.drop 0 = dktJ4_addFirst_0 := by decide +kernel
theorem dksJ4_addFirst_1 : cJ4_addFirst.data.toList.drop 24 = dktJ4_addFirst_1 := dk_seg dksJ4_addFirst_0 24 rfl rfl
theorem dksJ4_addFirst_2 : cJ4_addFirst.data.toList.drop 47 = dktJ4_addFirst_2 := dk_seg dksJ4_addFirst_1 23 rfl rfl
theorem dJ4_addFirst_0 : decode cJ4_addFirst 0 = .ok (.aload_n 1, 1) := dk_43 (dk_at dksJ4_addFirst_0 0 rfl rfl)
theorem dJ4_addFirst_1 : decode cJ4_addFirst 1 = .ok (.ifnonnull 11, 3) := dk_199 0 11 (dk_at dksJ4_addFirst_0 1 rfl rfl)
theorem dJ4_addFirst_4 : decode cJ4_addFirst 4 = .ok (.new 65, 3) := dk_187 0 65 (dk_at dksJ4_addFirst_0 4 rfl rfl)
theorem dJ4_addFirst_7 : decode cJ4_addFirst 7 = .ok (.dup, 1) := dk_89 (dk_at dksJ4_addFirst_0 7 rfl rfl)
theorem dJ4_addFirst_8 : decode cJ4_addFirst 8 = .ok (.invokespecial 67, 3) := dk_183 0 67 (dk_at dksJ4_addFirst_0 8 rfl rfl)
theorem dJ4_addFirst_11 : decode cJ4_addFirst 11 = .ok (.athrow, 1) := dk_191 (dk_at dksJ4_addFirst_0 11 rfl rfl)
theorem dJ4_addFirst_12 : decode cJ4_addFirst 12 = .ok (.aload_n 0, 1) := dk_42 (dk_at dksJ4_addFirst_0 12 rfl rfl)
theorem dJ4_addFirst_13 : decode cJ4_addFirst 13 = .ok (.getfield 3, 3) := dk_180 0 3 (dk_at dksJ4_addFirst_0 13 rfl rfl)
theorem dJ4_addFirst_16 : decode cJ4_addFirst 16 = .ok (.astore_n 2, 1) := dk_77 (dk_at dksJ4_addFirst_0 16 rfl rfl)
theorem dJ4_addFirst_17 : decode cJ4_addFirst 17 = .ok (.aload_n 2, 1) := dk_44 (dk_at dksJ4_addFirst_0 17 rfl rfl)
theorem dJ4_addFirst_18 : decode cJ4_addFirst 18 = .ok (.aload_n 0, 1) := dk_42 (dk_at dksJ4_addFirst_0 18 rfl rfl)
theorem dJ4_addFirst_19 : decode cJ4_addFirst 19 = .ok (.aload_n 0, 1) := dk_42 (dk_at dksJ4_addFirst_0 19 rfl rfl)
theorem dJ4_addFirst_20 : decode cJ4_addFirst 20 = .ok (.getfield 24, 3) := dk_180 0 24 (dk_at dksJ4_addFirst_0 20 rfl rfl)
theorem dJ4_addFirst_23 : decode cJ4_addFirst 23 = .ok (.aload_n 2, 1) := dk_44 (dk_at dksJ4_addFirst_0 23 rfl rfl)
theorem dJ4_addFirst_24 : decode cJ4_addFirst 24 = .ok (.arraylength, 1) := dk_190 (dk_at dksJ4_addFirst_1 0 rfl rfl)
theorem dJ4_addFirst_25 : decode cJ4_addFirst 25 = .ok (.invokestatic 68, 3) := dk_184 0 68 (dk_at dksJ4_addFirst_1 1 rfl rfl)
theorem dJ4_addFirst_28 : decode cJ4_addFirst 28 = .ok (.dup_x1, 1) := dk_90 (dk_at dksJ4_addFirst_1 4 rfl rfl)
theorem dJ4_addFirst_29 : decode cJ4_addFirst 29 = .ok (.putfield 24, 3) := dk_181 0 24 (dk_at dksJ4_addFirst_1 5 rfl rfl)
theorem dJ4_addFirst_32 : decode cJ4_addFirst 32 = .ok (.aload_n 1, 1) := dk_43 (dk_at dksJ4_addFirst_1 8 rfl rfl)
theorem dJ4_addFirst_33 : decode cJ4_addFirst 33 = .ok (.aastore, 1) := dk_83 (dk_at dksJ4_addFirst_1 9 rfl rfl)
theorem dJ4_addFirst_34 : decode cJ4_addFirst 34 = .ok (.aload_n 0, 1) := dk_42 (dk_at dksJ4_addFirst_1 10 rfl rfl)
theorem dJ4_addFirst_35 : decode cJ4_addFirst 35 = .ok (.getfield 24, 3) := dk_180 0 24 (dk_at dksJ4_addFirst_1 11 rfl rfl)
theorem dJ4_addFirst_38 : decode cJ4_addFirst 38 = .ok (.aload_n 0, 1) := dk_42 (dk_at dksJ4_addFirst_1 14 rfl rfl)
theorem dJ4_addFirst_39 : decode cJ4_addFirst 39 = .ok (.getfield 20, 3) := dk_180 0 20 (dk_at dksJ4_addFirst_1 15 rfl rfl)
theorem dJ4_addFirst_42 : decode cJ4_addFirst 42 = .ok (.if_icmp .ne 8, 3) := dk_160 0 8 (dk_at dksJ4_addFirst_1 18 rfl rfl)
theorem dJ4_addFirst_45 : decode cJ4_addFirst 45 = .ok (.aload_n 0, 1) := dk_42 (dk_at dksJ4_addFirst_1 21 rfl rfl)
theorem dJ4_addFirst_46 : decode cJ4_addFirst 46 = .ok (.iconst 1, 1) := dk_4 (dk_at dksJ4_addFirst_1 22 rfl rfl)
theorem dJ4_addFirst_47 : decode cJ4_addFirst 47 = .ok (.invokevirtual 71, 3) := dk_182 0 71 (dk_at dksJ4_addFirst_2 0 rfl rfl)
theorem dJ4_addFirst_50 : decode cJ4_addFirst 50 = .ok (.return_, 1) := dk_177 (dk_at dksJ4_addFirst_2 3 rfl rfl)
abbrev cJ4_removeLast : ByteArray := prog_42_method_19_code
def yJ4_removeLast : MethodName := ⟨RJ4, "removeLast", "()Ljava/lang/Object;"⟩
def dkwJ4_removeLast_0 : List UInt8 := [42, 182, 0, 100, 76, 43, 199, 0, 11, 187, 0, 97, 89, 183, 0, 99, 191, 43, 176]
abbrev dktJ4_removeLast_0 : List UInt8 := dkwJ4_removeLast_0 ++ []
theorem dksJ4_removeLast_0 : cJ4_removeLast.data.toList.drop 0 = dktJ4_removeLast_0 := by decide +kernel
theorem dJ4_removeLast_0 : decode cJ4_removeLast 0 = .ok (.aload_n 0, 1) := dk_42 (dk_at dksJ4_removeLast_0 0 rfl rfl)
theorem dJ4_removeLast_1 : decode cJ4_removeLast 1 = .ok (.invokevirtual 100, 3) := dk_182 0 100 (dk_at dksJ4_removeLast_0 1 rfl rfl)
theorem dJ4_removeLast_4 : decode cJ4_removeLast 4 = .ok (.astore_n 1, 1) := dk_76 (dk_at dksJ4_removeLast_0 4 rfl rfl)
theorem dJ4_removeLast_5 : decode cJ4_removeLast 5 = .ok (.aload_n 1, 1) := dk_43 (dk_at dksJ4_removeLast_0 5 rfl rfl)
theorem dJ4_removeLast_6 : decode cJ4_removeLast 6 = .ok (.ifnonnull 11, 3) := dk_199 0 11 (dk_at dksJ4_removeLast_0 6 rfl rfl)
theorem dJ4_removeLast_9 : decode cJ4_removeLast 9 = .ok (.new 97, 3) := dk_187 0 97 (dk_at dksJ4_removeLast_0 9 rfl rfl)
theorem dJ4_removeLast_12 : decode cJ4_removeLast 12 = .ok (.dup, 1) := dk_89 (dk_at dksJ4_removeLast_0 12 rfl rfl)
theorem dJ4_removeLast_13 : decode cJ4_removeLast 13 = .ok (.invokespecial 99, 3) := dk_183 0 99 (dk_at dksJ4_removeLast_0 13 rfl rfl)
theorem dJ4_removeLast_16 : decode cJ4_removeLast 16 = .ok (.athrow, 1) := dk_191 (dk_at dksJ4_removeLast_0 16 rfl rfl)
theorem dJ4_removeLast_17 : decode cJ4_removeLast 17 = .ok (.aload_n 1, 1) := dk_43 (dk_at dksJ4_removeLast_0 17 rfl rfl)
theorem dJ4_removeLast_18 : decode cJ4_removeLast 18 = .ok (.areturn, 1) := dk_176 (dk_at dksJ4_removeLast_0 18 rfl rfl)
abbrev cJ4_pollLast : ByteArray := prog_42_method_21_code
def yJ4_pollLast : MethodName := ⟨RJ4, "pollLast", "()Ljava/lang/Object;"⟩
def dkwJ4_pollLast_1 : List UInt8 := [198, 0, 12, 43, 42, 28, 90, 181, 0, 20, 1, 83, 45, 176]
abbrev dktJ4_pollLast_1 : List UInt8 := dkwJ4_pollLast_1 ++ []
def dkwJ4_pollLast_0 : List UInt8 := [42, 180, 0, 3, 89, 76, 42, 180, 0, 20, 43, 190, 184, 0, 68, 89, 61, 184, 0, 103, 78, 45]
abbrev dktJ4_pollLast_0 : List UInt8 := dkwJ4_pollLast_0 ++ dktJ4_pollLast_1
theorem dksJ4_pollLast_0 : cJ4_pollLast.data.toList.drop 0 = dktJ4_pollLast_0 := by decide +kernel
theorem dksJ4_pollLast_1 : cJ4_pollLast.data.toList.drop 22 = dktJ4_pollLast_1 := dk_seg dksJ4_pollLast_0 22 rfl rfl
theorem dJ4_pollLast_0 : decode cJ4_pollLast 0 = .ok (.aload_n 0, 1) := dk_42 (dk_at dksJ4_pollLast_0 0 rfl rfl)
theorem dJ4_pollLast_1 : decode cJ4_pollLast 1 = .ok (.getfield 3, 3) := dk_180 0 3 (dk_at dksJ4_pollLast_0 1 rfl rfl)
theorem dJ4_pollLast_4 : decode cJ4_pollLast 4 = .ok (.dup, 1) := dk_89 (dk_at dksJ4_pollLast_0 4 rfl rfl)
theorem dJ4_pollLast_5 : decode cJ4_pollLast 5 = .ok (.astore_n 1, 1) := dk_76 (dk_at dksJ4_pollLast_0 5 rfl rfl)
theorem dJ4_pollLast_6 : decode cJ4_pollLast 6 = .ok (.aload_n 0, 1) := dk_42 (dk_at dksJ4_pollLast_0 6 rfl rfl)
theorem dJ4_pollLast_7 : decode cJ4_pollLast 7 = .ok (.getfield 20, 3) := dk_180 0 20 (dk_at dksJ4_pollLast_0 7 rfl rfl)
theorem dJ4_pollLast_10 : decode cJ4_pollLast 10 = .ok (.aload_n 1, 1) := dk_43 (dk_at dksJ4_pollLast_0 10 rfl rfl)
theorem dJ4_pollLast_11 : decode cJ4_pollLast 11 = .ok (.arraylength, 1) := dk_190 (dk_at dksJ4_pollLast_0 11 rfl rfl)
theorem dJ4_pollLast_12 : decode cJ4_pollLast 12 = .ok (.invokestatic 68, 3) := dk_184 0 68 (dk_at dksJ4_pollLast_0 12 rfl rfl)
theorem dJ4_pollLast_15 : decode cJ4_pollLast 15 = .ok (.dup, 1) := dk_89 (dk_at dksJ4_pollLast_0 15 rfl rfl)
theorem dJ4_pollLast_16 : decode cJ4_pollLast 16 = .ok (.istore_n 2, 1) := dk_61 (dk_at dksJ4_pollLast_0 16 rfl rfl)
theorem dJ4_pollLast_17 : decode cJ4_pollLast 17 = .ok (.invokestatic 103, 3) := dk_184 0 103 (dk_at dksJ4_pollLast_0 17 rfl rfl)
theorem dJ4_pollLast_20 : decode cJ4_pollLast 20 = .ok (.astore_n 3, 1) := dk_78 (dk_at dksJ4_pollLast_0 20 rfl rfl)
theorem dJ4_pollLast_21 : decode cJ4_pollLast 21 = .ok (.aload_n 3, 1) := dk_45 (dk_at dksJ4_pollLast_0 21 rfl rfl)
theorem dJ4_pollLast_22 : decode cJ4_pollLast 22 = .ok (.ifnull 12, 3) := dk_198 0 12 (dk_at dksJ4_pollLast_1 0 rfl rfl)
theorem dJ4_pollLast_25 : decode cJ4_pollLast 25 = .ok (.aload_n 1, 1) := dk_43 (dk_at dksJ4_pollLast_1 3 rfl rfl)
theorem dJ4_pollLast_26 : decode cJ4_pollLast 26 = .ok (.aload_n 0, 1) := dk_42 (dk_at dksJ4_pollLast_1 4 rfl rfl)
theorem dJ4_pollLast_27 : decode cJ4_pollLast 27 = .ok (.iload_n 2, 1) := dk_28 (dk_at dksJ4_pollLast_1 5 rfl rfl)
theorem dJ4_pollLast_28 : decode cJ4_pollLast 28 = .ok (.dup_x1, 1) := dk_90 (dk_at dksJ4_pollLast_1 6 rfl rfl)
theorem dJ4_pollLast_29 : decode cJ4_pollLast 29 = .ok (.putfield 20, 3) := dk_181 0 20 (dk_at dksJ4_pollLast_1 7 rfl rfl)
theorem dJ4_pollLast_32 : decode cJ4_pollLast 32 = .ok (.aconst_null, 1) := dk_1 (dk_at dksJ4_pollLast_1 10 rfl rfl)
theorem dJ4_pollLast_33 : decode cJ4_pollLast 33 = .ok (.aastore, 1) := dk_83 (dk_at dksJ4_pollLast_1 11 rfl rfl)
theorem dJ4_pollLast_34 : decode cJ4_pollLast 34 = .ok (.aload_n 3, 1) := dk_45 (dk_at dksJ4_pollLast_1 12 rfl rfl)
theorem dJ4_pollLast_35 : decode cJ4_pollLast 35 = .ok (.areturn, 1) := dk_176 (dk_at dksJ4_pollLast_1 13 rfl rfl)
abbrev cJ4_isEmpty : ByteArray := prog_42_method_38_code
def yJ4_isEmpty : MethodName := ⟨RJ4, "isEmpty", "()Z"⟩
def dkwJ4_isEmpty_0 : List UInt8 := [42, 180, 0, 24, 42, 180, 0, 20, 160, 0, 7, 4, 167, 0, 4, 3, 172]
abbrev dktJ4_isEmpty_0 : List UInt8 := dkwJ4_isEmpty_0 ++ []
theorem dksJ4_isEmpty_0 : cJ4_isEmpty.data.toList.drop 0 = dktJ4_isEmpty_0 := by decide +kernel
theorem dJ4_isEmpty_0 : decode cJ4_isEmpty 0 = .ok (.aload_n 0, 1) := dk_42 (dk_at dksJ4_isEmpty_0 0 rfl rfl)
theorem dJ4_isEmpty_1 : decode cJ4_isEmpty 1 = .ok (.getfield 24, 3) := dk_180 0 24 (dk_at dksJ4_isEmpty_0 1 rfl rfl)
theorem dJ4_isEmpty_4 : decode cJ4_isEmpty 4 = .ok (.aload_n 0, 1) := dk_42 (dk_at dksJ4_isEmpty_0 4 rfl rfl)
theorem dJ4_isEmpty_5 : decode cJ4_isEmpty 5 = .ok (.getfield 20, 3) := dk_180 0 20 (dk_at dksJ4_isEmpty_0 5 rfl rfl)
theorem dJ4_isEmpty_8 : decode cJ4_isEmpty 8 = .ok (.if_icmp .ne 7, 3) := dk_160 0 7 (dk_at dksJ4_isEmpty_0 8 rfl rfl)
theorem dJ4_isEmpty_11 : decode cJ4_isEmpty 11 = .ok (.iconst 1, 1) := dk_4 (dk_at dksJ4_isEmpty_0 11 rfl rfl)
theorem dJ4_isEmpty_12 : decode cJ4_isEmpty 12 = .ok (.goto 4, 3) := dk_167 0 4 (dk_at dksJ4_isEmpty_0 12 rfl rfl)
theorem dJ4_isEmpty_15 : decode cJ4_isEmpty 15 = .ok (.iconst 0, 1) := dk_3 (dk_at dksJ4_isEmpty_0 15 rfl rfl)
theorem dJ4_isEmpty_16 : decode cJ4_isEmpty 16 = .ok (.ireturn, 1) := dk_172 (dk_at dksJ4_isEmpty_0 16 rfl rfl)
abbrev cJ4_getFirst : ByteArray := prog_42_method_22_code
def yJ4_getFirst : MethodName := ⟨RJ4, "getFirst", "()Ljava/lang/Object;"⟩
def dkwJ4_getFirst_1 : List UInt8 := [43, 176]
abbrev dktJ4_getFirst_1 : List UInt8 := dkwJ4_getFirst_1 ++ []
def dkwJ4_getFirst_0 : List UInt8 := [42, 180, 0, 3, 42, 180, 0, 24, 184, 0, 103, 76, 43, 199, 0, 11, 187, 0, 97, 89, 183, 0, 99, 191]
abbrev dktJ4_getFirst_0 : List UInt8 := dkwJ4_getFirst_0 ++ dktJ4_getFirst_1
theorem dksJ4_getFirst_0 : cJ4_getFirst.data.toList.drop 0 = dktJ4_getFirst_0 := by decide +kernel
theorem dksJ4_getFirst_1 : cJ4_getFirst.data.toList.drop 24 = dktJ4_getFirst_1 := dk_seg dksJ4_getFirst_0 24 rfl rfl
theorem dJ4_getFirst_0 : decode cJ4_getFirst 0 = .ok (.aload_n 0, 1) := dk_42 (dk_at dksJ4_getFirst_0 0 rfl rfl)
theorem dJ4_getFirst_1 : decode cJ4_getFirst 1 = .ok (.getfield 3, 3) := dk_180 0 3 (dk_at dksJ4_getFirst_0 1 rfl rfl)
theorem dJ4_getFirst_4 : decode cJ4_getFirst 4 = .ok (.aload_n 0, 1) := dk_42 (dk_at dksJ4_getFirst_0 4 rfl rfl)
theorem dJ4_getFirst_5 : decode cJ4_getFirst 5 = .ok (.getfield 24, 3) := dk_180 0 24 (dk_at dksJ4_getFirst_0 5 rfl rfl)
theorem dJ4_getFirst_8 : decode cJ4_getFirst 8 = .ok (.invokestatic 103, 3) := dk_184 0 103 (dk_at dksJ4_getFirst_0 8 rfl rfl)
theorem dJ4_getFirst_11 : decode cJ4_getFirst 11 = .ok (.astore_n 1, 1) := dk_76 (dk_at dksJ4_getFirst_0 11 rfl rfl)
theorem dJ4_getFirst_12 : decode cJ4_getFirst 12 = .ok (.aload_n 1, 1) := dk_43 (dk_at dksJ4_getFirst_0 12 rfl rfl)
theorem dJ4_getFirst_13 : decode cJ4_getFirst 13 = .ok (.ifnonnull 11, 3) := dk_199 0 11 (dk_at dksJ4_getFirst_0 13 rfl rfl)
theorem dJ4_getFirst_16 : decode cJ4_getFirst 16 = .ok (.new 97, 3) := dk_187 0 97 (dk_at dksJ4_getFirst_0 16 rfl rfl)
theorem dJ4_getFirst_19 : decode cJ4_getFirst 19 = .ok (.dup, 1) := dk_89 (dk_at dksJ4_getFirst_0 19 rfl rfl)
theorem dJ4_getFirst_20 : decode cJ4_getFirst 20 = .ok (.invokespecial 99, 3) := dk_183 0 99 (dk_at dksJ4_getFirst_0 20 rfl rfl)
theorem dJ4_getFirst_23 : decode cJ4_getFirst 23 = .ok (.athrow, 1) := dk_191 (dk_at dksJ4_getFirst_0 23 rfl rfl)
theorem dJ4_getFirst_24 : decode cJ4_getFirst 24 = .ok (.aload_n 1, 1) := dk_43 (dk_at dksJ4_getFirst_1 0 rfl rfl)
theorem dJ4_getFirst_25 : decode cJ4_getFirst 25 = .ok (.areturn, 1) := dk_176 (dk_at dksJ4_getFirst_1 1 rfl rfl)
abbrev cJ4_clear : ByteArray := prog_42_method_53_code
def yJ4_clear : MethodName := ⟨RJ4, "clear", "()V"⟩
def dkwJ4_clear_1 : List UInt8 := [181, 0, 24, 177]
abbrev dktJ4_clear_1 : List UInt8 := dkwJ4_clear_1 ++ []
def dkwJ4_clear_0 : List UInt8 := [42, 180, 0, 3, 42, 180, 0, 24, 42, 180, 0, 20, 184, 0, 181, 42, 42, 3, 90, 181, 0, 20]
abbrev dktJ4_clear_0 : List UInt8 := dkwJ4_clear_0 ++ dktJ4_clear_1
theorem dksJ4_clear_0 : cJ4_clear.data.toList.drop 0 = dktJ4_clear_0 := by decide +kernel
theorem dksJ4_clear_1 : cJ4_clear.data.toList.drop 22 = dktJ4_clear_1 := dk_seg dksJ4_clear_0 22 rfl rfl
theorem dJ4_clear_0 : decode cJ4_clear 0 = .ok (.aload_n 0, 1) := dk_42 (dk_at dksJ4_clear_0 0 rfl rfl)
theorem dJ4_clear_1 : decode cJ4_clear 1 = .ok (.getfield 3, 3) := dk_180 0 3 (dk_at dksJ4_clear_0 1 rfl rfl)
theorem dJ4_clear_4 : decode cJ4_clear 4 = .ok (.aload_n 0, 1) := dk_42 (dk_at dksJ4_clear_0 4 rfl rfl)
theorem dJ4_clear_5 : decode cJ4_clear 5 = .ok (.getfield 24, 3) := dk_180 0 24 (dk_at dksJ4_clear_0 5 rfl rfl)
theorem dJ4_clear_8 : decode cJ4_clear 8 = .ok (.aload_n 0, 1) := dk_42 (dk_at dksJ4_clear_0 8 rfl rfl)
theorem dJ4_clear_9 : decode cJ4_clear 9 = .ok (.getfield 20, 3) := dk_180 0 20 (dk_at dksJ4_clear_0 9 rfl rfl)
theorem dJ4_clear_12 : decode cJ4_clear 12 = .ok (.invokestatic 181, 3) := dk_184 0 181 (dk_at dksJ4_clear_0 12 rfl rfl)
theorem dJ4_clear_15 : decode cJ4_clear 15 = .ok (.aload_n 0, 1) := dk_42 (dk_at dksJ4_clear_0 15 rfl rfl)
theorem dJ4_clear_16 : decode cJ4_clear 16 = .ok (.aload_n 0, 1) := dk_42 (dk_at dksJ4_clear_0 16 rfl rfl)
theorem dJ4_clear_17 : decode cJ4_clear 17 = .ok (.iconst 0, 1) := dk_3 (dk_at dksJ4_clear_0 17 rfl rfl)
theorem dJ4_clear_18 : decode cJ4_clear 18 = .ok (.dup_x1, 1) := dk_90 (dk_at dksJ4_clear_0 18 rfl rfl)
theorem dJ4_clear_19 : decode cJ4_clear 19 = .ok (.putfield 20, 3) := dk_181 0 20 (dk_at dksJ4_clear_0 19 rfl rfl)
theorem dJ4_clear_22 : decode cJ4_clear 22 = .ok (.putfield 24, 3) := dk_181 0 24 (dk_at dksJ4_clear_1 0 rfl rfl)
theorem dJ4_clear_25 : decode cJ4_clear 25 = .ok (.return_, 1) := dk_177 (dk_at dksJ4_clear_1 3 rfl rfl)
abbrev cJ4_circularClear : ByteArray := prog_42_method_54_code
def yJ4_circularClear : MethodName := ⟨RJ4, "circularClear", "([Ljava/lang/Object;II)V"⟩
def dkwJ4_circularClear_1 : List UInt8 := [167, 255, 244, 29, 28, 160, 0, 6, 167, 0, 10, 3, 60, 28, 62, 167, 255, 229, 177]
abbrev dktJ4_circularClear_1 : List UInt8 := dkwJ4_circularClear_1 ++ []
def dkwJ4_circularClear_0 : List UInt8 := [27, 28, 163, 0, 7, 28, 167, 0, 5, 42, 190, 62, 27, 29, 162, 0, 13, 42, 27, 1, 83, 132, 1, 1]
abbrev dktJ4_circularClear_0 : List UInt8 := dkwJ4_circularClear_0 ++ dktJ4_circularClear_1
theorem dksJ4_circularClear_0 : cJ4_circularClear.data.toList.drop 0 = dktJ4_circularClear_0 := by decide +kernel
theorem dksJ4_circularClear_1 : cJ4_circularClear.data.toList.drop 24 = dktJ4_circularClear_1 := dk_seg dksJ4_circularClear_0 24 rfl rfl
theorem dJ4_circularClear_0 : decode cJ4_circularClear 0 = .ok (.iload_n 1, 1) := dk_27 (dk_at dksJ4_circularClear_0 0 rfl rfl)
theorem dJ4_circularClear_1 : decode cJ4_circularClear 1 = .ok (.iload_n 2, 1) := dk_28 (dk_at dksJ4_circularClear_0 1 rfl rfl)
theorem dJ4_circularClear_2 : decode cJ4_circularClear 2 = .ok (.if_icmp .gt 7, 3) := dk_163 0 7 (dk_at dksJ4_circularClear_0 2 rfl rfl)
theorem dJ4_circularClear_5 : decode cJ4_circularClear 5 = .ok (.iload_n 2, 1) := dk_28 (dk_at dksJ4_circularClear_0 5 rfl rfl)
theorem dJ4_circularClear_6 : decode cJ4_circularClear 6 = .ok (.goto 5, 3) := dk_167 0 5 (dk_at dksJ4_circularClear_0 6 rfl rfl)
theorem dJ4_circularClear_9 : decode cJ4_circularClear 9 = .ok (.aload_n 0, 1) := dk_42 (dk_at dksJ4_circularClear_0 9 rfl rfl)
theorem dJ4_circularClear_10 : decode cJ4_circularClear 10 = .ok (.arraylength, 1) := dk_190 (dk_at dksJ4_circularClear_0 10 rfl rfl)
theorem dJ4_circularClear_11 : decode cJ4_circularClear 11 = .ok (.istore_n 3, 1) := dk_62 (dk_at dksJ4_circularClear_0 11 rfl rfl)
theorem dJ4_circularClear_12 : decode cJ4_circularClear 12 = .ok (.iload_n 1, 1) := dk_27 (dk_at dksJ4_circularClear_0 12 rfl rfl)
theorem dJ4_circularClear_13 : decode cJ4_circularClear 13 = .ok (.iload_n 3, 1) := dk_29 (dk_at dksJ4_circularClear_0 13 rfl rfl)
theorem dJ4_circularClear_14 : decode cJ4_circularClear 14 = .ok (.if_icmp .ge 13, 3) := dk_162 0 13 (dk_at dksJ4_circularClear_0 14 rfl rfl)
theorem dJ4_circularClear_17 : decode cJ4_circularClear 17 = .ok (.aload_n 0, 1) := dk_42 (dk_at dksJ4_circularClear_0 17 rfl rfl)
theorem dJ4_circularClear_18 : decode cJ4_circularClear 18 = .ok (.iload_n 1, 1) := dk_27 (dk_at dksJ4_circularClear_0 18 rfl rfl)
theorem dJ4_circularClear_19 : decode cJ4_circularClear 19 = .ok (.aconst_null, 1) := dk_1 (dk_at dksJ4_circularClear_0 19 rfl rfl)
theorem dJ4_circularClear_20 : decode cJ4_circularClear 20 = .ok (.aastore, 1) := dk_83 (dk_at dksJ4_circularClear_0 20 rfl rfl)
theorem dJ4_circularClear_21 : decode cJ4_circularClear 21 = .ok (.iinc 1 1, 3) := dk_132 1 1 (dk_at dksJ4_circularClear_0 21 rfl rfl)
theorem dJ4_circularClear_24 : decode cJ4_circularClear 24 = .ok (.goto (-12), 3) := dk_167 255 244 (dk_at dksJ4_circularClear_1 0 rfl rfl)
theorem dJ4_circularClear_27 : decode cJ4_circularClear 27 = .ok (.iload_n 3, 1) := dk_29 (dk_at dksJ4_circularClear_1 3 rfl rfl)
theorem dJ4_circularClear_28 : decode cJ4_circularClear 28 = .ok (.iload_n 2, 1) := dk_28 (dk_at dksJ4_circularClear_1 4 rfl rfl)
theorem dJ4_circularClear_29 : decode cJ4_circularClear 29 = .ok (.if_icmp .ne 6, 3) := dk_160 0 6 (dk_at dksJ4_circularClear_1 5 rfl rfl)
theorem dJ4_circularClear_32 : decode cJ4_circularClear 32 = .ok (.goto 10, 3) := dk_167 0 10 (dk_at dksJ4_circularClear_1 8 rfl rfl)
theorem dJ4_circularClear_35 : decode cJ4_circularClear 35 = .ok (.iconst 0, 1) := dk_3 (dk_at dksJ4_circularClear_1 11 rfl rfl)
theorem dJ4_circularClear_36 : decode cJ4_circularClear 36 = .ok (.istore_n 1, 1) := dk_60 (dk_at dksJ4_circularClear_1 12 rfl rfl)
theorem dJ4_circularClear_37 : decode cJ4_circularClear 37 = .ok (.iload_n 2, 1) := dk_28 (dk_at dksJ4_circularClear_1 13 rfl rfl)
theorem dJ4_circularClear_38 : decode cJ4_circularClear 38 = .ok (.istore_n 3, 1) := dk_62 (dk_at dksJ4_circularClear_1 14 rfl rfl)
theorem dJ4_circularClear_39 : decode cJ4_circularClear 39 = .ok (.goto (-27), 3) := dk_167 255 229 (dk_at dksJ4_circularClear_1 15 rfl rfl)
theorem dJ4_circularClear_42 : decode cJ4_circularClear 42 = .ok (.return_, 1) := dk_177 (dk_at dksJ4_circularClear_1 18 rfl rfl)
theorem q101 : (Jvm.Cond.initialized "java/util/ArrayDeque") ∈ lw_all := lw_g (lw_at lw_m1 7 rfl) rfl
theorem q196 : (Jvm.Cond.instantiable "java/util/ArrayDeque" (3 : Nat)) ∈ lw_all := lw_g (lw_at lw_m1 102 rfl) rfl
theorem q198 : (Jvm.Cond.instanceMethod ({ cls := "java/util/ArrayDeque", name := "<init>", desc := "()V" } : Jvm.MethodName)) ∈ lw_all := lw_g (lw_at lw_m1 104 rfl) rfl
theorem q199 : (Jvm.Cond.code ({ cls := "java/util/ArrayDeque", name := "<init>", desc := "()V" } : Jvm.MethodName) prog_42_method_3_code (1 : Nat) (Option.none : Option Jvm.ClassFile.FieldType)) ∈ lw_all := lw_g (lw_at lw_m1 105 rfl) rfl
theorem q200 : (Jvm.Cond.methodLink "java/util/ArrayDeque" (42 : Nat) ({ cls := "java/util/AbstractCollection", name := "<init>", desc := "()V" } : Jvm.MethodName)) ∈ lw_all := lw_g (lw_at lw_m1 106 rfl) rfl
theorem q201 : (Jvm.Cond.classLink "java/util/ArrayDeque" (47 : Nat) "java/lang/Object") ∈ lw_all := lw_g (lw_at lw_m1 107 rfl) rfl
theorem q203 : (Jvm.Cond.fieldLink "java/util/ArrayDeque" (3 : Nat) "java/util/ArrayDeque" "elements" "[Ljava/lang/Object;") ∈ lw_all := lw_g (lw_at lw_m1 109 rfl) rfl
theorem q206 : (Jvm.Cond.fieldLink "java/util/ArrayDeque" (24 : Nat) "java/util/ArrayDeque" "head" "I") ∈ lw_all := lw_g (lw_at lw_m1 112 rfl) rfl
theorem q207 : (Jvm.Cond.fieldLink "java/util/ArrayDeque" (20 : Nat) "java/util/ArrayDeque" "tail" "I") ∈ lw_all := lw_g (lw_at lw_m1 113 rfl) rfl
theorem q208 : (Jvm.Cond.lays "java/util/ArrayDeque" "java/util/ArrayDeque" "elements" "[Ljava/lang/Object;") ∈ lw_all := lw_g (lw_at lw_m1 114 rfl) rfl
theorem q209 : (Jvm.Cond.soleField "java/util/ArrayDeque" "elements") ∈ lw_all := lw_g (lw_at lw_m1 115 rfl) rfl
theorem q210 : (Jvm.Cond.lays "java/util/ArrayDeque" "java/util/ArrayDeque" "head" "I") ∈ lw_all := lw_g (lw_at lw_m1 116 rfl) rfl
theorem q211 : (Jvm.Cond.soleField "java/util/ArrayDeque" "head") ∈ lw_all := lw_g (lw_at lw_m1 117 rfl) rfl
theorem q212 : (Jvm.Cond.lays "java/util/ArrayDeque" "java/util/ArrayDeque" "tail" "I") ∈ lw_all := lw_g (lw_at lw_m1 118 rfl) rfl
theorem q213 : (Jvm.Cond.soleField "java/util/ArrayDeque" "tail") ∈ lw_all := lw_g (lw_at lw_m1 119 rfl) rfl
theorem q214 : (Jvm.Cond.superclass "java/util/ArrayDeque" "java/util/AbstractCollection") ∈ lw_all := lw_g (lw_at lw_m1 120 rfl) rfl
theorem q884 : (Jvm.Cond.selects "java/util/ArrayDeque" ({ cls := "java/lang/Object", name := "getClass", desc := "()Ljava/lang/Class;" } : Jvm.MethodName) ({ cls := "java/lang/Object", name := "getClass", desc := "()Ljava/lang/Class;" } : Jvm.MethodName)) ∈ lw_all := lw_g (lw_at lw_m4 70 rfl) rfl
theorem q944 : (Jvm.Cond.static ({ cls := "java/util/ArrayDeque", name := "nonNullElementAt", desc := "([Ljava/lang/Object;I)Ljava/lang/Object;" } : Jvm.MethodName)) ∈ lw_all := lw_g (lw_at lw_m4 130 rfl) rfl
theorem q945 : (Jvm.Cond.code ({ cls := "java/util/ArrayDeque", name := "nonNullElementAt", desc := "([Ljava/lang/Object;I)Ljava/lang/Object;" } : Jvm.MethodName) prog_42_method_11_code (3 : Nat) (Option.some (Jvm.ClassFile.FieldType.object "java/lang/Object"))) ∈ lw_all := lw_g (lw_at lw_m4 131 rfl) rfl
theorem q947 : (Jvm.Cond.static ({ cls := "java/util/ArrayDeque", name := "inc", desc := "(II)I" } : Jvm.MethodName)) ∈ lw_all := lw_g (lw_at lw_m4 133 rfl) rfl
theorem q948 : (Jvm.Cond.code ({ cls := "java/util/ArrayDeque", name := "inc", desc := "(II)I" } : Jvm.MethodName) prog_42_method_6_code (2 : Nat) (Option.some Jvm.ClassFile.FieldType.int)) ∈ lw_all := lw_g (lw_at lw_m4 134 rfl) rfl
theorem q1109 : (Jvm.Cond.instanceMethod ({ cls := "java/util/ArrayDeque", name := "iterator", desc := "()Ljava/util/Iterator;" } : Jvm.MethodName)) ∈ lw_all := lw_g (lw_at lw_m5 55 rfl) rfl
theorem q1110 : (Jvm.Cond.selects "java/util/ArrayDeque" ({ cls := "java/util/ArrayDeque", name := "iterator", desc := "()Ljava/util/Iterator;" } : Jvm.MethodName) ({ cls := "java/util/ArrayDeque", name := "iterator", desc := "()Ljava/util/Iterator;" } : Jvm.MethodName)) ∈ lw_all := lw_g (lw_at lw_m5 56 rfl) rfl
theorem q1111 : (Jvm.Cond.code ({ cls := "java/util/ArrayDeque", name := "iterator", desc := "()Ljava/util/Iterator;" } : Jvm.MethodName) prog_42_method_39_code (1 : Nat) (Option.some (Jvm.ClassFile.FieldType.object "java/util/Iterator"))) ∈ lw_all := lw_g (lw_at lw_m5 57 rfl) rfl
theorem q1112 : (Jvm.Cond.classLink "java/util/ArrayDeque" (131 : Nat) "java/util/ArrayDeque$DeqIterator") ∈ lw_all := lw_g (lw_at lw_m5 58 rfl) rfl
theorem q1114 : (Jvm.Cond.methodLink "java/util/ArrayDeque" (133 : Nat) ({ cls := "java/util/ArrayDeque$DeqIterator", name := "<init>", desc := "(Ljava/util/ArrayDeque;)V" } : Jvm.MethodName)) ∈ lw_all := lw_g (lw_at lw_m5 60 rfl) rfl
theorem q1119 : (Jvm.Cond.instanceMethod ({ cls := "java/util/ArrayDeque", name := "size", desc := "()I" } : Jvm.MethodName)) ∈ lw_all := lw_g (lw_at lw_m5 65 rfl) rfl
theorem q1120 : (Jvm.Cond.selects "java/util/ArrayDeque" ({ cls := "java/util/ArrayDeque", name := "size", desc := "()I" } : Jvm.MethodName) ({ cls := "java/util/ArrayDeque", name := "size", desc := "()I" } : Jvm.MethodName)) ∈ lw_all := lw_g (lw_at lw_m5 66 rfl) rfl
theorem q1121 : (Jvm.Cond.code ({ cls := "java/util/ArrayDeque", name := "size", desc := "()I" } : Jvm.MethodName) prog_42_method_37_code (1 : Nat) (Option.some Jvm.ClassFile.FieldType.int)) ∈ lw_all := lw_g (lw_at lw_m5 67 rfl) rfl
theorem q1122 : (Jvm.Cond.methodLink "java/util/ArrayDeque" (127 : Nat) ({ cls := "java/util/ArrayDeque", name := "sub", desc := "(III)I" } : Jvm.MethodName)) ∈ lw_all := lw_g (lw_at lw_m5 68 rfl) rfl
theorem q1123 : (Jvm.Cond.static ({ cls := "java/util/ArrayDeque", name := "sub", desc := "(III)I" } : Jvm.MethodName)) ∈ lw_all := lw_g (lw_at lw_m5 69 rfl) rfl
theorem q1124 : (Jvm.Cond.code ({ cls := "java/util/ArrayDeque", name := "sub", desc := "(III)I" } : Jvm.MethodName) prog_42_method_9_code (3 : Nat) (Option.some Jvm.ClassFile.FieldType.int)) ∈ lw_all := lw_g (lw_at lw_m5 70 rfl) rfl
theorem q1164 : (Jvm.Cond.instanceMethod ({ cls := "java/util/ArrayDeque", name := "addLast", desc := "(Ljava/lang/Object;)V" } : Jvm.MethodName)) ∈ lw_all := lw_g (lw_at lw_m5 110 rfl) rfl
theorem q1165 : (Jvm.Cond.selects "java/util/ArrayDeque" ({ cls := "java/util/ArrayDeque", name := "addLast", desc := "(Ljava/lang/Object;)V" } : Jvm.MethodName) ({ cls := "java/util/ArrayDeque", name := "addLast", desc := "(Ljava/lang/Object;)V" } : Jvm.MethodName)) ∈ lw_all := lw_g (lw_at lw_m5 111 rfl) rfl
theorem q1166 : (Jvm.Cond.code ({ cls := "java/util/ArrayDeque", name := "addLast", desc := "(Ljava/lang/Object;)V" } : Jvm.MethodName) prog_42_method_13_code (3 : Nat) (Option.none : Option Jvm.ClassFile.FieldType)) ∈ lw_all := lw_g (lw_at lw_m5 112 rfl) rfl
theorem q1167 : (Jvm.Cond.methodLink "java/util/ArrayDeque" (74 : Nat) ({ cls := "java/util/ArrayDeque", name := "inc", desc := "(II)I" } : Jvm.MethodName)) ∈ lw_all := lw_g (lw_at lw_m5 113 rfl) rfl
theorem q1168 : (Jvm.Cond.methodLink "java/util/ArrayDeque" (71 : Nat) ({ cls := "java/util/ArrayDeque", name := "grow", desc := "(I)V" } : Jvm.MethodName)) ∈ lw_all := lw_g (lw_at lw_m5 114 rfl) rfl
theorem q1169 : (Jvm.Cond.privateMethod ({ cls := "java/util/ArrayDeque", name := "grow", desc := "(I)V" } : Jvm.MethodName)) ∈ lw_tbl := lw_at lw_m5 115 rfl
theorem q1170 : (Jvm.Cond.instanceMethod ({ cls := "java/util/ArrayDeque", name := "grow", desc := "(I)V" } : Jvm.MethodName)) ∈ lw_all := lw_g (lw_at lw_m5 116 rfl) rfl
theorem q1171 : (Jvm.Cond.code ({ cls := "java/util/ArrayDeque", name := "grow", desc := "(I)V" } : Jvm.MethodName) prog_42_method_1_code (9 : Nat) (Option.none : Option Jvm.ClassFile.FieldType)) ∈ lw_all := lw_g (lw_at lw_m5 117 rfl) rfl
theorem q1172 : (Jvm.Cond.constant "java/util/ArrayDeque" (9 : Nat) (2147483639 : Int32)) ∈ lw_all := lw_g (lw_at lw_m5 118 rfl) rfl
theorem q1173 : (Jvm.Cond.methodLink "java/util/ArrayDeque" (10 : Nat) ({ cls := "java/util/ArrayDeque", name := "newCapacity", desc := "(II)I" } : Jvm.MethodName)) ∈ lw_all := lw_g (lw_at lw_m5 119 rfl) rfl
theorem q1174 : (Jvm.Cond.privateMethod ({ cls := "java/util/ArrayDeque", name := "newCapacity", desc := "(II)I" } : Jvm.MethodName)) ∈ lw_tbl := lw_at lw_m5 120 rfl
theorem q1175 : (Jvm.Cond.instanceMethod ({ cls := "java/util/ArrayDeque", name := "newCapacity", desc := "(II)I" } : Jvm.MethodName)) ∈ lw_all := lw_g (lw_at lw_m5 121 rfl) rfl
theorem q1176 : (Jvm.Cond.code ({ cls := "java/util/ArrayDeque", name := "newCapacity", desc := "(II)I" } : Jvm.MethodName) prog_42_method_2_code (5 : Nat) (Option.some Jvm.ClassFile.FieldType.int)) ∈ lw_all := lw_g (lw_at lw_m5 122 rfl) rfl
theorem q1177 : (Jvm.Cond.classLink "java/util/ArrayDeque" (33 : Nat) "java/lang/IllegalStateException") ∈ lw_all := lw_g (lw_at lw_m5 123 rfl) rfl
theorem q1186 : (Jvm.Cond.stringRef "java/util/ArrayDeque" (35 : Nat) "Sorry, deque too big") ∈ lw_tbl := lw_at lw_m5 132 rfl
theorem q1187 : (Jvm.Cond.methodLink "java/util/ArrayDeque" (37 : Nat) ({ cls := "java/lang/IllegalStateException", name := "<init>", desc := "(Ljava/lang/String;)V" } : Jvm.MethodName)) ∈ lw_all := lw_g (lw_at lw_m5 133 rfl) rfl
theorem q1193 : (Jvm.Cond.constant "java/util/ArrayDeque" (41 : Nat) (2147483647 : Int32)) ∈ lw_all := lw_g (lw_at lw_m5 139 rfl) rfl
theorem q1194 : (Jvm.Cond.methodLink "java/util/ArrayDeque" (14 : Nat) ({ cls := "java/util/Arrays", name := "copyOf", desc := "([Ljava/lang/Object;I)[Ljava/lang/Object;" } : Jvm.MethodName)) ∈ lw_all := lw_g (lw_at lw_m5 140 rfl) rfl
theorem q1203 : (Jvm.Cond.methodLink "java/util/ArrayDeque" (27 : Nat) ({ cls := "java/lang/System", name := "arraycopy", desc := "(Ljava/lang/Object;ILjava/lang/Object;II)V" } : Jvm.MethodName)) ∈ lw_all := lw_g (lw_at lw_m5 149 rfl) rfl
theorem q1207 : (Jvm.Cond.instanceMethod ({ cls := "java/util/ArrayDeque", name := "removeFirst", desc := "()Ljava/lang/Object;" } : Jvm.MethodName)) ∈ lw_all := lw_g (lw_at lw_m5 153 rfl) rfl
theorem q1208 : (Jvm.Cond.selects "java/util/ArrayDeque" ({ cls := "java/util/ArrayDeque", name := "removeFirst", desc := "()Ljava/lang/Object;" } : Jvm.MethodName) ({ cls := "java/util/ArrayDeque", name := "removeFirst", desc := "()Ljava/lang/Object;" } : Jvm.MethodName)) ∈ lw_all := lw_g (lw_at lw_m5 154 rfl) rfl
theorem q1209 : (Jvm.Cond.code ({ cls := "java/util/ArrayDeque", name := "removeFirst", desc := "()Ljava/lang/Object;" } : Jvm.MethodName) prog_42_method_18_code (2 : Nat) (Option.some (Jvm.ClassFile.FieldType.object "java/lang/Object"))) ∈ lw_all := lw_g (lw_at lw_m5 155 rfl) rfl
theorem q1210 : (Jvm.Cond.methodLink "java/util/ArrayDeque" (93 : Nat) ({ cls := "java/util/ArrayDeque", name := "pollFirst", desc := "()Ljava/lang/Object;" } : Jvm.MethodName)) ∈ lw_all := lw_g (lw_at lw_m5 156 rfl) rfl
theorem q1211 : (Jvm.Cond.instanceMethod ({ cls := "java/util/ArrayDeque", name := "pollFirst", desc := "()Ljava/lang/Object;" } : Jvm.MethodName)) ∈ lw_all := lw_g (lw_at lw_m5 157 rfl) rfl
theorem q1212 : (Jvm.Cond.selects "java/util/ArrayDeque" ({ cls := "java/util/ArrayDeque", name := "pollFirst", desc := "()Ljava/lang/Object;" } : Jvm.MethodName) ({ cls := "java/util/ArrayDeque", name := "pollFirst", desc := "()Ljava/lang/Object;" } : Jvm.MethodName)) ∈ lw_all := lw_g (lw_at lw_m5 158 rfl) rfl
theorem q1213 : (Jvm.Cond.code ({ cls := "java/util/ArrayDeque", name := "pollFirst", desc := "()Ljava/lang/Object;" } : Jvm.MethodName) prog_42_method_20_code (4 : Nat) (Option.some (Jvm.ClassFile.FieldType.object "java/lang/Object"))) ∈ lw_all := lw_g (lw_at lw_m5 159 rfl) rfl
theorem q1214 : (Jvm.Cond.methodLink "java/util/ArrayDeque" (103 : Nat) ({ cls := "java/util/ArrayDeque", name := "elementAt", desc := "([Ljava/lang/Object;I)Ljava/lang/Object;" } : Jvm.MethodName)) ∈ lw_all := lw_g (lw_at lw_m5 160 rfl) rfl
theorem q1215 : (Jvm.Cond.static ({ cls := "java/util/ArrayDeque", name := "elementAt", desc := "([Ljava/lang/Object;I)Ljava/lang/Object;" } : Jvm.MethodName)) ∈ lw_all := lw_g (lw_at lw_m5 161 rfl) rfl
theorem q1216 : (Jvm.Cond.code ({ cls := "java/util/ArrayDeque", name := "elementAt", desc := "([Ljava/lang/Object;I)Ljava/lang/Object;" } : Jvm.MethodName) prog_42_method_10_code (2 : Nat) (Option.some (Jvm.ClassFile.FieldType.object "java/lang/Object"))) ∈ lw_all := lw_g (lw_at lw_m5 162 rfl) rfl
theorem q1217 : (Jvm.Cond.classLink "java/util/ArrayDeque" (97 : Nat) "java/util/NoSuchElementException") ∈ lw_all := lw_g (lw_at lw_m5 163 rfl) rfl
theorem q1218 : (Jvm.Cond.methodLink "java/util/ArrayDeque" (99 : Nat) ({ cls := "java/util/NoSuchElementException", name := "<init>", desc := "()V" } : Jvm.MethodName)) ∈ lw_all := lw_g (lw_at lw_m5 164 rfl) rfl
theorem q1299 : (Jvm.Cond.instanceMethod ({ cls := "java/util/ArrayDeque", name := "delete", desc := "(I)Z" } : Jvm.MethodName)) ∈ lw_all := lw_g (lw_at lw_m6 5 rfl) rfl
theorem q1300 : (Jvm.Cond.selects "java/util/ArrayDeque" ({ cls := "java/util/ArrayDeque", name := "delete", desc := "(I)Z" } : Jvm.MethodName) ({ cls := "java/util/ArrayDeque", name := "delete", desc := "(I)Z" } : Jvm.MethodName)) ∈ lw_all := lw_g (lw_at lw_m6 6 rfl) rfl
theorem q1301 : (Jvm.Cond.code ({ cls := "java/util/ArrayDeque", name := "delete", desc := "(I)Z" } : Jvm.MethodName) prog_42_method_36_code (8 : Nat) (Option.some Jvm.ClassFile.FieldType.boolean)) ∈ lw_all := lw_g (lw_at lw_m6 7 rfl) rfl
theorem q1302 : (Jvm.Cond.methodLink "java/util/ArrayDeque" (68 : Nat) ({ cls := "java/util/ArrayDeque", name := "dec", desc := "(II)I" } : Jvm.MethodName)) ∈ lw_all := lw_g (lw_at lw_m6 8 rfl) rfl
theorem q1303 : (Jvm.Cond.static ({ cls := "java/util/ArrayDeque", name := "dec", desc := "(II)I" } : Jvm.MethodName)) ∈ lw_all := lw_g (lw_at lw_m6 9 rfl) rfl
theorem q1304 : (Jvm.Cond.code ({ cls := "java/util/ArrayDeque", name := "dec", desc := "(II)I" } : Jvm.MethodName) prog_42_method_7_code (2 : Nat) (Option.some Jvm.ClassFile.FieldType.int)) ∈ lw_all := lw_g (lw_at lw_m6 10 rfl) rfl
theorem q1344 : (Jvm.Cond.instanceMethod ({ cls := "java/util/ArrayDeque", name := "addFirst", desc := "(Ljava/lang/Object;)V" } : Jvm.MethodName)) ∈ lw_all := lw_g (lw_at lw_m6 50 rfl) rfl
theorem q1345 : (Jvm.Cond.selects "java/util/ArrayDeque" ({ cls := "java/util/ArrayDeque", name := "addFirst", desc := "(Ljava/lang/Object;)V" } : Jvm.MethodName) ({ cls := "java/util/ArrayDeque", name := "addFirst", desc := "(Ljava/lang/Object;)V" } : Jvm.MethodName)) ∈ lw_all := lw_g (lw_at lw_m6 51 rfl) rfl
theorem q1346 : (Jvm.Cond.code ({ cls := "java/util/ArrayDeque", name := "addFirst", desc := "(Ljava/lang/Object;)V" } : Jvm.MethodName) prog_42_method_12_code (3 : Nat) (Option.none : Option Jvm.ClassFile.FieldType)) ∈ lw_all := lw_g (lw_at lw_m6 52 rfl) rfl
theorem q1349 : (Jvm.Cond.instanceMethod ({ cls := "java/util/ArrayDeque", name := "removeLast", desc := "()Ljava/lang/Object;" } : Jvm.MethodName)) ∈ lw_all := lw_g (lw_at lw_m6 55 rfl) rfl
theorem q1350 : (Jvm.Cond.selects "java/util/ArrayDeque" ({ cls := "java/util/ArrayDeque", name := "removeLast", desc := "()Ljava/lang/Object;" } : Jvm.MethodName) ({ cls := "java/util/ArrayDeque", name := "removeLast", desc := "()Ljava/lang/Object;" } : Jvm.MethodName)) ∈ lw_all := lw_g (lw_at lw_m6 56 rfl) rfl
theorem q1351 : (Jvm.Cond.code ({ cls := "java/util/ArrayDeque", name := "removeLast", desc := "()Ljava/lang/Object;" } : Jvm.MethodName) prog_42_method_19_code (2 : Nat) (Option.some (Jvm.ClassFile.FieldType.object "java/lang/Object"))) ∈ lw_all := lw_g (lw_at lw_m6 57 rfl) rfl
theorem q1352 : (Jvm.Cond.methodLink "java/util/ArrayDeque" (100 : Nat) ({ cls := "java/util/ArrayDeque", name := "pollLast", desc := "()Ljava/lang/Object;" } : Jvm.MethodName)) ∈ lw_all := lw_g (lw_at lw_m6 58 rfl) rfl
theorem q1353 : (Jvm.Cond.instanceMethod ({ cls := "java/util/ArrayDeque", name := "pollLast", desc := "()Ljava/lang/Object;" } : Jvm.MethodName)) ∈ lw_all := lw_g (lw_at lw_m6 59 rfl) rfl
theorem q1354 : (Jvm.Cond.selects "java/util/ArrayDeque" ({ cls := "java/util/ArrayDeque", name := "pollLast", desc := "()Ljava/lang/Object;" } : Jvm.MethodName) ({ cls := "java/util/ArrayDeque", name := "pollLast", desc := "()Ljava/lang/Object;" } : Jvm.MethodName)) ∈ lw_all := lw_g (lw_at lw_m6 60 rfl) rfl
theorem q1355 : (Jvm.Cond.code ({ cls := "java/util/ArrayDeque", name := "pollLast", desc := "()Ljava/lang/Object;" } : Jvm.MethodName) prog_42_method_21_code (4 : Nat) (Option.some (Jvm.ClassFile.FieldType.object "java/lang/Object"))) ∈ lw_all := lw_g (lw_at lw_m6 61 rfl) rfl
theorem q1388 : (Jvm.Cond.instanceMethod ({ cls := "java/util/ArrayDeque", name := "isEmpty", desc := "()Z" } : Jvm.MethodName)) ∈ lw_all := lw_g (lw_at lw_m6 94 rfl) rfl
theorem q1389 : (Jvm.Cond.selects "java/util/ArrayDeque" ({ cls := "java/util/ArrayDeque", name := "isEmpty", desc := "()Z" } : Jvm.MethodName) ({ cls := "java/util/ArrayDeque", name := "isEmpty", desc := "()Z" } : Jvm.MethodName)) ∈ lw_all := lw_g (lw_at lw_m6 95 rfl) rfl
theorem q1390 : (Jvm.Cond.code ({ cls := "java/util/ArrayDeque", name := "isEmpty", desc := "()Z" } : Jvm.MethodName) prog_42_method_38_code (1 : Nat) (Option.some Jvm.ClassFile.FieldType.boolean)) ∈ lw_all := lw_g (lw_at lw_m6 96 rfl) rfl
theorem q1626 : (Jvm.Cond.instanceMethod ({ cls := "java/util/ArrayDeque", name := "getFirst", desc := "()Ljava/lang/Object;" } : Jvm.MethodName)) ∈ lw_all := lw_g (lw_at lw_m7 92 rfl) rfl
theorem q1627 : (Jvm.Cond.selects "java/util/ArrayDeque" ({ cls := "java/util/ArrayDeque", name := "getFirst", desc := "()Ljava/lang/Object;" } : Jvm.MethodName) ({ cls := "java/util/ArrayDeque", name := "getFirst", desc := "()Ljava/lang/Object;" } : Jvm.MethodName)) ∈ lw_all := lw_g (lw_at lw_m7 93 rfl) rfl
theorem q1628 : (Jvm.Cond.code ({ cls := "java/util/ArrayDeque", name := "getFirst", desc := "()Ljava/lang/Object;" } : Jvm.MethodName) prog_42_method_22_code (2 : Nat) (Option.some (Jvm.ClassFile.FieldType.object "java/lang/Object"))) ∈ lw_all := lw_g (lw_at lw_m7 94 rfl) rfl
theorem q2567 : (Jvm.Cond.instanceMethod ({ cls := "java/util/ArrayDeque", name := "clear", desc := "()V" } : Jvm.MethodName)) ∈ lw_all := lw_g (lw_at lw_m11 73 rfl) rfl
theorem q2568 : (Jvm.Cond.selects "java/util/ArrayDeque" ({ cls := "java/util/ArrayDeque", name := "clear", desc := "()V" } : Jvm.MethodName) ({ cls := "java/util/ArrayDeque", name := "clear", desc := "()V" } : Jvm.MethodName)) ∈ lw_all := lw_g (lw_at lw_m11 74 rfl) rfl
theorem q2569 : (Jvm.Cond.code ({ cls := "java/util/ArrayDeque", name := "clear", desc := "()V" } : Jvm.MethodName) prog_42_method_53_code (1 : Nat) (Option.none : Option Jvm.ClassFile.FieldType)) ∈ lw_all := lw_g (lw_at lw_m11 75 rfl) rfl
theorem q2570 : (Jvm.Cond.methodLink "java/util/ArrayDeque" (181 : Nat) ({ cls := "java/util/ArrayDeque", name := "circularClear", desc := "([Ljava/lang/Object;II)V" } : Jvm.MethodName)) ∈ lw_all := lw_g (lw_at lw_m11 76 rfl) rfl
theorem q2571 : (Jvm.Cond.static ({ cls := "java/util/ArrayDeque", name := "circularClear", desc := "([Ljava/lang/Object;II)V" } : Jvm.MethodName)) ∈ lw_all := lw_g (lw_at lw_m11 77 rfl) rfl
theorem q2572 : (Jvm.Cond.code ({ cls := "java/util/ArrayDeque", name := "circularClear", desc := "([Ljava/lang/Object;II)V" } : Jvm.MethodName) prog_42_method_54_code (4 : Nat) (Option.none : Option Jvm.ClassFile.FieldType)) ∈ lw_all := lw_g (lw_at lw_m11 78 rfl) rfl
theorem q3087 : (Jvm.Cond.selects "java/util/ArrayDeque" ({ cls := "java/util/AbstractCollection", name := "size", desc := "()I" } : Jvm.MethodName) ({ cls := "java/util/ArrayDeque", name := "size", desc := "()I" } : Jvm.MethodName)) ∈ lw_all := lw_g (lw_at lw_m13 113 rfl) rfl
theorem q3106 : (Jvm.Cond.castable "java/util/ArrayDeque" "java/lang/Object") ∈ lw_tbl := lw_at lw_m13 132 rfl
theorem in_J4 : ∀ w ∈ wsJ40, w ∈ lw_all := lw_in wsJ40 [208, 210, 212] (by decide +kernel) (by decide +kernel)

/-! java/util/ImmutableCollections$ListItr -/
set_option maxRecDepth 100000
def RJ40 : String := "java/util/ImmutableCollections$ListItr"
def TJ40 : u_T := fun k => match k with
  | 0 => ("java/util/ImmutableCollections$ListItr", "list", "Ljava/util/List;", true)
  | 1 => ("java/util/ImmutableCollections$ListItr", "size", "I", true)
  | 2 => ("java/util/ImmutableCollections$ListItr", "isListIterator", "Z", true)
  | _ => ("java/util/ImmutableCollections$ListItr", "cursor", "I", false)
def tyJ40 : Nat → FieldType := fun k => match k with
  | 0 => .object "java/util/List"
  | 1 => .int
  | 2 => .boolean
  | _ => .int
abbrev wsJ400 : List Cond := u_ws RJ40 TJ40 4
theorem nmJ40 : ∀ a, a < 4 → ∀ b, b < 4 → a ≠ b → (TJ40 a).2.1 ≠ (TJ40 b).2.1 := by decide +kernel
theorem tyJ40_ok : ∀ k, k < 4 → parseFieldDescriptor (TJ40 k).2.2.1 = some (tyJ40 k) := by decide +kernel
abbrev cJ40_hasNext : ByteArray := prog_55_method_3_code
def yJ40_hasNext : MethodName := ⟨RJ40, "hasNext", "()Z"⟩
def dkwJ40_hasNext_0 : List UInt8 := [42, 180, 0, 17, 42, 180, 0, 13, 159, 0, 7, 4, 167, 0, 4, 3, 172]
abbrev dktJ40_hasNext_0 : List UInt8 := dkwJ40_hasNext_0 ++ []
theorem dksJ40_hasNext_0 : cJ40_hasNext.data.toList.drop 0 = dktJ40_hasNext_0 := by decide +kernel
theorem dJ40_hasNext_0 : decode cJ40_hasNext 0 = .ok (.aload_n 0, 1) := dk_42 (dk_at dksJ40_hasNext_0 0 rfl rfl)
theorem dJ40_hasNext_1 : decode cJ40_hasNext 1 = .ok (.getfield 17, 3) := dk_180 0 17 (dk_at dksJ40_hasNext_0 1 rfl rfl)
theorem dJ40_hasNext_4 : decode cJ40_hasNext 4 = .ok (.aload_n 0, 1) := dk_42 (dk_at dksJ40_hasNext_0 4 rfl rfl)
theorem dJ40_hasNext_5 : decode cJ40_hasNext 5 = .ok (.getfield 13, 3) := dk_180 0 13 (dk_at dksJ40_hasNext_0 5 rfl rfl)
theorem dJ40_hasNext_8 : decode cJ40_hasNext 8 = .ok (.if_icmp .eq 7, 3) := dk_159 0 7 (dk_at dksJ40_hasNext_0 8 rfl rfl)
theorem dJ40_hasNext_11 : decode cJ40_hasNext 11 = .ok (.iconst 1, 1) := dk_4 (dk_at dksJ40_hasNext_0 11 rfl rfl)
theorem dJ40_hasNext_12 : decode cJ40_hasNext 12 = .ok (.goto 4, 3) := dk_167 0 4 (dk_at dksJ40_hasNext_0 12 rfl rfl)
theorem dJ40_hasNext_15 : decode cJ40_hasNext 15 = .ok (.iconst 0, 1) := dk_3 (dk_at dksJ40_hasNext_0 15 rfl rfl)
theorem dJ40_hasNext_16 : decode cJ40_hasNext 16 = .ok (.ireturn, 1) := dk_172 (dk_at dksJ40_hasNext_0 16 rfl rfl)
abbrev cJ40_next : ByteArray := prog_55_method_4_code
def yJ40_next : MethodName := ⟨RJ40, "next", "()Ljava/lang/Object;"⟩
def dkwJ40_next_1 : List UInt8 := [176, 76, 187, 0, 32, 89, 183, 0, 34, 191]
abbrev dktJ40_next_1 : List UInt8 := dkwJ40_next_1 ++ []
def dkwJ40_next_0 : List UInt8 := [42, 180, 0, 17, 60, 42, 180, 0, 7, 27, 185, 0, 24, 2, 0, 77, 42, 27, 4, 96, 181, 0, 17, 44]
abbrev dktJ40_next_0 : List UInt8 := dkwJ40_next_0 ++ dktJ40_next_1
theorem dksJ40_next_0 : cJ40_next.data.toList.drop 0 = dktJ40_next_0 := by decide +kernel
theorem dksJ40_next_1 : cJ40_next.data.toList.drop 24 = dktJ40_next_1 := dk_seg dksJ40_next_0 24 rfl rfl
theorem dJ40_next_0 : decode cJ40_next 0 = .ok (.aload_n 0, 1) := dk_42 (dk_at dksJ40_next_0 0 rfl rfl)
theorem dJ40_next_1 : decode cJ40_next 1 = .ok (.getfield 17, 3) := dk_180 0 17 (dk_at dksJ40_next_0 1 rfl rfl)
theorem dJ40_next_4 : decode cJ40_next 4 = .ok (.istore_n 1, 1) := dk_60 (dk_at dksJ40_next_0 4 rfl rfl)
theorem dJ40_next_5 : decode cJ40_next 5 = .ok (.aload_n 0, 1) := dk_42 (dk_at dksJ40_next_0 5 rfl rfl)
theorem dJ40_next_6 : decode cJ40_next 6 = .ok (.getfield 7, 3) := dk_180 0 7 (dk_at dksJ40_next_0 6 rfl rfl)
theorem dJ40_next_9 : decode cJ40_next 9 = .ok (.iload_n 1, 1) := dk_27 (dk_at dksJ40_next_0 9 rfl rfl)
theorem dJ40_next_10 : decode cJ40_next 10 = .ok (.invokeinterface 24 2, 5) := by decide +kernel
theorem dJ40_next_15 : decode cJ40_next 15 = .ok (.astore_n 2, 1) := dk_77 (dk_at dksJ40_next_0 15 rfl rfl)
theorem dJ40_next_16 : decode cJ40_next 16 = .ok (.aload_n 0, 1) := dk_42 (dk_at dksJ40_next_0 16 rfl rfl)
theorem dJ40_next_17 : decode cJ40_next 17 = .ok (.iload_n 1, 1) := dk_27 (dk_at dksJ40_next_0 17 rfl rfl)
theorem dJ40_next_18 : decode cJ40_next 18 = .ok (.iconst 1, 1) := dk_4 (dk_at dksJ40_next_0 18 rfl rfl)
theorem dJ40_next_19 : decode cJ40_next 19 = .ok (.iadd, 1) := dk_96 (dk_at dksJ40_next_0 19 rfl rfl)
theorem dJ40_next_20 : decode cJ40_next 20 = .ok (.putfield 17, 3) := dk_181 0 17 (dk_at dksJ40_next_0 20 rfl rfl)
theorem dJ40_next_23 : decode cJ40_next 23 = .ok (.aload_n 2, 1) := dk_44 (dk_at dksJ40_next_0 23 rfl rfl)
theorem dJ40_next_24 : decode cJ40_next 24 = .ok (.areturn, 1) := dk_176 (dk_at dksJ40_next_1 0 rfl rfl)
theorem dJ40_next_25 : decode cJ40_next 25 = .ok (.astore_n 1, 1) := dk_76 (dk_at dksJ40_next_1 1 rfl rfl)
theorem dJ40_next_26 : decode cJ40_next 26 = .ok (.new 32, 3) := dk_187 0 32 (dk_at dksJ40_next_1 2 rfl rfl)
theorem dJ40_next_29 : decode cJ40_next 29 = .ok (.dup, 1) := dk_89 (dk_at dksJ40_next_1 5 rfl rfl)
theorem dJ40_next_30 : decode cJ40_next 30 = .ok (.invokespecial 34, 3) := dk_183 0 34 (dk_at dksJ40_next_1 6 rfl rfl)
theorem dJ40_next_33 : decode cJ40_next 33 = .ok (.athrow, 1) := dk_191 (dk_at dksJ40_next_1 9 rfl rfl)
abbrev cJ40_remove : ByteArray := prog_55_method_5_code
def yJ40_remove : MethodName := ⟨RJ40, "remove", "()V"⟩
theorem dJ40_remove_0 : decode cJ40_remove 0 = .ok (.invokestatic 35, 3) := by decide +kernel
theorem dJ40_remove_3 : decode cJ40_remove 3 = .ok (.athrow, 1) := by decide +kernel
abbrev cJ40_init : ByteArray := prog_55_method_1_code
def yJ40_init : MethodName := ⟨RJ40, "<init>", "(Ljava/util/List;I)V"⟩
def dkwJ40_init_1 : List UInt8 := [177]
abbrev dktJ40_init_1 : List UInt8 := dkwJ40_init_1 ++ []
def dkwJ40_init_0 : List UInt8 := [42, 183, 0, 1, 42, 43, 181, 0, 7, 42, 28, 181, 0, 13, 42, 3, 181, 0, 17, 42, 3, 181, 0, 20]
abbrev dktJ40_init_0 : List UInt8 := dkwJ40_init_0 ++ dktJ40_init_1
theorem dksJ40_init_0 : cJ40_init.data.toList.drop 0 = dktJ40_init_0 := by decide +kernel
theorem dksJ40_init_1 : cJ40_init.data.toList.drop 24 = dktJ40_init_1 := dk_seg dksJ40_init_0 24 rfl rfl
theorem dJ40_init_0 : decode cJ40_init 0 = .ok (.aload_n 0, 1) := dk_42 (dk_at dksJ40_init_0 0 rfl rfl)
theorem dJ40_init_1 : decode cJ40_init 1 = .ok (.invokespecial 1, 3) := dk_183 0 1 (dk_at dksJ40_init_0 1 rfl rfl)
theorem dJ40_init_4 : decode cJ40_init 4 = .ok (.aload_n 0, 1) := dk_42 (dk_at dksJ40_init_0 4 rfl rfl)
theorem dJ40_init_5 : decode cJ40_init 5 = .ok (.aload_n 1, 1) := dk_43 (dk_at dksJ40_init_0 5 rfl rfl)
theorem dJ40_init_6 : decode cJ40_init 6 = .ok (.putfield 7, 3) := dk_181 0 7 (dk_at dksJ40_init_0 6 rfl rfl)
theorem dJ40_init_9 : decode cJ40_init 9 = .ok (.aload_n 0, 1) := dk_42 (dk_at dksJ40_init_0 9 rfl rfl)
theorem dJ40_init_10 : decode cJ40_init 10 = .ok (.iload_n 2, 1) := dk_28 (dk_at dksJ40_init_0 10 rfl rfl)
theorem dJ40_init_11 : decode cJ40_init 11 = .ok (.putfield 13, 3) := dk_181 0 13 (dk_at dksJ40_init_0 11 rfl rfl)
theorem dJ40_init_14 : decode cJ40_init 14 = .ok (.aload_n 0, 1) := dk_42 (dk_at dksJ40_init_0 14 rfl rfl)
theorem dJ40_init_15 : decode cJ40_init 15 = .ok (.iconst 0, 1) := dk_3 (dk_at dksJ40_init_0 15 rfl rfl)
theorem dJ40_init_16 : decode cJ40_init 16 = .ok (.putfield 17, 3) := dk_181 0 17 (dk_at dksJ40_init_0 16 rfl rfl)
theorem dJ40_init_19 : decode cJ40_init 19 = .ok (.aload_n 0, 1) := dk_42 (dk_at dksJ40_init_0 19 rfl rfl)
theorem dJ40_init_20 : decode cJ40_init 20 = .ok (.iconst 0, 1) := dk_3 (dk_at dksJ40_init_0 20 rfl rfl)
theorem dJ40_init_21 : decode cJ40_init 21 = .ok (.putfield 20, 3) := dk_181 0 20 (dk_at dksJ40_init_0 21 rfl rfl)
theorem dJ40_init_24 : decode cJ40_init 24 = .ok (.return_, 1) := dk_177 (dk_at dksJ40_init_1 0 rfl rfl)
theorem q144 : (Jvm.Cond.initialized "java/util/ImmutableCollections$ListItr") ∈ lw_all := lw_g (lw_at lw_m1 50 rfl) rfl
theorem q779 : (Jvm.Cond.castable "java/util/ImmutableCollections$ListItr" "java/util/Iterator") ∈ lw_tbl := lw_at lw_m3 205 rfl
theorem q780 : (Jvm.Cond.selects "java/util/ImmutableCollections$ListItr" ({ cls := "java/util/Iterator", name := "hasNext", desc := "()Z" } : Jvm.MethodName) ({ cls := "java/util/ImmutableCollections$ListItr", name := "hasNext", desc := "()Z" } : Jvm.MethodName)) ∈ lw_all := lw_g (lw_at lw_m3 206 rfl) rfl
theorem q781 : (Jvm.Cond.unhidden "java/util/ImmutableCollections$ListItr" "hasNext" "()Z") ∈ lw_tbl := lw_at lw_m3 207 rfl
theorem q782 : (Jvm.Cond.instanceMethod ({ cls := "java/util/ImmutableCollections$ListItr", name := "hasNext", desc := "()Z" } : Jvm.MethodName)) ∈ lw_all := lw_g (lw_at lw_m3 208 rfl) rfl
theorem q783 : (Jvm.Cond.publicMethod ({ cls := "java/util/ImmutableCollections$ListItr", name := "hasNext", desc := "()Z" } : Jvm.MethodName)) ∈ lw_tbl := lw_at lw_m3 209 rfl
theorem q784 : (Jvm.Cond.code ({ cls := "java/util/ImmutableCollections$ListItr", name := "hasNext", desc := "()Z" } : Jvm.MethodName) prog_55_method_3_code (1 : Nat) (Option.some Jvm.ClassFile.FieldType.boolean)) ∈ lw_all := lw_g (lw_at lw_m3 210 rfl) rfl
theorem q891 : (Jvm.Cond.selects "java/util/ImmutableCollections$ListItr" ({ cls := "java/lang/Object", name := "getClass", desc := "()Ljava/lang/Class;" } : Jvm.MethodName) ({ cls := "java/lang/Object", name := "getClass", desc := "()Ljava/lang/Class;" } : Jvm.MethodName)) ∈ lw_all := lw_g (lw_at lw_m4 77 rfl) rfl
theorem q964 : (Jvm.Cond.selects "java/util/ImmutableCollections$ListItr" ({ cls := "java/util/Iterator", name := "next", desc := "()Ljava/lang/Object;" } : Jvm.MethodName) ({ cls := "java/util/ImmutableCollections$ListItr", name := "next", desc := "()Ljava/lang/Object;" } : Jvm.MethodName)) ∈ lw_all := lw_g (lw_at lw_m4 150 rfl) rfl
theorem q965 : (Jvm.Cond.unhidden "java/util/ImmutableCollections$ListItr" "next" "()Ljava/lang/Object;") ∈ lw_tbl := lw_at lw_m4 151 rfl
theorem q966 : (Jvm.Cond.instanceMethod ({ cls := "java/util/ImmutableCollections$ListItr", name := "next", desc := "()Ljava/lang/Object;" } : Jvm.MethodName)) ∈ lw_all := lw_g (lw_at lw_m4 152 rfl) rfl
theorem q967 : (Jvm.Cond.publicMethod ({ cls := "java/util/ImmutableCollections$ListItr", name := "next", desc := "()Ljava/lang/Object;" } : Jvm.MethodName)) ∈ lw_tbl := lw_at lw_m4 153 rfl
theorem q968 : (Jvm.Cond.codeWith ({ cls := "java/util/ImmutableCollections$ListItr", name := "next", desc := "()Ljava/lang/Object;" } : Jvm.MethodName) prog_55_method_4_code (3 : Nat) (Option.some (Jvm.ClassFile.FieldType.object "java/lang/Object")) [((0 : Nat), (24 : Nat), (25 : Nat), (30 : Nat))]) ∈ lw_all := lw_g (lw_at lw_m4 154 rfl) rfl
theorem q969 : (Jvm.Cond.interfaceEntry "java/util/ImmutableCollections$ListItr" (24 : Nat)) ∈ lw_tbl := lw_at lw_m4 155 rfl
theorem q970 : (Jvm.Cond.methodLink "java/util/ImmutableCollections$ListItr" (24 : Nat) ({ cls := "java/util/List", name := "get", desc := "(I)Ljava/lang/Object;" } : Jvm.MethodName)) ∈ lw_all := lw_g (lw_at lw_m4 156 rfl) rfl
theorem q1018 : (Jvm.Cond.classLink "java/util/ImmutableCollections$ListItr" (32 : Nat) "java/util/NoSuchElementException") ∈ lw_all := lw_g (lw_at lw_m4 204 rfl) rfl
theorem q1019 : (Jvm.Cond.methodLink "java/util/ImmutableCollections$ListItr" (34 : Nat) ({ cls := "java/util/NoSuchElementException", name := "<init>", desc := "()V" } : Jvm.MethodName)) ∈ lw_all := lw_g (lw_at lw_m4 205 rfl) rfl
theorem q1322 : (Jvm.Cond.selects "java/util/ImmutableCollections$ListItr" ({ cls := "java/util/Iterator", name := "remove", desc := "()V" } : Jvm.MethodName) ({ cls := "java/util/ImmutableCollections$ListItr", name := "remove", desc := "()V" } : Jvm.MethodName)) ∈ lw_all := lw_g (lw_at lw_m6 28 rfl) rfl
theorem q1323 : (Jvm.Cond.unhidden "java/util/ImmutableCollections$ListItr" "remove" "()V") ∈ lw_tbl := lw_at lw_m6 29 rfl
theorem q1324 : (Jvm.Cond.instanceMethod ({ cls := "java/util/ImmutableCollections$ListItr", name := "remove", desc := "()V" } : Jvm.MethodName)) ∈ lw_all := lw_g (lw_at lw_m6 30 rfl) rfl
theorem q1325 : (Jvm.Cond.publicMethod ({ cls := "java/util/ImmutableCollections$ListItr", name := "remove", desc := "()V" } : Jvm.MethodName)) ∈ lw_tbl := lw_at lw_m6 31 rfl
theorem q1326 : (Jvm.Cond.code ({ cls := "java/util/ImmutableCollections$ListItr", name := "remove", desc := "()V" } : Jvm.MethodName) prog_55_method_5_code (1 : Nat) (Option.none : Option Jvm.ClassFile.FieldType)) ∈ lw_all := lw_g (lw_at lw_m6 32 rfl) rfl
theorem q2272 : (Jvm.Cond.instantiable "java/util/ImmutableCollections$ListItr" (4 : Nat)) ∈ lw_all := lw_g (lw_at lw_m10 18 rfl) rfl
theorem q2274 : (Jvm.Cond.instanceMethod ({ cls := "java/util/ImmutableCollections$ListItr", name := "<init>", desc := "(Ljava/util/List;I)V" } : Jvm.MethodName)) ∈ lw_all := lw_g (lw_at lw_m10 20 rfl) rfl
theorem q2275 : (Jvm.Cond.code ({ cls := "java/util/ImmutableCollections$ListItr", name := "<init>", desc := "(Ljava/util/List;I)V" } : Jvm.MethodName) prog_55_method_1_code (3 : Nat) (Option.none : Option Jvm.ClassFile.FieldType)) ∈ lw_all := lw_g (lw_at lw_m10 21 rfl) rfl
theorem q2276 : (Jvm.Cond.methodLink "java/util/ImmutableCollections$ListItr" (1 : Nat) ({ cls := "java/lang/Object", name := "<init>", desc := "()V" } : Jvm.MethodName)) ∈ lw_all := lw_g (lw_at lw_m10 22 rfl) rfl
theorem q2277 : (Jvm.Cond.fieldLink "java/util/ImmutableCollections$ListItr" (7 : Nat) "java/util/ImmutableCollections$ListItr" "list" "Ljava/util/List;") ∈ lw_all := lw_g (lw_at lw_m10 23 rfl) rfl
theorem q2278 : (Jvm.Cond.fieldLink "java/util/ImmutableCollections$ListItr" (13 : Nat) "java/util/ImmutableCollections$ListItr" "size" "I") ∈ lw_all := lw_g (lw_at lw_m10 24 rfl) rfl
theorem q2279 : (Jvm.Cond.fieldLink "java/util/ImmutableCollections$ListItr" (20 : Nat) "java/util/ImmutableCollections$ListItr" "isListIterator" "Z") ∈ lw_all := lw_g (lw_at lw_m10 25 rfl) rfl
theorem q2280 : (Jvm.Cond.fieldLink "java/util/ImmutableCollections$ListItr" (17 : Nat) "java/util/ImmutableCollections$ListItr" "cursor" "I") ∈ lw_all := lw_g (lw_at lw_m10 26 rfl) rfl
theorem q2281 : (Jvm.Cond.laysFinal "java/util/ImmutableCollections$ListItr" "java/util/ImmutableCollections$ListItr" "list" "Ljava/util/List;") ∈ lw_all := lw_g (lw_at lw_m10 27 rfl) rfl
theorem q2282 : (Jvm.Cond.soleField "java/util/ImmutableCollections$ListItr" "list") ∈ lw_all := lw_g (lw_at lw_m10 28 rfl) rfl
theorem q2283 : (Jvm.Cond.laysFinal "java/util/ImmutableCollections$ListItr" "java/util/ImmutableCollections$ListItr" "size" "I") ∈ lw_all := lw_g (lw_at lw_m10 29 rfl) rfl
theorem q2284 : (Jvm.Cond.soleField "java/util/ImmutableCollections$ListItr" "size") ∈ lw_all := lw_g (lw_at lw_m10 30 rfl) rfl
theorem q2285 : (Jvm.Cond.laysFinal "java/util/ImmutableCollections$ListItr" "java/util/ImmutableCollections$ListItr" "isListIterator" "Z") ∈ lw_all := lw_g (lw_at lw_m10 31 rfl) rfl
theorem q2286 : (Jvm.Cond.soleField "java/util/ImmutableCollections$ListItr" "isListIterator") ∈ lw_all := lw_g (lw_at lw_m10 32 rfl) rfl
theorem q2287 : (Jvm.Cond.lays "java/util/ImmutableCollections$ListItr" "java/util/ImmutableCollections$ListItr" "cursor" "I") ∈ lw_all := lw_g (lw_at lw_m10 33 rfl) rfl
theorem q2288 : (Jvm.Cond.soleField "java/util/ImmutableCollections$ListItr" "cursor") ∈ lw_all := lw_g (lw_at lw_m10 34 rfl) rfl
theorem q2289 : (Jvm.Cond.superclass "java/util/ImmutableCollections$ListItr" "java/lang/Object") ∈ lw_all := lw_g (lw_at lw_m10 35 rfl) rfl
theorem q3129 : (Jvm.Cond.castable "java/util/ImmutableCollections$ListItr" "java/lang/Object") ∈ lw_tbl := lw_at lw_m13 155 rfl
theorem in_J40 : ∀ w ∈ wsJ400, w ∈ lw_all := lw_in wsJ400 [2281, 2283, 2285, 2287] (by decide +kernel) (by decide +kernel)

/-! java/lang/Object -/
set_option maxRecDepth 100000
def RJ41 : String := "java/lang/Object"
abbrev cJ41_init : ByteArray := object_method_1_code
def yJ41_init : MethodName := ⟨RJ41, "<init>", "()V"⟩
theorem dJ41_init_0 : decode cJ41_init 0 = .ok (.return_, 1) := by decide +kernel
abbrev cJ41_equals : ByteArray := object_method_4_code
def yJ41_equals : MethodName := ⟨RJ41, "equals", "(Ljava/lang/Object;)Z"⟩
def dkwJ41_equals_0 : List UInt8 := [42, 43, 166, 0, 7, 4, 167, 0, 4, 3, 172]
abbrev dktJ41_equals_0 : List UInt8 := dkwJ41_equals_0 ++ []
theorem dksJ41_equals_0 : cJ41_equals.data.toList.drop 0 = dktJ41_equals_0 := by decide +kernel
theorem dJ41_equals_0 : decode cJ41_equals 0 = .ok (.aload_n 0, 1) := dk_42 (dk_at dksJ41_equals_0 0 rfl rfl)
theorem dJ41_equals_1 : decode cJ41_equals 1 = .ok (.aload_n 1, 1) := dk_43 (dk_at dksJ41_equals_0 1 rfl rfl)
theorem dJ41_equals_2 : decode cJ41_equals 2 = .ok (.if_acmp .ne 7, 3) := dk_166 0 7 (dk_at dksJ41_equals_0 2 rfl rfl)
theorem dJ41_equals_5 : decode cJ41_equals 5 = .ok (.iconst 1, 1) := dk_4 (dk_at dksJ41_equals_0 5 rfl rfl)
theorem dJ41_equals_6 : decode cJ41_equals 6 = .ok (.goto 4, 3) := dk_167 0 4 (dk_at dksJ41_equals_0 6 rfl rfl)
theorem dJ41_equals_9 : decode cJ41_equals 9 = .ok (.iconst 0, 1) := dk_3 (dk_at dksJ41_equals_0 9 rfl rfl)
theorem dJ41_equals_10 : decode cJ41_equals 10 = .ok (.ireturn, 1) := dk_172 (dk_at dksJ41_equals_0 10 rfl rfl)
theorem q151 : (Jvm.Cond.instanceMethod ({ cls := "java/lang/Object", name := "<init>", desc := "()V" } : Jvm.MethodName)) ∈ lw_all := lw_g (lw_at lw_m1 57 rfl) rfl
theorem q152 : (Jvm.Cond.code ({ cls := "java/lang/Object", name := "<init>", desc := "()V" } : Jvm.MethodName) object_method_1_code (1 : Nat) (Option.none : Option Jvm.ClassFile.FieldType)) ∈ lw_all := lw_g (lw_at lw_m1 58 rfl) rfl
theorem q448 : (Jvm.Cond.native ({ cls := "java/lang/Object", name := "clone", desc := "()Ljava/lang/Object;" } : Jvm.MethodName)) ∈ lw_all := lw_g (lw_at lw_m2 114 rfl) rfl
theorem q449 : (Jvm.Cond.instanceMethod ({ cls := "java/lang/Object", name := "clone", desc := "()Ljava/lang/Object;" } : Jvm.MethodName)) ∈ lw_all := lw_g (lw_at lw_m2 115 rfl) rfl
theorem q866 : (Jvm.Cond.instanceMethod ({ cls := "java/lang/Object", name := "getClass", desc := "()Ljava/lang/Class;" } : Jvm.MethodName)) ∈ lw_all := lw_g (lw_at lw_m4 52 rfl) rfl
theorem q867 : (Jvm.Cond.sameMethod "java/lang/Object" "java/lang/Object" "getClass" "()Ljava/lang/Class;") ∈ lw_all := lw_g (lw_at lw_m4 53 rfl) rfl
theorem q897 : (Jvm.Cond.native ({ cls := "java/lang/Object", name := "getClass", desc := "()Ljava/lang/Class;" } : Jvm.MethodName)) ∈ lw_all := lw_g (lw_at lw_m4 83 rfl) rfl
theorem q2331 : (Jvm.Cond.declares ({ cls := "java/lang/Object", name := "equals", desc := "(Ljava/lang/Object;)Z" } : Jvm.MethodName)) ∈ lw_tbl := lw_at lw_m10 77 rfl
theorem q2333 : (Jvm.Cond.instanceMethod ({ cls := "java/lang/Object", name := "equals", desc := "(Ljava/lang/Object;)Z" } : Jvm.MethodName)) ∈ lw_all := lw_g (lw_at lw_m10 79 rfl) rfl
theorem q2334 : (Jvm.Cond.sameMethod "java/lang/Object" "java/lang/Object" "equals" "(Ljava/lang/Object;)Z") ∈ lw_all := lw_g (lw_at lw_m10 80 rfl) rfl
theorem q2359 : (Jvm.Cond.code ({ cls := "java/lang/Object", name := "equals", desc := "(Ljava/lang/Object;)Z" } : Jvm.MethodName) object_method_4_code (2 : Nat) (Option.some Jvm.ClassFile.FieldType.boolean)) ∈ lw_all := lw_g (lw_at lw_m10 105 rfl) rfl
theorem q3099 : (Jvm.Cond.initialized "java/lang/Object") ∈ lw_all := lw_g (lw_at lw_m13 125 rfl) rfl
theorem q3102 : (Jvm.Cond.selects "java/lang/Object" ({ cls := "java/lang/Object", name := "equals", desc := "(Ljava/lang/Object;)Z" } : Jvm.MethodName) ({ cls := "java/lang/Object", name := "equals", desc := "(Ljava/lang/Object;)Z" } : Jvm.MethodName)) ∈ lw_all := lw_g (lw_at lw_m13 128 rfl) rfl
theorem q3135 : (Jvm.Cond.declares ({ cls := "java/lang/Object", name := "getClass", desc := "()Ljava/lang/Class;" } : Jvm.MethodName)) ∈ lw_tbl := lw_at lw_m13 161 rfl
theorem q3149 : (Jvm.Cond.instantiable "java/lang/Object" (0 : Nat)) ∈ lw_all := lw_g (lw_at lw_m13 175 rfl) rfl

/-! java/lang/System$2 -/
set_option maxRecDepth 100000
def RJ42 : String := "java/lang/System$2"
abbrev cJ42_getUTF16Char : ByteArray := prog_33_method_45_code
def yJ42_getUTF16Char : MethodName := ⟨RJ42, "getUTF16Char", "([BI)C"⟩
def dkwJ42_getUTF16Char_0 : List UInt8 := [43, 28, 184, 0, 185, 172]
abbrev dktJ42_getUTF16Char_0 : List UInt8 := dkwJ42_getUTF16Char_0 ++ []
theorem dksJ42_getUTF16Char_0 : cJ42_getUTF16Char.data.toList.drop 0 = dktJ42_getUTF16Char_0 := by decide +kernel
theorem dJ42_getUTF16Char_0 : decode cJ42_getUTF16Char 0 = .ok (.aload_n 1, 1) := dk_43 (dk_at dksJ42_getUTF16Char_0 0 rfl rfl)
theorem dJ42_getUTF16Char_1 : decode cJ42_getUTF16Char 1 = .ok (.iload_n 2, 1) := dk_28 (dk_at dksJ42_getUTF16Char_0 1 rfl rfl)
theorem dJ42_getUTF16Char_2 : decode cJ42_getUTF16Char 2 = .ok (.invokestatic 185, 3) := dk_184 0 185 (dk_at dksJ42_getUTF16Char_0 2 rfl rfl)
theorem dJ42_getUTF16Char_5 : decode cJ42_getUTF16Char 5 = .ok (.ireturn, 1) := dk_172 (dk_at dksJ42_getUTF16Char_0 5 rfl rfl)
theorem q882 : (Jvm.Cond.selects "java/lang/System$2" ({ cls := "java/lang/Object", name := "getClass", desc := "()Ljava/lang/Class;" } : Jvm.MethodName) ({ cls := "java/lang/Object", name := "getClass", desc := "()Ljava/lang/Class;" } : Jvm.MethodName)) ∈ lw_all := lw_g (lw_at lw_m4 68 rfl) rfl
theorem q2358 : (Jvm.Cond.selects "java/lang/System$2" ({ cls := "java/lang/Object", name := "equals", desc := "(Ljava/lang/Object;)Z" } : Jvm.MethodName) ({ cls := "java/lang/Object", name := "equals", desc := "(Ljava/lang/Object;)Z" } : Jvm.MethodName)) ∈ lw_all := lw_g (lw_at lw_m10 104 rfl) rfl
theorem q2452 : (Jvm.Cond.castable "java/lang/System$2" "jdk/internal/access/JavaLangAccess") ∈ lw_tbl := lw_at lw_m10 198 rfl
theorem q2453 : (Jvm.Cond.selects "java/lang/System$2" ({ cls := "jdk/internal/access/JavaLangAccess", name := "getUTF16Char", desc := "([BI)C" } : Jvm.MethodName) ({ cls := "java/lang/System$2", name := "getUTF16Char", desc := "([BI)C" } : Jvm.MethodName)) ∈ lw_all := lw_g (lw_at lw_m10 199 rfl) rfl
theorem q2454 : (Jvm.Cond.unhidden "java/lang/System$2" "getUTF16Char" "([BI)C") ∈ lw_tbl := lw_at lw_m10 200 rfl
theorem q2455 : (Jvm.Cond.instanceMethod ({ cls := "java/lang/System$2", name := "getUTF16Char", desc := "([BI)C" } : Jvm.MethodName)) ∈ lw_all := lw_g (lw_at lw_m10 201 rfl) rfl
theorem q2456 : (Jvm.Cond.publicMethod ({ cls := "java/lang/System$2", name := "getUTF16Char", desc := "([BI)C" } : Jvm.MethodName)) ∈ lw_tbl := lw_at lw_m10 202 rfl
theorem q2457 : (Jvm.Cond.code ({ cls := "java/lang/System$2", name := "getUTF16Char", desc := "([BI)C" } : Jvm.MethodName) prog_33_method_45_code (3 : Nat) (Option.some Jvm.ClassFile.FieldType.char)) ∈ lw_all := lw_g (lw_at lw_m10 203 rfl) rfl
theorem q2458 : (Jvm.Cond.methodLink "java/lang/System$2" (185 : Nat) ({ cls := "java/lang/StringUTF16", name := "getChar", desc := "([BI)C" } : Jvm.MethodName)) ∈ lw_all := lw_g (lw_at lw_m10 204 rfl) rfl
theorem q3130 : (Jvm.Cond.castable "java/lang/System$2" "java/lang/Object") ∈ lw_tbl := lw_at lw_m13 156 rfl

/-! java/lang/AbstractStringBuilder -/
set_option maxRecDepth 100000
def RJ5 : String := "java/lang/AbstractStringBuilder"
abbrev cJ5_init : ByteArray := prog_11_method_2_code
def yJ5_init : MethodName := ⟨RJ5, "<init>", "(I)V"⟩
def dkwJ5_init_1 : List UInt8 := [167, 0, 16, 42, 27, 184, 0, 26, 181, 0, 15, 42, 4, 181, 0, 22, 177]
abbrev dktJ5_init_1 : List UInt8 := dkwJ5_init_1 ++ []
def dkwJ5_init_0 : List UInt8 := [42, 183, 0, 3, 178, 0, 18, 153, 0, 18, 42, 27, 188, 8, 181, 0, 15, 42, 3, 181, 0, 22]
abbrev dktJ5_init_0 : List UInt8 := dkwJ5_init_0 ++ dktJ5_init_1
theorem dksJ5_init_0 : cJ5_init.data.toList.drop 0 = dktJ5_init_0 := by decide +kernel
theorem dksJ5_init_1 : cJ5_init.data.toList.drop 22 = dktJ5_init_1 := dk_seg dksJ5_init_0 22 rfl rfl
theorem dJ5_init_0 : decode cJ5_init 0 = .ok (.aload_n 0, 1) := dk_42 (dk_at dksJ5_init_0 0 rfl rfl)
theorem dJ5_init_1 : decode cJ5_init 1 = .ok (.invokespecial 3, 3) := dk_183 0 3 (dk_at dksJ5_init_0 1 rfl rfl)
theorem dJ5_init_4 : decode cJ5_init 4 = .ok (.getstatic 18, 3) := dk_178 0 18 (dk_at dksJ5_init_0 4 rfl rfl)
theorem dJ5_init_7 : decode cJ5_init 7 = .ok (.ifCond .eq 18, 3) := dk_153 0 18 (dk_at dksJ5_init_0 7 rfl rfl)
theorem dJ5_init_10 : decode cJ5_init 10 = .ok (.aload_n 0, 1) := dk_42 (dk_at dksJ5_init_0 10 rfl rfl)
theorem dJ5_init_11 : decode cJ5_init 11 = .ok (.iload_n 1, 1) := dk_27 (dk_at dksJ5_init_0 11 rfl rfl)
theorem dJ5_init_12 : decode cJ5_init 12 = .ok (.newarray .byte, 2) := dk_188_8 (dk_at dksJ5_init_0 12 rfl rfl)
theorem dJ5_init_14 : decode cJ5_init 14 = .ok (.putfield 15, 3) := dk_181 0 15 (dk_at dksJ5_init_0 14 rfl rfl)
theorem dJ5_init_17 : decode cJ5_init 17 = .ok (.aload_n 0, 1) := dk_42 (dk_at dksJ5_init_0 17 rfl rfl)
theorem dJ5_init_18 : decode cJ5_init 18 = .ok (.iconst 0, 1) := dk_3 (dk_at dksJ5_init_0 18 rfl rfl)
theorem dJ5_init_19 : decode cJ5_init 19 = .ok (.putfield 22, 3) := dk_181 0 22 (dk_at dksJ5_init_0 19 rfl rfl)
theorem dJ5_init_22 : decode cJ5_init 22 = .ok (.goto 16, 3) := dk_167 0 16 (dk_at dksJ5_init_1 0 rfl rfl)
theorem dJ5_init_25 : decode cJ5_init 25 = .ok (.aload_n 0, 1) := dk_42 (dk_at dksJ5_init_1 3 rfl rfl)
theorem dJ5_init_26 : decode cJ5_init 26 = .ok (.iload_n 1, 1) := dk_27 (dk_at dksJ5_init_1 4 rfl rfl)
theorem dJ5_init_27 : decode cJ5_init 27 = .ok (.invokestatic 26, 3) := dk_184 0 26 (dk_at dksJ5_init_1 5 rfl rfl)
theorem dJ5_init_30 : decode cJ5_init 30 = .ok (.putfield 15, 3) := dk_181 0 15 (dk_at dksJ5_init_1 8 rfl rfl)
theorem dJ5_init_33 : decode cJ5_init 33 = .ok (.aload_n 0, 1) := dk_42 (dk_at dksJ5_init_1 11 rfl rfl)
theorem dJ5_init_34 : decode cJ5_init 34 = .ok (.iconst 1, 1) := dk_4 (dk_at dksJ5_init_1 12 rfl rfl)
theorem dJ5_init_35 : decode cJ5_init 35 = .ok (.putfield 22, 3) := dk_181 0 22 (dk_at dksJ5_init_1 13 rfl rfl)
theorem dJ5_init_38 : decode cJ5_init 38 = .ok (.return_, 1) := dk_177 (dk_at dksJ5_init_1 16 rfl rfl)
abbrev cJ5_append : ByteArray := prog_11_method_22_code
def yJ5_append : MethodName := ⟨RJ5, "append", "(Ljava/lang/String;)Ljava/lang/AbstractStringBuilder;"⟩
def dkwJ5_append_1 : List UInt8 := [42, 42, 180, 0, 79, 43, 182, 0, 208, 42, 89, 180, 0, 79, 28, 96, 181, 0, 79, 42, 176]
abbrev dktJ5_append_1 : List UInt8 := dkwJ5_append_1 ++ []
def dkwJ5_append_0 : List UInt8 := [43, 199, 0, 8, 42, 182, 0, 204, 176, 43, 182, 0, 32, 61, 42, 42, 180, 0, 79, 28, 96, 182, 0, 100]
abbrev dktJ5_append_0 : List UInt8 := dkwJ5_append_0 ++ dktJ5_append_1
theorem dksJ5_append_0 : cJ5_append.data.toList.drop 0 = dktJ5_append_0 := by decide +kernel
theorem dksJ5_append_1 : cJ5_append.data.toList.drop 24 = dktJ5_append_1 := dk_seg dksJ5_append_0 24 rfl rfl
theorem dJ5_append_0 : decode cJ5_append 0 = .ok (.aload_n 1, 1) := dk_43 (dk_at dksJ5_append_0 0 rfl rfl)
theorem dJ5_append_1 : decode cJ5_append 1 = .ok (.ifnonnull 8, 3) := dk_199 0 8 (dk_at dksJ5_append_0 1 rfl rfl)
theorem dJ5_append_4 : decode cJ5_append 4 = .ok (.aload_n 0, 1) := dk_42 (dk_at dksJ5_append_0 4 rfl rfl)
theorem dJ5_append_5 : decode cJ5_append 5 = .ok (.invokevirtual 204, 3) := dk_182 0 204 (dk_at dksJ5_append_0 5 rfl rfl)
theorem dJ5_append_8 : decode cJ5_append 8 = .ok (.areturn, 1) := dk_176 (dk_at dksJ5_append_0 8 rfl rfl)
theorem dJ5_append_9 : decode cJ5_append 9 = .ok (.aload_n 1, 1) := dk_43 (dk_at dksJ5_append_0 9 rfl rfl)
theorem dJ5_append_10 : decode cJ5_append 10 = .ok (.invokevirtual 32, 3) := dk_182 0 32 (dk_at dksJ5_append_0 10 rfl rfl)
theorem dJ5_append_13 : decode cJ5_append 13 = .ok (.istore_n 2, 1) := dk_61 (dk_at dksJ5_append_0 13 rfl rfl)
theorem dJ5_append_14 : decode cJ5_append 14 = .ok (.aload_n 0, 1) := dk_42 (dk_at dksJ5_append_0 14 rfl rfl)
theorem dJ5_append_15 : decode cJ5_append 15 = .ok (.aload_n 0, 1) := dk_42 (dk_at dksJ5_append_0 15 rfl rfl)
theorem dJ5_append_16 : decode cJ5_append 16 = .ok (.getfield 79, 3) := dk_180 0 79 (dk_at dksJ5_append_0 16 rfl rfl)
theorem dJ5_append_19 : decode cJ5_append 19 = .ok (.iload_n 2, 1) := dk_28 (dk_at dksJ5_append_0 19 rfl rfl)
theorem dJ5_append_20 : decode cJ5_append 20 = .ok (.iadd, 1) := dk_96 (dk_at dksJ5_append_0 20 rfl rfl)
theorem dJ5_append_21 : decode cJ5_append 21 = .ok (.invokevirtual 100, 3) := dk_182 0 100 (dk_at dksJ5_append_0 21 rfl rfl)
theorem dJ5_append_24 : decode cJ5_append 24 = .ok (.aload_n 0, 1) := dk_42 (dk_at dksJ5_append_1 0 rfl rfl)
theorem dJ5_append_25 : decode cJ5_append 25 = .ok (.aload_n 0, 1) := dk_42 (dk_at dksJ5_append_1 1 rfl rfl)
theorem dJ5_append_26 : decode cJ5_append 26 = .ok (.getfield 79, 3) := dk_180 0 79 (dk_at dksJ5_append_1 2 rfl rfl)
theorem dJ5_append_29 : decode cJ5_append 29 = .ok (.aload_n 1, 1) := dk_43 (dk_at dksJ5_append_1 5 rfl rfl)
theorem dJ5_append_30 : decode cJ5_append 30 = .ok (.invokevirtual 208, 3) := dk_182 0 208 (dk_at dksJ5_append_1 6 rfl rfl)
theorem dJ5_append_33 : decode cJ5_append 33 = .ok (.aload_n 0, 1) := dk_42 (dk_at dksJ5_append_1 9 rfl rfl)
theorem dJ5_append_34 : decode cJ5_append 34 = .ok (.dup, 1) := dk_89 (dk_at dksJ5_append_1 10 rfl rfl)
theorem dJ5_append_35 : decode cJ5_append 35 = .ok (.getfield 79, 3) := dk_180 0 79 (dk_at dksJ5_append_1 11 rfl rfl)
theorem dJ5_append_38 : decode cJ5_append 38 = .ok (.iload_n 2, 1) := dk_28 (dk_at dksJ5_append_1 14 rfl rfl)
theorem dJ5_append_39 : decode cJ5_append 39 = .ok (.iadd, 1) := dk_96 (dk_at dksJ5_append_1 15 rfl rfl)
theorem dJ5_append_40 : decode cJ5_append 40 = .ok (.putfield 79, 3) := dk_181 0 79 (dk_at dksJ5_append_1 16 rfl rfl)
theorem dJ5_append_43 : decode cJ5_append 43 = .ok (.aload_n 0, 1) := dk_42 (dk_at dksJ5_append_1 19 rfl rfl)
theorem dJ5_append_44 : decode cJ5_append 44 = .ok (.areturn, 1) := dk_176 (dk_at dksJ5_append_1 20 rfl rfl)
abbrev cJ5_appendNull : ByteArray := prog_11_method_26_code
def yJ5_appendNull : MethodName := ⟨RJ5, "appendNull", "()Ljava/lang/AbstractStringBuilder;"⟩
def dkwJ5_appendNull_3 : List UInt8 := [184, 0, 226, 60, 42, 27, 181, 0, 79, 42, 176]
abbrev dktJ5_appendNull_3 : List UInt8 := dkwJ5_appendNull_3 ++ []
def dkwJ5_appendNull_2 : List UInt8 := [16, 108, 84, 44, 27, 132, 1, 1, 16, 108, 84, 167, 0, 17, 44, 27, 16, 110, 16, 117, 16, 108, 16, 108]
abbrev dktJ5_appendNull_2 : List UInt8 := dkwJ5_appendNull_2 ++ dktJ5_appendNull_3
def dkwJ5_appendNull_1 : List UInt8 := [153, 0, 38, 44, 27, 132, 1, 1, 16, 110, 84, 44, 27, 132, 1, 1, 16, 117, 84, 44, 27, 132, 1, 1]
abbrev dktJ5_appendNull_1 : List UInt8 := dkwJ5_appendNull_1 ++ dktJ5_appendNull_2
def dkwJ5_appendNull_0 : List UInt8 := [42, 42, 180, 0, 79, 7, 96, 182, 0, 100, 42, 180, 0, 79, 60, 42, 180, 0, 15, 77, 42, 182, 0, 83]
abbrev dktJ5_appendNull_0 : List UInt8 := dkwJ5_appendNull_0 ++ dktJ5_appendNull_1
theorem dksJ5_appendNull_0 : cJ5_appendNull.data.toList.drop 0 = dktJ5_appendNull_0 := by decide +kernel
theorem dksJ5_appendNull_1 : cJ5_appendNull.data.toList.drop 24 = dktJ5_appendNull_1 := dk_seg dksJ5_appendNull_0 24 rfl rfl
theorem dksJ5_appendNull_2 : cJ5_appendNull.data.toList.drop 48 = dktJ5_appendNull_2 := dk_seg dksJ5_appendNull_1 24 rfl rfl
theorem dksJ5_appendNull_3 : cJ5_appendNull.data.toList.drop 72 = dktJ5_appendNull_3 := dk_seg dksJ5_appendNull_2 24 rfl rfl
theorem dJ5_appendNull_0 : decode cJ5_appendNull 0 = .ok (.aload_n 0, 1) := dk_42 (dk_at dksJ5_appendNull_0 0 rfl rfl)
theorem dJ5_appendNull_1 : decode cJ5_appendNull 1 = .ok (.aload_n 0, 1) := dk_42 (dk_at dksJ5_appendNull_0 1 rfl rfl)
theorem dJ5_appendNull_2 : decode cJ5_appendNull 2 = .ok (.getfield 79, 3) := dk_180 0 79 (dk_at dksJ5_appendNull_0 2 rfl rfl)
theorem dJ5_appendNull_5 : decode cJ5_appendNull 5 = .ok (.iconst 4, 1) := dk_7 (dk_at dksJ5_appendNull_0 5 rfl rfl)
theorem dJ5_appendNull_6 : decode cJ5_appendNull 6 = .ok (.iadd, 1) := dk_96 (dk_at dksJ5_appendNull_0 6 rfl rfl)
theorem dJ5_appendNull_7 : decode cJ5_appendNull 7 = .ok (.invokevirtual 100, 3) := dk_182 0 100 (dk_at dksJ5_appendNull_0 7 rfl rfl)
theorem dJ5_appendNull_10 : decode cJ5_appendNull 10 = .ok (.aload_n 0, 1) := dk_42 (dk_at dksJ5_appendNull_0 10 rfl rfl)
theorem dJ5_appendNull_11 : decode cJ5_appendNull 11 = .ok (.getfield 79, 3) := dk_180 0 79 (dk_at dksJ5_appendNull_0 11 rfl rfl)
theorem dJ5_appendNull_14 : decode cJ5_appendNull 14 = .ok (.istore_n 1, 1) := dk_60 (dk_at dksJ5_appendNull_0 14 rfl rfl)
theorem dJ5_appendNull_15 : decode cJ5_appendNull 15 = .ok (.aload_n 0, 1) := dk_42 (dk_at dksJ5_appendNull_0 15 rfl rfl)
theorem dJ5_appendNull_16 : decode cJ5_appendNull 16 = .ok (.getfield 15, 3) := dk_180 0 15 (dk_at dksJ5_appendNull_0 16 rfl rfl)
theorem dJ5_appendNull_19 : decode cJ5_appendNull 19 = .ok (.astore_n 2, 1) := dk_77 (dk_at dksJ5_appendNull_0 19 rfl rfl)
theorem dJ5_appendNull_20 : decode cJ5_appendNull 20 = .ok (.aload_n 0, 1) := dk_42 (dk_at dksJ5_appendNull_0 20 rfl rfl)
theorem dJ5_appendNull_21 : decode cJ5_appendNull 21 = .ok (.invokevirtual 83, 3) := dk_182 0 83 (dk_at dksJ5_appendNull_0 21 rfl rfl)
theorem dJ5_appendNull_24 : decode cJ5_appendNull 24 = .ok (.ifCond .eq 38, 3) := dk_153 0 38 (dk_at dksJ5_appendNull_1 0 rfl rfl)
theorem dJ5_appendNull_27 : decode cJ5_appendNull 27 = .ok (.aload_n 2, 1) := dk_44 (dk_at dksJ5_appendNull_1 3 rfl rfl)
theorem dJ5_appendNull_28 : decode cJ5_appendNull 28 = .ok (.iload_n 1, 1) := dk_27 (dk_at dksJ5_appendNull_1 4 rfl rfl)
theorem dJ5_appendNull_29 : decode cJ5_appendNull 29 = .ok (.iinc 1 1, 3) := dk_132 1 1 (dk_at dksJ5_appendNull_1 5 rfl rfl)
theorem dJ5_appendNull_32 : decode cJ5_appendNull 32 = .ok (.bipush 110, 2) := dk_16 110 (dk_at dksJ5_appendNull_1 8 rfl rfl)
theorem dJ5_appendNull_34 : decode cJ5_appendNull 34 = .ok (.bastore, 1) := dk_84 (dk_at dksJ5_appendNull_1 10 rfl rfl)
theorem dJ5_appendNull_35 : decode cJ5_appendNull 35 = .ok (.aload_n 2, 1) := dk_44 (dk_at dksJ5_appendNull_1 11 rfl rfl)
theorem dJ5_appendNull_36 : decode cJ5_appendNull 36 = .ok (.iload_n 1, 1) := dk_27 (dk_at dksJ5_appendNull_1 12 rfl rfl)
theorem dJ5_appendNull_37 : decode cJ5_appendNull 37 = .ok (.iinc 1 1, 3) := dk_132 1 1 (dk_at dksJ5_appendNull_1 13 rfl rfl)
theorem dJ5_appendNull_40 : decode cJ5_appendNull 40 = .ok (.bipush 117, 2) := dk_16 117 (dk_at dksJ5_appendNull_1 16 rfl rfl)
theorem dJ5_appendNull_42 : decode cJ5_appendNull 42 = .ok (.bastore, 1) := dk_84 (dk_at dksJ5_appendNull_1 18 rfl rfl)
theorem dJ5_appendNull_43 : decode cJ5_appendNull 43 = .ok (.aload_n 2, 1) := dk_44 (dk_at dksJ5_appendNull_1 19 rfl rfl)
theorem dJ5_appendNull_44 : decode cJ5_appendNull 44 = .ok (.iload_n 1, 1) := dk_27 (dk_at dksJ5_appendNull_1 20 rfl rfl)
theorem dJ5_appendNull_45 : decode cJ5_appendNull 45 = .ok (.iinc 1 1, 3) := dk_132 1 1 (dk_at dksJ5_appendNull_1 21 rfl rfl)
theorem dJ5_appendNull_48 : decode cJ5_appendNull 48 = .ok (.bipush 108, 2) := dk_16 108 (dk_at dksJ5_appendNull_2 0 rfl rfl)
theorem dJ5_appendNull_50 : decode cJ5_appendNull 50 = .ok (.bastore, 1) := dk_84 (dk_at dksJ5_appendNull_2 2 rfl rfl)
theorem dJ5_appendNull_51 : decode cJ5_appendNull 51 = .ok (.aload_n 2, 1) := dk_44 (dk_at dksJ5_appendNull_2 3 rfl rfl)
theorem dJ5_appendNull_52 : decode cJ5_appendNull 52 = .ok (.iload_n 1, 1) := dk_27 (dk_at dksJ5_appendNull_2 4 rfl rfl)
theorem dJ5_appendNull_53 : decode cJ5_appendNull 53 = .ok (.iinc 1 1, 3) := dk_132 1 1 (dk_at dksJ5_appendNull_2 5 rfl rfl)
theorem dJ5_appendNull_56 : decode cJ5_appendNull 56 = .ok (.bipush 108, 2) := dk_16 108 (dk_at dksJ5_appendNull_2 8 rfl rfl)
theorem dJ5_appendNull_58 : decode cJ5_appendNull 58 = .ok (.bastore, 1) := dk_84 (dk_at dksJ5_appendNull_2 10 rfl rfl)
theorem dJ5_appendNull_59 : decode cJ5_appendNull 59 = .ok (.goto 17, 3) := dk_167 0 17 (dk_at dksJ5_appendNull_2 11 rfl rfl)
theorem dJ5_appendNull_62 : decode cJ5_appendNull 62 = .ok (.aload_n 2, 1) := dk_44 (dk_at dksJ5_appendNull_2 14 rfl rfl)
theorem dJ5_appendNull_63 : decode cJ5_appendNull 63 = .ok (.iload_n 1, 1) := dk_27 (dk_at dksJ5_appendNull_2 15 rfl rfl)
theorem dJ5_appendNull_64 : decode cJ5_appendNull 64 = .ok (.bipush 110, 2) := dk_16 110 (dk_at dksJ5_appendNull_2 16 rfl rfl)
theorem dJ5_appendNull_66 : decode cJ5_appendNull 66 = .ok (.bipush 117, 2) := dk_16 117 (dk_at dksJ5_appendNull_2 18 rfl rfl)
theorem dJ5_appendNull_68 : decode cJ5_appendNull 68 = .ok (.bipush 108, 2) := dk_16 108 (dk_at dksJ5_appendNull_2 20 rfl rfl)
theorem dJ5_appendNull_70 : decode cJ5_appendNull 70 = .ok (.bipush 108, 2) := dk_16 108 (dk_at dksJ5_appendNull_2 22 rfl rfl)
theorem dJ5_appendNull_72 : decode cJ5_appendNull 72 = .ok (.invokestatic 226, 3) := dk_184 0 226 (dk_at dksJ5_appendNull_3 0 rfl rfl)
theorem dJ5_appendNull_75 : decode cJ5_appendNull 75 = .ok (.istore_n 1, 1) := dk_60 (dk_at dksJ5_appendNull_3 3 rfl rfl)
theorem dJ5_appendNull_76 : decode cJ5_appendNull 76 = .ok (.aload_n 0, 1) := dk_42 (dk_at dksJ5_appendNull_3 4 rfl rfl)
theorem dJ5_appendNull_77 : decode cJ5_appendNull 77 = .ok (.iload_n 1, 1) := dk_27 (dk_at dksJ5_appendNull_3 5 rfl rfl)
theorem dJ5_appendNull_78 : decode cJ5_appendNull 78 = .ok (.putfield 79, 3) := dk_181 0 79 (dk_at dksJ5_appendNull_3 6 rfl rfl)
theorem dJ5_appendNull_81 : decode cJ5_appendNull 81 = .ok (.aload_n 0, 1) := dk_42 (dk_at dksJ5_appendNull_3 9 rfl rfl)
theorem dJ5_appendNull_82 : decode cJ5_appendNull 82 = .ok (.areturn, 1) := dk_176 (dk_at dksJ5_appendNull_3 10 rfl rfl)
abbrev cJ5_ensureCapacityInternal : ByteArray := prog_11_method_9_code
def yJ5_ensureCapacityInternal : MethodName := ⟨RJ5, "ensureCapacityInternal", "(I)V"⟩
def dkwJ5_ensureCapacityInternal_1 : List UInt8 := [182, 0, 104, 42, 180, 0, 22, 120, 184, 0, 108, 181, 0, 15, 177]
abbrev dktJ5_ensureCapacityInternal_1 : List UInt8 := dkwJ5_ensureCapacityInternal_1 ++ []
def dkwJ5_ensureCapacityInternal_0 : List UInt8 := [42, 180, 0, 15, 190, 42, 180, 0, 22, 122, 61, 27, 28, 100, 158, 0, 24, 42, 42, 180, 0, 15, 42, 27]
abbrev dktJ5_ensureCapacityInternal_0 : List UInt8 := dkwJ5_ensureCapacityInternal_0 ++ dktJ5_ensureCapacityInternal_1
theorem dksJ5_ensureCapacityInternal_0 : cJ5_ensureCapacityInternal.data.toList.drop 0 = dktJ5_ensureCapacityInternal_0 := by decide +kernel
theorem dksJ5_ensureCapacityInternal_1 : cJ5_ensureCapacityInternal.data.toList.drop 24 = dktJ5_ensureCapacityInternal_1 := dk_seg dksJ5_ensureCapacityInternal_0 24 rfl rfl
theorem dJ5_ensureCapacityInternal_0 : decode cJ5_ensureCapacityInternal 0 = .ok (.aload_n 0, 1) := dk_42 (dk_at dksJ5_ensureCapacityInternal_0 0 rfl rfl)
theorem dJ5_ensureCapacityInternal_1 : decode cJ5_ensureCapacityInternal 1 = .ok (.getfield 15, 3) := dk_180 0 15 (dk_at dksJ5_ensureCapacityInternal_0 1 rfl rfl)
theorem dJ5_ensureCapacityInternal_4 : decode cJ5_ensureCapacityInternal 4 = .ok (.arraylength, 1) := dk_190 (dk_at dksJ5_ensureCapacityInternal_0 4 rfl rfl)
theorem dJ5_ensureCapacityInternal_5 : decode cJ5_ensureCapacityInternal 5 = .ok (.aload_n 0, 1) := dk_42 (dk_at dksJ5_ensureCapacityInternal_0 5 rfl rfl)
theorem dJ5_ensureCapacityInternal_6 : decode cJ5_ensureCapacityInternal 6 = .ok (.getfield 22, 3) := dk_180 0 22 (dk_at dksJ5_ensureCapacityInternal_0 6 rfl rfl)
theorem dJ5_ensureCapacityInternal_9 : decode cJ5_ensureCapacityInternal 9 = .ok (.ishr, 1) := dk_122 (dk_at dksJ5_ensureCapacityInternal_0 9 rfl rfl)
theorem dJ5_ensureCapacityInternal_10 : decode cJ5_ensureCapacityInternal 10 = .ok (.istore_n 2, 1) := dk_61 (dk_at dksJ5_ensureCapacityInternal_0 10 rfl rfl)
theorem dJ5_ensureCapacityInternal_11 : decode cJ5_ensureCapacityInternal 11 = .ok (.iload_n 1, 1) := dk_27 (dk_at dksJ5_ensureCapacityInternal_0 11 rfl rfl)
theorem dJ5_ensureCapacityInternal_12 : decode cJ5_ensureCapacityInternal 12 = .ok (.iload_n 2, 1) := dk_28 (dk_at dksJ5_ensureCapacityInternal_0 12 rfl rfl)
theorem dJ5_ensureCapacityInternal_13 : decode cJ5_ensureCapacityInternal 13 = .ok (.isub, 1) := dk_100 (dk_at dksJ5_ensureCapacityInternal_0 13 rfl rfl)
theorem dJ5_ensureCapacityInternal_14 : decode cJ5_ensureCapacityInternal 14 = .ok (.ifCond .le 24, 3) := dk_158 0 24 (dk_at dksJ5_ensureCapacityInternal_0 14 rfl rfl)
theorem dJ5_ensureCapacityInternal_17 : decode cJ5_ensureCapacityInternal 17 = .ok (.aload_n 0, 1) := dk_42 (dk_at dksJ5_ensureCapacityInternal_0 17 rfl rfl)
theorem dJ5_ensureCapacityInternal_18 : decode cJ5_ensureCapacityInternal 18 = .ok (.aload_n 0, 1) := dk_42 (dk_at dksJ5_ensureCapacityInternal_0 18 rfl rfl)
theorem dJ5_ensureCapacityInternal_19 : decode cJ5_ensureCapacityInternal 19 = .ok (.getfield 15, 3) := dk_180 0 15 (dk_at dksJ5_ensureCapacityInternal_0 19 rfl rfl)
theorem dJ5_ensureCapacityInternal_22 : decode cJ5_ensureCapacityInternal 22 = .ok (.aload_n 0, 1) := dk_42 (dk_at dksJ5_ensureCapacityInternal_0 22 rfl rfl)
theorem dJ5_ensureCapacityInternal_23 : decode cJ5_ensureCapacityInternal 23 = .ok (.iload_n 1, 1) := dk_27 (dk_at dksJ5_ensureCapacityInternal_0 23 rfl rfl)
theorem dJ5_ensureCapacityInternal_24 : decode cJ5_ensureCapacityInternal 24 = .ok (.invokevirtual 104, 3) := dk_182 0 104 (dk_at dksJ5_ensureCapacityInternal_1 0 rfl rfl)
theorem dJ5_ensureCapacityInternal_27 : decode cJ5_ensureCapacityInternal 27 = .ok (.aload_n 0, 1) := dk_42 (dk_at dksJ5_ensureCapacityInternal_1 3 rfl rfl)
theorem dJ5_ensureCapacityInternal_28 : decode cJ5_ensureCapacityInternal 28 = .ok (.getfield 22, 3) := dk_180 0 22 (dk_at dksJ5_ensureCapacityInternal_1 4 rfl rfl)
theorem dJ5_ensureCapacityInternal_31 : decode cJ5_ensureCapacityInternal 31 = .ok (.ishl, 1) := dk_120 (dk_at dksJ5_ensureCapacityInternal_1 7 rfl rfl)
theorem dJ5_ensureCapacityInternal_32 : decode cJ5_ensureCapacityInternal 32 = .ok (.invokestatic 108, 3) := dk_184 0 108 (dk_at dksJ5_ensureCapacityInternal_1 8 rfl rfl)
theorem dJ5_ensureCapacityInternal_35 : decode cJ5_ensureCapacityInternal 35 = .ok (.putfield 15, 3) := dk_181 0 15 (dk_at dksJ5_ensureCapacityInternal_1 11 rfl rfl)
theorem dJ5_ensureCapacityInternal_38 : decode cJ5_ensureCapacityInternal 38 = .ok (.return_, 1) := dk_177 (dk_at dksJ5_ensureCapacityInternal_1 14 rfl rfl)
abbrev cJ5_newCapacity : ByteArray := prog_11_method_10_code
def yJ5_newCapacity : MethodName := ⟨RJ5, "newCapacity", "(I)I"⟩
def dkwJ5_newCapacity_2 : List UInt8 := [183, 0, 124, 191, 21, 5, 42, 180, 0, 22, 122, 172]
abbrev dktJ5_newCapacity_2 : List UInt8 := dkwJ5_newCapacity_2 ++ []
def dkwJ5_newCapacity_1 : List UInt8 := [180, 0, 22, 120, 96, 184, 0, 114, 54, 5, 21, 5, 18, 39, 160, 0, 13, 187, 0, 120, 89, 18, 122]
abbrev dktJ5_newCapacity_1 : List UInt8 := dkwJ5_newCapacity_1 ++ dktJ5_newCapacity_2
def dkwJ5_newCapacity_0 : List UInt8 := [42, 180, 0, 15, 190, 61, 27, 42, 180, 0, 22, 120, 62, 29, 28, 100, 54, 4, 28, 21, 4, 28, 5, 42]
abbrev dktJ5_newCapacity_0 : List UInt8 := dkwJ5_newCapacity_0 ++ dktJ5_newCapacity_1
theorem dksJ5_newCapacity_0 : cJ5_newCapacity.data.toList.drop 0 = dktJ5_newCapacity_0 := by decide +kernel
theorem dksJ5_newCapacity_1 : cJ5_newCapacity.data.toList.drop 24 = dktJ5_newCapacity_1 := dk_seg dksJ5_newCapacity_0 24 rfl rfl
theorem dksJ5_newCapacity_2 : cJ5_newCapacity.data.toList.drop 47 = dktJ5_newCapacity_2 := dk_seg dksJ5_newCapacity_1 23 rfl rfl
theorem dJ5_newCapacity_0 : decode cJ5_newCapacity 0 = .ok (.aload_n 0, 1) := dk_42 (dk_at dksJ5_newCapacity_0 0 rfl rfl)
theorem dJ5_newCapacity_1 : decode cJ5_newCapacity 1 = .ok (.getfield 15, 3) := dk_180 0 15 (dk_at dksJ5_newCapacity_0 1 rfl rfl)
theorem dJ5_newCapacity_4 : decode cJ5_newCapacity 4 = .ok (.arraylength, 1) := dk_190 (dk_at dksJ5_newCapacity_0 4 rfl rfl)
theorem dJ5_newCapacity_5 : decode cJ5_newCapacity 5 = .ok (.istore_n 2, 1) := dk_61 (dk_at dksJ5_newCapacity_0 5 rfl rfl)
theorem dJ5_newCapacity_6 : decode cJ5_newCapacity 6 = .ok (.iload_n 1, 1) := dk_27 (dk_at dksJ5_newCapacity_0 6 rfl rfl)
theorem dJ5_newCapacity_7 : decode cJ5_newCapacity 7 = .ok (.aload_n 0, 1) := dk_42 (dk_at dksJ5_newCapacity_0 7 rfl rfl)
theorem dJ5_newCapacity_8 : decode cJ5_newCapacity 8 = .ok (.getfield 22, 3) := dk_180 0 22 (dk_at dksJ5_newCapacity_0 8 rfl rfl)
theorem dJ5_newCapacity_11 : decode cJ5_newCapacity 11 = .ok (.ishl, 1) := dk_120 (dk_at dksJ5_newCapacity_0 11 rfl rfl)
theorem dJ5_newCapacity_12 : decode cJ5_newCapacity 12 = .ok (.istore_n 3, 1) := dk_62 (dk_at dksJ5_newCapacity_0 12 rfl rfl)
theorem dJ5_newCapacity_13 : decode cJ5_newCapacity 13 = .ok (.iload_n 3, 1) := dk_29 (dk_at dksJ5_newCapacity_0 13 rfl rfl)
theorem dJ5_newCapacity_14 : decode cJ5_newCapacity 14 = .ok (.iload_n 2, 1) := dk_28 (dk_at dksJ5_newCapacity_0 14 rfl rfl)
theorem dJ5_newCapacity_15 : decode cJ5_newCapacity 15 = .ok (.isub, 1) := dk_100 (dk_at dksJ5_newCapacity_0 15 rfl rfl)
theorem dJ5_newCapacity_16 : decode cJ5_newCapacity 16 = .ok (.istore 4, 2) := dk_54 4 (dk_at dksJ5_newCapacity_0 16 rfl rfl)
theorem dJ5_newCapacity_18 : decode cJ5_newCapacity 18 = .ok (.iload_n 2, 1) := dk_28 (dk_at dksJ5_newCapacity_0 18 rfl rfl)
theorem dJ5_newCapacity_19 : decode cJ5_newCapacity 19 = .ok (.iload 4, 2) := dk_21 4 (dk_at dksJ5_newCapacity_0 19 rfl rfl)
theorem dJ5_newCapacity_21 : decode cJ5_newCapacity 21 = .ok (.iload_n 2, 1) := dk_28 (dk_at dksJ5_newCapacity_0 21 rfl rfl)
theorem dJ5_newCapacity_22 : decode cJ5_newCapacity 22 = .ok (.iconst 2, 1) := dk_5 (dk_at dksJ5_newCapacity_0 22 rfl rfl)
theorem dJ5_newCapacity_23 : decode cJ5_newCapacity 23 = .ok (.aload_n 0, 1) := dk_42 (dk_at dksJ5_newCapacity_0 23 rfl rfl)
theorem dJ5_newCapacity_24 : decode cJ5_newCapacity 24 = .ok (.getfield 22, 3) := dk_180 0 22 (dk_at dksJ5_newCapacity_1 0 rfl rfl)
theorem dJ5_newCapacity_27 : decode cJ5_newCapacity 27 = .ok (.ishl, 1) := dk_120 (dk_at dksJ5_newCapacity_1 3 rfl rfl)
theorem dJ5_newCapacity_28 : decode cJ5_newCapacity 28 = .ok (.iadd, 1) := dk_96 (dk_at dksJ5_newCapacity_1 4 rfl rfl)
theorem dJ5_newCapacity_29 : decode cJ5_newCapacity 29 = .ok (.invokestatic 114, 3) := dk_184 0 114 (dk_at dksJ5_newCapacity_1 5 rfl rfl)
theorem dJ5_newCapacity_32 : decode cJ5_newCapacity 32 = .ok (.istore 5, 2) := dk_54 5 (dk_at dksJ5_newCapacity_1 8 rfl rfl)
theorem dJ5_newCapacity_34 : decode cJ5_newCapacity 34 = .ok (.iload 5, 2) := dk_21 5 (dk_at dksJ5_newCapacity_1 10 rfl rfl)
theorem dJ5_newCapacity_36 : decode cJ5_newCapacity 36 = .ok (.ldc 39, 2) := dk_18 39 (dk_at dksJ5_newCapacity_1 12 rfl rfl)
theorem dJ5_newCapacity_38 : decode cJ5_newCapacity 38 = .ok (.if_icmp .ne 13, 3) := dk_160 0 13 (dk_at dksJ5_newCapacity_1 14 rfl rfl)
theorem dJ5_newCapacity_41 : decode cJ5_newCapacity 41 = .ok (.new 120, 3) := dk_187 0 120 (dk_at dksJ5_newCapacity_1 17 rfl rfl)
theorem dJ5_newCapacity_44 : decode cJ5_newCapacity 44 = .ok (.dup, 1) := dk_89 (dk_at dksJ5_newCapacity_1 20 rfl rfl)
theorem dJ5_newCapacity_45 : decode cJ5_newCapacity 45 = .ok (.ldc 122, 2) := dk_18 122 (dk_at dksJ5_newCapacity_1 21 rfl rfl)
theorem dJ5_newCapacity_47 : decode cJ5_newCapacity 47 = .ok (.invokespecial 124, 3) := dk_183 0 124 (dk_at dksJ5_newCapacity_2 0 rfl rfl)
theorem dJ5_newCapacity_50 : decode cJ5_newCapacity 50 = .ok (.athrow, 1) := dk_191 (dk_at dksJ5_newCapacity_2 3 rfl rfl)
theorem dJ5_newCapacity_51 : decode cJ5_newCapacity 51 = .ok (.iload 5, 2) := dk_21 5 (dk_at dksJ5_newCapacity_2 4 rfl rfl)
theorem dJ5_newCapacity_53 : decode cJ5_newCapacity 53 = .ok (.aload_n 0, 1) := dk_42 (dk_at dksJ5_newCapacity_2 6 rfl rfl)
theorem dJ5_newCapacity_54 : decode cJ5_newCapacity 54 = .ok (.getfield 22, 3) := dk_180 0 22 (dk_at dksJ5_newCapacity_2 7 rfl rfl)
theorem dJ5_newCapacity_57 : decode cJ5_newCapacity 57 = .ok (.ishr, 1) := dk_122 (dk_at dksJ5_newCapacity_2 10 rfl rfl)
theorem dJ5_newCapacity_58 : decode cJ5_newCapacity 58 = .ok (.ireturn, 1) := dk_172 (dk_at dksJ5_newCapacity_2 11 rfl rfl)
abbrev cJ5_isLatin1 : ByteArray := prog_11_method_68_code
def yJ5_isLatin1 : MethodName := ⟨RJ5, "isLatin1", "()Z"⟩
def dkwJ5_isLatin1_0 : List UInt8 := [178, 0, 18, 153, 0, 14, 42, 180, 0, 22, 154, 0, 7, 4, 167, 0, 4, 3, 172]
abbrev dktJ5_isLatin1_0 : List UInt8 := dkwJ5_isLatin1_0 ++ []
theorem dksJ5_isLatin1_0 : cJ5_isLatin1.data.toList.drop 0 = dktJ5_isLatin1_0 := by decide +kernel
theorem dJ5_isLatin1_0 : decode cJ5_isLatin1 0 = .ok (.getstatic 18, 3) := dk_178 0 18 (dk_at dksJ5_isLatin1_0 0 rfl rfl)
theorem dJ5_isLatin1_3 : decode cJ5_isLatin1 3 = .ok (.ifCond .eq 14, 3) := dk_153 0 14 (dk_at dksJ5_isLatin1_0 3 rfl rfl)
theorem dJ5_isLatin1_6 : decode cJ5_isLatin1 6 = .ok (.aload_n 0, 1) := dk_42 (dk_at dksJ5_isLatin1_0 6 rfl rfl)
theorem dJ5_isLatin1_7 : decode cJ5_isLatin1 7 = .ok (.getfield 22, 3) := dk_180 0 22 (dk_at dksJ5_isLatin1_0 7 rfl rfl)
theorem dJ5_isLatin1_10 : decode cJ5_isLatin1 10 = .ok (.ifCond .ne 7, 3) := dk_154 0 7 (dk_at dksJ5_isLatin1_0 10 rfl rfl)
theorem dJ5_isLatin1_13 : decode cJ5_isLatin1 13 = .ok (.iconst 1, 1) := dk_4 (dk_at dksJ5_isLatin1_0 13 rfl rfl)
theorem dJ5_isLatin1_14 : decode cJ5_isLatin1 14 = .ok (.goto 4, 3) := dk_167 0 4 (dk_at dksJ5_isLatin1_0 14 rfl rfl)
theorem dJ5_isLatin1_17 : decode cJ5_isLatin1 17 = .ok (.iconst 0, 1) := dk_3 (dk_at dksJ5_isLatin1_0 17 rfl rfl)
theorem dJ5_isLatin1_18 : decode cJ5_isLatin1 18 = .ok (.ireturn, 1) := dk_172 (dk_at dksJ5_isLatin1_0 18 rfl rfl)
abbrev cJ5_putStringAt : ByteArray := prog_11_method_73_code
def yJ5_putStringAt : MethodName := ⟨RJ5, "putStringAt", "(ILjava/lang/String;)V"⟩
def dkwJ5_putStringAt_0 : List UInt8 := [42, 44, 182, 1, 141, 44, 42, 180, 0, 15, 27, 42, 180, 0, 22, 182, 1, 143, 177]
abbrev dktJ5_putStringAt_0 : List UInt8 := dkwJ5_putStringAt_0 ++ []
theorem dksJ5_putStringAt_0 : cJ5_putStringAt.data.toList.drop 0 = dktJ5_putStringAt_0 := by decide +kernel
theorem dJ5_putStringAt_0 : decode cJ5_putStringAt 0 = .ok (.aload_n 0, 1) := dk_42 (dk_at dksJ5_putStringAt_0 0 rfl rfl)
theorem dJ5_putStringAt_1 : decode cJ5_putStringAt 1 = .ok (.aload_n 2, 1) := dk_44 (dk_at dksJ5_putStringAt_0 1 rfl rfl)
theorem dJ5_putStringAt_2 : decode cJ5_putStringAt 2 = .ok (.invokevirtual 397, 3) := dk_182 1 141 (dk_at dksJ5_putStringAt_0 2 rfl rfl)
theorem dJ5_putStringAt_5 : decode cJ5_putStringAt 5 = .ok (.aload_n 2, 1) := dk_44 (dk_at dksJ5_putStringAt_0 5 rfl rfl)
theorem dJ5_putStringAt_6 : decode cJ5_putStringAt 6 = .ok (.aload_n 0, 1) := dk_42 (dk_at dksJ5_putStringAt_0 6 rfl rfl)
theorem dJ5_putStringAt_7 : decode cJ5_putStringAt 7 = .ok (.getfield 15, 3) := dk_180 0 15 (dk_at dksJ5_putStringAt_0 7 rfl rfl)
theorem dJ5_putStringAt_10 : decode cJ5_putStringAt 10 = .ok (.iload_n 1, 1) := dk_27 (dk_at dksJ5_putStringAt_0 10 rfl rfl)
theorem dJ5_putStringAt_11 : decode cJ5_putStringAt 11 = .ok (.aload_n 0, 1) := dk_42 (dk_at dksJ5_putStringAt_0 11 rfl rfl)
theorem dJ5_putStringAt_12 : decode cJ5_putStringAt 12 = .ok (.getfield 22, 3) := dk_180 0 22 (dk_at dksJ5_putStringAt_0 12 rfl rfl)
theorem dJ5_putStringAt_15 : decode cJ5_putStringAt 15 = .ok (.invokevirtual 399, 3) := dk_182 1 143 (dk_at dksJ5_putStringAt_0 15 rfl rfl)
theorem dJ5_putStringAt_18 : decode cJ5_putStringAt 18 = .ok (.return_, 1) := dk_177 (dk_at dksJ5_putStringAt_0 18 rfl rfl)
abbrev cJ5_inflateIfNeededFor : ByteArray := prog_11_method_71_code
def yJ5_inflateIfNeededFor : MethodName := ⟨RJ5, "inflateIfNeededFor", "(Ljava/lang/String;)V"⟩
def dkwJ5_inflateIfNeededFor_0 : List UInt8 := [178, 0, 18, 153, 0, 18, 42, 180, 0, 22, 43, 182, 0, 40, 159, 0, 7, 42, 182, 0, 195, 177]
abbrev dktJ5_inflateIfNeededFor_0 : List UInt8 := dkwJ5_inflateIfNeededFor_0 ++ []
theorem dksJ5_inflateIfNeededFor_0 : cJ5_inflateIfNeededFor.data.toList.drop 0 = dktJ5_inflateIfNeededFor_0 := by decide +kernel
theorem dJ5_inflateIfNeededFor_0 : decode cJ5_inflateIfNeededFor 0 = .ok (.getstatic 18, 3) := dk_178 0 18 (dk_at dksJ5_inflateIfNeededFor_0 0 rfl rfl)
theorem dJ5_inflateIfNeededFor_3 : decode cJ5_inflateIfNeededFor 3 = .ok (.ifCond .eq 18, 3) := dk_153 0 18 (dk_at dksJ5_inflateIfNeededFor_0 3 rfl rfl)
theorem dJ5_inflateIfNeededFor_6 : decode cJ5_inflateIfNeededFor 6 = .ok (.aload_n 0, 1) := dk_42 (dk_at dksJ5_inflateIfNeededFor_0 6 rfl rfl)
theorem dJ5_inflateIfNeededFor_7 : decode cJ5_inflateIfNeededFor 7 = .ok (.getfield 22, 3) := dk_180 0 22 (dk_at dksJ5_inflateIfNeededFor_0 7 rfl rfl)
theorem dJ5_inflateIfNeededFor_10 : decode cJ5_inflateIfNeededFor 10 = .ok (.aload_n 1, 1) := dk_43 (dk_at dksJ5_inflateIfNeededFor_0 10 rfl rfl)
theorem dJ5_inflateIfNeededFor_11 : decode cJ5_inflateIfNeededFor 11 = .ok (.invokevirtual 40, 3) := dk_182 0 40 (dk_at dksJ5_inflateIfNeededFor_0 11 rfl rfl)
theorem dJ5_inflateIfNeededFor_14 : decode cJ5_inflateIfNeededFor 14 = .ok (.if_icmp .eq 7, 3) := dk_159 0 7 (dk_at dksJ5_inflateIfNeededFor_0 14 rfl rfl)
theorem dJ5_inflateIfNeededFor_17 : decode cJ5_inflateIfNeededFor 17 = .ok (.aload_n 0, 1) := dk_42 (dk_at dksJ5_inflateIfNeededFor_0 17 rfl rfl)
theorem dJ5_inflateIfNeededFor_18 : decode cJ5_inflateIfNeededFor 18 = .ok (.invokevirtual 195, 3) := dk_182 0 195 (dk_at dksJ5_inflateIfNeededFor_0 18 rfl rfl)
theorem dJ5_inflateIfNeededFor_21 : decode cJ5_inflateIfNeededFor 21 = .ok (.return_, 1) := dk_177 (dk_at dksJ5_inflateIfNeededFor_0 21 rfl rfl)
abbrev cJ5_inflate : ByteArray := prog_11_method_11_code
def yJ5_inflate : MethodName := ⟨RJ5, "inflate", "()V"⟩
def dkwJ5_inflate_1 : List UInt8 := [42, 180, 0, 79, 184, 0, 125, 42, 43, 181, 0, 15, 42, 4, 181, 0, 22, 177]
abbrev dktJ5_inflate_1 : List UInt8 := dkwJ5_inflate_1 ++ []
def dkwJ5_inflate_0 : List UInt8 := [42, 182, 0, 83, 154, 0, 4, 177, 42, 180, 0, 15, 190, 184, 0, 26, 76, 42, 180, 0, 15, 3, 43, 3]
abbrev dktJ5_inflate_0 : List UInt8 := dkwJ5_inflate_0 ++ dktJ5_inflate_1
theorem dksJ5_inflate_0 : cJ5_inflate.data.toList.drop 0 = dktJ5_inflate_0 := by decide +kernel
theorem dksJ5_inflate_1 : cJ5_inflate.data.toList.drop 24 = dktJ5_inflate_1 := dk_seg dksJ5_inflate_0 24 rfl rfl
theorem dJ5_inflate_0 : decode cJ5_inflate 0 = .ok (.aload_n 0, 1) := dk_42 (dk_at dksJ5_inflate_0 0 rfl rfl)
theorem dJ5_inflate_1 : decode cJ5_inflate 1 = .ok (.invokevirtual 83, 3) := dk_182 0 83 (dk_at dksJ5_inflate_0 1 rfl rfl)
theorem dJ5_inflate_4 : decode cJ5_inflate 4 = .ok (.ifCond .ne 4, 3) := dk_154 0 4 (dk_at dksJ5_inflate_0 4 rfl rfl)
theorem dJ5_inflate_7 : decode cJ5_inflate 7 = .ok (.return_, 1) := dk_177 (dk_at dksJ5_inflate_0 7 rfl rfl)
theorem dJ5_inflate_8 : decode cJ5_inflate 8 = .ok (.aload_n 0, 1) := dk_42 (dk_at dksJ5_inflate_0 8 rfl rfl)
theorem dJ5_inflate_9 : decode cJ5_inflate 9 = .ok (.getfield 15, 3) := dk_180 0 15 (dk_at dksJ5_inflate_0 9 rfl rfl)
theorem dJ5_inflate_12 : decode cJ5_inflate 12 = .ok (.arraylength, 1) := dk_190 (dk_at dksJ5_inflate_0 12 rfl rfl)
theorem dJ5_inflate_13 : decode cJ5_inflate 13 = .ok (.invokestatic 26, 3) := dk_184 0 26 (dk_at dksJ5_inflate_0 13 rfl rfl)
theorem dJ5_inflate_16 : decode cJ5_inflate 16 = .ok (.astore_n 1, 1) := dk_76 (dk_at dksJ5_inflate_0 16 rfl rfl)
theorem dJ5_inflate_17 : decode cJ5_inflate 17 = .ok (.aload_n 0, 1) := dk_42 (dk_at dksJ5_inflate_0 17 rfl rfl)
theorem dJ5_inflate_18 : decode cJ5_inflate 18 = .ok (.getfield 15, 3) := dk_180 0 15 (dk_at dksJ5_inflate_0 18 rfl rfl)
theorem dJ5_inflate_21 : decode cJ5_inflate 21 = .ok (.iconst 0, 1) := dk_3 (dk_at dksJ5_inflate_0 21 rfl rfl)
theorem dJ5_inflate_22 : decode cJ5_inflate 22 = .ok (.aload_n 1, 1) := dk_43 (dk_at dksJ5_inflate_0 22 rfl rfl)
theorem dJ5_inflate_23 : decode cJ5_inflate 23 = .ok (.iconst 0, 1) := dk_3 (dk_at dksJ5_inflate_0 23 rfl rfl)
theorem dJ5_inflate_24 : decode cJ5_inflate 24 = .ok (.aload_n 0, 1) := dk_42 (dk_at dksJ5_inflate_1 0 rfl rfl)
theorem dJ5_inflate_25 : decode cJ5_inflate 25 = .ok (.getfield 79, 3) := dk_180 0 79 (dk_at dksJ5_inflate_1 1 rfl rfl)
theorem dJ5_inflate_28 : decode cJ5_inflate 28 = .ok (.invokestatic 125, 3) := dk_184 0 125 (dk_at dksJ5_inflate_1 4 rfl rfl)
theorem dJ5_inflate_31 : decode cJ5_inflate 31 = .ok (.aload_n 0, 1) := dk_42 (dk_at dksJ5_inflate_1 7 rfl rfl)
theorem dJ5_inflate_32 : decode cJ5_inflate 32 = .ok (.aload_n 1, 1) := dk_43 (dk_at dksJ5_inflate_1 8 rfl rfl)
theorem dJ5_inflate_33 : decode cJ5_inflate 33 = .ok (.putfield 15, 3) := dk_181 0 15 (dk_at dksJ5_inflate_1 9 rfl rfl)
theorem dJ5_inflate_36 : decode cJ5_inflate 36 = .ok (.aload_n 0, 1) := dk_42 (dk_at dksJ5_inflate_1 12 rfl rfl)
theorem dJ5_inflate_37 : decode cJ5_inflate 37 = .ok (.iconst 1, 1) := dk_4 (dk_at dksJ5_inflate_1 13 rfl rfl)
theorem dJ5_inflate_38 : decode cJ5_inflate 38 = .ok (.putfield 22, 3) := dk_181 0 22 (dk_at dksJ5_inflate_1 14 rfl rfl)
theorem dJ5_inflate_41 : decode cJ5_inflate 41 = .ok (.return_, 1) := dk_177 (dk_at dksJ5_inflate_1 17 rfl rfl)
abbrev cJ5_append_2 : ByteArray := prog_11_method_32_code
def yJ5_append_2 : MethodName := ⟨RJ5, "append", "(I)Ljava/lang/AbstractStringBuilder;"⟩
def dkwJ5_append_2_2 : List UInt8 := [42, 29, 181, 0, 79, 42, 176]
abbrev dktJ5_append_2_2 : List UInt8 := dkwJ5_append_2_2 ++ []
def dkwJ5_append_2_1 : List UInt8 := [27, 29, 42, 180, 0, 15, 184, 0, 248, 87, 167, 0, 14, 27, 28, 29, 42, 180, 0, 15, 184, 0, 251, 87]
abbrev dktJ5_append_2_1 : List UInt8 := dkwJ5_append_2_1 ++ dktJ5_append_2_2
def dkwJ5_append_2_0 : List UInt8 := [42, 180, 0, 79, 61, 28, 27, 184, 0, 245, 96, 62, 42, 29, 182, 0, 100, 42, 182, 0, 83, 153, 0, 16]
abbrev dktJ5_append_2_0 : List UInt8 := dkwJ5_append_2_0 ++ dktJ5_append_2_1
theorem dksJ5_append_2_0 : cJ5_append_2.data.toList.drop 0 = dktJ5_append_2_0 := by decide +kernel
theorem dksJ5_append_2_1 : cJ5_append_2.data.toList.drop 24 = dktJ5_append_2_1 := dk_seg dksJ5_append_2_0 24 rfl rfl
theorem dksJ5_append_2_2 : cJ5_append_2.data.toList.drop 48 = dktJ5_append_2_2 := dk_seg dksJ5_append_2_1 24 rfl rfl
theorem dJ5_append_2_0 : decode cJ5_append_2 0 = .ok (.aload_n 0, 1) := dk_42 (dk_at dksJ5_append_2_0 0 rfl rfl)
theorem dJ5_append_2_1 : decode cJ5_append_2 1 = .ok (.getfield 79, 3) := dk_180 0 79 (dk_at dksJ5_append_2_0 1 rfl rfl)
theorem dJ5_append_2_4 : decode cJ5_append_2 4 = .ok (.istore_n 2, 1) := dk_61 (dk_at dksJ5_append_2_0 4 rfl rfl)
theorem dJ5_append_2_5 : decode cJ5_append_2 5 = .ok (.iload_n 2, 1) := dk_28 (dk_at dksJ5_append_2_0 5 rfl rfl)
theorem dJ5_append_2_6 : decode cJ5_append_2 6 = .ok (.iload_n 1, 1) := dk_27 (dk_at dksJ5_append_2_0 6 rfl rfl)
theorem dJ5_append_2_7 : decode cJ5_append_2 7 = .ok (.invokestatic 245, 3) := dk_184 0 245 (dk_at dksJ5_append_2_0 7 rfl rfl)
theorem dJ5_append_2_10 : decode cJ5_append_2 10 = .ok (.iadd, 1) := dk_96 (dk_at dksJ5_append_2_0 10 rfl rfl)
theorem dJ5_append_2_11 : decode cJ5_append_2 11 = .ok (.istore_n 3, 1) := dk_62 (dk_at dksJ5_append_2_0 11 rfl rfl)
theorem dJ5_append_2_12 : decode cJ5_append_2 12 = .ok (.aload_n 0, 1) := dk_42 (dk_at dksJ5_append_2_0 12 rfl rfl)
theorem dJ5_append_2_13 : decode cJ5_append_2 13 = .ok (.iload_n 3, 1) := dk_29 (dk_at dksJ5_append_2_0 13 rfl rfl)
theorem dJ5_append_2_14 : decode cJ5_append_2 14 = .ok (.invokevirtual 100, 3) := dk_182 0 100 (dk_at dksJ5_append_2_0 14 rfl rfl)
theorem dJ5_append_2_17 : decode cJ5_append_2 17 = .ok (.aload_n 0, 1) := dk_42 (dk_at dksJ5_append_2_0 17 rfl rfl)
theorem dJ5_append_2_18 : decode cJ5_append_2 18 = .ok (.invokevirtual 83, 3) := dk_182 0 83 (dk_at dksJ5_append_2_0 18 rfl rfl)
theorem dJ5_append_2_21 : decode cJ5_append_2 21 = .ok (.ifCond .eq 16, 3) := dk_153 0 16 (dk_at dksJ5_append_2_0 21 rfl rfl)
theorem dJ5_append_2_24 : decode cJ5_append_2 24 = .ok (.iload_n 1, 1) := dk_27 (dk_at dksJ5_append_2_1 0 rfl rfl)
theorem dJ5_append_2_25 : decode cJ5_append_2 25 = .ok (.iload_n 3, 1) := dk_29 (dk_at dksJ5_append_2_1 1 rfl rfl)
theorem dJ5_append_2_26 : decode cJ5_append_2 26 = .ok (.aload_n 0, 1) := dk_42 (dk_at dksJ5_append_2_1 2 rfl rfl)
theorem dJ5_append_2_27 : decode cJ5_append_2 27 = .ok (.getfield 15, 3) := dk_180 0 15 (dk_at dksJ5_append_2_1 3 rfl rfl)
theorem dJ5_append_2_30 : decode cJ5_append_2 30 = .ok (.invokestatic 248, 3) := dk_184 0 248 (dk_at dksJ5_append_2_1 6 rfl rfl)
theorem dJ5_append_2_33 : decode cJ5_append_2 33 = .ok (.pop, 1) := dk_87 (dk_at dksJ5_append_2_1 9 rfl rfl)
theorem dJ5_append_2_34 : decode cJ5_append_2 34 = .ok (.goto 14, 3) := dk_167 0 14 (dk_at dksJ5_append_2_1 10 rfl rfl)
theorem dJ5_append_2_37 : decode cJ5_append_2 37 = .ok (.iload_n 1, 1) := dk_27 (dk_at dksJ5_append_2_1 13 rfl rfl)
theorem dJ5_append_2_38 : decode cJ5_append_2 38 = .ok (.iload_n 2, 1) := dk_28 (dk_at dksJ5_append_2_1 14 rfl rfl)
theorem dJ5_append_2_39 : decode cJ5_append_2 39 = .ok (.iload_n 3, 1) := dk_29 (dk_at dksJ5_append_2_1 15 rfl rfl)
theorem dJ5_append_2_40 : decode cJ5_append_2 40 = .ok (.aload_n 0, 1) := dk_42 (dk_at dksJ5_append_2_1 16 rfl rfl)
theorem dJ5_append_2_41 : decode cJ5_append_2 41 = .ok (.getfield 15, 3) := dk_180 0 15 (dk_at dksJ5_append_2_1 17 rfl rfl)
theorem dJ5_append_2_44 : decode cJ5_append_2 44 = .ok (.invokestatic 251, 3) := dk_184 0 251 (dk_at dksJ5_append_2_1 20 rfl rfl)
theorem dJ5_append_2_47 : decode cJ5_append_2 47 = .ok (.pop, 1) := dk_87 (dk_at dksJ5_append_2_1 23 rfl rfl)
theorem dJ5_append_2_48 : decode cJ5_append_2 48 = .ok (.aload_n 0, 1) := dk_42 (dk_at dksJ5_append_2_2 0 rfl rfl)
theorem dJ5_append_2_49 : decode cJ5_append_2 49 = .ok (.iload_n 3, 1) := dk_29 (dk_at dksJ5_append_2_2 1 rfl rfl)
theorem dJ5_append_2_50 : decode cJ5_append_2 50 = .ok (.putfield 79, 3) := dk_181 0 79 (dk_at dksJ5_append_2_2 2 rfl rfl)
theorem dJ5_append_2_53 : decode cJ5_append_2 53 = .ok (.aload_n 0, 1) := dk_42 (dk_at dksJ5_append_2_2 5 rfl rfl)
theorem dJ5_append_2_54 : decode cJ5_append_2 54 = .ok (.areturn, 1) := dk_176 (dk_at dksJ5_append_2_2 6 rfl rfl)
abbrev cJ5_getValue : ByteArray := prog_11_method_64_code
def yJ5_getValue : MethodName := ⟨RJ5, "getValue", "()[B"⟩
theorem dJ5_getValue_0 : decode cJ5_getValue 0 = .ok (.aload_n 0, 1) := by decide +kernel
theorem dJ5_getValue_1 : decode cJ5_getValue 1 = .ok (.getfield 15, 3) := by decide +kernel
theorem dJ5_getValue_4 : decode cJ5_getValue 4 = .ok (.areturn, 1) := by decide +kernel
abbrev cJ5_length : ByteArray := prog_11_method_6_code
def yJ5_length : MethodName := ⟨RJ5, "length", "()I"⟩
theorem dJ5_length_0 : decode cJ5_length 0 = .ok (.aload_n 0, 1) := by decide +kernel
theorem dJ5_length_1 : decode cJ5_length 1 = .ok (.getfield 79, 3) := by decide +kernel
theorem dJ5_length_4 : decode cJ5_length 4 = .ok (.ireturn, 1) := by decide +kernel
abbrev cJ5_setLength : ByteArray := prog_11_method_13_code
def yJ5_setLength : MethodName := ⟨RJ5, "setLength", "(I)V"⟩
def dkwJ5_setLength_3 : List UInt8 := [164, 0, 8, 42, 4, 181, 0, 73, 42, 27, 181, 0, 79, 177]
abbrev dktJ5_setLength_3 : List UInt8 := dkwJ5_setLength_3 ++ []
def dkwJ5_setLength_2 : List UInt8 := [167, 0, 31, 42, 180, 0, 15, 42, 180, 0, 79, 27, 184, 0, 137, 167, 0, 16, 42, 180, 0, 79, 27]
abbrev dktJ5_setLength_2 : List UInt8 := dkwJ5_setLength_2 ++ dktJ5_setLength_3
def dkwJ5_setLength_1 : List UInt8 := [162, 0, 40, 42, 182, 0, 83, 153, 0, 18, 42, 180, 0, 15, 42, 180, 0, 79, 27, 184, 0, 133]
abbrev dktJ5_setLength_1 : List UInt8 := dkwJ5_setLength_1 ++ dktJ5_setLength_2
def dkwJ5_setLength_0 : List UInt8 := [27, 156, 0, 12, 187, 0, 129, 89, 27, 183, 0, 131, 191, 42, 27, 182, 0, 100, 42, 180, 0, 79, 27]
abbrev dktJ5_setLength_0 : List UInt8 := dkwJ5_setLength_0 ++ dktJ5_setLength_1
theorem dksJ5_setLength_0 : cJ5_setLength.data.toList.drop 0 = dktJ5_setLength_0 := by decide +kernel
theorem dksJ5_setLength_1 : cJ5_setLength.data.toList.drop 23 = dktJ5_setLength_1 := dk_seg dksJ5_setLength_0 23 rfl rfl
theorem dksJ5_setLength_2 : cJ5_setLength.data.toList.drop 45 = dktJ5_setLength_2 := dk_seg dksJ5_setLength_1 22 rfl rfl
theorem dksJ5_setLength_3 : cJ5_setLength.data.toList.drop 68 = dktJ5_setLength_3 := dk_seg dksJ5_setLength_2 23 rfl rfl
theorem dJ5_setLength_0 : decode cJ5_setLength 0 = .ok (.iload_n 1, 1) := dk_27 (dk_at dksJ5_setLength_0 0 rfl rfl)
theorem dJ5_setLength_1 : decode cJ5_setLength 1 = .ok (.ifCond .ge 12, 3) := dk_156 0 12 (dk_at dksJ5_setLength_0 1 rfl rfl)
theorem dJ5_setLength_4 : decode cJ5_setLength 4 = .ok (.new 129, 3) := dk_187 0 129 (dk_at dksJ5_setLength_0 4 rfl rfl)
theorem dJ5_setLength_7 : decode cJ5_setLength 7 = .ok (.dup, 1) := dk_89 (dk_at dksJ5_setLength_0 7 rfl rfl)
theorem dJ5_setLength_8 : decode cJ5_setLength 8 = .ok (.iload_n 1, 1) := dk_27 (dk_at dksJ5_setLength_0 8 rfl rfl)
theorem dJ5_setLength_9 : decode cJ5_setLength 9 = .ok (.invokespecial 131, 3) := dk_183 0 131 (dk_at dksJ5_setLength_0 9 rfl rfl)
theorem dJ5_setLength_12 : decode cJ5_setLength 12 = .ok (.athrow, 1) := dk_191 (dk_at dksJ5_setLength_0 12 rfl rfl)
theorem dJ5_setLength_13 : decode cJ5_setLength 13 = .ok (.aload_n 0, 1) := dk_42 (dk_at dksJ5_setLength_0 13 rfl rfl)
theorem dJ5_setLength_14 : decode cJ5_setLength 14 = .ok (.iload_n 1, 1) := dk_27 (dk_at dksJ5_setLength_0 14 rfl rfl)
theorem dJ5_setLength_15 : decode cJ5_setLength 15 = .ok (.invokevirtual 100, 3) := dk_182 0 100 (dk_at dksJ5_setLength_0 15 rfl rfl)
theorem dJ5_setLength_18 : decode cJ5_setLength 18 = .ok (.aload_n 0, 1) := dk_42 (dk_at dksJ5_setLength_0 18 rfl rfl)
theorem dJ5_setLength_19 : decode cJ5_setLength 19 = .ok (.getfield 79, 3) := dk_180 0 79 (dk_at dksJ5_setLength_0 19 rfl rfl)
theorem dJ5_setLength_22 : decode cJ5_setLength 22 = .ok (.iload_n 1, 1) := dk_27 (dk_at dksJ5_setLength_0 22 rfl rfl)
theorem dJ5_setLength_23 : decode cJ5_setLength 23 = .ok (.if_icmp .ge 40, 3) := dk_162 0 40 (dk_at dksJ5_setLength_1 0 rfl rfl)
theorem dJ5_setLength_26 : decode cJ5_setLength 26 = .ok (.aload_n 0, 1) := dk_42 (dk_at dksJ5_setLength_1 3 rfl rfl)
theorem dJ5_setLength_27 : decode cJ5_setLength 27 = .ok (.invokevirtual 83, 3) := dk_182 0 83 (dk_at dksJ5_setLength_1 4 rfl rfl)
theorem dJ5_setLength_30 : decode cJ5_setLength 30 = .ok (.ifCond .eq 18, 3) := dk_153 0 18 (dk_at dksJ5_setLength_1 7 rfl rfl)
theorem dJ5_setLength_33 : decode cJ5_setLength 33 = .ok (.aload_n 0, 1) := dk_42 (dk_at dksJ5_setLength_1 10 rfl rfl)
theorem dJ5_setLength_34 : decode cJ5_setLength 34 = .ok (.getfield 15, 3) := dk_180 0 15 (dk_at dksJ5_setLength_1 11 rfl rfl)
theorem dJ5_setLength_37 : decode cJ5_setLength 37 = .ok (.aload_n 0, 1) := dk_42 (dk_at dksJ5_setLength_1 14 rfl rfl)
theorem dJ5_setLength_38 : decode cJ5_setLength 38 = .ok (.getfield 79, 3) := dk_180 0 79 (dk_at dksJ5_setLength_1 15 rfl rfl)
theorem dJ5_setLength_41 : decode cJ5_setLength 41 = .ok (.iload_n 1, 1) := dk_27 (dk_at dksJ5_setLength_1 18 rfl rfl)
theorem dJ5_setLength_42 : decode cJ5_setLength 42 = .ok (.invokestatic 133, 3) := dk_184 0 133 (dk_at dksJ5_setLength_1 19 rfl rfl)
theorem dJ5_setLength_45 : decode cJ5_setLength 45 = .ok (.goto 31, 3) := dk_167 0 31 (dk_at dksJ5_setLength_2 0 rfl rfl)
theorem dJ5_setLength_48 : decode cJ5_setLength 48 = .ok (.aload_n 0, 1) := dk_42 (dk_at dksJ5_setLength_2 3 rfl rfl)
theorem dJ5_setLength_49 : decode cJ5_setLength 49 = .ok (.getfield 15, 3) := dk_180 0 15 (dk_at dksJ5_setLength_2 4 rfl rfl)
theorem dJ5_setLength_52 : decode cJ5_setLength 52 = .ok (.aload_n 0, 1) := dk_42 (dk_at dksJ5_setLength_2 7 rfl rfl)
theorem dJ5_setLength_53 : decode cJ5_setLength 53 = .ok (.getfield 79, 3) := dk_180 0 79 (dk_at dksJ5_setLength_2 8 rfl rfl)
theorem dJ5_setLength_56 : decode cJ5_setLength 56 = .ok (.iload_n 1, 1) := dk_27 (dk_at dksJ5_setLength_2 11 rfl rfl)
theorem dJ5_setLength_57 : decode cJ5_setLength 57 = .ok (.invokestatic 137, 3) := dk_184 0 137 (dk_at dksJ5_setLength_2 12 rfl rfl)
theorem dJ5_setLength_60 : decode cJ5_setLength 60 = .ok (.goto 16, 3) := dk_167 0 16 (dk_at dksJ5_setLength_2 15 rfl rfl)
theorem dJ5_setLength_63 : decode cJ5_setLength 63 = .ok (.aload_n 0, 1) := dk_42 (dk_at dksJ5_setLength_2 18 rfl rfl)
theorem dJ5_setLength_64 : decode cJ5_setLength 64 = .ok (.getfield 79, 3) := dk_180 0 79 (dk_at dksJ5_setLength_2 19 rfl rfl)
theorem dJ5_setLength_67 : decode cJ5_setLength 67 = .ok (.iload_n 1, 1) := dk_27 (dk_at dksJ5_setLength_2 22 rfl rfl)
theorem dJ5_setLength_68 : decode cJ5_setLength 68 = .ok (.if_icmp .le 8, 3) := dk_164 0 8 (dk_at dksJ5_setLength_3 0 rfl rfl)
theorem dJ5_setLength_71 : decode cJ5_setLength 71 = .ok (.aload_n 0, 1) := dk_42 (dk_at dksJ5_setLength_3 3 rfl rfl)
theorem dJ5_setLength_72 : decode cJ5_setLength 72 = .ok (.iconst 1, 1) := dk_4 (dk_at dksJ5_setLength_3 4 rfl rfl)
theorem dJ5_setLength_73 : decode cJ5_setLength 73 = .ok (.putfield 73, 3) := dk_181 0 73 (dk_at dksJ5_setLength_3 5 rfl rfl)
theorem dJ5_setLength_76 : decode cJ5_setLength 76 = .ok (.aload_n 0, 1) := dk_42 (dk_at dksJ5_setLength_3 8 rfl rfl)
theorem dJ5_setLength_77 : decode cJ5_setLength 77 = .ok (.iload_n 1, 1) := dk_27 (dk_at dksJ5_setLength_3 9 rfl rfl)
theorem dJ5_setLength_78 : decode cJ5_setLength 78 = .ok (.putfield 79, 3) := dk_181 0 79 (dk_at dksJ5_setLength_3 10 rfl rfl)
theorem dJ5_setLength_81 : decode cJ5_setLength 81 = .ok (.return_, 1) := dk_177 (dk_at dksJ5_setLength_3 13 rfl rfl)
abbrev cJ5_append_3 : ByteArray := prog_11_method_31_code
def yJ5_append_3 : MethodName := ⟨RJ5, "append", "(C)Ljava/lang/AbstractStringBuilder;"⟩
def dkwJ5_append_3_3 : List UInt8 := [181, 0, 79, 27, 184, 0, 197, 42, 176]
abbrev dktJ5_append_3_3 : List UInt8 := dkwJ5_append_3_3 ++ []
def dkwJ5_append_3_2 : List UInt8 := [182, 0, 83, 153, 0, 7, 42, 182, 0, 195, 42, 180, 0, 15, 42, 89, 180, 0, 79, 90, 4, 96]
abbrev dktJ5_append_3_2 : List UInt8 := dkwJ5_append_3_2 ++ dktJ5_append_3_3
def dkwJ5_append_3_1 : List UInt8 := [42, 180, 0, 15, 42, 89, 180, 0, 79, 90, 4, 96, 181, 0, 79, 27, 145, 84, 167, 0, 33, 42]
abbrev dktJ5_append_3_1 : List UInt8 := dkwJ5_append_3_1 ++ dktJ5_append_3_2
def dkwJ5_append_3_0 : List UInt8 := [42, 42, 180, 0, 79, 4, 96, 182, 0, 100, 42, 182, 0, 83, 153, 0, 31, 27, 184, 0, 191, 153, 0, 24]
abbrev dktJ5_append_3_0 : List UInt8 := dkwJ5_append_3_0 ++ dktJ5_append_3_1
theorem dksJ5_append_3_0 : cJ5_append_3.data.toList.drop 0 = dktJ5_append_3_0 := by decide +kernel
theorem dksJ5_append_3_1 : cJ5_append_3.data.toList.drop 24 = dktJ5_append_3_1 := dk_seg dksJ5_append_3_0 24 rfl rfl
theorem dksJ5_append_3_2 : cJ5_append_3.data.toList.drop 46 = dktJ5_append_3_2 := dk_seg dksJ5_append_3_1 22 rfl rfl
theorem dksJ5_append_3_3 : cJ5_append_3.data.toList.drop 68 = dktJ5_append_3_3 := dk_seg dksJ5_append_3_2 22 rfl rfl
theorem dJ5_append_3_0 : decode cJ5_append_3 0 = .ok (.aload_n 0, 1) := dk_42 (dk_at dksJ5_append_3_0 0 rfl rfl)
theorem dJ5_append_3_1 : decode cJ5_append_3 1 = .ok (.aload_n 0, 1) := dk_42 (dk_at dksJ5_append_3_0 1 rfl rfl)
theorem dJ5_append_3_2 : decode cJ5_append_3 2 = .ok (.getfield 79, 3) := dk_180 0 79 (dk_at dksJ5_append_3_0 2 rfl rfl)
theorem dJ5_append_3_5 : decode cJ5_append_3 5 = .ok (.iconst 1, 1) := dk_4 (dk_at dksJ5_append_3_0 5 rfl rfl)
theorem dJ5_append_3_6 : decode cJ5_append_3 6 = .ok (.iadd, 1) := dk_96 (dk_at dksJ5_append_3_0 6 rfl rfl)
theorem dJ5_append_3_7 : decode cJ5_append_3 7 = .ok (.invokevirtual 100, 3) := dk_182 0 100 (dk_at dksJ5_append_3_0 7 rfl rfl)
theorem dJ5_append_3_10 : decode cJ5_append_3 10 = .ok (.aload_n 0, 1) := dk_42 (dk_at dksJ5_append_3_0 10 rfl rfl)
theorem dJ5_append_3_11 : decode cJ5_append_3 11 = .ok (.invokevirtual 83, 3) := dk_182 0 83 (dk_at dksJ5_append_3_0 11 rfl rfl)
theorem dJ5_append_3_14 : decode cJ5_append_3 14 = .ok (.ifCond .eq 31, 3) := dk_153 0 31 (dk_at dksJ5_append_3_0 14 rfl rfl)
theorem dJ5_append_3_17 : decode cJ5_append_3 17 = .ok (.iload_n 1, 1) := dk_27 (dk_at dksJ5_append_3_0 17 rfl rfl)
theorem dJ5_append_3_18 : decode cJ5_append_3 18 = .ok (.invokestatic 191, 3) := dk_184 0 191 (dk_at dksJ5_append_3_0 18 rfl rfl)
theorem dJ5_append_3_21 : decode cJ5_append_3 21 = .ok (.ifCond .eq 24, 3) := dk_153 0 24 (dk_at dksJ5_append_3_0 21 rfl rfl)
theorem dJ5_append_3_24 : decode cJ5_append_3 24 = .ok (.aload_n 0, 1) := dk_42 (dk_at dksJ5_append_3_1 0 rfl rfl)
theorem dJ5_append_3_25 : decode cJ5_append_3 25 = .ok (.getfield 15, 3) := dk_180 0 15 (dk_at dksJ5_append_3_1 1 rfl rfl)
theorem dJ5_append_3_28 : decode cJ5_append_3 28 = .ok (.aload_n 0, 1) := dk_42 (dk_at dksJ5_append_3_1 4 rfl rfl)
theorem dJ5_append_3_29 : decode cJ5_append_3 29 = .ok (.dup, 1) := dk_89 (dk_at dksJ5_append_3_1 5 rfl rfl)
theorem dJ5_append_3_30 : decode cJ5_append_3 30 = .ok (.getfield 79, 3) := dk_180 0 79 (dk_at dksJ5_append_3_1 6 rfl rfl)
theorem dJ5_append_3_33 : decode cJ5_append_3 33 = .ok (.dup_x1, 1) := dk_90 (dk_at dksJ5_append_3_1 9 rfl rfl)
theorem dJ5_append_3_34 : decode cJ5_append_3 34 = .ok (.iconst 1, 1) := dk_4 (dk_at dksJ5_append_3_1 10 rfl rfl)
theorem dJ5_append_3_35 : decode cJ5_append_3 35 = .ok (.iadd, 1) := dk_96 (dk_at dksJ5_append_3_1 11 rfl rfl)
theorem dJ5_append_3_36 : decode cJ5_append_3 36 = .ok (.putfield 79, 3) := dk_181 0 79 (dk_at dksJ5_append_3_1 12 rfl rfl)
theorem dJ5_append_3_39 : decode cJ5_append_3 39 = .ok (.iload_n 1, 1) := dk_27 (dk_at dksJ5_append_3_1 15 rfl rfl)
theorem dJ5_append_3_40 : decode cJ5_append_3 40 = .ok (.i2b, 1) := dk_145 (dk_at dksJ5_append_3_1 16 rfl rfl)
theorem dJ5_append_3_41 : decode cJ5_append_3 41 = .ok (.bastore, 1) := dk_84 (dk_at dksJ5_append_3_1 17 rfl rfl)
theorem dJ5_append_3_42 : decode cJ5_append_3 42 = .ok (.goto 33, 3) := dk_167 0 33 (dk_at dksJ5_append_3_1 18 rfl rfl)
theorem dJ5_append_3_45 : decode cJ5_append_3 45 = .ok (.aload_n 0, 1) := dk_42 (dk_at dksJ5_append_3_1 21 rfl rfl)
theorem dJ5_append_3_46 : decode cJ5_append_3 46 = .ok (.invokevirtual 83, 3) := dk_182 0 83 (dk_at dksJ5_append_3_2 0 rfl rfl)
theorem dJ5_append_3_49 : decode cJ5_append_3 49 = .ok (.ifCond .eq 7, 3) := dk_153 0 7 (dk_at dksJ5_append_3_2 3 rfl rfl)
theorem dJ5_append_3_52 : decode cJ5_append_3 52 = .ok (.aload_n 0, 1) := dk_42 (dk_at dksJ5_append_3_2 6 rfl rfl)
theorem dJ5_append_3_53 : decode cJ5_append_3 53 = .ok (.invokevirtual 195, 3) := dk_182 0 195 (dk_at dksJ5_append_3_2 7 rfl rfl)
theorem dJ5_append_3_56 : decode cJ5_append_3 56 = .ok (.aload_n 0, 1) := dk_42 (dk_at dksJ5_append_3_2 10 rfl rfl)
theorem dJ5_append_3_57 : decode cJ5_append_3 57 = .ok (.getfield 15, 3) := dk_180 0 15 (dk_at dksJ5_append_3_2 11 rfl rfl)
theorem dJ5_append_3_60 : decode cJ5_append_3 60 = .ok (.aload_n 0, 1) := dk_42 (dk_at dksJ5_append_3_2 14 rfl rfl)
theorem dJ5_append_3_61 : decode cJ5_append_3 61 = .ok (.dup, 1) := dk_89 (dk_at dksJ5_append_3_2 15 rfl rfl)
theorem dJ5_append_3_62 : decode cJ5_append_3 62 = .ok (.getfield 79, 3) := dk_180 0 79 (dk_at dksJ5_append_3_2 16 rfl rfl)
theorem dJ5_append_3_65 : decode cJ5_append_3 65 = .ok (.dup_x1, 1) := dk_90 (dk_at dksJ5_append_3_2 19 rfl rfl)
theorem dJ5_append_3_66 : decode cJ5_append_3 66 = .ok (.iconst 1, 1) := dk_4 (dk_at dksJ5_append_3_2 20 rfl rfl)
theorem dJ5_append_3_67 : decode cJ5_append_3 67 = .ok (.iadd, 1) := dk_96 (dk_at dksJ5_append_3_2 21 rfl rfl)
theorem dJ5_append_3_68 : decode cJ5_append_3 68 = .ok (.putfield 79, 3) := dk_181 0 79 (dk_at dksJ5_append_3_3 0 rfl rfl)
theorem dJ5_append_3_71 : decode cJ5_append_3 71 = .ok (.iload_n 1, 1) := dk_27 (dk_at dksJ5_append_3_3 3 rfl rfl)
theorem dJ5_append_3_72 : decode cJ5_append_3 72 = .ok (.invokestatic 197, 3) := dk_184 0 197 (dk_at dksJ5_append_3_3 4 rfl rfl)
theorem dJ5_append_3_75 : decode cJ5_append_3 75 = .ok (.aload_n 0, 1) := dk_42 (dk_at dksJ5_append_3_3 7 rfl rfl)
theorem dJ5_append_3_76 : decode cJ5_append_3 76 = .ok (.areturn, 1) := dk_176 (dk_at dksJ5_append_3_3 8 rfl rfl)
abbrev cJ5_charAt : ByteArray := prog_11_method_14_code
def yJ5_charAt : MethodName := ⟨RJ5, "charAt", "(I)C"⟩
def dkwJ5_charAt_1 : List UInt8 := [21, 4, 184, 0, 144, 28, 154, 0, 12, 45, 27, 51, 17, 0, 255, 126, 146, 172, 45, 27, 184, 0, 148, 172]
abbrev dktJ5_charAt_1 : List UInt8 := dkwJ5_charAt_1 ++ []
def dkwJ5_charAt_0 : List UInt8 := [42, 180, 0, 22, 61, 42, 180, 0, 15, 78, 42, 180, 0, 79, 45, 190, 28, 122, 184, 0, 138, 54, 4, 27]
abbrev dktJ5_charAt_0 : List UInt8 := dkwJ5_charAt_0 ++ dktJ5_charAt_1
theorem dksJ5_charAt_0 : cJ5_charAt.data.toList.drop 0 = dktJ5_charAt_0 := by decide +kernel
theorem dksJ5_charAt_1 : cJ5_charAt.data.toList.drop 24 = dktJ5_charAt_1 := dk_seg dksJ5_charAt_0 24 rfl rfl
theorem dJ5_charAt_0 : decode cJ5_charAt 0 = .ok (.aload_n 0, 1) := dk_42 (dk_at dksJ5_charAt_0 0 rfl rfl)
theorem dJ5_charAt_1 : decode cJ5_charAt 1 = .ok (.getfield 22, 3) := dk_180 0 22 (dk_at dksJ5_charAt_0 1 rfl rfl)
theorem dJ5_charAt_4 : decode cJ5_charAt 4 = .ok (.istore_n 2, 1) := dk_61 (dk_at dksJ5_charAt_0 4 rfl rfl)
theorem dJ5_charAt_5 : decode cJ5_charAt 5 = .ok (.aload_n 0, 1) := dk_42 (dk_at dksJ5_charAt_0 5 rfl rfl)
theorem dJ5_charAt_6 : decode cJ5_charAt 6 = .ok (.getfield 15, 3) := dk_180 0 15 (dk_at dksJ5_charAt_0 6 rfl rfl)
theorem dJ5_charAt_9 : decode cJ5_charAt 9 = .ok (.astore_n 3, 1) := dk_78 (dk_at dksJ5_charAt_0 9 rfl rfl)
theorem dJ5_charAt_10 : decode cJ5_charAt 10 = .ok (.aload_n 0, 1) := dk_42 (dk_at dksJ5_charAt_0 10 rfl rfl)
theorem dJ5_charAt_11 : decode cJ5_charAt 11 = .ok (.getfield 79, 3) := dk_180 0 79 (dk_at dksJ5_charAt_0 11 rfl rfl)
theorem dJ5_charAt_14 : decode cJ5_charAt 14 = .ok (.aload_n 3, 1) := dk_45 (dk_at dksJ5_charAt_0 14 rfl rfl)
theorem dJ5_charAt_15 : decode cJ5_charAt 15 = .ok (.arraylength, 1) := dk_190 (dk_at dksJ5_charAt_0 15 rfl rfl)
theorem dJ5_charAt_16 : decode cJ5_charAt 16 = .ok (.iload_n 2, 1) := dk_28 (dk_at dksJ5_charAt_0 16 rfl rfl)
theorem dJ5_charAt_17 : decode cJ5_charAt 17 = .ok (.ishr, 1) := dk_122 (dk_at dksJ5_charAt_0 17 rfl rfl)
theorem dJ5_charAt_18 : decode cJ5_charAt 18 = .ok (.invokestatic 138, 3) := dk_184 0 138 (dk_at dksJ5_charAt_0 18 rfl rfl)
theorem dJ5_charAt_21 : decode cJ5_charAt 21 = .ok (.istore 4, 2) := dk_54 4 (dk_at dksJ5_charAt_0 21 rfl rfl)
theorem dJ5_charAt_23 : decode cJ5_charAt 23 = .ok (.iload_n 1, 1) := dk_27 (dk_at dksJ5_charAt_0 23 rfl rfl)
theorem dJ5_charAt_24 : decode cJ5_charAt 24 = .ok (.iload 4, 2) := dk_21 4 (dk_at dksJ5_charAt_1 0 rfl rfl)
theorem dJ5_charAt_26 : decode cJ5_charAt 26 = .ok (.invokestatic 144, 3) := dk_184 0 144 (dk_at dksJ5_charAt_1 2 rfl rfl)
theorem dJ5_charAt_29 : decode cJ5_charAt 29 = .ok (.iload_n 2, 1) := dk_28 (dk_at dksJ5_charAt_1 5 rfl rfl)
theorem dJ5_charAt_30 : decode cJ5_charAt 30 = .ok (.ifCond .ne 12, 3) := dk_154 0 12 (dk_at dksJ5_charAt_1 6 rfl rfl)
theorem dJ5_charAt_33 : decode cJ5_charAt 33 = .ok (.aload_n 3, 1) := dk_45 (dk_at dksJ5_charAt_1 9 rfl rfl)
theorem dJ5_charAt_34 : decode cJ5_charAt 34 = .ok (.iload_n 1, 1) := dk_27 (dk_at dksJ5_charAt_1 10 rfl rfl)
theorem dJ5_charAt_35 : decode cJ5_charAt 35 = .ok (.baload, 1) := dk_51 (dk_at dksJ5_charAt_1 11 rfl rfl)
theorem dJ5_charAt_36 : decode cJ5_charAt 36 = .ok (.sipush 255, 3) := dk_17 0 255 (dk_at dksJ5_charAt_1 12 rfl rfl)
theorem dJ5_charAt_39 : decode cJ5_charAt 39 = .ok (.iand, 1) := dk_126 (dk_at dksJ5_charAt_1 15 rfl rfl)
theorem dJ5_charAt_40 : decode cJ5_charAt 40 = .ok (.i2c, 1) := dk_146 (dk_at dksJ5_charAt_1 16 rfl rfl)
theorem dJ5_charAt_41 : decode cJ5_charAt 41 = .ok (.ireturn, 1) := dk_172 (dk_at dksJ5_charAt_1 17 rfl rfl)
theorem dJ5_charAt_42 : decode cJ5_charAt 42 = .ok (.aload_n 3, 1) := dk_45 (dk_at dksJ5_charAt_1 18 rfl rfl)
theorem dJ5_charAt_43 : decode cJ5_charAt 43 = .ok (.iload_n 1, 1) := dk_27 (dk_at dksJ5_charAt_1 19 rfl rfl)
theorem dJ5_charAt_44 : decode cJ5_charAt 44 = .ok (.invokestatic 148, 3) := dk_184 0 148 (dk_at dksJ5_charAt_1 20 rfl rfl)
theorem dJ5_charAt_47 : decode cJ5_charAt 47 = .ok (.ireturn, 1) := dk_172 (dk_at dksJ5_charAt_1 23 rfl rfl)
theorem q102 : (Jvm.Cond.initialized "java/lang/AbstractStringBuilder") ∈ lw_all := lw_g (lw_at lw_m1 8 rfl) rfl
theorem q272 : (Jvm.Cond.instanceMethod ({ cls := "java/lang/AbstractStringBuilder", name := "<init>", desc := "(I)V" } : Jvm.MethodName)) ∈ lw_all := lw_g (lw_at lw_m1 178 rfl) rfl
theorem q273 : (Jvm.Cond.code ({ cls := "java/lang/AbstractStringBuilder", name := "<init>", desc := "(I)V" } : Jvm.MethodName) prog_11_method_2_code (2 : Nat) (Option.none : Option Jvm.ClassFile.FieldType)) ∈ lw_all := lw_g (lw_at lw_m1 179 rfl) rfl
theorem q274 : (Jvm.Cond.methodLink "java/lang/AbstractStringBuilder" (3 : Nat) ({ cls := "java/lang/Object", name := "<init>", desc := "()V" } : Jvm.MethodName)) ∈ lw_all := lw_g (lw_at lw_m1 180 rfl) rfl
theorem q275 : (Jvm.Cond.fieldLink "java/lang/AbstractStringBuilder" (18 : Nat) "java/lang/String" "COMPACT_STRINGS" "Z") ∈ lw_all := lw_g (lw_at lw_m1 181 rfl) rfl
theorem q277 : (Jvm.Cond.methodLink "java/lang/AbstractStringBuilder" (26 : Nat) ({ cls := "java/lang/StringUTF16", name := "newBytesFor", desc := "(I)[B" } : Jvm.MethodName)) ∈ lw_all := lw_g (lw_at lw_m1 183 rfl) rfl
theorem q284 : (Jvm.Cond.fieldLink "java/lang/AbstractStringBuilder" (15 : Nat) "java/lang/AbstractStringBuilder" "value" "[B") ∈ lw_all := lw_g (lw_at lw_m1 190 rfl) rfl
theorem q285 : (Jvm.Cond.fieldLink "java/lang/AbstractStringBuilder" (22 : Nat) "java/lang/AbstractStringBuilder" "coder" "B") ∈ lw_all := lw_g (lw_at lw_m1 191 rfl) rfl
theorem q286 : (Jvm.Cond.fieldLink "java/lang/AbstractStringBuilder" (73 : Nat) "java/lang/AbstractStringBuilder" "maybeLatin1" "Z") ∈ lw_all := lw_g (lw_at lw_m1 192 rfl) rfl
theorem q288 : (Jvm.Cond.fieldLink "java/lang/AbstractStringBuilder" (79 : Nat) "java/lang/AbstractStringBuilder" "count" "I") ∈ lw_all := lw_g (lw_at lw_m1 194 rfl) rfl
theorem q290 : (Jvm.Cond.soleField "java/lang/AbstractStringBuilder" "value") ∈ lw_all := lw_g (lw_at lw_m1 196 rfl) rfl
theorem q292 : (Jvm.Cond.soleField "java/lang/AbstractStringBuilder" "coder") ∈ lw_all := lw_g (lw_at lw_m1 198 rfl) rfl
theorem q294 : (Jvm.Cond.soleField "java/lang/AbstractStringBuilder" "maybeLatin1") ∈ lw_all := lw_g (lw_at lw_m1 200 rfl) rfl
theorem q296 : (Jvm.Cond.soleField "java/lang/AbstractStringBuilder" "count") ∈ lw_all := lw_g (lw_at lw_m1 202 rfl) rfl
theorem q418 : (Jvm.Cond.instanceMethod ({ cls := "java/lang/AbstractStringBuilder", name := "append", desc := "(Ljava/lang/String;)Ljava/lang/AbstractStringBuilder;" } : Jvm.MethodName)) ∈ lw_all := lw_g (lw_at lw_m2 84 rfl) rfl
theorem q419 : (Jvm.Cond.code ({ cls := "java/lang/AbstractStringBuilder", name := "append", desc := "(Ljava/lang/String;)Ljava/lang/AbstractStringBuilder;" } : Jvm.MethodName) prog_11_method_22_code (3 : Nat) (Option.some (Jvm.ClassFile.FieldType.object "java/lang/AbstractStringBuilder"))) ∈ lw_all := lw_g (lw_at lw_m2 85 rfl) rfl
theorem q420 : (Jvm.Cond.methodLink "java/lang/AbstractStringBuilder" (204 : Nat) ({ cls := "java/lang/AbstractStringBuilder", name := "appendNull", desc := "()Ljava/lang/AbstractStringBuilder;" } : Jvm.MethodName)) ∈ lw_all := lw_g (lw_at lw_m2 86 rfl) rfl
theorem q421 : (Jvm.Cond.privateMethod ({ cls := "java/lang/AbstractStringBuilder", name := "appendNull", desc := "()Ljava/lang/AbstractStringBuilder;" } : Jvm.MethodName)) ∈ lw_tbl := lw_at lw_m2 87 rfl
theorem q422 : (Jvm.Cond.instanceMethod ({ cls := "java/lang/AbstractStringBuilder", name := "appendNull", desc := "()Ljava/lang/AbstractStringBuilder;" } : Jvm.MethodName)) ∈ lw_all := lw_g (lw_at lw_m2 88 rfl) rfl
theorem q423 : (Jvm.Cond.code ({ cls := "java/lang/AbstractStringBuilder", name := "appendNull", desc := "()Ljava/lang/AbstractStringBuilder;" } : Jvm.MethodName) prog_11_method_26_code (3 : Nat) (Option.some (Jvm.ClassFile.FieldType.object "java/lang/AbstractStringBuilder"))) ∈ lw_all := lw_g (lw_at lw_m2 89 rfl) rfl
theorem q424 : (Jvm.Cond.methodLink "java/lang/AbstractStringBuilder" (100 : Nat) ({ cls := "java/lang/AbstractStringBuilder", name := "ensureCapacityInternal", desc := "(I)V" } : Jvm.MethodName)) ∈ lw_all := lw_g (lw_at lw_m2 90 rfl) rfl
theorem q425 : (Jvm.Cond.privateMethod ({ cls := "java/lang/AbstractStringBuilder", name := "ensureCapacityInternal", desc := "(I)V" } : Jvm.MethodName)) ∈ lw_tbl := lw_at lw_m2 91 rfl
theorem q426 : (Jvm.Cond.instanceMethod ({ cls := "java/lang/AbstractStringBuilder", name := "ensureCapacityInternal", desc := "(I)V" } : Jvm.MethodName)) ∈ lw_all := lw_g (lw_at lw_m2 92 rfl) rfl
theorem q427 : (Jvm.Cond.code ({ cls := "java/lang/AbstractStringBuilder", name := "ensureCapacityInternal", desc := "(I)V" } : Jvm.MethodName) prog_11_method_9_code (3 : Nat) (Option.none : Option Jvm.ClassFile.FieldType)) ∈ lw_all := lw_g (lw_at lw_m2 93 rfl) rfl
theorem q428 : (Jvm.Cond.methodLink "java/lang/AbstractStringBuilder" (104 : Nat) ({ cls := "java/lang/AbstractStringBuilder", name := "newCapacity", desc := "(I)I" } : Jvm.MethodName)) ∈ lw_all := lw_g (lw_at lw_m2 94 rfl) rfl
theorem q429 : (Jvm.Cond.privateMethod ({ cls := "java/lang/AbstractStringBuilder", name := "newCapacity", desc := "(I)I" } : Jvm.MethodName)) ∈ lw_tbl := lw_at lw_m2 95 rfl
theorem q430 : (Jvm.Cond.instanceMethod ({ cls := "java/lang/AbstractStringBuilder", name := "newCapacity", desc := "(I)I" } : Jvm.MethodName)) ∈ lw_all := lw_g (lw_at lw_m2 96 rfl) rfl
theorem q431 : (Jvm.Cond.code ({ cls := "java/lang/AbstractStringBuilder", name := "newCapacity", desc := "(I)I" } : Jvm.MethodName) prog_11_method_10_code (6 : Nat) (Option.some Jvm.ClassFile.FieldType.int)) ∈ lw_all := lw_g (lw_at lw_m2 97 rfl) rfl
theorem q432 : (Jvm.Cond.methodLink "java/lang/AbstractStringBuilder" (114 : Nat) ({ cls := "jdk/internal/util/ArraysSupport", name := "newLength", desc := "(III)I" } : Jvm.MethodName)) ∈ lw_all := lw_g (lw_at lw_m2 98 rfl) rfl
theorem q442 : (Jvm.Cond.constant "java/lang/AbstractStringBuilder" (39 : Nat) (2147483647 : Int32)) ∈ lw_all := lw_g (lw_at lw_m2 108 rfl) rfl
theorem q443 : (Jvm.Cond.methodLink "java/lang/AbstractStringBuilder" (108 : Nat) ({ cls := "java/util/Arrays", name := "copyOf", desc := "([BI)[B" } : Jvm.MethodName)) ∈ lw_all := lw_g (lw_at lw_m2 109 rfl) rfl
theorem q459 : (Jvm.Cond.methodLink "java/lang/AbstractStringBuilder" (83 : Nat) ({ cls := "java/lang/AbstractStringBuilder", name := "isLatin1", desc := "()Z" } : Jvm.MethodName)) ∈ lw_all := lw_g (lw_at lw_m2 125 rfl) rfl
theorem q460 : (Jvm.Cond.instanceMethod ({ cls := "java/lang/AbstractStringBuilder", name := "isLatin1", desc := "()Z" } : Jvm.MethodName)) ∈ lw_all := lw_g (lw_at lw_m2 126 rfl) rfl
theorem q461 : (Jvm.Cond.sameMethod "java/lang/AbstractStringBuilder" "java/lang/AbstractStringBuilder" "isLatin1" "()Z") ∈ lw_all := lw_g (lw_at lw_m2 127 rfl) rfl
theorem q463 : (Jvm.Cond.code ({ cls := "java/lang/AbstractStringBuilder", name := "isLatin1", desc := "()Z" } : Jvm.MethodName) prog_11_method_68_code (1 : Nat) (Option.some Jvm.ClassFile.FieldType.boolean)) ∈ lw_all := lw_g (lw_at lw_m2 129 rfl) rfl
theorem q464 : (Jvm.Cond.methodLink "java/lang/AbstractStringBuilder" (226 : Nat) ({ cls := "java/lang/StringUTF16", name := "putCharsAt", desc := "([BICCCC)I" } : Jvm.MethodName)) ∈ lw_all := lw_g (lw_at lw_m2 130 rfl) rfl
theorem q490 : (Jvm.Cond.methodLink "java/lang/AbstractStringBuilder" (32 : Nat) ({ cls := "java/lang/String", name := "length", desc := "()I" } : Jvm.MethodName)) ∈ lw_all := lw_g (lw_at lw_m2 156 rfl) rfl
theorem q499 : (Jvm.Cond.methodLink "java/lang/AbstractStringBuilder" (208 : Nat) ({ cls := "java/lang/AbstractStringBuilder", name := "putStringAt", desc := "(ILjava/lang/String;)V" } : Jvm.MethodName)) ∈ lw_all := lw_g (lw_at lw_m2 165 rfl) rfl
theorem q500 : (Jvm.Cond.privateMethod ({ cls := "java/lang/AbstractStringBuilder", name := "putStringAt", desc := "(ILjava/lang/String;)V" } : Jvm.MethodName)) ∈ lw_tbl := lw_at lw_m2 166 rfl
theorem q501 : (Jvm.Cond.instanceMethod ({ cls := "java/lang/AbstractStringBuilder", name := "putStringAt", desc := "(ILjava/lang/String;)V" } : Jvm.MethodName)) ∈ lw_all := lw_g (lw_at lw_m2 167 rfl) rfl
theorem q502 : (Jvm.Cond.code ({ cls := "java/lang/AbstractStringBuilder", name := "putStringAt", desc := "(ILjava/lang/String;)V" } : Jvm.MethodName) prog_11_method_73_code (3 : Nat) (Option.none : Option Jvm.ClassFile.FieldType)) ∈ lw_all := lw_g (lw_at lw_m2 168 rfl) rfl
theorem q503 : (Jvm.Cond.methodLink "java/lang/AbstractStringBuilder" (397 : Nat) ({ cls := "java/lang/AbstractStringBuilder", name := "inflateIfNeededFor", desc := "(Ljava/lang/String;)V" } : Jvm.MethodName)) ∈ lw_all := lw_g (lw_at lw_m2 169 rfl) rfl
theorem q504 : (Jvm.Cond.privateMethod ({ cls := "java/lang/AbstractStringBuilder", name := "inflateIfNeededFor", desc := "(Ljava/lang/String;)V" } : Jvm.MethodName)) ∈ lw_tbl := lw_at lw_m2 170 rfl
theorem q505 : (Jvm.Cond.instanceMethod ({ cls := "java/lang/AbstractStringBuilder", name := "inflateIfNeededFor", desc := "(Ljava/lang/String;)V" } : Jvm.MethodName)) ∈ lw_all := lw_g (lw_at lw_m2 171 rfl) rfl
theorem q506 : (Jvm.Cond.code ({ cls := "java/lang/AbstractStringBuilder", name := "inflateIfNeededFor", desc := "(Ljava/lang/String;)V" } : Jvm.MethodName) prog_11_method_71_code (2 : Nat) (Option.none : Option Jvm.ClassFile.FieldType)) ∈ lw_all := lw_g (lw_at lw_m2 172 rfl) rfl
theorem q507 : (Jvm.Cond.methodLink "java/lang/AbstractStringBuilder" (40 : Nat) ({ cls := "java/lang/String", name := "coder", desc := "()B" } : Jvm.MethodName)) ∈ lw_all := lw_g (lw_at lw_m2 173 rfl) rfl
theorem q508 : (Jvm.Cond.methodLink "java/lang/AbstractStringBuilder" (195 : Nat) ({ cls := "java/lang/AbstractStringBuilder", name := "inflate", desc := "()V" } : Jvm.MethodName)) ∈ lw_all := lw_g (lw_at lw_m2 174 rfl) rfl
theorem q509 : (Jvm.Cond.privateMethod ({ cls := "java/lang/AbstractStringBuilder", name := "inflate", desc := "()V" } : Jvm.MethodName)) ∈ lw_tbl := lw_at lw_m2 175 rfl
theorem q510 : (Jvm.Cond.instanceMethod ({ cls := "java/lang/AbstractStringBuilder", name := "inflate", desc := "()V" } : Jvm.MethodName)) ∈ lw_all := lw_g (lw_at lw_m2 176 rfl) rfl
theorem q511 : (Jvm.Cond.code ({ cls := "java/lang/AbstractStringBuilder", name := "inflate", desc := "()V" } : Jvm.MethodName) prog_11_method_11_code (2 : Nat) (Option.none : Option Jvm.ClassFile.FieldType)) ∈ lw_all := lw_g (lw_at lw_m2 177 rfl) rfl
theorem q512 : (Jvm.Cond.methodLink "java/lang/AbstractStringBuilder" (125 : Nat) ({ cls := "java/lang/StringLatin1", name := "inflate", desc := "([BI[BII)V" } : Jvm.MethodName)) ∈ lw_all := lw_g (lw_at lw_m2 178 rfl) rfl
theorem q527 : (Jvm.Cond.methodLink "java/lang/AbstractStringBuilder" (399 : Nat) ({ cls := "java/lang/String", name := "getBytes", desc := "([BIB)V" } : Jvm.MethodName)) ∈ lw_all := lw_g (lw_at lw_m2 193 rfl) rfl
theorem q538 : (Jvm.Cond.instanceMethod ({ cls := "java/lang/AbstractStringBuilder", name := "append", desc := "(I)Ljava/lang/AbstractStringBuilder;" } : Jvm.MethodName)) ∈ lw_all := lw_g (lw_at lw_m2 204 rfl) rfl
theorem q539 : (Jvm.Cond.code ({ cls := "java/lang/AbstractStringBuilder", name := "append", desc := "(I)Ljava/lang/AbstractStringBuilder;" } : Jvm.MethodName) prog_11_method_32_code (4 : Nat) (Option.some (Jvm.ClassFile.FieldType.object "java/lang/AbstractStringBuilder"))) ∈ lw_all := lw_g (lw_at lw_m2 205 rfl) rfl
theorem q540 : (Jvm.Cond.methodLink "java/lang/AbstractStringBuilder" (245 : Nat) ({ cls := "java/lang/Integer", name := "stringSize", desc := "(I)I" } : Jvm.MethodName)) ∈ lw_all := lw_g (lw_at lw_m2 206 rfl) rfl
theorem q543 : (Jvm.Cond.methodLink "java/lang/AbstractStringBuilder" (248 : Nat) ({ cls := "java/lang/Integer", name := "getChars", desc := "(II[B)I" } : Jvm.MethodName)) ∈ lw_all := lw_g (lw_at lw_m2 209 rfl) rfl
theorem q550 : (Jvm.Cond.methodLink "java/lang/AbstractStringBuilder" (251 : Nat) ({ cls := "java/lang/StringUTF16", name := "getChars", desc := "(III[B)I" } : Jvm.MethodName)) ∈ lw_all := lw_g (lw_at lw_m2 216 rfl) rfl
theorem q573 : (Jvm.Cond.instanceMethod ({ cls := "java/lang/AbstractStringBuilder", name := "getValue", desc := "()[B" } : Jvm.MethodName)) ∈ lw_all := lw_g (lw_at lw_m2 239 rfl) rfl
theorem q574 : (Jvm.Cond.sameMethod "java/lang/AbstractStringBuilder" "java/lang/AbstractStringBuilder" "getValue" "()[B") ∈ lw_all := lw_g (lw_at lw_m3 0 rfl) rfl
theorem q576 : (Jvm.Cond.code ({ cls := "java/lang/AbstractStringBuilder", name := "getValue", desc := "()[B" } : Jvm.MethodName) prog_11_method_64_code (1 : Nat) (Option.some (Jvm.ClassFile.FieldType.array Jvm.ClassFile.FieldType.byte))) ∈ lw_all := lw_g (lw_at lw_m3 2 rfl) rfl
theorem q578 : (Jvm.Cond.instanceMethod ({ cls := "java/lang/AbstractStringBuilder", name := "length", desc := "()I" } : Jvm.MethodName)) ∈ lw_all := lw_g (lw_at lw_m3 4 rfl) rfl
theorem q579 : (Jvm.Cond.sameMethod "java/lang/AbstractStringBuilder" "java/lang/AbstractStringBuilder" "length" "()I") ∈ lw_all := lw_g (lw_at lw_m3 5 rfl) rfl
theorem q584 : (Jvm.Cond.code ({ cls := "java/lang/AbstractStringBuilder", name := "length", desc := "()I" } : Jvm.MethodName) prog_11_method_6_code (1 : Nat) (Option.some Jvm.ClassFile.FieldType.int)) ∈ lw_all := lw_g (lw_at lw_m3 10 rfl) rfl
theorem q1992 : (Jvm.Cond.instanceMethod ({ cls := "java/lang/AbstractStringBuilder", name := "setLength", desc := "(I)V" } : Jvm.MethodName)) ∈ lw_all := lw_g (lw_at lw_m8 218 rfl) rfl
theorem q1993 : (Jvm.Cond.code ({ cls := "java/lang/AbstractStringBuilder", name := "setLength", desc := "(I)V" } : Jvm.MethodName) prog_11_method_13_code (2 : Nat) (Option.none : Option Jvm.ClassFile.FieldType)) ∈ lw_all := lw_g (lw_at lw_m8 219 rfl) rfl
theorem q1994 : (Jvm.Cond.classLink "java/lang/AbstractStringBuilder" (129 : Nat) "java/lang/StringIndexOutOfBoundsException") ∈ lw_all := lw_g (lw_at lw_m8 220 rfl) rfl
theorem q1996 : (Jvm.Cond.methodLink "java/lang/AbstractStringBuilder" (131 : Nat) ({ cls := "java/lang/StringIndexOutOfBoundsException", name := "<init>", desc := "(I)V" } : Jvm.MethodName)) ∈ lw_all := lw_g (lw_at lw_m8 222 rfl) rfl
theorem q2013 : (Jvm.Cond.methodLink "java/lang/AbstractStringBuilder" (133 : Nat) ({ cls := "java/lang/StringLatin1", name := "fillNull", desc := "([BII)V" } : Jvm.MethodName)) ∈ lw_all := lw_g (lw_at lw_m8 239 rfl) rfl
theorem q2035 : (Jvm.Cond.methodLink "java/lang/AbstractStringBuilder" (137 : Nat) ({ cls := "java/lang/StringUTF16", name := "fillNull", desc := "([BII)V" } : Jvm.MethodName)) ∈ lw_all := lw_g (lw_at lw_m9 21 rfl) rfl
theorem q2044 : (Jvm.Cond.instanceMethod ({ cls := "java/lang/AbstractStringBuilder", name := "append", desc := "(C)Ljava/lang/AbstractStringBuilder;" } : Jvm.MethodName)) ∈ lw_all := lw_g (lw_at lw_m9 30 rfl) rfl
theorem q2045 : (Jvm.Cond.code ({ cls := "java/lang/AbstractStringBuilder", name := "append", desc := "(C)Ljava/lang/AbstractStringBuilder;" } : Jvm.MethodName) prog_11_method_31_code (2 : Nat) (Option.some (Jvm.ClassFile.FieldType.object "java/lang/AbstractStringBuilder"))) ∈ lw_all := lw_g (lw_at lw_m9 31 rfl) rfl
theorem q2046 : (Jvm.Cond.methodLink "java/lang/AbstractStringBuilder" (191 : Nat) ({ cls := "java/lang/StringLatin1", name := "canEncode", desc := "(C)Z" } : Jvm.MethodName)) ∈ lw_all := lw_g (lw_at lw_m9 32 rfl) rfl
theorem q2049 : (Jvm.Cond.methodLink "java/lang/AbstractStringBuilder" (197 : Nat) ({ cls := "java/lang/StringUTF16", name := "putCharSB", desc := "([BII)V" } : Jvm.MethodName)) ∈ lw_all := lw_g (lw_at lw_m9 35 rfl) rfl
theorem q2078 : (Jvm.Cond.instanceMethod ({ cls := "java/lang/AbstractStringBuilder", name := "charAt", desc := "(I)C" } : Jvm.MethodName)) ∈ lw_all := lw_g (lw_at lw_m9 64 rfl) rfl
theorem q2079 : (Jvm.Cond.code ({ cls := "java/lang/AbstractStringBuilder", name := "charAt", desc := "(I)C" } : Jvm.MethodName) prog_11_method_14_code (5 : Nat) (Option.some Jvm.ClassFile.FieldType.char)) ∈ lw_all := lw_g (lw_at lw_m9 65 rfl) rfl
theorem q2080 : (Jvm.Cond.methodLink "java/lang/AbstractStringBuilder" (138 : Nat) ({ cls := "java/lang/Math", name := "min", desc := "(II)I" } : Jvm.MethodName)) ∈ lw_all := lw_g (lw_at lw_m9 66 rfl) rfl
theorem q2081 : (Jvm.Cond.methodLink "java/lang/AbstractStringBuilder" (144 : Nat) ({ cls := "java/lang/String", name := "checkIndex", desc := "(II)V" } : Jvm.MethodName)) ∈ lw_all := lw_g (lw_at lw_m9 67 rfl) rfl
theorem q2082 : (Jvm.Cond.methodLink "java/lang/AbstractStringBuilder" (148 : Nat) ({ cls := "java/lang/StringUTF16", name := "getChar", desc := "([BI)C" } : Jvm.MethodName)) ∈ lw_all := lw_g (lw_at lw_m9 68 rfl) rfl
theorem q3074 : (Jvm.Cond.sameMethod "java/lang/AbstractStringBuilder" "java/lang/AbstractStringBuilder" "append" "(Ljava/lang/String;)Ljava/lang/AbstractStringBuilder;") ∈ lw_all := lw_g (lw_at lw_m13 100 rfl) rfl
theorem q3075 : (Jvm.Cond.sameMethod "java/lang/AbstractStringBuilder" "java/lang/AbstractStringBuilder" "appendNull" "()Ljava/lang/AbstractStringBuilder;") ∈ lw_all := lw_g (lw_at lw_m13 101 rfl) rfl
theorem q3076 : (Jvm.Cond.sameMethod "java/lang/AbstractStringBuilder" "java/lang/AbstractStringBuilder" "ensureCapacityInternal" "(I)V") ∈ lw_all := lw_g (lw_at lw_m13 102 rfl) rfl
theorem q3077 : (Jvm.Cond.sameMethod "java/lang/AbstractStringBuilder" "java/lang/AbstractStringBuilder" "newCapacity" "(I)I") ∈ lw_all := lw_g (lw_at lw_m13 103 rfl) rfl
theorem q3078 : (Jvm.Cond.sameMethod "java/lang/AbstractStringBuilder" "java/lang/AbstractStringBuilder" "putStringAt" "(ILjava/lang/String;)V") ∈ lw_all := lw_g (lw_at lw_m13 104 rfl) rfl
theorem q3079 : (Jvm.Cond.sameMethod "java/lang/AbstractStringBuilder" "java/lang/AbstractStringBuilder" "inflateIfNeededFor" "(Ljava/lang/String;)V") ∈ lw_all := lw_g (lw_at lw_m13 105 rfl) rfl
theorem q3080 : (Jvm.Cond.sameMethod "java/lang/AbstractStringBuilder" "java/lang/AbstractStringBuilder" "inflate" "()V") ∈ lw_all := lw_g (lw_at lw_m13 106 rfl) rfl
theorem q3081 : (Jvm.Cond.sameMethod "java/lang/AbstractStringBuilder" "java/lang/AbstractStringBuilder" "append" "(I)Ljava/lang/AbstractStringBuilder;") ∈ lw_all := lw_g (lw_at lw_m13 107 rfl) rfl
theorem q3092 : (Jvm.Cond.sameMethod "java/lang/AbstractStringBuilder" "java/lang/AbstractStringBuilder" "setLength" "(I)V") ∈ lw_all := lw_g (lw_at lw_m13 118 rfl) rfl
theorem q3093 : (Jvm.Cond.sameMethod "java/lang/AbstractStringBuilder" "java/lang/AbstractStringBuilder" "append" "(C)Ljava/lang/AbstractStringBuilder;") ∈ lw_all := lw_g (lw_at lw_m13 119 rfl) rfl
theorem q3095 : (Jvm.Cond.sameMethod "java/lang/AbstractStringBuilder" "java/lang/AbstractStringBuilder" "charAt" "(I)C") ∈ lw_all := lw_g (lw_at lw_m13 121 rfl) rfl

/-! java/lang/StringBuilder -/
set_option maxRecDepth 100000
def RJ6 : String := "java/lang/StringBuilder"
def TJ6 : u_T := fun k => match k with
  | 0 => ("java/lang/AbstractStringBuilder", "value", "[B", false)
  | 1 => ("java/lang/AbstractStringBuilder", "coder", "B", false)
  | 2 => ("java/lang/AbstractStringBuilder", "maybeLatin1", "Z", false)
  | _ => ("java/lang/AbstractStringBuilder", "count", "I", false)
def tyJ6 : Nat → FieldType := fun k => match k with
  | 0 => .array .byte
  | 1 => .byte
  | 2 => .boolean
  | _ => .int
abbrev wsJ60 : List Cond := u_ws RJ6 TJ6 4
theorem nmJ6 : ∀ a, a < 4 → ∀ b, b < 4 → a ≠ b → (TJ6 a).2.1 ≠ (TJ6 b).2.1 := by decide +kernel
theorem tyJ6_ok : ∀ k, k < 4 → parseFieldDescriptor (TJ6 k).2.2.1 = some (tyJ6 k) := by decide +kernel
abbrev cJ6_init : ByteArray := prog_28_method_1_code
def yJ6_init : MethodName := ⟨RJ6, "<init>", "()V"⟩
def dkwJ6_init_0 : List UInt8 := [42, 16, 16, 183, 0, 1, 177]
abbrev dktJ6_init_0 : List UInt8 := dkwJ6_init_0 ++ []
theorem dksJ6_init_0 : cJ6_init.data.toList.drop 0 = dktJ6_init_0 := by decide +kernel
theorem dJ6_init_0 : decode cJ6_init 0 = .ok (.aload_n 0, 1) := dk_42 (dk_at dksJ6_init_0 0 rfl rfl)
theorem dJ6_init_1 : decode cJ6_init 1 = .ok (.bipush 16, 2) := dk_16 16 (dk_at dksJ6_init_0 1 rfl rfl)
theorem dJ6_init_3 : decode cJ6_init 3 = .ok (.invokespecial 1, 3) := dk_183 0 1 (dk_at dksJ6_init_0 3 rfl rfl)
theorem dJ6_init_6 : decode cJ6_init 6 = .ok (.return_, 1) := dk_177 (dk_at dksJ6_init_0 6 rfl rfl)
abbrev cJ6_append : ByteArray := prog_28_method_7_code
def yJ6_append : MethodName := ⟨RJ6, "append", "(Ljava/lang/String;)Ljava/lang/StringBuilder;"⟩
def dkwJ6_append_0 : List UInt8 := [42, 43, 183, 0, 29, 87, 42, 176]
abbrev dktJ6_append_0 : List UInt8 := dkwJ6_append_0 ++ []
theorem dksJ6_append_0 : cJ6_append.data.toList.drop 0 = dktJ6_append_0 := by decide +kernel
theorem dJ6_append_0 : decode cJ6_append 0 = .ok (.aload_n 0, 1) := dk_42 (dk_at dksJ6_append_0 0 rfl rfl)
theorem dJ6_append_1 : decode cJ6_append 1 = .ok (.aload_n 1, 1) := dk_43 (dk_at dksJ6_append_0 1 rfl rfl)
theorem dJ6_append_2 : decode cJ6_append 2 = .ok (.invokespecial 29, 3) := dk_183 0 29 (dk_at dksJ6_append_0 2 rfl rfl)
theorem dJ6_append_5 : decode cJ6_append 5 = .ok (.pop, 1) := dk_87 (dk_at dksJ6_append_0 5 rfl rfl)
theorem dJ6_append_6 : decode cJ6_append 6 = .ok (.aload_n 0, 1) := dk_42 (dk_at dksJ6_append_0 6 rfl rfl)
theorem dJ6_append_7 : decode cJ6_append 7 = .ok (.areturn, 1) := dk_176 (dk_at dksJ6_append_0 7 rfl rfl)
abbrev cJ6_append_2 : ByteArray := prog_28_method_15_code
def yJ6_append_2 : MethodName := ⟨RJ6, "append", "(I)Ljava/lang/StringBuilder;"⟩
def dkwJ6_append_2_0 : List UInt8 := [42, 27, 183, 0, 53, 87, 42, 176]
abbrev dktJ6_append_2_0 : List UInt8 := dkwJ6_append_2_0 ++ []
theorem dksJ6_append_2_0 : cJ6_append_2.data.toList.drop 0 = dktJ6_append_2_0 := by decide +kernel
theorem dJ6_append_2_0 : decode cJ6_append_2 0 = .ok (.aload_n 0, 1) := dk_42 (dk_at dksJ6_append_2_0 0 rfl rfl)
theorem dJ6_append_2_1 : decode cJ6_append_2 1 = .ok (.iload_n 1, 1) := dk_27 (dk_at dksJ6_append_2_0 1 rfl rfl)
theorem dJ6_append_2_2 : decode cJ6_append_2 2 = .ok (.invokespecial 53, 3) := dk_183 0 53 (dk_at dksJ6_append_2_0 2 rfl rfl)
theorem dJ6_append_2_5 : decode cJ6_append_2 5 = .ok (.pop, 1) := dk_87 (dk_at dksJ6_append_2_0 5 rfl rfl)
theorem dJ6_append_2_6 : decode cJ6_append_2 6 = .ok (.aload_n 0, 1) := dk_42 (dk_at dksJ6_append_2_0 6 rfl rfl)
theorem dJ6_append_2_7 : decode cJ6_append_2 7 = .ok (.areturn, 1) := dk_176 (dk_at dksJ6_append_2_0 7 rfl rfl)
abbrev cJ6_toString : ByteArray := prog_28_method_42_code
def yJ6_toString : MethodName := ⟨RJ6, "toString", "()Ljava/lang/String;"⟩
def dkwJ6_toString_0 : List UInt8 := [187, 0, 18, 89, 42, 183, 0, 137, 176]
abbrev dktJ6_toString_0 : List UInt8 := dkwJ6_toString_0 ++ []
theorem dksJ6_toString_0 : cJ6_toString.data.toList.drop 0 = dktJ6_toString_0 := by decide +kernel
theorem dJ6_toString_0 : decode cJ6_toString 0 = .ok (.new 18, 3) := dk_187 0 18 (dk_at dksJ6_toString_0 0 rfl rfl)
theorem dJ6_toString_3 : decode cJ6_toString 3 = .ok (.dup, 1) := dk_89 (dk_at dksJ6_toString_0 3 rfl rfl)
theorem dJ6_toString_4 : decode cJ6_toString 4 = .ok (.aload_n 0, 1) := dk_42 (dk_at dksJ6_toString_0 4 rfl rfl)
theorem dJ6_toString_5 : decode cJ6_toString 5 = .ok (.invokespecial 137, 3) := dk_183 0 137 (dk_at dksJ6_toString_0 5 rfl rfl)
theorem dJ6_toString_8 : decode cJ6_toString 8 = .ok (.areturn, 1) := dk_176 (dk_at dksJ6_toString_0 8 rfl rfl)
abbrev cJ6_length : ByteArray := prog_28_method_93_code
def yJ6_length : MethodName := ⟨RJ6, "length", "()I"⟩
theorem dJ6_length_0 : decode cJ6_length 0 = .ok (.aload_n 0, 1) := by decide +kernel
theorem dJ6_length_1 : decode cJ6_length 1 = .ok (.invokespecial 343, 3) := by decide +kernel
theorem dJ6_length_4 : decode cJ6_length 4 = .ok (.ireturn, 1) := by decide +kernel
abbrev cJ6_setLength : ByteArray := prog_28_method_89_code
def yJ6_setLength : MethodName := ⟨RJ6, "setLength", "(I)V"⟩
def dkwJ6_setLength_0 : List UInt8 := [42, 27, 183, 1, 77, 177]
abbrev dktJ6_setLength_0 : List UInt8 := dkwJ6_setLength_0 ++ []
theorem dksJ6_setLength_0 : cJ6_setLength.data.toList.drop 0 = dktJ6_setLength_0 := by decide +kernel
theorem dJ6_setLength_0 : decode cJ6_setLength 0 = .ok (.aload_n 0, 1) := dk_42 (dk_at dksJ6_setLength_0 0 rfl rfl)
theorem dJ6_setLength_1 : decode cJ6_setLength 1 = .ok (.iload_n 1, 1) := dk_27 (dk_at dksJ6_setLength_0 1 rfl rfl)
theorem dJ6_setLength_2 : decode cJ6_setLength 2 = .ok (.invokespecial 333, 3) := dk_183 1 77 (dk_at dksJ6_setLength_0 2 rfl rfl)
theorem dJ6_setLength_5 : decode cJ6_setLength 5 = .ok (.return_, 1) := dk_177 (dk_at dksJ6_setLength_0 5 rfl rfl)
abbrev cJ6_append_3 : ByteArray := prog_28_method_14_code
def yJ6_append_3 : MethodName := ⟨RJ6, "append", "(C)Ljava/lang/StringBuilder;"⟩
def dkwJ6_append_3_0 : List UInt8 := [42, 27, 183, 0, 50, 87, 42, 176]
abbrev dktJ6_append_3_0 : List UInt8 := dkwJ6_append_3_0 ++ []
theorem dksJ6_append_3_0 : cJ6_append_3.data.toList.drop 0 = dktJ6_append_3_0 := by decide +kernel
theorem dJ6_append_3_0 : decode cJ6_append_3 0 = .ok (.aload_n 0, 1) := dk_42 (dk_at dksJ6_append_3_0 0 rfl rfl)
theorem dJ6_append_3_1 : decode cJ6_append_3 1 = .ok (.iload_n 1, 1) := dk_27 (dk_at dksJ6_append_3_0 1 rfl rfl)
theorem dJ6_append_3_2 : decode cJ6_append_3 2 = .ok (.invokespecial 50, 3) := dk_183 0 50 (dk_at dksJ6_append_3_0 2 rfl rfl)
theorem dJ6_append_3_5 : decode cJ6_append_3 5 = .ok (.pop, 1) := dk_87 (dk_at dksJ6_append_3_0 5 rfl rfl)
theorem dJ6_append_3_6 : decode cJ6_append_3 6 = .ok (.aload_n 0, 1) := dk_42 (dk_at dksJ6_append_3_0 6 rfl rfl)
theorem dJ6_append_3_7 : decode cJ6_append_3 7 = .ok (.areturn, 1) := dk_176 (dk_at dksJ6_append_3_0 7 rfl rfl)
abbrev cJ6_charAt : ByteArray := prog_28_method_88_code
def yJ6_charAt : MethodName := ⟨RJ6, "charAt", "(I)C"⟩
def dkwJ6_charAt_0 : List UInt8 := [42, 27, 183, 1, 73, 172]
abbrev dktJ6_charAt_0 : List UInt8 := dkwJ6_charAt_0 ++ []
theorem dksJ6_charAt_0 : cJ6_charAt.data.toList.drop 0 = dktJ6_charAt_0 := by decide +kernel
theorem dJ6_charAt_0 : decode cJ6_charAt 0 = .ok (.aload_n 0, 1) := dk_42 (dk_at dksJ6_charAt_0 0 rfl rfl)
theorem dJ6_charAt_1 : decode cJ6_charAt 1 = .ok (.iload_n 1, 1) := dk_27 (dk_at dksJ6_charAt_0 1 rfl rfl)
theorem dJ6_charAt_2 : decode cJ6_charAt 2 = .ok (.invokespecial 329, 3) := dk_183 1 73 (dk_at dksJ6_charAt_0 2 rfl rfl)
theorem dJ6_charAt_5 : decode cJ6_charAt 5 = .ok (.ireturn, 1) := dk_172 (dk_at dksJ6_charAt_0 5 rfl rfl)
theorem q103 : (Jvm.Cond.initialized "java/lang/StringBuilder") ∈ lw_all := lw_g (lw_at lw_m1 9 rfl) rfl
theorem q267 : (Jvm.Cond.instantiable "java/lang/StringBuilder" (4 : Nat)) ∈ lw_all := lw_g (lw_at lw_m1 173 rfl) rfl
theorem q269 : (Jvm.Cond.instanceMethod ({ cls := "java/lang/StringBuilder", name := "<init>", desc := "()V" } : Jvm.MethodName)) ∈ lw_all := lw_g (lw_at lw_m1 175 rfl) rfl
theorem q270 : (Jvm.Cond.code ({ cls := "java/lang/StringBuilder", name := "<init>", desc := "()V" } : Jvm.MethodName) prog_28_method_1_code (1 : Nat) (Option.none : Option Jvm.ClassFile.FieldType)) ∈ lw_all := lw_g (lw_at lw_m1 176 rfl) rfl
theorem q271 : (Jvm.Cond.methodLink "java/lang/StringBuilder" (1 : Nat) ({ cls := "java/lang/AbstractStringBuilder", name := "<init>", desc := "(I)V" } : Jvm.MethodName)) ∈ lw_all := lw_g (lw_at lw_m1 177 rfl) rfl
theorem q289 : (Jvm.Cond.lays "java/lang/StringBuilder" "java/lang/AbstractStringBuilder" "value" "[B") ∈ lw_all := lw_g (lw_at lw_m1 195 rfl) rfl
theorem q291 : (Jvm.Cond.lays "java/lang/StringBuilder" "java/lang/AbstractStringBuilder" "coder" "B") ∈ lw_all := lw_g (lw_at lw_m1 197 rfl) rfl
theorem q293 : (Jvm.Cond.lays "java/lang/StringBuilder" "java/lang/AbstractStringBuilder" "maybeLatin1" "Z") ∈ lw_all := lw_g (lw_at lw_m1 199 rfl) rfl
theorem q295 : (Jvm.Cond.lays "java/lang/StringBuilder" "java/lang/AbstractStringBuilder" "count" "I") ∈ lw_all := lw_g (lw_at lw_m1 201 rfl) rfl
theorem q297 : (Jvm.Cond.superclass "java/lang/StringBuilder" "java/lang/AbstractStringBuilder") ∈ lw_all := lw_g (lw_at lw_m1 203 rfl) rfl
theorem q414 : (Jvm.Cond.instanceMethod ({ cls := "java/lang/StringBuilder", name := "append", desc := "(Ljava/lang/String;)Ljava/lang/StringBuilder;" } : Jvm.MethodName)) ∈ lw_all := lw_g (lw_at lw_m2 80 rfl) rfl
theorem q415 : (Jvm.Cond.selects "java/lang/StringBuilder" ({ cls := "java/lang/StringBuilder", name := "append", desc := "(Ljava/lang/String;)Ljava/lang/StringBuilder;" } : Jvm.MethodName) ({ cls := "java/lang/StringBuilder", name := "append", desc := "(Ljava/lang/String;)Ljava/lang/StringBuilder;" } : Jvm.MethodName)) ∈ lw_all := lw_g (lw_at lw_m2 81 rfl) rfl
theorem q416 : (Jvm.Cond.code ({ cls := "java/lang/StringBuilder", name := "append", desc := "(Ljava/lang/String;)Ljava/lang/StringBuilder;" } : Jvm.MethodName) prog_28_method_7_code (2 : Nat) (Option.some (Jvm.ClassFile.FieldType.object "java/lang/StringBuilder"))) ∈ lw_all := lw_g (lw_at lw_m2 82 rfl) rfl
theorem q417 : (Jvm.Cond.methodLink "java/lang/StringBuilder" (29 : Nat) ({ cls := "java/lang/AbstractStringBuilder", name := "append", desc := "(Ljava/lang/String;)Ljava/lang/AbstractStringBuilder;" } : Jvm.MethodName)) ∈ lw_all := lw_g (lw_at lw_m2 83 rfl) rfl
theorem q462 : (Jvm.Cond.selects "java/lang/StringBuilder" ({ cls := "java/lang/AbstractStringBuilder", name := "isLatin1", desc := "()Z" } : Jvm.MethodName) ({ cls := "java/lang/AbstractStringBuilder", name := "isLatin1", desc := "()Z" } : Jvm.MethodName)) ∈ lw_all := lw_g (lw_at lw_m2 128 rfl) rfl
theorem q534 : (Jvm.Cond.instanceMethod ({ cls := "java/lang/StringBuilder", name := "append", desc := "(I)Ljava/lang/StringBuilder;" } : Jvm.MethodName)) ∈ lw_all := lw_g (lw_at lw_m2 200 rfl) rfl
theorem q535 : (Jvm.Cond.selects "java/lang/StringBuilder" ({ cls := "java/lang/StringBuilder", name := "append", desc := "(I)Ljava/lang/StringBuilder;" } : Jvm.MethodName) ({ cls := "java/lang/StringBuilder", name := "append", desc := "(I)Ljava/lang/StringBuilder;" } : Jvm.MethodName)) ∈ lw_all := lw_g (lw_at lw_m2 201 rfl) rfl
theorem q536 : (Jvm.Cond.code ({ cls := "java/lang/StringBuilder", name := "append", desc := "(I)Ljava/lang/StringBuilder;" } : Jvm.MethodName) prog_28_method_15_code (2 : Nat) (Option.some (Jvm.ClassFile.FieldType.object "java/lang/StringBuilder"))) ∈ lw_all := lw_g (lw_at lw_m2 202 rfl) rfl
theorem q537 : (Jvm.Cond.methodLink "java/lang/StringBuilder" (53 : Nat) ({ cls := "java/lang/AbstractStringBuilder", name := "append", desc := "(I)Ljava/lang/AbstractStringBuilder;" } : Jvm.MethodName)) ∈ lw_all := lw_g (lw_at lw_m2 203 rfl) rfl
theorem q560 : (Jvm.Cond.instanceMethod ({ cls := "java/lang/StringBuilder", name := "toString", desc := "()Ljava/lang/String;" } : Jvm.MethodName)) ∈ lw_all := lw_g (lw_at lw_m2 226 rfl) rfl
theorem q561 : (Jvm.Cond.selects "java/lang/StringBuilder" ({ cls := "java/lang/StringBuilder", name := "toString", desc := "()Ljava/lang/String;" } : Jvm.MethodName) ({ cls := "java/lang/StringBuilder", name := "toString", desc := "()Ljava/lang/String;" } : Jvm.MethodName)) ∈ lw_all := lw_g (lw_at lw_m2 227 rfl) rfl
theorem q562 : (Jvm.Cond.code ({ cls := "java/lang/StringBuilder", name := "toString", desc := "()Ljava/lang/String;" } : Jvm.MethodName) prog_28_method_42_code (1 : Nat) (Option.some (Jvm.ClassFile.FieldType.object "java/lang/String"))) ∈ lw_all := lw_g (lw_at lw_m2 228 rfl) rfl
theorem q563 : (Jvm.Cond.classLink "java/lang/StringBuilder" (18 : Nat) "java/lang/String") ∈ lw_all := lw_g (lw_at lw_m2 229 rfl) rfl
theorem q565 : (Jvm.Cond.methodLink "java/lang/StringBuilder" (137 : Nat) ({ cls := "java/lang/String", name := "<init>", desc := "(Ljava/lang/StringBuilder;)V" } : Jvm.MethodName)) ∈ lw_all := lw_g (lw_at lw_m2 231 rfl) rfl
theorem q575 : (Jvm.Cond.selects "java/lang/StringBuilder" ({ cls := "java/lang/AbstractStringBuilder", name := "getValue", desc := "()[B" } : Jvm.MethodName) ({ cls := "java/lang/AbstractStringBuilder", name := "getValue", desc := "()[B" } : Jvm.MethodName)) ∈ lw_all := lw_g (lw_at lw_m3 1 rfl) rfl
theorem q580 : (Jvm.Cond.selects "java/lang/StringBuilder" ({ cls := "java/lang/AbstractStringBuilder", name := "length", desc := "()I" } : Jvm.MethodName) ({ cls := "java/lang/StringBuilder", name := "length", desc := "()I" } : Jvm.MethodName)) ∈ lw_all := lw_g (lw_at lw_m3 6 rfl) rfl
theorem q581 : (Jvm.Cond.instanceMethod ({ cls := "java/lang/StringBuilder", name := "length", desc := "()I" } : Jvm.MethodName)) ∈ lw_all := lw_g (lw_at lw_m3 7 rfl) rfl
theorem q582 : (Jvm.Cond.code ({ cls := "java/lang/StringBuilder", name := "length", desc := "()I" } : Jvm.MethodName) prog_28_method_93_code (1 : Nat) (Option.some Jvm.ClassFile.FieldType.int)) ∈ lw_all := lw_g (lw_at lw_m3 8 rfl) rfl
theorem q583 : (Jvm.Cond.methodLink "java/lang/StringBuilder" (343 : Nat) ({ cls := "java/lang/AbstractStringBuilder", name := "length", desc := "()I" } : Jvm.MethodName)) ∈ lw_all := lw_g (lw_at lw_m3 9 rfl) rfl
theorem q880 : (Jvm.Cond.selects "java/lang/StringBuilder" ({ cls := "java/lang/Object", name := "getClass", desc := "()Ljava/lang/Class;" } : Jvm.MethodName) ({ cls := "java/lang/Object", name := "getClass", desc := "()Ljava/lang/Class;" } : Jvm.MethodName)) ∈ lw_all := lw_g (lw_at lw_m4 66 rfl) rfl
theorem q1988 : (Jvm.Cond.instanceMethod ({ cls := "java/lang/StringBuilder", name := "setLength", desc := "(I)V" } : Jvm.MethodName)) ∈ lw_all := lw_g (lw_at lw_m8 214 rfl) rfl
theorem q1989 : (Jvm.Cond.selects "java/lang/StringBuilder" ({ cls := "java/lang/StringBuilder", name := "setLength", desc := "(I)V" } : Jvm.MethodName) ({ cls := "java/lang/StringBuilder", name := "setLength", desc := "(I)V" } : Jvm.MethodName)) ∈ lw_all := lw_g (lw_at lw_m8 215 rfl) rfl
theorem q1990 : (Jvm.Cond.code ({ cls := "java/lang/StringBuilder", name := "setLength", desc := "(I)V" } : Jvm.MethodName) prog_28_method_89_code (2 : Nat) (Option.none : Option Jvm.ClassFile.FieldType)) ∈ lw_all := lw_g (lw_at lw_m8 216 rfl) rfl
theorem q1991 : (Jvm.Cond.methodLink "java/lang/StringBuilder" (333 : Nat) ({ cls := "java/lang/AbstractStringBuilder", name := "setLength", desc := "(I)V" } : Jvm.MethodName)) ∈ lw_all := lw_g (lw_at lw_m8 217 rfl) rfl
theorem q2040 : (Jvm.Cond.instanceMethod ({ cls := "java/lang/StringBuilder", name := "append", desc := "(C)Ljava/lang/StringBuilder;" } : Jvm.MethodName)) ∈ lw_all := lw_g (lw_at lw_m9 26 rfl) rfl
theorem q2041 : (Jvm.Cond.selects "java/lang/StringBuilder" ({ cls := "java/lang/StringBuilder", name := "append", desc := "(C)Ljava/lang/StringBuilder;" } : Jvm.MethodName) ({ cls := "java/lang/StringBuilder", name := "append", desc := "(C)Ljava/lang/StringBuilder;" } : Jvm.MethodName)) ∈ lw_all := lw_g (lw_at lw_m9 27 rfl) rfl
theorem q2042 : (Jvm.Cond.code ({ cls := "java/lang/StringBuilder", name := "append", desc := "(C)Ljava/lang/StringBuilder;" } : Jvm.MethodName) prog_28_method_14_code (2 : Nat) (Option.some (Jvm.ClassFile.FieldType.object "java/lang/StringBuilder"))) ∈ lw_all := lw_g (lw_at lw_m9 28 rfl) rfl
theorem q2043 : (Jvm.Cond.methodLink "java/lang/StringBuilder" (50 : Nat) ({ cls := "java/lang/AbstractStringBuilder", name := "append", desc := "(C)Ljava/lang/AbstractStringBuilder;" } : Jvm.MethodName)) ∈ lw_all := lw_g (lw_at lw_m9 29 rfl) rfl
theorem q2074 : (Jvm.Cond.instanceMethod ({ cls := "java/lang/StringBuilder", name := "charAt", desc := "(I)C" } : Jvm.MethodName)) ∈ lw_all := lw_g (lw_at lw_m9 60 rfl) rfl
theorem q2075 : (Jvm.Cond.selects "java/lang/StringBuilder" ({ cls := "java/lang/StringBuilder", name := "charAt", desc := "(I)C" } : Jvm.MethodName) ({ cls := "java/lang/StringBuilder", name := "charAt", desc := "(I)C" } : Jvm.MethodName)) ∈ lw_all := lw_g (lw_at lw_m9 61 rfl) rfl
theorem q2076 : (Jvm.Cond.code ({ cls := "java/lang/StringBuilder", name := "charAt", desc := "(I)C" } : Jvm.MethodName) prog_28_method_88_code (2 : Nat) (Option.some Jvm.ClassFile.FieldType.char)) ∈ lw_all := lw_g (lw_at lw_m9 62 rfl) rfl
theorem q2077 : (Jvm.Cond.methodLink "java/lang/StringBuilder" (329 : Nat) ({ cls := "java/lang/AbstractStringBuilder", name := "charAt", desc := "(I)C" } : Jvm.MethodName)) ∈ lw_all := lw_g (lw_at lw_m9 63 rfl) rfl
theorem q2356 : (Jvm.Cond.selects "java/lang/StringBuilder" ({ cls := "java/lang/Object", name := "equals", desc := "(Ljava/lang/Object;)Z" } : Jvm.MethodName) ({ cls := "java/lang/Object", name := "equals", desc := "(Ljava/lang/Object;)Z" } : Jvm.MethodName)) ∈ lw_all := lw_g (lw_at lw_m10 102 rfl) rfl
theorem q3094 : (Jvm.Cond.selects "java/lang/StringBuilder" ({ cls := "java/lang/StringBuilder", name := "length", desc := "()I" } : Jvm.MethodName) ({ cls := "java/lang/StringBuilder", name := "length", desc := "()I" } : Jvm.MethodName)) ∈ lw_all := lw_g (lw_at lw_m13 120 rfl) rfl
theorem q3107 : (Jvm.Cond.castable "java/lang/StringBuilder" "java/lang/Object") ∈ lw_tbl := lw_at lw_m13 133 rfl
theorem in_J6 : ∀ w ∈ wsJ60, w ∈ lw_all := lw_in wsJ60 [289, 291, 293, 295] (by decide +kernel) (by decide +kernel)

/-! java/lang/String -/
set_option maxRecDepth 100000
def RJ7 : String := "java/lang/String"
def TJ7 : u_T := fun k => match k with
  | 0 => ("java/lang/String", "value", "[B", true)
  | 1 => ("java/lang/String", "coder", "B", true)
  | 2 => ("java/lang/String", "hash", "I", false)
  | _ => ("java/lang/String", "hashIsZero", "Z", false)
def tyJ7 : Nat → FieldType := fun k => match k with
  | 0 => .array .byte
  | 1 => .byte
  | 2 => .int
  | _ => .boolean
abbrev wsJ70 : List Cond := u_ws RJ7 TJ7 4
theorem nmJ7 : ∀ a, a < 4 → ∀ b, b < 4 → a ≠ b → (TJ7 a).2.1 ≠ (TJ7 b).2.1 := by decide +kernel
theorem tyJ7_ok : ∀ k, k < 4 → parseFieldDescriptor (TJ7 k).2.2.1 = some (tyJ7 k) := by decide +kernel
abbrev cJ7_checkBoundsBeginEnd : ByteArray := prog_27_method_158_code
def yJ7_checkBoundsBeginEnd : MethodName := ⟨RJ7, "checkBoundsBeginEnd", "(III)V"⟩
def dkwJ7_checkBoundsBeginEnd_0 : List UInt8 := [26, 27, 28, 178, 4, 29, 184, 4, 38, 87, 177]
abbrev dktJ7_checkBoundsBeginEnd_0 : List UInt8 := dkwJ7_checkBoundsBeginEnd_0 ++ []
theorem dksJ7_checkBoundsBeginEnd_0 : cJ7_checkBoundsBeginEnd.data.toList.drop 0 = dktJ7_checkBoundsBeginEnd_0 := by decide +kernel
theorem dJ7_checkBoundsBeginEnd_0 : decode cJ7_checkBoundsBeginEnd 0 = .ok (.iload_n 0, 1) := dk_26 (dk_at dksJ7_checkBoundsBeginEnd_0 0 rfl rfl)
theorem dJ7_checkBoundsBeginEnd_1 : decode cJ7_checkBoundsBeginEnd 1 = .ok (.iload_n 1, 1) := dk_27 (dk_at dksJ7_checkBoundsBeginEnd_0 1 rfl rfl)
theorem dJ7_checkBoundsBeginEnd_2 : decode cJ7_checkBoundsBeginEnd 2 = .ok (.iload_n 2, 1) := dk_28 (dk_at dksJ7_checkBoundsBeginEnd_0 2 rfl rfl)
theorem dJ7_checkBoundsBeginEnd_3 : decode cJ7_checkBoundsBeginEnd 3 = .ok (.getstatic 1053, 3) := dk_178 4 29 (dk_at dksJ7_checkBoundsBeginEnd_0 3 rfl rfl)
theorem dJ7_checkBoundsBeginEnd_6 : decode cJ7_checkBoundsBeginEnd 6 = .ok (.invokestatic 1062, 3) := dk_184 4 38 (dk_at dksJ7_checkBoundsBeginEnd_0 6 rfl rfl)
theorem dJ7_checkBoundsBeginEnd_9 : decode cJ7_checkBoundsBeginEnd 9 = .ok (.pop, 1) := dk_87 (dk_at dksJ7_checkBoundsBeginEnd_0 9 rfl rfl)
theorem dJ7_checkBoundsBeginEnd_10 : decode cJ7_checkBoundsBeginEnd 10 = .ok (.return_, 1) := dk_177 (dk_at dksJ7_checkBoundsBeginEnd_0 10 rfl rfl)
abbrev cJ7_length : ByteArray := prog_27_method_54_code
def yJ7_length : MethodName := ⟨RJ7, "length", "()I"⟩
def dkwJ7_length_0 : List UInt8 := [42, 180, 0, 9, 190, 42, 182, 1, 79, 122, 172]
abbrev dktJ7_length_0 : List UInt8 := dkwJ7_length_0 ++ []
theorem dksJ7_length_0 : cJ7_length.data.toList.drop 0 = dktJ7_length_0 := by decide +kernel
theorem dJ7_length_0 : decode cJ7_length 0 = .ok (.aload_n 0, 1) := dk_42 (dk_at dksJ7_length_0 0 rfl rfl)
theorem dJ7_length_1 : decode cJ7_length 1 = .ok (.getfield 9, 3) := dk_180 0 9 (dk_at dksJ7_length_0 1 rfl rfl)
theorem dJ7_length_4 : decode cJ7_length 4 = .ok (.arraylength, 1) := dk_190 (dk_at dksJ7_length_0 4 rfl rfl)
theorem dJ7_length_5 : decode cJ7_length 5 = .ok (.aload_n 0, 1) := dk_42 (dk_at dksJ7_length_0 5 rfl rfl)
theorem dJ7_length_6 : decode cJ7_length 6 = .ok (.invokevirtual 335, 3) := dk_182 1 79 (dk_at dksJ7_length_0 6 rfl rfl)
theorem dJ7_length_9 : decode cJ7_length 9 = .ok (.ishr, 1) := dk_122 (dk_at dksJ7_length_0 9 rfl rfl)
theorem dJ7_length_10 : decode cJ7_length 10 = .ok (.ireturn, 1) := dk_172 (dk_at dksJ7_length_0 10 rfl rfl)
abbrev cJ7_coder : ByteArray := prog_27_method_152_code
def yJ7_coder : MethodName := ⟨RJ7, "coder", "()B"⟩
def dkwJ7_coder_0 : List UInt8 := [178, 0, 38, 153, 0, 10, 42, 180, 0, 15, 167, 0, 4, 4, 172]
abbrev dktJ7_coder_0 : List UInt8 := dkwJ7_coder_0 ++ []
theorem dksJ7_coder_0 : cJ7_coder.data.toList.drop 0 = dktJ7_coder_0 := by decide +kernel
theorem dJ7_coder_0 : decode cJ7_coder 0 = .ok (.getstatic 38, 3) := dk_178 0 38 (dk_at dksJ7_coder_0 0 rfl rfl)
theorem dJ7_coder_3 : decode cJ7_coder 3 = .ok (.ifCond .eq 10, 3) := dk_153 0 10 (dk_at dksJ7_coder_0 3 rfl rfl)
theorem dJ7_coder_6 : decode cJ7_coder 6 = .ok (.aload_n 0, 1) := dk_42 (dk_at dksJ7_coder_0 6 rfl rfl)
theorem dJ7_coder_7 : decode cJ7_coder 7 = .ok (.getfield 15, 3) := dk_180 0 15 (dk_at dksJ7_coder_0 7 rfl rfl)
theorem dJ7_coder_10 : decode cJ7_coder 10 = .ok (.goto 4, 3) := dk_167 0 4 (dk_at dksJ7_coder_0 10 rfl rfl)
theorem dJ7_coder_13 : decode cJ7_coder 13 = .ok (.iconst 1, 1) := dk_4 (dk_at dksJ7_coder_0 13 rfl rfl)
theorem dJ7_coder_14 : decode cJ7_coder 14 = .ok (.ireturn, 1) := dk_172 (dk_at dksJ7_coder_0 14 rfl rfl)
abbrev cJ7_checkBoundsOffCount : ByteArray := prog_27_method_157_code
def yJ7_checkBoundsOffCount : MethodName := ⟨RJ7, "checkBoundsOffCount", "(III)I"⟩
def dkwJ7_checkBoundsOffCount_0 : List UInt8 := [26, 27, 28, 178, 4, 29, 184, 4, 41, 172]
abbrev dktJ7_checkBoundsOffCount_0 : List UInt8 := dkwJ7_checkBoundsOffCount_0 ++ []
theorem dksJ7_checkBoundsOffCount_0 : cJ7_checkBoundsOffCount.data.toList.drop 0 = dktJ7_checkBoundsOffCount_0 := by decide +kernel
theorem dJ7_checkBoundsOffCount_0 : decode cJ7_checkBoundsOffCount 0 = .ok (.iload_n 0, 1) := dk_26 (dk_at dksJ7_checkBoundsOffCount_0 0 rfl rfl)
theorem dJ7_checkBoundsOffCount_1 : decode cJ7_checkBoundsOffCount 1 = .ok (.iload_n 1, 1) := dk_27 (dk_at dksJ7_checkBoundsOffCount_0 1 rfl rfl)
theorem dJ7_checkBoundsOffCount_2 : decode cJ7_checkBoundsOffCount 2 = .ok (.iload_n 2, 1) := dk_28 (dk_at dksJ7_checkBoundsOffCount_0 2 rfl rfl)
theorem dJ7_checkBoundsOffCount_3 : decode cJ7_checkBoundsOffCount 3 = .ok (.getstatic 1053, 3) := dk_178 4 29 (dk_at dksJ7_checkBoundsOffCount_0 3 rfl rfl)
theorem dJ7_checkBoundsOffCount_6 : decode cJ7_checkBoundsOffCount 6 = .ok (.invokestatic 1065, 3) := dk_184 4 41 (dk_at dksJ7_checkBoundsOffCount_0 6 rfl rfl)
theorem dJ7_checkBoundsOffCount_9 : decode cJ7_checkBoundsOffCount 9 = .ok (.ireturn, 1) := dk_172 (dk_at dksJ7_checkBoundsOffCount_0 9 rfl rfl)
abbrev cJ7_getBytes : ByteArray := prog_27_method_147_code
def yJ7_getBytes : MethodName := ⟨RJ7, "getBytes", "([BIB)V"⟩
def dkwJ7_getBytes_1 : List UInt8 := [184, 0, 212, 167, 0, 18, 42, 180, 0, 9, 3, 43, 28, 42, 180, 0, 9, 190, 184, 0, 106, 177]
abbrev dktJ7_getBytes_1 : List UInt8 := dkwJ7_getBytes_1 ++ []
def dkwJ7_getBytes_0 : List UInt8 := [42, 182, 1, 79, 29, 160, 0, 23, 42, 180, 0, 9, 3, 43, 28, 29, 120, 42, 180, 0, 9, 190]
abbrev dktJ7_getBytes_0 : List UInt8 := dkwJ7_getBytes_0 ++ dktJ7_getBytes_1
theorem dksJ7_getBytes_0 : cJ7_getBytes.data.toList.drop 0 = dktJ7_getBytes_0 := by decide +kernel
theorem dksJ7_getBytes_1 : cJ7_getBytes.data.toList.drop 22 = dktJ7_getBytes_1 := dk_seg dksJ7_getBytes_0 22 rfl rfl
theorem dJ7_getBytes_0 : decode cJ7_getBytes 0 = .ok (.aload_n 0, 1) := dk_42 (dk_at dksJ7_getBytes_0 0 rfl rfl)
theorem dJ7_getBytes_1 : decode cJ7_getBytes 1 = .ok (.invokevirtual 335, 3) := dk_182 1 79 (dk_at dksJ7_getBytes_0 1 rfl rfl)
theorem dJ7_getBytes_4 : decode cJ7_getBytes 4 = .ok (.iload_n 3, 1) := dk_29 (dk_at dksJ7_getBytes_0 4 rfl rfl)
theorem dJ7_getBytes_5 : decode cJ7_getBytes 5 = .ok (.if_icmp .ne 23, 3) := dk_160 0 23 (dk_at dksJ7_getBytes_0 5 rfl rfl)
theorem dJ7_getBytes_8 : decode cJ7_getBytes 8 = .ok (.aload_n 0, 1) := dk_42 (dk_at dksJ7_getBytes_0 8 rfl rfl)
theorem dJ7_getBytes_9 : decode cJ7_getBytes 9 = .ok (.getfield 9, 3) := dk_180 0 9 (dk_at dksJ7_getBytes_0 9 rfl rfl)
theorem dJ7_getBytes_12 : decode cJ7_getBytes 12 = .ok (.iconst 0, 1) := dk_3 (dk_at dksJ7_getBytes_0 12 rfl rfl)
theorem dJ7_getBytes_13 : decode cJ7_getBytes 13 = .ok (.aload_n 1, 1) := dk_43 (dk_at dksJ7_getBytes_0 13 rfl rfl)
theorem dJ7_getBytes_14 : decode cJ7_getBytes 14 = .ok (.iload_n 2, 1) := dk_28 (dk_at dksJ7_getBytes_0 14 rfl rfl)
theorem dJ7_getBytes_15 : decode cJ7_getBytes 15 = .ok (.iload_n 3, 1) := dk_29 (dk_at dksJ7_getBytes_0 15 rfl rfl)
theorem dJ7_getBytes_16 : decode cJ7_getBytes 16 = .ok (.ishl, 1) := dk_120 (dk_at dksJ7_getBytes_0 16 rfl rfl)
theorem dJ7_getBytes_17 : decode cJ7_getBytes 17 = .ok (.aload_n 0, 1) := dk_42 (dk_at dksJ7_getBytes_0 17 rfl rfl)
theorem dJ7_getBytes_18 : decode cJ7_getBytes 18 = .ok (.getfield 9, 3) := dk_180 0 9 (dk_at dksJ7_getBytes_0 18 rfl rfl)
theorem dJ7_getBytes_21 : decode cJ7_getBytes 21 = .ok (.arraylength, 1) := dk_190 (dk_at dksJ7_getBytes_0 21 rfl rfl)
theorem dJ7_getBytes_22 : decode cJ7_getBytes 22 = .ok (.invokestatic 212, 3) := dk_184 0 212 (dk_at dksJ7_getBytes_1 0 rfl rfl)
theorem dJ7_getBytes_25 : decode cJ7_getBytes 25 = .ok (.goto 18, 3) := dk_167 0 18 (dk_at dksJ7_getBytes_1 3 rfl rfl)
theorem dJ7_getBytes_28 : decode cJ7_getBytes 28 = .ok (.aload_n 0, 1) := dk_42 (dk_at dksJ7_getBytes_1 6 rfl rfl)
theorem dJ7_getBytes_29 : decode cJ7_getBytes 29 = .ok (.getfield 9, 3) := dk_180 0 9 (dk_at dksJ7_getBytes_1 7 rfl rfl)
theorem dJ7_getBytes_32 : decode cJ7_getBytes 32 = .ok (.iconst 0, 1) := dk_3 (dk_at dksJ7_getBytes_1 10 rfl rfl)
theorem dJ7_getBytes_33 : decode cJ7_getBytes 33 = .ok (.aload_n 1, 1) := dk_43 (dk_at dksJ7_getBytes_1 11 rfl rfl)
theorem dJ7_getBytes_34 : decode cJ7_getBytes 34 = .ok (.iload_n 2, 1) := dk_28 (dk_at dksJ7_getBytes_1 12 rfl rfl)
theorem dJ7_getBytes_35 : decode cJ7_getBytes 35 = .ok (.aload_n 0, 1) := dk_42 (dk_at dksJ7_getBytes_1 13 rfl rfl)
theorem dJ7_getBytes_36 : decode cJ7_getBytes 36 = .ok (.getfield 9, 3) := dk_180 0 9 (dk_at dksJ7_getBytes_1 14 rfl rfl)
theorem dJ7_getBytes_39 : decode cJ7_getBytes 39 = .ok (.arraylength, 1) := dk_190 (dk_at dksJ7_getBytes_1 17 rfl rfl)
theorem dJ7_getBytes_40 : decode cJ7_getBytes 40 = .ok (.invokestatic 106, 3) := dk_184 0 106 (dk_at dksJ7_getBytes_1 18 rfl rfl)
theorem dJ7_getBytes_43 : decode cJ7_getBytes 43 = .ok (.return_, 1) := dk_177 (dk_at dksJ7_getBytes_1 21 rfl rfl)
abbrev cJ7_init : ByteArray := prog_27_method_53_code
def yJ7_init : MethodName := ⟨RJ7, "<init>", "(Ljava/lang/StringBuilder;)V"⟩
def dkwJ7_init_0 : List UInt8 := [42, 43, 1, 183, 1, 233, 177]
abbrev dktJ7_init_0 : List UInt8 := dkwJ7_init_0 ++ []
theorem dksJ7_init_0 : cJ7_init.data.toList.drop 0 = dktJ7_init_0 := by decide +kernel
theorem dJ7_init_0 : decode cJ7_init 0 = .ok (.aload_n 0, 1) := dk_42 (dk_at dksJ7_init_0 0 rfl rfl)
theorem dJ7_init_1 : decode cJ7_init 1 = .ok (.aload_n 1, 1) := dk_43 (dk_at dksJ7_init_0 1 rfl rfl)
theorem dJ7_init_2 : decode cJ7_init 2 = .ok (.aconst_null, 1) := dk_1 (dk_at dksJ7_init_0 2 rfl rfl)
theorem dJ7_init_3 : decode cJ7_init 3 = .ok (.invokespecial 489, 3) := dk_183 1 233 (dk_at dksJ7_init_0 3 rfl rfl)
theorem dJ7_init_6 : decode cJ7_init 6 = .ok (.return_, 1) := dk_177 (dk_at dksJ7_init_0 6 rfl rfl)
abbrev cJ7_init_2 : ByteArray := prog_27_method_150_code
def yJ7_init_2 : MethodName := ⟨RJ7, "<init>", "(Ljava/lang/AbstractStringBuilder;Ljava/lang/Void;)V"⟩
def dkwJ7_init_2_4 : List UInt8 := [181, 0, 9, 177]
abbrev dktJ7_init_2_4 : List UInt8 := dkwJ7_init_2_4 ++ []
def dkwJ7_init_2_3 : List UInt8 := [184, 0, 47, 181, 0, 15, 177, 42, 4, 181, 0, 15, 42, 45, 3, 21, 4, 4, 120, 184, 0, 54]
abbrev dktJ7_init_2_3 : List UInt8 := dkwJ7_init_2_3 ++ dktJ7_init_2_4
def dkwJ7_init_2_2 : List UInt8 := [180, 4, 24, 153, 0, 28, 42, 45, 3, 21, 4, 184, 4, 27, 181, 0, 9, 42, 42, 180, 0, 9, 21, 4]
abbrev dktJ7_init_2_2 : List UInt8 := dkwJ7_init_2_2 ++ dktJ7_init_2_3
def dkwJ7_init_2_1 : List UInt8 := [181, 0, 15, 42, 45, 3, 21, 4, 184, 0, 54, 181, 0, 9, 167, 0, 59, 178, 0, 38, 153, 0, 35, 43]
abbrev dktJ7_init_2_1 : List UInt8 := dkwJ7_init_2_1 ++ dktJ7_init_2_2
def dkwJ7_init_2_0 : List UInt8 := [42, 183, 0, 1, 43, 182, 2, 40, 78, 43, 182, 2, 37, 54, 4, 43, 182, 4, 23, 153, 0, 22, 42, 3]
abbrev dktJ7_init_2_0 : List UInt8 := dkwJ7_init_2_0 ++ dktJ7_init_2_1
theorem dksJ7_init_2_0 : cJ7_init_2.data.toList.drop 0 = dktJ7_init_2_0 := by decide +kernel
theorem dksJ7_init_2_1 : cJ7_init_2.data.toList.drop 24 = dktJ7_init_2_1 := dk_seg dksJ7_init_2_0 24 rfl rfl
theorem dksJ7_init_2_2 : cJ7_init_2.data.toList.drop 48 = dktJ7_init_2_2 := dk_seg dksJ7_init_2_1 24 rfl rfl
theorem dksJ7_init_2_3 : cJ7_init_2.data.toList.drop 72 = dktJ7_init_2_3 := dk_seg dksJ7_init_2_2 24 rfl rfl
theorem dksJ7_init_2_4 : cJ7_init_2.data.toList.drop 94 = dktJ7_init_2_4 := dk_seg dksJ7_init_2_3 22 rfl rfl
theorem dJ7_init_2_0 : decode cJ7_init_2 0 = .ok (.aload_n 0, 1) := dk_42 (dk_at dksJ7_init_2_0 0 rfl rfl)
theorem dJ7_init_2_1 : decode cJ7_init_2 1 = .ok (.invokespecial 1, 3) := dk_183 0 1 (dk_at dksJ7_init_2_0 1 rfl rfl)
theorem dJ7_init_2_4 : decode cJ7_init_2 4 = .ok (.aload_n 1, 1) := dk_43 (dk_at dksJ7_init_2_0 4 rfl rfl)
theorem dJ7_init_2_5 : decode cJ7_init_2 5 = .ok (.invokevirtual 552, 3) := dk_182 2 40 (dk_at dksJ7_init_2_0 5 rfl rfl)
theorem dJ7_init_2_8 : decode cJ7_init_2 8 = .ok (.astore_n 3, 1) := dk_78 (dk_at dksJ7_init_2_0 8 rfl rfl)
theorem dJ7_init_2_9 : decode cJ7_init_2 9 = .ok (.aload_n 1, 1) := dk_43 (dk_at dksJ7_init_2_0 9 rfl rfl)
theorem dJ7_init_2_10 : decode cJ7_init_2 10 = .ok (.invokevirtual 549, 3) := dk_182 2 37 (dk_at dksJ7_init_2_0 10 rfl rfl)
theorem dJ7_init_2_13 : decode cJ7_init_2 13 = .ok (.istore 4, 2) := dk_54 4 (dk_at dksJ7_init_2_0 13 rfl rfl)
theorem dJ7_init_2_15 : decode cJ7_init_2 15 = .ok (.aload_n 1, 1) := dk_43 (dk_at dksJ7_init_2_0 15 rfl rfl)
theorem dJ7_init_2_16 : decode cJ7_init_2 16 = .ok (.invokevirtual 1047, 3) := dk_182 4 23 (dk_at dksJ7_init_2_0 16 rfl rfl)
theorem dJ7_init_2_19 : decode cJ7_init_2 19 = .ok (.ifCond .eq 22, 3) := dk_153 0 22 (dk_at dksJ7_init_2_0 19 rfl rfl)
theorem dJ7_init_2_22 : decode cJ7_init_2 22 = .ok (.aload_n 0, 1) := dk_42 (dk_at dksJ7_init_2_0 22 rfl rfl)
theorem dJ7_init_2_23 : decode cJ7_init_2 23 = .ok (.iconst 0, 1) := dk_3 (dk_at dksJ7_init_2_0 23 rfl rfl)
theorem dJ7_init_2_24 : decode cJ7_init_2 24 = .ok (.putfield 15, 3) := dk_181 0 15 (dk_at dksJ7_init_2_1 0 rfl rfl)
theorem dJ7_init_2_27 : decode cJ7_init_2 27 = .ok (.aload_n 0, 1) := dk_42 (dk_at dksJ7_init_2_1 3 rfl rfl)
theorem dJ7_init_2_28 : decode cJ7_init_2 28 = .ok (.aload_n 3, 1) := dk_45 (dk_at dksJ7_init_2_1 4 rfl rfl)
theorem dJ7_init_2_29 : decode cJ7_init_2 29 = .ok (.iconst 0, 1) := dk_3 (dk_at dksJ7_init_2_1 5 rfl rfl)
theorem dJ7_init_2_30 : decode cJ7_init_2 30 = .ok (.iload 4, 2) := dk_21 4 (dk_at dksJ7_init_2_1 6 rfl rfl)
theorem dJ7_init_2_32 : decode cJ7_init_2 32 = .ok (.invokestatic 54, 3) := dk_184 0 54 (dk_at dksJ7_init_2_1 8 rfl rfl)
theorem dJ7_init_2_35 : decode cJ7_init_2 35 = .ok (.putfield 9, 3) := dk_181 0 9 (dk_at dksJ7_init_2_1 11 rfl rfl)
theorem dJ7_init_2_38 : decode cJ7_init_2 38 = .ok (.goto 59, 3) := dk_167 0 59 (dk_at dksJ7_init_2_1 14 rfl rfl)
theorem dJ7_init_2_41 : decode cJ7_init_2 41 = .ok (.getstatic 38, 3) := dk_178 0 38 (dk_at dksJ7_init_2_1 17 rfl rfl)
theorem dJ7_init_2_44 : decode cJ7_init_2 44 = .ok (.ifCond .eq 35, 3) := dk_153 0 35 (dk_at dksJ7_init_2_1 20 rfl rfl)
theorem dJ7_init_2_47 : decode cJ7_init_2 47 = .ok (.aload_n 1, 1) := dk_43 (dk_at dksJ7_init_2_1 23 rfl rfl)
theorem dJ7_init_2_48 : decode cJ7_init_2 48 = .ok (.getfield 1048, 3) := dk_180 4 24 (dk_at dksJ7_init_2_2 0 rfl rfl)
theorem dJ7_init_2_51 : decode cJ7_init_2 51 = .ok (.ifCond .eq 28, 3) := dk_153 0 28 (dk_at dksJ7_init_2_2 3 rfl rfl)
theorem dJ7_init_2_54 : decode cJ7_init_2 54 = .ok (.aload_n 0, 1) := dk_42 (dk_at dksJ7_init_2_2 6 rfl rfl)
theorem dJ7_init_2_55 : decode cJ7_init_2 55 = .ok (.aload_n 3, 1) := dk_45 (dk_at dksJ7_init_2_2 7 rfl rfl)
theorem dJ7_init_2_56 : decode cJ7_init_2 56 = .ok (.iconst 0, 1) := dk_3 (dk_at dksJ7_init_2_2 8 rfl rfl)
theorem dJ7_init_2_57 : decode cJ7_init_2 57 = .ok (.iload 4, 2) := dk_21 4 (dk_at dksJ7_init_2_2 9 rfl rfl)
theorem dJ7_init_2_59 : decode cJ7_init_2 59 = .ok (.invokestatic 1051, 3) := dk_184 4 27 (dk_at dksJ7_init_2_2 11 rfl rfl)
theorem dJ7_init_2_62 : decode cJ7_init_2 62 = .ok (.putfield 9, 3) := dk_181 0 9 (dk_at dksJ7_init_2_2 14 rfl rfl)
theorem dJ7_init_2_65 : decode cJ7_init_2 65 = .ok (.aload_n 0, 1) := dk_42 (dk_at dksJ7_init_2_2 17 rfl rfl)
theorem dJ7_init_2_66 : decode cJ7_init_2 66 = .ok (.aload_n 0, 1) := dk_42 (dk_at dksJ7_init_2_2 18 rfl rfl)
theorem dJ7_init_2_67 : decode cJ7_init_2 67 = .ok (.getfield 9, 3) := dk_180 0 9 (dk_at dksJ7_init_2_2 19 rfl rfl)
theorem dJ7_init_2_70 : decode cJ7_init_2 70 = .ok (.iload 4, 2) := dk_21 4 (dk_at dksJ7_init_2_2 22 rfl rfl)
theorem dJ7_init_2_72 : decode cJ7_init_2 72 = .ok (.invokestatic 47, 3) := dk_184 0 47 (dk_at dksJ7_init_2_3 0 rfl rfl)
theorem dJ7_init_2_75 : decode cJ7_init_2 75 = .ok (.putfield 15, 3) := dk_181 0 15 (dk_at dksJ7_init_2_3 3 rfl rfl)
theorem dJ7_init_2_78 : decode cJ7_init_2 78 = .ok (.return_, 1) := dk_177 (dk_at dksJ7_init_2_3 6 rfl rfl)
theorem dJ7_init_2_79 : decode cJ7_init_2 79 = .ok (.aload_n 0, 1) := dk_42 (dk_at dksJ7_init_2_3 7 rfl rfl)
theorem dJ7_init_2_80 : decode cJ7_init_2 80 = .ok (.iconst 1, 1) := dk_4 (dk_at dksJ7_init_2_3 8 rfl rfl)
theorem dJ7_init_2_81 : decode cJ7_init_2 81 = .ok (.putfield 15, 3) := dk_181 0 15 (dk_at dksJ7_init_2_3 9 rfl rfl)
theorem dJ7_init_2_84 : decode cJ7_init_2 84 = .ok (.aload_n 0, 1) := dk_42 (dk_at dksJ7_init_2_3 12 rfl rfl)
theorem dJ7_init_2_85 : decode cJ7_init_2 85 = .ok (.aload_n 3, 1) := dk_45 (dk_at dksJ7_init_2_3 13 rfl rfl)
theorem dJ7_init_2_86 : decode cJ7_init_2 86 = .ok (.iconst 0, 1) := dk_3 (dk_at dksJ7_init_2_3 14 rfl rfl)
theorem dJ7_init_2_87 : decode cJ7_init_2 87 = .ok (.iload 4, 2) := dk_21 4 (dk_at dksJ7_init_2_3 15 rfl rfl)
theorem dJ7_init_2_89 : decode cJ7_init_2 89 = .ok (.iconst 1, 1) := dk_4 (dk_at dksJ7_init_2_3 17 rfl rfl)
theorem dJ7_init_2_90 : decode cJ7_init_2 90 = .ok (.ishl, 1) := dk_120 (dk_at dksJ7_init_2_3 18 rfl rfl)
theorem dJ7_init_2_91 : decode cJ7_init_2 91 = .ok (.invokestatic 54, 3) := dk_184 0 54 (dk_at dksJ7_init_2_3 19 rfl rfl)
theorem dJ7_init_2_94 : decode cJ7_init_2 94 = .ok (.putfield 9, 3) := dk_181 0 9 (dk_at dksJ7_init_2_4 0 rfl rfl)
theorem dJ7_init_2_97 : decode cJ7_init_2 97 = .ok (.return_, 1) := dk_177 (dk_at dksJ7_init_2_4 3 rfl rfl)
abbrev cJ7_checkIndex : ByteArray := prog_27_method_155_code
def yJ7_checkIndex : MethodName := ⟨RJ7, "checkIndex", "(II)V"⟩
def dkwJ7_checkIndex_0 : List UInt8 := [26, 27, 178, 4, 29, 184, 4, 35, 87, 177]
abbrev dktJ7_checkIndex_0 : List UInt8 := dkwJ7_checkIndex_0 ++ []
theorem dksJ7_checkIndex_0 : cJ7_checkIndex.data.toList.drop 0 = dktJ7_checkIndex_0 := by decide +kernel
theorem dJ7_checkIndex_0 : decode cJ7_checkIndex 0 = .ok (.iload_n 0, 1) := dk_26 (dk_at dksJ7_checkIndex_0 0 rfl rfl)
theorem dJ7_checkIndex_1 : decode cJ7_checkIndex 1 = .ok (.iload_n 1, 1) := dk_27 (dk_at dksJ7_checkIndex_0 1 rfl rfl)
theorem dJ7_checkIndex_2 : decode cJ7_checkIndex 2 = .ok (.getstatic 1053, 3) := dk_178 4 29 (dk_at dksJ7_checkIndex_0 2 rfl rfl)
theorem dJ7_checkIndex_5 : decode cJ7_checkIndex 5 = .ok (.invokestatic 1059, 3) := dk_184 4 35 (dk_at dksJ7_checkIndex_0 5 rfl rfl)
theorem dJ7_checkIndex_8 : decode cJ7_checkIndex 8 = .ok (.pop, 1) := dk_87 (dk_at dksJ7_checkIndex_0 8 rfl rfl)
theorem dJ7_checkIndex_9 : decode cJ7_checkIndex 9 = .ok (.return_, 1) := dk_177 (dk_at dksJ7_checkIndex_0 9 rfl rfl)
abbrev cJ7_substring : ByteArray := prog_27_method_92_code
def yJ7_substring : MethodName := ⟨RJ7, "substring", "(II)Ljava/lang/String;"⟩
def dkwJ7_substring_2 : List UInt8 := [180, 0, 9, 27, 21, 4, 184, 2, 177, 176]
abbrev dktJ7_substring_2 : List UInt8 := dkwJ7_substring_2 ++ []
def dkwJ7_substring_1 : List UInt8 := [100, 54, 4, 42, 182, 1, 236, 153, 0, 16, 42, 180, 0, 9, 27, 21, 4, 184, 2, 173, 167, 0, 13, 42]
abbrev dktJ7_substring_1 : List UInt8 := dkwJ7_substring_1 ++ dktJ7_substring_2
def dkwJ7_substring_0 : List UInt8 := [42, 182, 1, 249, 62, 27, 28, 29, 184, 2, 9, 27, 154, 0, 10, 28, 29, 160, 0, 5, 42, 176, 28, 27]
abbrev dktJ7_substring_0 : List UInt8 := dkwJ7_substring_0 ++ dktJ7_substring_1
theorem dksJ7_substring_0 : cJ7_substring.data.toList.drop 0 = dktJ7_substring_0 := by decide +kernel
theorem dksJ7_substring_1 : cJ7_substring.data.toList.drop 24 = dktJ7_substring_1 := dk_seg dksJ7_substring_0 24 rfl rfl
theorem dksJ7_substring_2 : cJ7_substring.data.toList.drop 48 = dktJ7_substring_2 := dk_seg dksJ7_substring_1 24 rfl rfl
theorem dJ7_substring_0 : decode cJ7_substring 0 = .ok (.aload_n 0, 1) := dk_42 (dk_at dksJ7_substring_0 0 rfl rfl)
theorem dJ7_substring_1 : decode cJ7_substring 1 = .ok (.invokevirtual 505, 3) := dk_182 1 249 (dk_at dksJ7_substring_0 1 rfl rfl)
theorem dJ7_substring_4 : decode cJ7_substring 4 = .ok (.istore_n 3, 1) := dk_62 (dk_at dksJ7_substring_0 4 rfl rfl)
theorem dJ7_substring_5 : decode cJ7_substring 5 = .ok (.iload_n 1, 1) := dk_27 (dk_at dksJ7_substring_0 5 rfl rfl)
theorem dJ7_substring_6 : decode cJ7_substring 6 = .ok (.iload_n 2, 1) := dk_28 (dk_at dksJ7_substring_0 6 rfl rfl)
theorem dJ7_substring_7 : decode cJ7_substring 7 = .ok (.iload_n 3, 1) := dk_29 (dk_at dksJ7_substring_0 7 rfl rfl)
theorem dJ7_substring_8 : decode cJ7_substring 8 = .ok (.invokestatic 521, 3) := dk_184 2 9 (dk_at dksJ7_substring_0 8 rfl rfl)
theorem dJ7_substring_11 : decode cJ7_substring 11 = .ok (.iload_n 1, 1) := dk_27 (dk_at dksJ7_substring_0 11 rfl rfl)
theorem dJ7_substring_12 : decode cJ7_substring 12 = .ok (.ifCond .ne 10, 3) := dk_154 0 10 (dk_at dksJ7_substring_0 12 rfl rfl)
theorem dJ7_substring_15 : decode cJ7_substring 15 = .ok (.iload_n 2, 1) := dk_28 (dk_at dksJ7_substring_0 15 rfl rfl)
theorem dJ7_substring_16 : decode cJ7_substring 16 = .ok (.iload_n 3, 1) := dk_29 (dk_at dksJ7_substring_0 16 rfl rfl)
theorem dJ7_substring_17 : decode cJ7_substring 17 = .ok (.if_icmp .ne 5, 3) := dk_160 0 5 (dk_at dksJ7_substring_0 17 rfl rfl)
theorem dJ7_substring_20 : decode cJ7_substring 20 = .ok (.aload_n 0, 1) := dk_42 (dk_at dksJ7_substring_0 20 rfl rfl)
theorem dJ7_substring_21 : decode cJ7_substring 21 = .ok (.areturn, 1) := dk_176 (dk_at dksJ7_substring_0 21 rfl rfl)
theorem dJ7_substring_22 : decode cJ7_substring 22 = .ok (.iload_n 2, 1) := dk_28 (dk_at dksJ7_substring_0 22 rfl rfl)
theorem dJ7_substring_23 : decode cJ7_substring 23 = .ok (.iload_n 1, 1) := dk_27 (dk_at dksJ7_substring_0 23 rfl rfl)
theorem dJ7_substring_24 : decode cJ7_substring 24 = .ok (.isub, 1) := dk_100 (dk_at dksJ7_substring_1 0 rfl rfl)
theorem dJ7_substring_25 : decode cJ7_substring 25 = .ok (.istore 4, 2) := dk_54 4 (dk_at dksJ7_substring_1 1 rfl rfl)
theorem dJ7_substring_27 : decode cJ7_substring 27 = .ok (.aload_n 0, 1) := dk_42 (dk_at dksJ7_substring_1 3 rfl rfl)
theorem dJ7_substring_28 : decode cJ7_substring 28 = .ok (.invokevirtual 492, 3) := dk_182 1 236 (dk_at dksJ7_substring_1 4 rfl rfl)
theorem dJ7_substring_31 : decode cJ7_substring 31 = .ok (.ifCond .eq 16, 3) := dk_153 0 16 (dk_at dksJ7_substring_1 7 rfl rfl)
theorem dJ7_substring_34 : decode cJ7_substring 34 = .ok (.aload_n 0, 1) := dk_42 (dk_at dksJ7_substring_1 10 rfl rfl)
theorem dJ7_substring_35 : decode cJ7_substring 35 = .ok (.getfield 9, 3) := dk_180 0 9 (dk_at dksJ7_substring_1 11 rfl rfl)
theorem dJ7_substring_38 : decode cJ7_substring 38 = .ok (.iload_n 1, 1) := dk_27 (dk_at dksJ7_substring_1 14 rfl rfl)
theorem dJ7_substring_39 : decode cJ7_substring 39 = .ok (.iload 4, 2) := dk_21 4 (dk_at dksJ7_substring_1 15 rfl rfl)
theorem dJ7_substring_41 : decode cJ7_substring 41 = .ok (.invokestatic 685, 3) := dk_184 2 173 (dk_at dksJ7_substring_1 17 rfl rfl)
theorem dJ7_substring_44 : decode cJ7_substring 44 = .ok (.goto 13, 3) := dk_167 0 13 (dk_at dksJ7_substring_1 20 rfl rfl)
theorem dJ7_substring_47 : decode cJ7_substring 47 = .ok (.aload_n 0, 1) := dk_42 (dk_at dksJ7_substring_1 23 rfl rfl)
theorem dJ7_substring_48 : decode cJ7_substring 48 = .ok (.getfield 9, 3) := dk_180 0 9 (dk_at dksJ7_substring_2 0 rfl rfl)
theorem dJ7_substring_51 : decode cJ7_substring 51 = .ok (.iload_n 1, 1) := dk_27 (dk_at dksJ7_substring_2 3 rfl rfl)
theorem dJ7_substring_52 : decode cJ7_substring 52 = .ok (.iload 4, 2) := dk_21 4 (dk_at dksJ7_substring_2 4 rfl rfl)
theorem dJ7_substring_54 : decode cJ7_substring 54 = .ok (.invokestatic 689, 3) := dk_184 2 177 (dk_at dksJ7_substring_2 6 rfl rfl)
theorem dJ7_substring_57 : decode cJ7_substring 57 = .ok (.areturn, 1) := dk_176 (dk_at dksJ7_substring_2 9 rfl rfl)
abbrev cJ7_isLatin1 : ByteArray := prog_27_method_154_code
def yJ7_isLatin1 : MethodName := ⟨RJ7, "isLatin1", "()Z"⟩
def dkwJ7_isLatin1_0 : List UInt8 := [178, 0, 38, 153, 0, 14, 42, 180, 0, 15, 154, 0, 7, 4, 167, 0, 4, 3, 172]
abbrev dktJ7_isLatin1_0 : List UInt8 := dkwJ7_isLatin1_0 ++ []
theorem dksJ7_isLatin1_0 : cJ7_isLatin1.data.toList.drop 0 = dktJ7_isLatin1_0 := by decide +kernel
theorem dJ7_isLatin1_0 : decode cJ7_isLatin1 0 = .ok (.getstatic 38, 3) := dk_178 0 38 (dk_at dksJ7_isLatin1_0 0 rfl rfl)
theorem dJ7_isLatin1_3 : decode cJ7_isLatin1 3 = .ok (.ifCond .eq 14, 3) := dk_153 0 14 (dk_at dksJ7_isLatin1_0 3 rfl rfl)
theorem dJ7_isLatin1_6 : decode cJ7_isLatin1 6 = .ok (.aload_n 0, 1) := dk_42 (dk_at dksJ7_isLatin1_0 6 rfl rfl)
theorem dJ7_isLatin1_7 : decode cJ7_isLatin1 7 = .ok (.getfield 15, 3) := dk_180 0 15 (dk_at dksJ7_isLatin1_0 7 rfl rfl)
theorem dJ7_isLatin1_10 : decode cJ7_isLatin1 10 = .ok (.ifCond .ne 7, 3) := dk_154 0 7 (dk_at dksJ7_isLatin1_0 10 rfl rfl)
theorem dJ7_isLatin1_13 : decode cJ7_isLatin1 13 = .ok (.iconst 1, 1) := dk_4 (dk_at dksJ7_isLatin1_0 13 rfl rfl)
theorem dJ7_isLatin1_14 : decode cJ7_isLatin1 14 = .ok (.goto 4, 3) := dk_167 0 4 (dk_at dksJ7_isLatin1_0 14 rfl rfl)
theorem dJ7_isLatin1_17 : decode cJ7_isLatin1 17 = .ok (.iconst 0, 1) := dk_3 (dk_at dksJ7_isLatin1_0 17 rfl rfl)
theorem dJ7_isLatin1_18 : decode cJ7_isLatin1 18 = .ok (.ireturn, 1) := dk_172 (dk_at dksJ7_isLatin1_0 18 rfl rfl)
abbrev cJ7_init_3 : ByteArray := prog_27_method_151_code
def yJ7_init_3 : MethodName := ⟨RJ7, "<init>", "([BB)V"⟩
def dkwJ7_init_3_0 : List UInt8 := [42, 183, 0, 1, 42, 43, 181, 0, 9, 42, 28, 181, 0, 15, 177]
abbrev dktJ7_init_3_0 : List UInt8 := dkwJ7_init_3_0 ++ []
theorem dksJ7_init_3_0 : cJ7_init_3.data.toList.drop 0 = dktJ7_init_3_0 := by decide +kernel
theorem dJ7_init_3_0 : decode cJ7_init_3 0 = .ok (.aload_n 0, 1) := dk_42 (dk_at dksJ7_init_3_0 0 rfl rfl)
theorem dJ7_init_3_1 : decode cJ7_init_3 1 = .ok (.invokespecial 1, 3) := dk_183 0 1 (dk_at dksJ7_init_3_0 1 rfl rfl)
theorem dJ7_init_3_4 : decode cJ7_init_3 4 = .ok (.aload_n 0, 1) := dk_42 (dk_at dksJ7_init_3_0 4 rfl rfl)
theorem dJ7_init_3_5 : decode cJ7_init_3 5 = .ok (.aload_n 1, 1) := dk_43 (dk_at dksJ7_init_3_0 5 rfl rfl)
theorem dJ7_init_3_6 : decode cJ7_init_3 6 = .ok (.putfield 9, 3) := dk_181 0 9 (dk_at dksJ7_init_3_0 6 rfl rfl)
theorem dJ7_init_3_9 : decode cJ7_init_3 9 = .ok (.aload_n 0, 1) := dk_42 (dk_at dksJ7_init_3_0 9 rfl rfl)
theorem dJ7_init_3_10 : decode cJ7_init_3 10 = .ok (.iload_n 2, 1) := dk_28 (dk_at dksJ7_init_3_0 10 rfl rfl)
theorem dJ7_init_3_11 : decode cJ7_init_3 11 = .ok (.putfield 15, 3) := dk_181 0 15 (dk_at dksJ7_init_3_0 11 rfl rfl)
theorem dJ7_init_3_14 : decode cJ7_init_3 14 = .ok (.return_, 1) := dk_177 (dk_at dksJ7_init_3_0 14 rfl rfl)
abbrev cJ7_charAt : ByteArray := prog_27_method_56_code
def yJ7_charAt : MethodName := ⟨RJ7, "charAt", "(I)C"⟩
def dkwJ7_charAt_1 : List UInt8 := [172]
abbrev dktJ7_charAt_1 : List UInt8 := dkwJ7_charAt_1 ++ []
def dkwJ7_charAt_0 : List UInt8 := [42, 182, 1, 236, 153, 0, 12, 42, 180, 0, 9, 27, 184, 1, 239, 172, 42, 180, 0, 9, 27, 184, 1, 242]
abbrev dktJ7_charAt_0 : List UInt8 := dkwJ7_charAt_0 ++ dktJ7_charAt_1
theorem dksJ7_charAt_0 : cJ7_charAt.data.toList.drop 0 = dktJ7_charAt_0 := by decide +kernel
theorem dksJ7_charAt_1 : cJ7_charAt.data.toList.drop 24 = dktJ7_charAt_1 := dk_seg dksJ7_charAt_0 24 rfl rfl
theorem dJ7_charAt_0 : decode cJ7_charAt 0 = .ok (.aload_n 0, 1) := dk_42 (dk_at dksJ7_charAt_0 0 rfl rfl)
theorem dJ7_charAt_1 : decode cJ7_charAt 1 = .ok (.invokevirtual 492, 3) := dk_182 1 236 (dk_at dksJ7_charAt_0 1 rfl rfl)
theorem dJ7_charAt_4 : decode cJ7_charAt 4 = .ok (.ifCond .eq 12, 3) := dk_153 0 12 (dk_at dksJ7_charAt_0 4 rfl rfl)
theorem dJ7_charAt_7 : decode cJ7_charAt 7 = .ok (.aload_n 0, 1) := dk_42 (dk_at dksJ7_charAt_0 7 rfl rfl)
theorem dJ7_charAt_8 : decode cJ7_charAt 8 = .ok (.getfield 9, 3) := dk_180 0 9 (dk_at dksJ7_charAt_0 8 rfl rfl)
theorem dJ7_charAt_11 : decode cJ7_charAt 11 = .ok (.iload_n 1, 1) := dk_27 (dk_at dksJ7_charAt_0 11 rfl rfl)
theorem dJ7_charAt_12 : decode cJ7_charAt 12 = .ok (.invokestatic 495, 3) := dk_184 1 239 (dk_at dksJ7_charAt_0 12 rfl rfl)
theorem dJ7_charAt_15 : decode cJ7_charAt 15 = .ok (.ireturn, 1) := dk_172 (dk_at dksJ7_charAt_0 15 rfl rfl)
theorem dJ7_charAt_16 : decode cJ7_charAt 16 = .ok (.aload_n 0, 1) := dk_42 (dk_at dksJ7_charAt_0 16 rfl rfl)
theorem dJ7_charAt_17 : decode cJ7_charAt 17 = .ok (.getfield 9, 3) := dk_180 0 9 (dk_at dksJ7_charAt_0 17 rfl rfl)
theorem dJ7_charAt_20 : decode cJ7_charAt 20 = .ok (.iload_n 1, 1) := dk_27 (dk_at dksJ7_charAt_0 20 rfl rfl)
theorem dJ7_charAt_21 : decode cJ7_charAt 21 = .ok (.invokestatic 498, 3) := dk_184 1 242 (dk_at dksJ7_charAt_0 21 rfl rfl)
theorem dJ7_charAt_24 : decode cJ7_charAt 24 = .ok (.ireturn, 1) := dk_172 (dk_at dksJ7_charAt_1 0 rfl rfl)
abbrev cJ7_equals : ByteArray := prog_27_method_66_code
def yJ7_equals : MethodName := ⟨RJ7, "equals", "(Ljava/lang/Object;)Z"⟩
def dkwJ7_equals_2 : List UInt8 := [184, 2, 29, 153, 0, 7, 4, 167, 0, 4, 3, 172]
abbrev dktJ7_equals_2 : List UInt8 := dkwJ7_equals_2 ++ []
def dkwJ7_equals_1 : List UInt8 := [153, 0, 14, 42, 180, 0, 15, 44, 180, 0, 15, 160, 0, 21, 42, 180, 0, 9, 44, 180, 0, 9]
abbrev dktJ7_equals_1 : List UInt8 := dkwJ7_equals_1 ++ dktJ7_equals_2
def dkwJ7_equals_0 : List UInt8 := [42, 43, 166, 0, 5, 4, 172, 43, 193, 0, 10, 153, 0, 43, 43, 192, 0, 10, 77, 178, 0, 38]
abbrev dktJ7_equals_0 : List UInt8 := dkwJ7_equals_0 ++ dktJ7_equals_1
theorem dksJ7_equals_0 : cJ7_equals.data.toList.drop 0 = dktJ7_equals_0 := by decide +kernel
theorem dksJ7_equals_1 : cJ7_equals.data.toList.drop 22 = dktJ7_equals_1 := dk_seg dksJ7_equals_0 22 rfl rfl
theorem dksJ7_equals_2 : cJ7_equals.data.toList.drop 44 = dktJ7_equals_2 := dk_seg dksJ7_equals_1 22 rfl rfl
theorem dJ7_equals_0 : decode cJ7_equals 0 = .ok (.aload_n 0, 1) := dk_42 (dk_at dksJ7_equals_0 0 rfl rfl)
theorem dJ7_equals_1 : decode cJ7_equals 1 = .ok (.aload_n 1, 1) := dk_43 (dk_at dksJ7_equals_0 1 rfl rfl)
theorem dJ7_equals_2 : decode cJ7_equals 2 = .ok (.if_acmp .ne 5, 3) := dk_166 0 5 (dk_at dksJ7_equals_0 2 rfl rfl)
theorem dJ7_equals_5 : decode cJ7_equals 5 = .ok (.iconst 1, 1) := dk_4 (dk_at dksJ7_equals_0 5 rfl rfl)
theorem dJ7_equals_6 : decode cJ7_equals 6 = .ok (.ireturn, 1) := dk_172 (dk_at dksJ7_equals_0 6 rfl rfl)
theorem dJ7_equals_7 : decode cJ7_equals 7 = .ok (.aload_n 1, 1) := dk_43 (dk_at dksJ7_equals_0 7 rfl rfl)
theorem dJ7_equals_8 : decode cJ7_equals 8 = .ok (.instanceof 10, 3) := dk_193 0 10 (dk_at dksJ7_equals_0 8 rfl rfl)
theorem dJ7_equals_11 : decode cJ7_equals 11 = .ok (.ifCond .eq 43, 3) := dk_153 0 43 (dk_at dksJ7_equals_0 11 rfl rfl)
theorem dJ7_equals_14 : decode cJ7_equals 14 = .ok (.aload_n 1, 1) := dk_43 (dk_at dksJ7_equals_0 14 rfl rfl)
theorem dJ7_equals_15 : decode cJ7_equals 15 = .ok (.checkcast 10, 3) := dk_192 0 10 (dk_at dksJ7_equals_0 15 rfl rfl)
theorem dJ7_equals_18 : decode cJ7_equals 18 = .ok (.astore_n 2, 1) := dk_77 (dk_at dksJ7_equals_0 18 rfl rfl)
theorem dJ7_equals_19 : decode cJ7_equals 19 = .ok (.getstatic 38, 3) := dk_178 0 38 (dk_at dksJ7_equals_0 19 rfl rfl)
theorem dJ7_equals_22 : decode cJ7_equals 22 = .ok (.ifCond .eq 14, 3) := dk_153 0 14 (dk_at dksJ7_equals_1 0 rfl rfl)
theorem dJ7_equals_25 : decode cJ7_equals 25 = .ok (.aload_n 0, 1) := dk_42 (dk_at dksJ7_equals_1 3 rfl rfl)
theorem dJ7_equals_26 : decode cJ7_equals 26 = .ok (.getfield 15, 3) := dk_180 0 15 (dk_at dksJ7_equals_1 4 rfl rfl)
theorem dJ7_equals_29 : decode cJ7_equals 29 = .ok (.aload_n 2, 1) := dk_44 (dk_at dksJ7_equals_1 7 rfl rfl)
theorem dJ7_equals_30 : decode cJ7_equals 30 = .ok (.getfield 15, 3) := dk_180 0 15 (dk_at dksJ7_equals_1 8 rfl rfl)
theorem dJ7_equals_33 : decode cJ7_equals 33 = .ok (.if_icmp .ne 21, 3) := dk_160 0 21 (dk_at dksJ7_equals_1 11 rfl rfl)
theorem dJ7_equals_36 : decode cJ7_equals 36 = .ok (.aload_n 0, 1) := dk_42 (dk_at dksJ7_equals_1 14 rfl rfl)
theorem dJ7_equals_37 : decode cJ7_equals 37 = .ok (.getfield 9, 3) := dk_180 0 9 (dk_at dksJ7_equals_1 15 rfl rfl)
theorem dJ7_equals_40 : decode cJ7_equals 40 = .ok (.aload_n 2, 1) := dk_44 (dk_at dksJ7_equals_1 18 rfl rfl)
theorem dJ7_equals_41 : decode cJ7_equals 41 = .ok (.getfield 9, 3) := dk_180 0 9 (dk_at dksJ7_equals_1 19 rfl rfl)
theorem dJ7_equals_44 : decode cJ7_equals 44 = .ok (.invokestatic 541, 3) := dk_184 2 29 (dk_at dksJ7_equals_2 0 rfl rfl)
theorem dJ7_equals_47 : decode cJ7_equals 47 = .ok (.ifCond .eq 7, 3) := dk_153 0 7 (dk_at dksJ7_equals_2 3 rfl rfl)
theorem dJ7_equals_50 : decode cJ7_equals 50 = .ok (.iconst 1, 1) := dk_4 (dk_at dksJ7_equals_2 6 rfl rfl)
theorem dJ7_equals_51 : decode cJ7_equals 51 = .ok (.goto 4, 3) := dk_167 0 4 (dk_at dksJ7_equals_2 7 rfl rfl)
theorem dJ7_equals_54 : decode cJ7_equals 54 = .ok (.iconst 0, 1) := dk_3 (dk_at dksJ7_equals_2 10 rfl rfl)
theorem dJ7_equals_55 : decode cJ7_equals 55 = .ok (.ireturn, 1) := dk_172 (dk_at dksJ7_equals_2 11 rfl rfl)
abbrev cJ7_hashCode : ByteArray := prog_27_method_78_code
def yJ7_hashCode : MethodName := ⟨RJ7, "hashCode", "()I"⟩
def dkwJ7_hashCode_2 : List UInt8 := [181, 0, 23, 167, 0, 8, 42, 27, 181, 0, 19, 27, 172]
abbrev dktJ7_hashCode_2 : List UInt8 := dkwJ7_hashCode_2 ++ []
def dkwJ7_hashCode_1 : List UInt8 := [180, 0, 9, 184, 2, 116, 167, 0, 10, 42, 180, 0, 9, 184, 2, 120, 60, 27, 154, 0, 11, 42, 4]
abbrev dktJ7_hashCode_1 : List UInt8 := dkwJ7_hashCode_1 ++ dktJ7_hashCode_2
def dkwJ7_hashCode_0 : List UInt8 := [42, 180, 0, 19, 60, 27, 154, 0, 52, 42, 180, 0, 23, 154, 0, 45, 42, 182, 1, 236, 153, 0, 13, 42]
abbrev dktJ7_hashCode_0 : List UInt8 := dkwJ7_hashCode_0 ++ dktJ7_hashCode_1
theorem dksJ7_hashCode_0 : cJ7_hashCode.data.toList.drop 0 = dktJ7_hashCode_0 := by decide +kernel
theorem dksJ7_hashCode_1 : cJ7_hashCode.data.toList.drop 24 = dktJ7_hashCode_1 := dk_seg dksJ7_hashCode_0 24 rfl rfl
theorem dksJ7_hashCode_2 : cJ7_hashCode.data.toList.drop 47 = dktJ7_hashCode_2 := dk_seg dksJ7_hashCode_1 23 rfl rfl
theorem dJ7_hashCode_0 : decode cJ7_hashCode 0 = .ok (.aload_n 0, 1) := dk_42 (dk_at dksJ7_hashCode_0 0 rfl rfl)
theorem dJ7_hashCode_1 : decode cJ7_hashCode 1 = .ok (.getfield 19, 3) := dk_180 0 19 (dk_at dksJ7_hashCode_0 1 rfl rfl)
theorem dJ7_hashCode_4 : decode cJ7_hashCode 4 = .ok (.istore_n 1, 1) := dk_60 (dk_at dksJ7_hashCode_0 4 rfl rfl)
theorem dJ7_hashCode_5 : decode cJ7_hashCode 5 = .ok (.iload_n 1, 1) := dk_27 (dk_at dksJ7_hashCode_0 5 rfl rfl)
theorem dJ7_hashCode_6 : decode cJ7_hashCode 6 = .ok (.ifCond .ne 52, 3) := dk_154 0 52 (dk_at dksJ7_hashCode_0 6 rfl rfl)
theorem dJ7_hashCode_9 : decode cJ7_hashCode 9 = .ok (.aload_n 0, 1) := dk_42 (dk_at dksJ7_hashCode_0 9 rfl rfl)
theorem dJ7_hashCode_10 : decode cJ7_hashCode 10 = .ok (.getfield 23, 3) := dk_180 0 23 (dk_at dksJ7_hashCode_0 10 rfl rfl)
theorem dJ7_hashCode_13 : decode cJ7_hashCode 13 = .ok (.ifCond .ne 45, 3) := dk_154 0 45 (dk_at dksJ7_hashCode_0 13 rfl rfl)
theorem dJ7_hashCode_16 : decode cJ7_hashCode 16 = .ok (.aload_n 0, 1) := dk_42 (dk_at dksJ7_hashCode_0 16 rfl rfl)
theorem dJ7_hashCode_17 : decode cJ7_hashCode 17 = .ok (.invokevirtual 492, 3) := dk_182 1 236 (dk_at dksJ7_hashCode_0 17 rfl rfl)
theorem dJ7_hashCode_20 : decode cJ7_hashCode 20 = .ok (.ifCond .eq 13, 3) := dk_153 0 13 (dk_at dksJ7_hashCode_0 20 rfl rfl)
theorem dJ7_hashCode_23 : decode cJ7_hashCode 23 = .ok (.aload_n 0, 1) := dk_42 (dk_at dksJ7_hashCode_0 23 rfl rfl)
theorem dJ7_hashCode_24 : decode cJ7_hashCode 24 = .ok (.getfield 9, 3) := dk_180 0 9 (dk_at dksJ7_hashCode_1 0 rfl rfl)
theorem dJ7_hashCode_27 : decode cJ7_hashCode 27 = .ok (.invokestatic 628, 3) := dk_184 2 116 (dk_at dksJ7_hashCode_1 3 rfl rfl)
theorem dJ7_hashCode_30 : decode cJ7_hashCode 30 = .ok (.goto 10, 3) := dk_167 0 10 (dk_at dksJ7_hashCode_1 6 rfl rfl)
theorem dJ7_hashCode_33 : decode cJ7_hashCode 33 = .ok (.aload_n 0, 1) := dk_42 (dk_at dksJ7_hashCode_1 9 rfl rfl)
theorem dJ7_hashCode_34 : decode cJ7_hashCode 34 = .ok (.getfield 9, 3) := dk_180 0 9 (dk_at dksJ7_hashCode_1 10 rfl rfl)
theorem dJ7_hashCode_37 : decode cJ7_hashCode 37 = .ok (.invokestatic 632, 3) := dk_184 2 120 (dk_at dksJ7_hashCode_1 13 rfl rfl)
theorem dJ7_hashCode_40 : decode cJ7_hashCode 40 = .ok (.istore_n 1, 1) := dk_60 (dk_at dksJ7_hashCode_1 16 rfl rfl)
theorem dJ7_hashCode_41 : decode cJ7_hashCode 41 = .ok (.iload_n 1, 1) := dk_27 (dk_at dksJ7_hashCode_1 17 rfl rfl)
theorem dJ7_hashCode_42 : decode cJ7_hashCode 42 = .ok (.ifCond .ne 11, 3) := dk_154 0 11 (dk_at dksJ7_hashCode_1 18 rfl rfl)
theorem dJ7_hashCode_45 : decode cJ7_hashCode 45 = .ok (.aload_n 0, 1) := dk_42 (dk_at dksJ7_hashCode_1 21 rfl rfl)
theorem dJ7_hashCode_46 : decode cJ7_hashCode 46 = .ok (.iconst 1, 1) := dk_4 (dk_at dksJ7_hashCode_1 22 rfl rfl)
theorem dJ7_hashCode_47 : decode cJ7_hashCode 47 = .ok (.putfield 23, 3) := dk_181 0 23 (dk_at dksJ7_hashCode_2 0 rfl rfl)
theorem dJ7_hashCode_50 : decode cJ7_hashCode 50 = .ok (.goto 8, 3) := dk_167 0 8 (dk_at dksJ7_hashCode_2 3 rfl rfl)
theorem dJ7_hashCode_53 : decode cJ7_hashCode 53 = .ok (.aload_n 0, 1) := dk_42 (dk_at dksJ7_hashCode_2 6 rfl rfl)
theorem dJ7_hashCode_54 : decode cJ7_hashCode 54 = .ok (.iload_n 1, 1) := dk_27 (dk_at dksJ7_hashCode_2 7 rfl rfl)
theorem dJ7_hashCode_55 : decode cJ7_hashCode 55 = .ok (.putfield 19, 3) := dk_181 0 19 (dk_at dksJ7_hashCode_2 8 rfl rfl)
theorem dJ7_hashCode_58 : decode cJ7_hashCode 58 = .ok (.iload_n 1, 1) := dk_27 (dk_at dksJ7_hashCode_2 11 rfl rfl)
theorem dJ7_hashCode_59 : decode cJ7_hashCode 59 = .ok (.ireturn, 1) := dk_172 (dk_at dksJ7_hashCode_2 12 rfl rfl)
theorem q104 : (Jvm.Cond.initialized "java/lang/String") ∈ lw_all := lw_g (lw_at lw_m1 10 rfl) rfl
theorem q276 : (Jvm.Cond.laysStatic "java/lang/String" "COMPACT_STRINGS" "Z") ∈ lw_tbl := lw_at lw_m1 182 rfl
theorem q287 : (Jvm.Cond.fieldLink "java/lang/String" (1048 : Nat) "java/lang/AbstractStringBuilder" "maybeLatin1" "Z") ∈ lw_all := lw_g (lw_at lw_m1 193 rfl) rfl
theorem q474 : (Jvm.Cond.static ({ cls := "java/lang/String", name := "checkBoundsBeginEnd", desc := "(III)V" } : Jvm.MethodName)) ∈ lw_all := lw_g (lw_at lw_m2 140 rfl) rfl
theorem q475 : (Jvm.Cond.code ({ cls := "java/lang/String", name := "checkBoundsBeginEnd", desc := "(III)V" } : Jvm.MethodName) prog_27_method_158_code (3 : Nat) (Option.none : Option Jvm.ClassFile.FieldType)) ∈ lw_all := lw_g (lw_at lw_m2 141 rfl) rfl
theorem q476 : (Jvm.Cond.fieldLink "java/lang/String" (1053 : Nat) "jdk/internal/util/Preconditions" "SIOOBE_FORMATTER" "Ljava/util/function/BiFunction;") ∈ lw_all := lw_g (lw_at lw_m2 142 rfl) rfl
theorem q478 : (Jvm.Cond.methodLink "java/lang/String" (1062 : Nat) ({ cls := "jdk/internal/util/Preconditions", name := "checkFromToIndex", desc := "(IIILjava/util/function/BiFunction;)I" } : Jvm.MethodName)) ∈ lw_all := lw_g (lw_at lw_m2 144 rfl) rfl
theorem q491 : (Jvm.Cond.instanceMethod ({ cls := "java/lang/String", name := "length", desc := "()I" } : Jvm.MethodName)) ∈ lw_all := lw_g (lw_at lw_m2 157 rfl) rfl
theorem q492 : (Jvm.Cond.selects "java/lang/String" ({ cls := "java/lang/String", name := "length", desc := "()I" } : Jvm.MethodName) ({ cls := "java/lang/String", name := "length", desc := "()I" } : Jvm.MethodName)) ∈ lw_all := lw_g (lw_at lw_m2 158 rfl) rfl
theorem q493 : (Jvm.Cond.code ({ cls := "java/lang/String", name := "length", desc := "()I" } : Jvm.MethodName) prog_27_method_54_code (1 : Nat) (Option.some Jvm.ClassFile.FieldType.int)) ∈ lw_all := lw_g (lw_at lw_m2 159 rfl) rfl
theorem q494 : (Jvm.Cond.methodLink "java/lang/String" (335 : Nat) ({ cls := "java/lang/String", name := "coder", desc := "()B" } : Jvm.MethodName)) ∈ lw_all := lw_g (lw_at lw_m2 160 rfl) rfl
theorem q495 : (Jvm.Cond.instanceMethod ({ cls := "java/lang/String", name := "coder", desc := "()B" } : Jvm.MethodName)) ∈ lw_all := lw_g (lw_at lw_m2 161 rfl) rfl
theorem q496 : (Jvm.Cond.selects "java/lang/String" ({ cls := "java/lang/String", name := "coder", desc := "()B" } : Jvm.MethodName) ({ cls := "java/lang/String", name := "coder", desc := "()B" } : Jvm.MethodName)) ∈ lw_all := lw_g (lw_at lw_m2 162 rfl) rfl
theorem q497 : (Jvm.Cond.code ({ cls := "java/lang/String", name := "coder", desc := "()B" } : Jvm.MethodName) prog_27_method_152_code (1 : Nat) (Option.some Jvm.ClassFile.FieldType.byte)) ∈ lw_all := lw_g (lw_at lw_m2 163 rfl) rfl
theorem q498 : (Jvm.Cond.fieldLink "java/lang/String" (38 : Nat) "java/lang/String" "COMPACT_STRINGS" "Z") ∈ lw_all := lw_g (lw_at lw_m2 164 rfl) rfl
theorem q522 : (Jvm.Cond.static ({ cls := "java/lang/String", name := "checkBoundsOffCount", desc := "(III)I" } : Jvm.MethodName)) ∈ lw_all := lw_g (lw_at lw_m2 188 rfl) rfl
theorem q523 : (Jvm.Cond.code ({ cls := "java/lang/String", name := "checkBoundsOffCount", desc := "(III)I" } : Jvm.MethodName) prog_27_method_157_code (3 : Nat) (Option.some Jvm.ClassFile.FieldType.int)) ∈ lw_all := lw_g (lw_at lw_m2 189 rfl) rfl
theorem q524 : (Jvm.Cond.methodLink "java/lang/String" (1065 : Nat) ({ cls := "jdk/internal/util/Preconditions", name := "checkFromIndexSize", desc := "(IIILjava/util/function/BiFunction;)I" } : Jvm.MethodName)) ∈ lw_all := lw_g (lw_at lw_m2 190 rfl) rfl
theorem q528 : (Jvm.Cond.instanceMethod ({ cls := "java/lang/String", name := "getBytes", desc := "([BIB)V" } : Jvm.MethodName)) ∈ lw_all := lw_g (lw_at lw_m2 194 rfl) rfl
theorem q529 : (Jvm.Cond.selects "java/lang/String" ({ cls := "java/lang/String", name := "getBytes", desc := "([BIB)V" } : Jvm.MethodName) ({ cls := "java/lang/String", name := "getBytes", desc := "([BIB)V" } : Jvm.MethodName)) ∈ lw_all := lw_g (lw_at lw_m2 195 rfl) rfl
theorem q530 : (Jvm.Cond.code ({ cls := "java/lang/String", name := "getBytes", desc := "([BIB)V" } : Jvm.MethodName) prog_27_method_147_code (4 : Nat) (Option.none : Option Jvm.ClassFile.FieldType)) ∈ lw_all := lw_g (lw_at lw_m2 196 rfl) rfl
theorem q531 : (Jvm.Cond.methodLink "java/lang/String" (212 : Nat) ({ cls := "java/lang/System", name := "arraycopy", desc := "(Ljava/lang/Object;ILjava/lang/Object;II)V" } : Jvm.MethodName)) ∈ lw_all := lw_g (lw_at lw_m2 197 rfl) rfl
theorem q532 : (Jvm.Cond.methodLink "java/lang/String" (106 : Nat) ({ cls := "java/lang/StringLatin1", name := "inflate", desc := "([BI[BII)V" } : Jvm.MethodName)) ∈ lw_all := lw_g (lw_at lw_m2 198 rfl) rfl
theorem q564 : (Jvm.Cond.instantiable "java/lang/String" (4 : Nat)) ∈ lw_all := lw_g (lw_at lw_m2 230 rfl) rfl
theorem q566 : (Jvm.Cond.instanceMethod ({ cls := "java/lang/String", name := "<init>", desc := "(Ljava/lang/StringBuilder;)V" } : Jvm.MethodName)) ∈ lw_all := lw_g (lw_at lw_m2 232 rfl) rfl
theorem q567 : (Jvm.Cond.code ({ cls := "java/lang/String", name := "<init>", desc := "(Ljava/lang/StringBuilder;)V" } : Jvm.MethodName) prog_27_method_53_code (2 : Nat) (Option.none : Option Jvm.ClassFile.FieldType)) ∈ lw_all := lw_g (lw_at lw_m2 233 rfl) rfl
theorem q568 : (Jvm.Cond.methodLink "java/lang/String" (489 : Nat) ({ cls := "java/lang/String", name := "<init>", desc := "(Ljava/lang/AbstractStringBuilder;Ljava/lang/Void;)V" } : Jvm.MethodName)) ∈ lw_all := lw_g (lw_at lw_m2 234 rfl) rfl
theorem q569 : (Jvm.Cond.instanceMethod ({ cls := "java/lang/String", name := "<init>", desc := "(Ljava/lang/AbstractStringBuilder;Ljava/lang/Void;)V" } : Jvm.MethodName)) ∈ lw_all := lw_g (lw_at lw_m2 235 rfl) rfl
theorem q570 : (Jvm.Cond.code ({ cls := "java/lang/String", name := "<init>", desc := "(Ljava/lang/AbstractStringBuilder;Ljava/lang/Void;)V" } : Jvm.MethodName) prog_27_method_150_code (5 : Nat) (Option.none : Option Jvm.ClassFile.FieldType)) ∈ lw_all := lw_g (lw_at lw_m2 236 rfl) rfl
theorem q571 : (Jvm.Cond.methodLink "java/lang/String" (1 : Nat) ({ cls := "java/lang/Object", name := "<init>", desc := "()V" } : Jvm.MethodName)) ∈ lw_all := lw_g (lw_at lw_m2 237 rfl) rfl
theorem q572 : (Jvm.Cond.methodLink "java/lang/String" (552 : Nat) ({ cls := "java/lang/AbstractStringBuilder", name := "getValue", desc := "()[B" } : Jvm.MethodName)) ∈ lw_all := lw_g (lw_at lw_m2 238 rfl) rfl
theorem q577 : (Jvm.Cond.methodLink "java/lang/String" (549 : Nat) ({ cls := "java/lang/AbstractStringBuilder", name := "length", desc := "()I" } : Jvm.MethodName)) ∈ lw_all := lw_g (lw_at lw_m3 3 rfl) rfl
theorem q585 : (Jvm.Cond.methodLink "java/lang/String" (1047 : Nat) ({ cls := "java/lang/AbstractStringBuilder", name := "isLatin1", desc := "()Z" } : Jvm.MethodName)) ∈ lw_all := lw_g (lw_at lw_m3 11 rfl) rfl
theorem q586 : (Jvm.Cond.methodLink "java/lang/String" (54 : Nat) ({ cls := "java/util/Arrays", name := "copyOfRange", desc := "([BII)[B" } : Jvm.MethodName)) ∈ lw_all := lw_g (lw_at lw_m3 12 rfl) rfl
theorem q635 : (Jvm.Cond.methodLink "java/lang/String" (1051 : Nat) ({ cls := "java/lang/StringUTF16", name := "compress", desc := "([BII)[B" } : Jvm.MethodName)) ∈ lw_all := lw_g (lw_at lw_m3 61 rfl) rfl
theorem q645 : (Jvm.Cond.methodLink "java/lang/String" (47 : Nat) ({ cls := "java/lang/StringUTF16", name := "coderFromArrayLen", desc := "([BI)B" } : Jvm.MethodName)) ∈ lw_all := lw_g (lw_at lw_m3 71 rfl) rfl
theorem q648 : (Jvm.Cond.fieldLink "java/lang/String" (9 : Nat) "java/lang/String" "value" "[B") ∈ lw_all := lw_g (lw_at lw_m3 74 rfl) rfl
theorem q649 : (Jvm.Cond.fieldLink "java/lang/String" (15 : Nat) "java/lang/String" "coder" "B") ∈ lw_all := lw_g (lw_at lw_m3 75 rfl) rfl
theorem q650 : (Jvm.Cond.fieldLink "java/lang/String" (19 : Nat) "java/lang/String" "hash" "I") ∈ lw_all := lw_g (lw_at lw_m3 76 rfl) rfl
theorem q651 : (Jvm.Cond.fieldLink "java/lang/String" (23 : Nat) "java/lang/String" "hashIsZero" "Z") ∈ lw_all := lw_g (lw_at lw_m3 77 rfl) rfl
theorem q652 : (Jvm.Cond.laysFinal "java/lang/String" "java/lang/String" "value" "[B") ∈ lw_all := lw_g (lw_at lw_m3 78 rfl) rfl
theorem q653 : (Jvm.Cond.soleField "java/lang/String" "value") ∈ lw_all := lw_g (lw_at lw_m3 79 rfl) rfl
theorem q654 : (Jvm.Cond.laysFinal "java/lang/String" "java/lang/String" "coder" "B") ∈ lw_all := lw_g (lw_at lw_m3 80 rfl) rfl
theorem q655 : (Jvm.Cond.soleField "java/lang/String" "coder") ∈ lw_all := lw_g (lw_at lw_m3 81 rfl) rfl
theorem q656 : (Jvm.Cond.lays "java/lang/String" "java/lang/String" "hash" "I") ∈ lw_all := lw_g (lw_at lw_m3 82 rfl) rfl
theorem q657 : (Jvm.Cond.soleField "java/lang/String" "hash") ∈ lw_all := lw_g (lw_at lw_m3 83 rfl) rfl
theorem q658 : (Jvm.Cond.lays "java/lang/String" "java/lang/String" "hashIsZero" "Z") ∈ lw_all := lw_g (lw_at lw_m3 84 rfl) rfl
theorem q659 : (Jvm.Cond.soleField "java/lang/String" "hashIsZero") ∈ lw_all := lw_g (lw_at lw_m3 85 rfl) rfl
theorem q660 : (Jvm.Cond.superclass "java/lang/String" "java/lang/Object") ∈ lw_all := lw_g (lw_at lw_m3 86 rfl) rfl
theorem q879 : (Jvm.Cond.selects "java/lang/String" ({ cls := "java/lang/Object", name := "getClass", desc := "()Ljava/lang/Class;" } : Jvm.MethodName) ({ cls := "java/lang/Object", name := "getClass", desc := "()Ljava/lang/Class;" } : Jvm.MethodName)) ∈ lw_all := lw_g (lw_at lw_m4 65 rfl) rfl
theorem q2056 : (Jvm.Cond.static ({ cls := "java/lang/String", name := "checkIndex", desc := "(II)V" } : Jvm.MethodName)) ∈ lw_all := lw_g (lw_at lw_m9 42 rfl) rfl
theorem q2057 : (Jvm.Cond.code ({ cls := "java/lang/String", name := "checkIndex", desc := "(II)V" } : Jvm.MethodName) prog_27_method_155_code (2 : Nat) (Option.none : Option Jvm.ClassFile.FieldType)) ∈ lw_all := lw_g (lw_at lw_m9 43 rfl) rfl
theorem q2058 : (Jvm.Cond.methodLink "java/lang/String" (1059 : Nat) ({ cls := "jdk/internal/util/Preconditions", name := "checkIndex", desc := "(IILjava/util/function/BiFunction;)I" } : Jvm.MethodName)) ∈ lw_all := lw_g (lw_at lw_m9 44 rfl) rfl
theorem q2218 : (Jvm.Cond.instanceMethod ({ cls := "java/lang/String", name := "substring", desc := "(II)Ljava/lang/String;" } : Jvm.MethodName)) ∈ lw_all := lw_g (lw_at lw_m9 204 rfl) rfl
theorem q2219 : (Jvm.Cond.selects "java/lang/String" ({ cls := "java/lang/String", name := "substring", desc := "(II)Ljava/lang/String;" } : Jvm.MethodName) ({ cls := "java/lang/String", name := "substring", desc := "(II)Ljava/lang/String;" } : Jvm.MethodName)) ∈ lw_all := lw_g (lw_at lw_m9 205 rfl) rfl
theorem q2220 : (Jvm.Cond.code ({ cls := "java/lang/String", name := "substring", desc := "(II)Ljava/lang/String;" } : Jvm.MethodName) prog_27_method_92_code (5 : Nat) (Option.some (Jvm.ClassFile.FieldType.object "java/lang/String"))) ∈ lw_all := lw_g (lw_at lw_m9 206 rfl) rfl
theorem q2221 : (Jvm.Cond.methodLink "java/lang/String" (505 : Nat) ({ cls := "java/lang/String", name := "length", desc := "()I" } : Jvm.MethodName)) ∈ lw_all := lw_g (lw_at lw_m9 207 rfl) rfl
theorem q2222 : (Jvm.Cond.methodLink "java/lang/String" (521 : Nat) ({ cls := "java/lang/String", name := "checkBoundsBeginEnd", desc := "(III)V" } : Jvm.MethodName)) ∈ lw_all := lw_g (lw_at lw_m9 208 rfl) rfl
theorem q2223 : (Jvm.Cond.methodLink "java/lang/String" (492 : Nat) ({ cls := "java/lang/String", name := "isLatin1", desc := "()Z" } : Jvm.MethodName)) ∈ lw_all := lw_g (lw_at lw_m9 209 rfl) rfl
theorem q2224 : (Jvm.Cond.instanceMethod ({ cls := "java/lang/String", name := "isLatin1", desc := "()Z" } : Jvm.MethodName)) ∈ lw_all := lw_g (lw_at lw_m9 210 rfl) rfl
theorem q2225 : (Jvm.Cond.selects "java/lang/String" ({ cls := "java/lang/String", name := "isLatin1", desc := "()Z" } : Jvm.MethodName) ({ cls := "java/lang/String", name := "isLatin1", desc := "()Z" } : Jvm.MethodName)) ∈ lw_all := lw_g (lw_at lw_m9 211 rfl) rfl
theorem q2226 : (Jvm.Cond.code ({ cls := "java/lang/String", name := "isLatin1", desc := "()Z" } : Jvm.MethodName) prog_27_method_154_code (1 : Nat) (Option.some Jvm.ClassFile.FieldType.boolean)) ∈ lw_all := lw_g (lw_at lw_m9 212 rfl) rfl
theorem q2227 : (Jvm.Cond.methodLink "java/lang/String" (685 : Nat) ({ cls := "java/lang/StringLatin1", name := "newString", desc := "([BII)Ljava/lang/String;" } : Jvm.MethodName)) ∈ lw_all := lw_g (lw_at lw_m9 213 rfl) rfl
theorem q2234 : (Jvm.Cond.instanceMethod ({ cls := "java/lang/String", name := "<init>", desc := "([BB)V" } : Jvm.MethodName)) ∈ lw_all := lw_g (lw_at lw_m9 220 rfl) rfl
theorem q2235 : (Jvm.Cond.code ({ cls := "java/lang/String", name := "<init>", desc := "([BB)V" } : Jvm.MethodName) prog_27_method_151_code (3 : Nat) (Option.none : Option Jvm.ClassFile.FieldType)) ∈ lw_all := lw_g (lw_at lw_m9 221 rfl) rfl
theorem q2236 : (Jvm.Cond.methodLink "java/lang/String" (689 : Nat) ({ cls := "java/lang/StringUTF16", name := "newString", desc := "([BII)Ljava/lang/String;" } : Jvm.MethodName)) ∈ lw_all := lw_g (lw_at lw_m9 222 rfl) rfl
theorem q2304 : (Jvm.Cond.instanceMethod ({ cls := "java/lang/String", name := "charAt", desc := "(I)C" } : Jvm.MethodName)) ∈ lw_all := lw_g (lw_at lw_m10 50 rfl) rfl
theorem q2305 : (Jvm.Cond.selects "java/lang/String" ({ cls := "java/lang/String", name := "charAt", desc := "(I)C" } : Jvm.MethodName) ({ cls := "java/lang/String", name := "charAt", desc := "(I)C" } : Jvm.MethodName)) ∈ lw_all := lw_g (lw_at lw_m10 51 rfl) rfl
theorem q2306 : (Jvm.Cond.code ({ cls := "java/lang/String", name := "charAt", desc := "(I)C" } : Jvm.MethodName) prog_27_method_56_code (2 : Nat) (Option.some Jvm.ClassFile.FieldType.char)) ∈ lw_all := lw_g (lw_at lw_m10 52 rfl) rfl
theorem q2307 : (Jvm.Cond.methodLink "java/lang/String" (495 : Nat) ({ cls := "java/lang/StringLatin1", name := "charAt", desc := "([BI)C" } : Jvm.MethodName)) ∈ lw_all := lw_g (lw_at lw_m10 53 rfl) rfl
theorem q2311 : (Jvm.Cond.methodLink "java/lang/String" (498 : Nat) ({ cls := "java/lang/StringUTF16", name := "charAt", desc := "([BI)C" } : Jvm.MethodName)) ∈ lw_all := lw_g (lw_at lw_m10 57 rfl) rfl
theorem q2349 : (Jvm.Cond.selects "java/lang/String" ({ cls := "java/lang/Object", name := "equals", desc := "(Ljava/lang/Object;)Z" } : Jvm.MethodName) ({ cls := "java/lang/String", name := "equals", desc := "(Ljava/lang/Object;)Z" } : Jvm.MethodName)) ∈ lw_all := lw_g (lw_at lw_m10 95 rfl) rfl
theorem q2350 : (Jvm.Cond.instanceMethod ({ cls := "java/lang/String", name := "equals", desc := "(Ljava/lang/Object;)Z" } : Jvm.MethodName)) ∈ lw_all := lw_g (lw_at lw_m10 96 rfl) rfl
theorem q2351 : (Jvm.Cond.code ({ cls := "java/lang/String", name := "equals", desc := "(Ljava/lang/Object;)Z" } : Jvm.MethodName) prog_27_method_66_code (3 : Nat) (Option.some Jvm.ClassFile.FieldType.boolean)) ∈ lw_all := lw_g (lw_at lw_m10 97 rfl) rfl
theorem q2352 : (Jvm.Cond.classLink "java/lang/String" (10 : Nat) "java/lang/String") ∈ lw_all := lw_g (lw_at lw_m10 98 rfl) rfl
theorem q2353 : (Jvm.Cond.methodLink "java/lang/String" (541 : Nat) ({ cls := "java/lang/StringLatin1", name := "equals", desc := "([B[B)Z" } : Jvm.MethodName)) ∈ lw_all := lw_g (lw_at lw_m10 99 rfl) rfl
theorem q2430 : (Jvm.Cond.instanceMethod ({ cls := "java/lang/String", name := "hashCode", desc := "()I" } : Jvm.MethodName)) ∈ lw_all := lw_g (lw_at lw_m10 176 rfl) rfl
theorem q2431 : (Jvm.Cond.selects "java/lang/String" ({ cls := "java/lang/String", name := "hashCode", desc := "()I" } : Jvm.MethodName) ({ cls := "java/lang/String", name := "hashCode", desc := "()I" } : Jvm.MethodName)) ∈ lw_all := lw_g (lw_at lw_m10 177 rfl) rfl
theorem q2432 : (Jvm.Cond.code ({ cls := "java/lang/String", name := "hashCode", desc := "()I" } : Jvm.MethodName) prog_27_method_78_code (2 : Nat) (Option.some Jvm.ClassFile.FieldType.int)) ∈ lw_all := lw_g (lw_at lw_m10 178 rfl) rfl
theorem q2433 : (Jvm.Cond.methodLink "java/lang/String" (628 : Nat) ({ cls := "java/lang/StringLatin1", name := "hashCode", desc := "([B)I" } : Jvm.MethodName)) ∈ lw_all := lw_g (lw_at lw_m10 179 rfl) rfl
theorem q2482 : (Jvm.Cond.methodLink "java/lang/String" (632 : Nat) ({ cls := "java/lang/StringUTF16", name := "hashCode", desc := "([B)I" } : Jvm.MethodName)) ∈ lw_all := lw_g (lw_at lw_m10 228 rfl) rfl
theorem q3096 : (Jvm.Cond.selects "java/lang/String" ({ cls := "java/lang/String", name := "equals", desc := "(Ljava/lang/Object;)Z" } : Jvm.MethodName) ({ cls := "java/lang/String", name := "equals", desc := "(Ljava/lang/Object;)Z" } : Jvm.MethodName)) ∈ lw_all := lw_g (lw_at lw_m13 122 rfl) rfl
theorem q3112 : (Jvm.Cond.castable "java/lang/String" "java/lang/Object") ∈ lw_tbl := lw_at lw_m13 138 rfl
theorem in_J7 : ∀ w ∈ wsJ70, w ∈ lw_all := lw_in wsJ70 [652, 654, 656, 658] (by decide +kernel) (by decide +kernel)

/-! java/lang/StringUTF16 -/
set_option maxRecDepth 100000
def RJ8 : String := "java/lang/StringUTF16"
abbrev cJ8_newBytesFor : ByteArray := prog_31_method_2_code
def yJ8_newBytesFor : MethodName := ⟨RJ8, "newBytesFor", "(I)[B"⟩
def dkwJ8_newBytesFor_0 : List UInt8 := [26, 184, 0, 11, 188, 8, 176]
abbrev dktJ8_newBytesFor_0 : List UInt8 := dkwJ8_newBytesFor_0 ++ []
theorem dksJ8_newBytesFor_0 : cJ8_newBytesFor.data.toList.drop 0 = dktJ8_newBytesFor_0 := by decide +kernel
theorem dJ8_newBytesFor_0 : decode cJ8_newBytesFor 0 = .ok (.iload_n 0, 1) := dk_26 (dk_at dksJ8_newBytesFor_0 0 rfl rfl)
theorem dJ8_newBytesFor_1 : decode cJ8_newBytesFor 1 = .ok (.invokestatic 11, 3) := dk_184 0 11 (dk_at dksJ8_newBytesFor_0 1 rfl rfl)
theorem dJ8_newBytesFor_4 : decode cJ8_newBytesFor 4 = .ok (.newarray .byte, 2) := dk_188_8 (dk_at dksJ8_newBytesFor_0 4 rfl rfl)
theorem dJ8_newBytesFor_6 : decode cJ8_newBytesFor 6 = .ok (.areturn, 1) := dk_176 (dk_at dksJ8_newBytesFor_0 6 rfl rfl)
abbrev cJ8_newBytesLength : ByteArray := prog_31_method_3_code
def yJ8_newBytesLength : MethodName := ⟨RJ8, "newBytesLength", "(I)I"⟩
def dkwJ8_newBytesLength_2 : List UInt8 := [182, 0, 32, 182, 0, 37, 183, 0, 41, 191, 26, 4, 120, 172]
abbrev dktJ8_newBytesLength_2 : List UInt8 := dkwJ8_newBytesLength_2 ++ []
def dkwJ8_newBytesLength_1 : List UInt8 := [187, 0, 23, 89, 183, 0, 25, 18, 26, 182, 0, 28, 26, 182, 0, 32, 18, 35, 182, 0, 28, 18, 20]
abbrev dktJ8_newBytesLength_1 : List UInt8 := dkwJ8_newBytesLength_1 ++ dktJ8_newBytesLength_2
def dkwJ8_newBytesLength_0 : List UInt8 := [26, 156, 0, 11, 187, 0, 17, 89, 183, 0, 19, 191, 26, 18, 20, 161, 0, 40, 187, 0, 21, 89]
abbrev dktJ8_newBytesLength_0 : List UInt8 := dkwJ8_newBytesLength_0 ++ dktJ8_newBytesLength_1
theorem dksJ8_newBytesLength_0 : cJ8_newBytesLength.data.toList.drop 0 = dktJ8_newBytesLength_0 := by decide +kernel
theorem dksJ8_newBytesLength_1 : cJ8_newBytesLength.data.toList.drop 22 = dktJ8_newBytesLength_1 := dk_seg dksJ8_newBytesLength_0 22 rfl rfl
theorem dksJ8_newBytesLength_2 : cJ8_newBytesLength.data.toList.drop 45 = dktJ8_newBytesLength_2 := dk_seg dksJ8_newBytesLength_1 23 rfl rfl
theorem dJ8_newBytesLength_0 : decode cJ8_newBytesLength 0 = .ok (.iload_n 0, 1) := dk_26 (dk_at dksJ8_newBytesLength_0 0 rfl rfl)
theorem dJ8_newBytesLength_1 : decode cJ8_newBytesLength 1 = .ok (.ifCond .ge 11, 3) := dk_156 0 11 (dk_at dksJ8_newBytesLength_0 1 rfl rfl)
theorem dJ8_newBytesLength_4 : decode cJ8_newBytesLength 4 = .ok (.new 17, 3) := dk_187 0 17 (dk_at dksJ8_newBytesLength_0 4 rfl rfl)
theorem dJ8_newBytesLength_7 : decode cJ8_newBytesLength 7 = .ok (.dup, 1) := dk_89 (dk_at dksJ8_newBytesLength_0 7 rfl rfl)
theorem dJ8_newBytesLength_8 : decode cJ8_newBytesLength 8 = .ok (.invokespecial 19, 3) := dk_183 0 19 (dk_at dksJ8_newBytesLength_0 8 rfl rfl)
theorem dJ8_newBytesLength_11 : decode cJ8_newBytesLength 11 = .ok (.athrow, 1) := dk_191 (dk_at dksJ8_newBytesLength_0 11 rfl rfl)
theorem dJ8_newBytesLength_12 : decode cJ8_newBytesLength 12 = .ok (.iload_n 0, 1) := dk_26 (dk_at dksJ8_newBytesLength_0 12 rfl rfl)
theorem dJ8_newBytesLength_13 : decode cJ8_newBytesLength 13 = .ok (.ldc 20, 2) := dk_18 20 (dk_at dksJ8_newBytesLength_0 13 rfl rfl)
theorem dJ8_newBytesLength_15 : decode cJ8_newBytesLength 15 = .ok (.if_icmp .lt 40, 3) := dk_161 0 40 (dk_at dksJ8_newBytesLength_0 15 rfl rfl)
theorem dJ8_newBytesLength_18 : decode cJ8_newBytesLength 18 = .ok (.new 21, 3) := dk_187 0 21 (dk_at dksJ8_newBytesLength_0 18 rfl rfl)
theorem dJ8_newBytesLength_21 : decode cJ8_newBytesLength 21 = .ok (.dup, 1) := dk_89 (dk_at dksJ8_newBytesLength_0 21 rfl rfl)
theorem dJ8_newBytesLength_22 : decode cJ8_newBytesLength 22 = .ok (.new 23, 3) := dk_187 0 23 (dk_at dksJ8_newBytesLength_1 0 rfl rfl)
theorem dJ8_newBytesLength_25 : decode cJ8_newBytesLength 25 = .ok (.dup, 1) := dk_89 (dk_at dksJ8_newBytesLength_1 3 rfl rfl)
theorem dJ8_newBytesLength_26 : decode cJ8_newBytesLength 26 = .ok (.invokespecial 25, 3) := dk_183 0 25 (dk_at dksJ8_newBytesLength_1 4 rfl rfl)
theorem dJ8_newBytesLength_29 : decode cJ8_newBytesLength 29 = .ok (.ldc 26, 2) := dk_18 26 (dk_at dksJ8_newBytesLength_1 7 rfl rfl)
theorem dJ8_newBytesLength_31 : decode cJ8_newBytesLength 31 = .ok (.invokevirtual 28, 3) := dk_182 0 28 (dk_at dksJ8_newBytesLength_1 9 rfl rfl)
theorem dJ8_newBytesLength_34 : decode cJ8_newBytesLength 34 = .ok (.iload_n 0, 1) := dk_26 (dk_at dksJ8_newBytesLength_1 12 rfl rfl)
theorem dJ8_newBytesLength_35 : decode cJ8_newBytesLength 35 = .ok (.invokevirtual 32, 3) := dk_182 0 32 (dk_at dksJ8_newBytesLength_1 13 rfl rfl)
theorem dJ8_newBytesLength_38 : decode cJ8_newBytesLength 38 = .ok (.ldc 35, 2) := dk_18 35 (dk_at dksJ8_newBytesLength_1 16 rfl rfl)
theorem dJ8_newBytesLength_40 : decode cJ8_newBytesLength 40 = .ok (.invokevirtual 28, 3) := dk_182 0 28 (dk_at dksJ8_newBytesLength_1 18 rfl rfl)
theorem dJ8_newBytesLength_43 : decode cJ8_newBytesLength 43 = .ok (.ldc 20, 2) := dk_18 20 (dk_at dksJ8_newBytesLength_1 21 rfl rfl)
theorem dJ8_newBytesLength_45 : decode cJ8_newBytesLength 45 = .ok (.invokevirtual 32, 3) := dk_182 0 32 (dk_at dksJ8_newBytesLength_2 0 rfl rfl)
theorem dJ8_newBytesLength_48 : decode cJ8_newBytesLength 48 = .ok (.invokevirtual 37, 3) := dk_182 0 37 (dk_at dksJ8_newBytesLength_2 3 rfl rfl)
theorem dJ8_newBytesLength_51 : decode cJ8_newBytesLength 51 = .ok (.invokespecial 41, 3) := dk_183 0 41 (dk_at dksJ8_newBytesLength_2 6 rfl rfl)
theorem dJ8_newBytesLength_54 : decode cJ8_newBytesLength 54 = .ok (.athrow, 1) := dk_191 (dk_at dksJ8_newBytesLength_2 9 rfl rfl)
theorem dJ8_newBytesLength_55 : decode cJ8_newBytesLength 55 = .ok (.iload_n 0, 1) := dk_26 (dk_at dksJ8_newBytesLength_2 10 rfl rfl)
theorem dJ8_newBytesLength_56 : decode cJ8_newBytesLength 56 = .ok (.iconst 1, 1) := dk_4 (dk_at dksJ8_newBytesLength_2 11 rfl rfl)
theorem dJ8_newBytesLength_57 : decode cJ8_newBytesLength 57 = .ok (.ishl, 1) := dk_120 (dk_at dksJ8_newBytesLength_2 12 rfl rfl)
theorem dJ8_newBytesLength_58 : decode cJ8_newBytesLength 58 = .ok (.ireturn, 1) := dk_172 (dk_at dksJ8_newBytesLength_2 13 rfl rfl)
abbrev cJ8_putCharsAt : ByteArray := prog_31_method_81_code
def yJ8_putCharsAt : MethodName := ⟨RJ8, "putCharsAt", "([BICCCC)I"⟩
def dkwJ8_putCharsAt_3 : List UInt8 := [21, 6, 172]
abbrev dktJ8_putCharsAt_3 : List UInt8 := dkwJ8_putCharsAt_3 ++ []
def dkwJ8_putCharsAt_2 : List UInt8 := [184, 0, 111, 178, 0, 44, 154, 0, 17, 27, 21, 6, 159, 0, 11, 187, 0, 52, 89, 183, 0, 66, 191]
abbrev dktJ8_putCharsAt_2 : List UInt8 := dkwJ8_putCharsAt_2 ++ dktJ8_putCharsAt_3
def dkwJ8_putCharsAt_1 : List UInt8 := [132, 1, 1, 29, 184, 0, 111, 42, 27, 132, 1, 1, 21, 4, 184, 0, 111, 42, 27, 132, 1, 1, 21, 5]
abbrev dktJ8_putCharsAt_1 : List UInt8 := dkwJ8_putCharsAt_1 ++ dktJ8_putCharsAt_2
def dkwJ8_putCharsAt_0 : List UInt8 := [27, 7, 96, 54, 6, 27, 21, 6, 42, 184, 0, 96, 42, 27, 132, 1, 1, 28, 184, 0, 111, 42, 27]
abbrev dktJ8_putCharsAt_0 : List UInt8 := dkwJ8_putCharsAt_0 ++ dktJ8_putCharsAt_1
theorem dksJ8_putCharsAt_0 : cJ8_putCharsAt.data.toList.drop 0 = dktJ8_putCharsAt_0 := by decide +kernel
theorem dksJ8_putCharsAt_1 : cJ8_putCharsAt.data.toList.drop 23 = dktJ8_putCharsAt_1 := dk_seg dksJ8_putCharsAt_0 23 rfl rfl
theorem dksJ8_putCharsAt_2 : cJ8_putCharsAt.data.toList.drop 47 = dktJ8_putCharsAt_2 := dk_seg dksJ8_putCharsAt_1 24 rfl rfl
theorem dksJ8_putCharsAt_3 : cJ8_putCharsAt.data.toList.drop 70 = dktJ8_putCharsAt_3 := dk_seg dksJ8_putCharsAt_2 23 rfl rfl
theorem dJ8_putCharsAt_0 : decode cJ8_putCharsAt 0 = .ok (.iload_n 1, 1) := dk_27 (dk_at dksJ8_putCharsAt_0 0 rfl rfl)
theorem dJ8_putCharsAt_1 : decode cJ8_putCharsAt 1 = .ok (.iconst 4, 1) := dk_7 (dk_at dksJ8_putCharsAt_0 1 rfl rfl)
theorem dJ8_putCharsAt_2 : decode cJ8_putCharsAt 2 = .ok (.iadd, 1) := dk_96 (dk_at dksJ8_putCharsAt_0 2 rfl rfl)
theorem dJ8_putCharsAt_3 : decode cJ8_putCharsAt 3 = .ok (.istore 6, 2) := dk_54 6 (dk_at dksJ8_putCharsAt_0 3 rfl rfl)
theorem dJ8_putCharsAt_5 : decode cJ8_putCharsAt 5 = .ok (.iload_n 1, 1) := dk_27 (dk_at dksJ8_putCharsAt_0 5 rfl rfl)
theorem dJ8_putCharsAt_6 : decode cJ8_putCharsAt 6 = .ok (.iload 6, 2) := dk_21 6 (dk_at dksJ8_putCharsAt_0 6 rfl rfl)
theorem dJ8_putCharsAt_8 : decode cJ8_putCharsAt 8 = .ok (.aload_n 0, 1) := dk_42 (dk_at dksJ8_putCharsAt_0 8 rfl rfl)
theorem dJ8_putCharsAt_9 : decode cJ8_putCharsAt 9 = .ok (.invokestatic 96, 3) := dk_184 0 96 (dk_at dksJ8_putCharsAt_0 9 rfl rfl)
theorem dJ8_putCharsAt_12 : decode cJ8_putCharsAt 12 = .ok (.aload_n 0, 1) := dk_42 (dk_at dksJ8_putCharsAt_0 12 rfl rfl)
theorem dJ8_putCharsAt_13 : decode cJ8_putCharsAt 13 = .ok (.iload_n 1, 1) := dk_27 (dk_at dksJ8_putCharsAt_0 13 rfl rfl)
theorem dJ8_putCharsAt_14 : decode cJ8_putCharsAt 14 = .ok (.iinc 1 1, 3) := dk_132 1 1 (dk_at dksJ8_putCharsAt_0 14 rfl rfl)
theorem dJ8_putCharsAt_17 : decode cJ8_putCharsAt 17 = .ok (.iload_n 2, 1) := dk_28 (dk_at dksJ8_putCharsAt_0 17 rfl rfl)
theorem dJ8_putCharsAt_18 : decode cJ8_putCharsAt 18 = .ok (.invokestatic 111, 3) := dk_184 0 111 (dk_at dksJ8_putCharsAt_0 18 rfl rfl)
theorem dJ8_putCharsAt_21 : decode cJ8_putCharsAt 21 = .ok (.aload_n 0, 1) := dk_42 (dk_at dksJ8_putCharsAt_0 21 rfl rfl)
theorem dJ8_putCharsAt_22 : decode cJ8_putCharsAt 22 = .ok (.iload_n 1, 1) := dk_27 (dk_at dksJ8_putCharsAt_0 22 rfl rfl)
theorem dJ8_putCharsAt_23 : decode cJ8_putCharsAt 23 = .ok (.iinc 1 1, 3) := dk_132 1 1 (dk_at dksJ8_putCharsAt_1 0 rfl rfl)
theorem dJ8_putCharsAt_26 : decode cJ8_putCharsAt 26 = .ok (.iload_n 3, 1) := dk_29 (dk_at dksJ8_putCharsAt_1 3 rfl rfl)
theorem dJ8_putCharsAt_27 : decode cJ8_putCharsAt 27 = .ok (.invokestatic 111, 3) := dk_184 0 111 (dk_at dksJ8_putCharsAt_1 4 rfl rfl)
theorem dJ8_putCharsAt_30 : decode cJ8_putCharsAt 30 = .ok (.aload_n 0, 1) := dk_42 (dk_at dksJ8_putCharsAt_1 7 rfl rfl)
theorem dJ8_putCharsAt_31 : decode cJ8_putCharsAt 31 = .ok (.iload_n 1, 1) := dk_27 (dk_at dksJ8_putCharsAt_1 8 rfl rfl)
theorem dJ8_putCharsAt_32 : decode cJ8_putCharsAt 32 = .ok (.iinc 1 1, 3) := dk_132 1 1 (dk_at dksJ8_putCharsAt_1 9 rfl rfl)
theorem dJ8_putCharsAt_35 : decode cJ8_putCharsAt 35 = .ok (.iload 4, 2) := dk_21 4 (dk_at dksJ8_putCharsAt_1 12 rfl rfl)
theorem dJ8_putCharsAt_37 : decode cJ8_putCharsAt 37 = .ok (.invokestatic 111, 3) := dk_184 0 111 (dk_at dksJ8_putCharsAt_1 14 rfl rfl)
theorem dJ8_putCharsAt_40 : decode cJ8_putCharsAt 40 = .ok (.aload_n 0, 1) := dk_42 (dk_at dksJ8_putCharsAt_1 17 rfl rfl)
theorem dJ8_putCharsAt_41 : decode cJ8_putCharsAt 41 = .ok (.iload_n 1, 1) := dk_27 (dk_at dksJ8_putCharsAt_1 18 rfl rfl)
theorem dJ8_putCharsAt_42 : decode cJ8_putCharsAt 42 = .ok (.iinc 1 1, 3) := dk_132 1 1 (dk_at dksJ8_putCharsAt_1 19 rfl rfl)
theorem dJ8_putCharsAt_45 : decode cJ8_putCharsAt 45 = .ok (.iload 5, 2) := dk_21 5 (dk_at dksJ8_putCharsAt_1 22 rfl rfl)
theorem dJ8_putCharsAt_47 : decode cJ8_putCharsAt 47 = .ok (.invokestatic 111, 3) := dk_184 0 111 (dk_at dksJ8_putCharsAt_2 0 rfl rfl)
theorem dJ8_putCharsAt_50 : decode cJ8_putCharsAt 50 = .ok (.getstatic 44, 3) := dk_178 0 44 (dk_at dksJ8_putCharsAt_2 3 rfl rfl)
theorem dJ8_putCharsAt_53 : decode cJ8_putCharsAt 53 = .ok (.ifCond .ne 17, 3) := dk_154 0 17 (dk_at dksJ8_putCharsAt_2 6 rfl rfl)
theorem dJ8_putCharsAt_56 : decode cJ8_putCharsAt 56 = .ok (.iload_n 1, 1) := dk_27 (dk_at dksJ8_putCharsAt_2 9 rfl rfl)
theorem dJ8_putCharsAt_57 : decode cJ8_putCharsAt 57 = .ok (.iload 6, 2) := dk_21 6 (dk_at dksJ8_putCharsAt_2 10 rfl rfl)
theorem dJ8_putCharsAt_59 : decode cJ8_putCharsAt 59 = .ok (.if_icmp .eq 11, 3) := dk_159 0 11 (dk_at dksJ8_putCharsAt_2 12 rfl rfl)
theorem dJ8_putCharsAt_62 : decode cJ8_putCharsAt 62 = .ok (.new 52, 3) := dk_187 0 52 (dk_at dksJ8_putCharsAt_2 15 rfl rfl)
theorem dJ8_putCharsAt_65 : decode cJ8_putCharsAt 65 = .ok (.dup, 1) := dk_89 (dk_at dksJ8_putCharsAt_2 18 rfl rfl)
theorem dJ8_putCharsAt_66 : decode cJ8_putCharsAt 66 = .ok (.invokespecial 66, 3) := dk_183 0 66 (dk_at dksJ8_putCharsAt_2 19 rfl rfl)
theorem dJ8_putCharsAt_69 : decode cJ8_putCharsAt 69 = .ok (.athrow, 1) := dk_191 (dk_at dksJ8_putCharsAt_2 22 rfl rfl)
theorem dJ8_putCharsAt_70 : decode cJ8_putCharsAt 70 = .ok (.iload 6, 2) := dk_21 6 (dk_at dksJ8_putCharsAt_3 0 rfl rfl)
theorem dJ8_putCharsAt_72 : decode cJ8_putCharsAt 72 = .ok (.ireturn, 1) := dk_172 (dk_at dksJ8_putCharsAt_3 2 rfl rfl)
abbrev cJ8_checkBoundsBeginEnd : ByteArray := prog_31_method_93_code
def yJ8_checkBoundsBeginEnd : MethodName := ⟨RJ8, "checkBoundsBeginEnd", "(II[B)V"⟩
def dkwJ8_checkBoundsBeginEnd_0 : List UInt8 := [26, 27, 44, 184, 0, 48, 184, 0, 241, 177]
abbrev dktJ8_checkBoundsBeginEnd_0 : List UInt8 := dkwJ8_checkBoundsBeginEnd_0 ++ []
theorem dksJ8_checkBoundsBeginEnd_0 : cJ8_checkBoundsBeginEnd.data.toList.drop 0 = dktJ8_checkBoundsBeginEnd_0 := by decide +kernel
theorem dJ8_checkBoundsBeginEnd_0 : decode cJ8_checkBoundsBeginEnd 0 = .ok (.iload_n 0, 1) := dk_26 (dk_at dksJ8_checkBoundsBeginEnd_0 0 rfl rfl)
theorem dJ8_checkBoundsBeginEnd_1 : decode cJ8_checkBoundsBeginEnd 1 = .ok (.iload_n 1, 1) := dk_27 (dk_at dksJ8_checkBoundsBeginEnd_0 1 rfl rfl)
theorem dJ8_checkBoundsBeginEnd_2 : decode cJ8_checkBoundsBeginEnd 2 = .ok (.aload_n 2, 1) := dk_44 (dk_at dksJ8_checkBoundsBeginEnd_0 2 rfl rfl)
theorem dJ8_checkBoundsBeginEnd_3 : decode cJ8_checkBoundsBeginEnd 3 = .ok (.invokestatic 48, 3) := dk_184 0 48 (dk_at dksJ8_checkBoundsBeginEnd_0 3 rfl rfl)
theorem dJ8_checkBoundsBeginEnd_6 : decode cJ8_checkBoundsBeginEnd 6 = .ok (.invokestatic 241, 3) := dk_184 0 241 (dk_at dksJ8_checkBoundsBeginEnd_0 6 rfl rfl)
theorem dJ8_checkBoundsBeginEnd_9 : decode cJ8_checkBoundsBeginEnd 9 = .ok (.return_, 1) := dk_177 (dk_at dksJ8_checkBoundsBeginEnd_0 9 rfl rfl)
abbrev cJ8_length : ByteArray := prog_31_method_6_code
def yJ8_length : MethodName := ⟨RJ8, "length", "([B)I"⟩
def dkwJ8_length_0 : List UInt8 := [42, 190, 4, 122, 172]
abbrev dktJ8_length_0 : List UInt8 := dkwJ8_length_0 ++ []
theorem dksJ8_length_0 : cJ8_length.data.toList.drop 0 = dktJ8_length_0 := by decide +kernel
theorem dJ8_length_0 : decode cJ8_length 0 = .ok (.aload_n 0, 1) := dk_42 (dk_at dksJ8_length_0 0 rfl rfl)
theorem dJ8_length_1 : decode cJ8_length 1 = .ok (.arraylength, 1) := dk_190 (dk_at dksJ8_length_0 1 rfl rfl)
theorem dJ8_length_2 : decode cJ8_length 2 = .ok (.iconst 1, 1) := dk_4 (dk_at dksJ8_length_0 2 rfl rfl)
theorem dJ8_length_3 : decode cJ8_length 3 = .ok (.ishr, 1) := dk_122 (dk_at dksJ8_length_0 3 rfl rfl)
theorem dJ8_length_4 : decode cJ8_length 4 = .ok (.ireturn, 1) := dk_172 (dk_at dksJ8_length_0 4 rfl rfl)
abbrev cJ8_putChar : ByteArray := prog_31_method_4_code
def yJ8_putChar : MethodName := ⟨RJ8, "putChar", "([BII)V"⟩
def dkwJ8_putChar_2 : List UInt8 := [178, 0, 63, 122, 145, 84, 177]
abbrev dktJ8_putChar_2 : List UInt8 := dkwJ8_putChar_2 ++ []
def dkwJ8_putChar_1 : List UInt8 := [183, 0, 56, 191, 27, 4, 120, 60, 42, 27, 132, 1, 1, 28, 178, 0, 59, 122, 145, 84, 42, 27, 28]
abbrev dktJ8_putChar_1 : List UInt8 := dkwJ8_putChar_1 ++ dktJ8_putChar_2
def dkwJ8_putChar_0 : List UInt8 := [178, 0, 44, 154, 0, 25, 27, 155, 0, 11, 27, 42, 184, 0, 48, 161, 0, 13, 187, 0, 52, 89, 18, 54]
abbrev dktJ8_putChar_0 : List UInt8 := dkwJ8_putChar_0 ++ dktJ8_putChar_1
theorem dksJ8_putChar_0 : cJ8_putChar.data.toList.drop 0 = dktJ8_putChar_0 := by decide +kernel
theorem dksJ8_putChar_1 : cJ8_putChar.data.toList.drop 24 = dktJ8_putChar_1 := dk_seg dksJ8_putChar_0 24 rfl rfl
theorem dksJ8_putChar_2 : cJ8_putChar.data.toList.drop 47 = dktJ8_putChar_2 := dk_seg dksJ8_putChar_1 23 rfl rfl
theorem dJ8_putChar_0 : decode cJ8_putChar 0 = .ok (.getstatic 44, 3) := dk_178 0 44 (dk_at dksJ8_putChar_0 0 rfl rfl)
theorem dJ8_putChar_3 : decode cJ8_putChar 3 = .ok (.ifCond .ne 25, 3) := dk_154 0 25 (dk_at dksJ8_putChar_0 3 rfl rfl)
theorem dJ8_putChar_6 : decode cJ8_putChar 6 = .ok (.iload_n 1, 1) := dk_27 (dk_at dksJ8_putChar_0 6 rfl rfl)
theorem dJ8_putChar_7 : decode cJ8_putChar 7 = .ok (.ifCond .lt 11, 3) := dk_155 0 11 (dk_at dksJ8_putChar_0 7 rfl rfl)
theorem dJ8_putChar_10 : decode cJ8_putChar 10 = .ok (.iload_n 1, 1) := dk_27 (dk_at dksJ8_putChar_0 10 rfl rfl)
theorem dJ8_putChar_11 : decode cJ8_putChar 11 = .ok (.aload_n 0, 1) := dk_42 (dk_at dksJ8_putChar_0 11 rfl rfl)
theorem dJ8_putChar_12 : decode cJ8_putChar 12 = .ok (.invokestatic 48, 3) := dk_184 0 48 (dk_at dksJ8_putChar_0 12 rfl rfl)
theorem dJ8_putChar_15 : decode cJ8_putChar 15 = .ok (.if_icmp .lt 13, 3) := dk_161 0 13 (dk_at dksJ8_putChar_0 15 rfl rfl)
theorem dJ8_putChar_18 : decode cJ8_putChar 18 = .ok (.new 52, 3) := dk_187 0 52 (dk_at dksJ8_putChar_0 18 rfl rfl)
theorem dJ8_putChar_21 : decode cJ8_putChar 21 = .ok (.dup, 1) := dk_89 (dk_at dksJ8_putChar_0 21 rfl rfl)
theorem dJ8_putChar_22 : decode cJ8_putChar 22 = .ok (.ldc 54, 2) := dk_18 54 (dk_at dksJ8_putChar_0 22 rfl rfl)
theorem dJ8_putChar_24 : decode cJ8_putChar 24 = .ok (.invokespecial 56, 3) := dk_183 0 56 (dk_at dksJ8_putChar_1 0 rfl rfl)
theorem dJ8_putChar_27 : decode cJ8_putChar 27 = .ok (.athrow, 1) := dk_191 (dk_at dksJ8_putChar_1 3 rfl rfl)
theorem dJ8_putChar_28 : decode cJ8_putChar 28 = .ok (.iload_n 1, 1) := dk_27 (dk_at dksJ8_putChar_1 4 rfl rfl)
theorem dJ8_putChar_29 : decode cJ8_putChar 29 = .ok (.iconst 1, 1) := dk_4 (dk_at dksJ8_putChar_1 5 rfl rfl)
theorem dJ8_putChar_30 : decode cJ8_putChar 30 = .ok (.ishl, 1) := dk_120 (dk_at dksJ8_putChar_1 6 rfl rfl)
theorem dJ8_putChar_31 : decode cJ8_putChar 31 = .ok (.istore_n 1, 1) := dk_60 (dk_at dksJ8_putChar_1 7 rfl rfl)
theorem dJ8_putChar_32 : decode cJ8_putChar 32 = .ok (.aload_n 0, 1) := dk_42 (dk_at dksJ8_putChar_1 8 rfl rfl)
theorem dJ8_putChar_33 : decode cJ8_putChar 33 = .ok (.iload_n 1, 1) := dk_27 (dk_at dksJ8_putChar_1 9 rfl rfl)
theorem dJ8_putChar_34 : decode cJ8_putChar 34 = .ok (.iinc 1 1, 3) := dk_132 1 1 (dk_at dksJ8_putChar_1 10 rfl rfl)
theorem dJ8_putChar_37 : decode cJ8_putChar 37 = .ok (.iload_n 2, 1) := dk_28 (dk_at dksJ8_putChar_1 13 rfl rfl)
theorem dJ8_putChar_38 : decode cJ8_putChar 38 = .ok (.getstatic 59, 3) := dk_178 0 59 (dk_at dksJ8_putChar_1 14 rfl rfl)
theorem dJ8_putChar_41 : decode cJ8_putChar 41 = .ok (.ishr, 1) := dk_122 (dk_at dksJ8_putChar_1 17 rfl rfl)
theorem dJ8_putChar_42 : decode cJ8_putChar 42 = .ok (.i2b, 1) := dk_145 (dk_at dksJ8_putChar_1 18 rfl rfl)
theorem dJ8_putChar_43 : decode cJ8_putChar 43 = .ok (.bastore, 1) := dk_84 (dk_at dksJ8_putChar_1 19 rfl rfl)
theorem dJ8_putChar_44 : decode cJ8_putChar 44 = .ok (.aload_n 0, 1) := dk_42 (dk_at dksJ8_putChar_1 20 rfl rfl)
theorem dJ8_putChar_45 : decode cJ8_putChar 45 = .ok (.iload_n 1, 1) := dk_27 (dk_at dksJ8_putChar_1 21 rfl rfl)
theorem dJ8_putChar_46 : decode cJ8_putChar 46 = .ok (.iload_n 2, 1) := dk_28 (dk_at dksJ8_putChar_1 22 rfl rfl)
theorem dJ8_putChar_47 : decode cJ8_putChar 47 = .ok (.getstatic 63, 3) := dk_178 0 63 (dk_at dksJ8_putChar_2 0 rfl rfl)
theorem dJ8_putChar_50 : decode cJ8_putChar 50 = .ok (.ishr, 1) := dk_122 (dk_at dksJ8_putChar_2 3 rfl rfl)
theorem dJ8_putChar_51 : decode cJ8_putChar 51 = .ok (.i2b, 1) := dk_145 (dk_at dksJ8_putChar_2 4 rfl rfl)
theorem dJ8_putChar_52 : decode cJ8_putChar 52 = .ok (.bastore, 1) := dk_84 (dk_at dksJ8_putChar_2 5 rfl rfl)
theorem dJ8_putChar_53 : decode cJ8_putChar 53 = .ok (.return_, 1) := dk_177 (dk_at dksJ8_putChar_2 6 rfl rfl)
abbrev cJ8_inflate : ByteArray := prog_31_method_86_code
def yJ8_inflate : MethodName := ⟨RJ8, "inflate", "([BI[BII)V"⟩
def dkwJ8_inflate_1 : List UInt8 := [132, 1, 1, 51, 17, 0, 255, 126, 184, 0, 111, 132, 5, 1, 167, 255, 228, 177]
abbrev dktJ8_inflate_1 : List UInt8 := dkwJ8_inflate_1 ++ []
def dkwJ8_inflate_0 : List UInt8 := [29, 21, 4, 44, 184, 0, 173, 3, 54, 5, 21, 5, 21, 4, 162, 0, 27, 44, 29, 132, 3, 1, 42, 27]
abbrev dktJ8_inflate_0 : List UInt8 := dkwJ8_inflate_0 ++ dktJ8_inflate_1
theorem dksJ8_inflate_0 : cJ8_inflate.data.toList.drop 0 = dktJ8_inflate_0 := by decide +kernel
theorem dksJ8_inflate_1 : cJ8_inflate.data.toList.drop 24 = dktJ8_inflate_1 := dk_seg dksJ8_inflate_0 24 rfl rfl
theorem dJ8_inflate_0 : decode cJ8_inflate 0 = .ok (.iload_n 3, 1) := dk_29 (dk_at dksJ8_inflate_0 0 rfl rfl)
theorem dJ8_inflate_1 : decode cJ8_inflate 1 = .ok (.iload 4, 2) := dk_21 4 (dk_at dksJ8_inflate_0 1 rfl rfl)
theorem dJ8_inflate_3 : decode cJ8_inflate 3 = .ok (.aload_n 2, 1) := dk_44 (dk_at dksJ8_inflate_0 3 rfl rfl)
theorem dJ8_inflate_4 : decode cJ8_inflate 4 = .ok (.invokestatic 173, 3) := dk_184 0 173 (dk_at dksJ8_inflate_0 4 rfl rfl)
theorem dJ8_inflate_7 : decode cJ8_inflate 7 = .ok (.iconst 0, 1) := dk_3 (dk_at dksJ8_inflate_0 7 rfl rfl)
theorem dJ8_inflate_8 : decode cJ8_inflate 8 = .ok (.istore 5, 2) := dk_54 5 (dk_at dksJ8_inflate_0 8 rfl rfl)
theorem dJ8_inflate_10 : decode cJ8_inflate 10 = .ok (.iload 5, 2) := dk_21 5 (dk_at dksJ8_inflate_0 10 rfl rfl)
theorem dJ8_inflate_12 : decode cJ8_inflate 12 = .ok (.iload 4, 2) := dk_21 4 (dk_at dksJ8_inflate_0 12 rfl rfl)
theorem dJ8_inflate_14 : decode cJ8_inflate 14 = .ok (.if_icmp .ge 27, 3) := dk_162 0 27 (dk_at dksJ8_inflate_0 14 rfl rfl)
theorem dJ8_inflate_17 : decode cJ8_inflate 17 = .ok (.aload_n 2, 1) := dk_44 (dk_at dksJ8_inflate_0 17 rfl rfl)
theorem dJ8_inflate_18 : decode cJ8_inflate 18 = .ok (.iload_n 3, 1) := dk_29 (dk_at dksJ8_inflate_0 18 rfl rfl)
theorem dJ8_inflate_19 : decode cJ8_inflate 19 = .ok (.iinc 3 1, 3) := dk_132 3 1 (dk_at dksJ8_inflate_0 19 rfl rfl)
theorem dJ8_inflate_22 : decode cJ8_inflate 22 = .ok (.aload_n 0, 1) := dk_42 (dk_at dksJ8_inflate_0 22 rfl rfl)
theorem dJ8_inflate_23 : decode cJ8_inflate 23 = .ok (.iload_n 1, 1) := dk_27 (dk_at dksJ8_inflate_0 23 rfl rfl)
theorem dJ8_inflate_24 : decode cJ8_inflate 24 = .ok (.iinc 1 1, 3) := dk_132 1 1 (dk_at dksJ8_inflate_1 0 rfl rfl)
theorem dJ8_inflate_27 : decode cJ8_inflate 27 = .ok (.baload, 1) := dk_51 (dk_at dksJ8_inflate_1 3 rfl rfl)
theorem dJ8_inflate_28 : decode cJ8_inflate 28 = .ok (.sipush 255, 3) := dk_17 0 255 (dk_at dksJ8_inflate_1 4 rfl rfl)
theorem dJ8_inflate_31 : decode cJ8_inflate 31 = .ok (.iand, 1) := dk_126 (dk_at dksJ8_inflate_1 7 rfl rfl)
theorem dJ8_inflate_32 : decode cJ8_inflate 32 = .ok (.invokestatic 111, 3) := dk_184 0 111 (dk_at dksJ8_inflate_1 8 rfl rfl)
theorem dJ8_inflate_35 : decode cJ8_inflate 35 = .ok (.iinc 5 1, 3) := dk_132 5 1 (dk_at dksJ8_inflate_1 11 rfl rfl)
theorem dJ8_inflate_38 : decode cJ8_inflate 38 = .ok (.goto (-28), 3) := dk_167 255 228 (dk_at dksJ8_inflate_1 14 rfl rfl)
theorem dJ8_inflate_41 : decode cJ8_inflate 41 = .ok (.return_, 1) := dk_177 (dk_at dksJ8_inflate_1 17 rfl rfl)
abbrev cJ8_checkBoundsOffCount : ByteArray := prog_31_method_94_code
def yJ8_checkBoundsOffCount : MethodName := ⟨RJ8, "checkBoundsOffCount", "(II[B)V"⟩
def dkwJ8_checkBoundsOffCount_0 : List UInt8 := [26, 27, 44, 184, 0, 48, 184, 1, 163, 87, 177]
abbrev dktJ8_checkBoundsOffCount_0 : List UInt8 := dkwJ8_checkBoundsOffCount_0 ++ []
theorem dksJ8_checkBoundsOffCount_0 : cJ8_checkBoundsOffCount.data.toList.drop 0 = dktJ8_checkBoundsOffCount_0 := by decide +kernel
theorem dJ8_checkBoundsOffCount_0 : decode cJ8_checkBoundsOffCount 0 = .ok (.iload_n 0, 1) := dk_26 (dk_at dksJ8_checkBoundsOffCount_0 0 rfl rfl)
theorem dJ8_checkBoundsOffCount_1 : decode cJ8_checkBoundsOffCount 1 = .ok (.iload_n 1, 1) := dk_27 (dk_at dksJ8_checkBoundsOffCount_0 1 rfl rfl)
theorem dJ8_checkBoundsOffCount_2 : decode cJ8_checkBoundsOffCount 2 = .ok (.aload_n 2, 1) := dk_44 (dk_at dksJ8_checkBoundsOffCount_0 2 rfl rfl)
theorem dJ8_checkBoundsOffCount_3 : decode cJ8_checkBoundsOffCount 3 = .ok (.invokestatic 48, 3) := dk_184 0 48 (dk_at dksJ8_checkBoundsOffCount_0 3 rfl rfl)
theorem dJ8_checkBoundsOffCount_6 : decode cJ8_checkBoundsOffCount 6 = .ok (.invokestatic 419, 3) := dk_184 1 163 (dk_at dksJ8_checkBoundsOffCount_0 6 rfl rfl)
theorem dJ8_checkBoundsOffCount_9 : decode cJ8_checkBoundsOffCount 9 = .ok (.pop, 1) := dk_87 (dk_at dksJ8_checkBoundsOffCount_0 9 rfl rfl)
theorem dJ8_checkBoundsOffCount_10 : decode cJ8_checkBoundsOffCount 10 = .ok (.return_, 1) := dk_177 (dk_at dksJ8_checkBoundsOffCount_0 10 rfl rfl)
abbrev cJ8_getChars : ByteArray := prog_31_method_77_code
def yJ8_getChars : MethodName := ⟨RJ8, "getChars", "(III[B)I"⟩
def dkwJ8_getChars_1 : List UInt8 := [159, 0, 11, 187, 0, 52, 89, 183, 0, 66, 191, 21, 4, 172]
abbrev dktJ8_getChars_1 : List UInt8 := dkwJ8_getChars_1 ++ []
def dkwJ8_getChars_0 : List UInt8 := [27, 28, 45, 184, 0, 96, 26, 28, 45, 184, 1, 137, 54, 4, 178, 0, 44, 154, 0, 17, 27, 21, 4]
abbrev dktJ8_getChars_0 : List UInt8 := dkwJ8_getChars_0 ++ dktJ8_getChars_1
theorem dksJ8_getChars_0 : cJ8_getChars.data.toList.drop 0 = dktJ8_getChars_0 := by decide +kernel
theorem dksJ8_getChars_1 : cJ8_getChars.data.toList.drop 23 = dktJ8_getChars_1 := dk_seg dksJ8_getChars_0 23 rfl rfl
theorem dJ8_getChars_0 : decode cJ8_getChars 0 = .ok (.iload_n 1, 1) := dk_27 (dk_at dksJ8_getChars_0 0 rfl rfl)
theorem dJ8_getChars_1 : decode cJ8_getChars 1 = .ok (.iload_n 2, 1) := dk_28 (dk_at dksJ8_getChars_0 1 rfl rfl)
theorem dJ8_getChars_2 : decode cJ8_getChars 2 = .ok (.aload_n 3, 1) := dk_45 (dk_at dksJ8_getChars_0 2 rfl rfl)
theorem dJ8_getChars_3 : decode cJ8_getChars 3 = .ok (.invokestatic 96, 3) := dk_184 0 96 (dk_at dksJ8_getChars_0 3 rfl rfl)
theorem dJ8_getChars_6 : decode cJ8_getChars 6 = .ok (.iload_n 0, 1) := dk_26 (dk_at dksJ8_getChars_0 6 rfl rfl)
theorem dJ8_getChars_7 : decode cJ8_getChars 7 = .ok (.iload_n 2, 1) := dk_28 (dk_at dksJ8_getChars_0 7 rfl rfl)
theorem dJ8_getChars_8 : decode cJ8_getChars 8 = .ok (.aload_n 3, 1) := dk_45 (dk_at dksJ8_getChars_0 8 rfl rfl)
theorem dJ8_getChars_9 : decode cJ8_getChars 9 = .ok (.invokestatic 393, 3) := dk_184 1 137 (dk_at dksJ8_getChars_0 9 rfl rfl)
theorem dJ8_getChars_12 : decode cJ8_getChars 12 = .ok (.istore 4, 2) := dk_54 4 (dk_at dksJ8_getChars_0 12 rfl rfl)
theorem dJ8_getChars_14 : decode cJ8_getChars 14 = .ok (.getstatic 44, 3) := dk_178 0 44 (dk_at dksJ8_getChars_0 14 rfl rfl)
theorem dJ8_getChars_17 : decode cJ8_getChars 17 = .ok (.ifCond .ne 17, 3) := dk_154 0 17 (dk_at dksJ8_getChars_0 17 rfl rfl)
theorem dJ8_getChars_20 : decode cJ8_getChars 20 = .ok (.iload_n 1, 1) := dk_27 (dk_at dksJ8_getChars_0 20 rfl rfl)
theorem dJ8_getChars_21 : decode cJ8_getChars 21 = .ok (.iload 4, 2) := dk_21 4 (dk_at dksJ8_getChars_0 21 rfl rfl)
theorem dJ8_getChars_23 : decode cJ8_getChars 23 = .ok (.if_icmp .eq 11, 3) := dk_159 0 11 (dk_at dksJ8_getChars_1 0 rfl rfl)
theorem dJ8_getChars_26 : decode cJ8_getChars 26 = .ok (.new 52, 3) := dk_187 0 52 (dk_at dksJ8_getChars_1 3 rfl rfl)
theorem dJ8_getChars_29 : decode cJ8_getChars 29 = .ok (.dup, 1) := dk_89 (dk_at dksJ8_getChars_1 6 rfl rfl)
theorem dJ8_getChars_30 : decode cJ8_getChars 30 = .ok (.invokespecial 66, 3) := dk_183 0 66 (dk_at dksJ8_getChars_1 7 rfl rfl)
theorem dJ8_getChars_33 : decode cJ8_getChars 33 = .ok (.athrow, 1) := dk_191 (dk_at dksJ8_getChars_1 10 rfl rfl)
theorem dJ8_getChars_34 : decode cJ8_getChars 34 = .ok (.iload 4, 2) := dk_21 4 (dk_at dksJ8_getChars_1 11 rfl rfl)
theorem dJ8_getChars_36 : decode cJ8_getChars 36 = .ok (.ireturn, 1) := dk_172 (dk_at dksJ8_getChars_1 13 rfl rfl)
abbrev cJ8_getChars_2 : ByteArray := prog_31_method_89_code
def yJ8_getChars_2 : MethodName := ⟨RJ8, "getChars", "(II[B)I"⟩
def dkwJ8_getChars_2_5 : List UInt8 := [132, 5, 255, 21, 5, 16, 45, 184, 0, 111, 21, 5, 172]
abbrev dktJ8_getChars_2_5 : List UInt8 := dkwJ8_getChars_2_5 ++ []
def dkwJ8_getChars_2_4 : List UInt8 := [162, 0, 18, 44, 132, 5, 255, 21, 5, 178, 1, 151, 26, 116, 51, 184, 0, 111, 21, 6, 153, 0, 14, 44]
abbrev dktJ8_getChars_2_4 : List UInt8 := dkwJ8_getChars_2_4 ++ dktJ8_getChars_2_5
def dkwJ8_getChars_2_3 : List UInt8 := [184, 0, 111, 167, 255, 205, 44, 132, 5, 255, 21, 5, 178, 1, 147, 26, 116, 51, 184, 0, 111, 26, 16, 247]
abbrev dktJ8_getChars_2_3 : List UInt8 := dkwJ8_getChars_2_3 ++ dktJ8_getChars_2_4
def dkwJ8_getChars_2_2 : List UInt8 := [21, 5, 178, 1, 147, 21, 4, 51, 184, 0, 111, 44, 132, 5, 255, 21, 5, 178, 1, 151, 21, 4, 51]
abbrev dktJ8_getChars_2_2 : List UInt8 := dkwJ8_getChars_2_2 ++ dktJ8_getChars_2_3
def dkwJ8_getChars_2_1 : List UInt8 := [16, 156, 163, 0, 51, 26, 16, 100, 108, 62, 29, 16, 100, 104, 26, 100, 54, 4, 29, 59, 44, 132, 5, 255]
abbrev dktJ8_getChars_2_1 : List UInt8 := dkwJ8_getChars_2_1 ++ dktJ8_getChars_2_2
def dkwJ8_getChars_2_0 : List UInt8 := [27, 54, 5, 26, 156, 0, 7, 4, 167, 0, 4, 3, 54, 6, 21, 6, 154, 0, 6, 26, 116, 59, 26]
abbrev dktJ8_getChars_2_0 : List UInt8 := dkwJ8_getChars_2_0 ++ dktJ8_getChars_2_1
theorem dksJ8_getChars_2_0 : cJ8_getChars_2.data.toList.drop 0 = dktJ8_getChars_2_0 := by decide +kernel
theorem dksJ8_getChars_2_1 : cJ8_getChars_2.data.toList.drop 23 = dktJ8_getChars_2_1 := dk_seg dksJ8_getChars_2_0 23 rfl rfl
theorem dksJ8_getChars_2_2 : cJ8_getChars_2.data.toList.drop 47 = dktJ8_getChars_2_2 := dk_seg dksJ8_getChars_2_1 24 rfl rfl
theorem dksJ8_getChars_2_3 : cJ8_getChars_2.data.toList.drop 70 = dktJ8_getChars_2_3 := dk_seg dksJ8_getChars_2_2 23 rfl rfl
theorem dksJ8_getChars_2_4 : cJ8_getChars_2.data.toList.drop 94 = dktJ8_getChars_2_4 := dk_seg dksJ8_getChars_2_3 24 rfl rfl
theorem dksJ8_getChars_2_5 : cJ8_getChars_2.data.toList.drop 118 = dktJ8_getChars_2_5 := dk_seg dksJ8_getChars_2_4 24 rfl rfl
theorem dJ8_getChars_2_0 : decode cJ8_getChars_2 0 = .ok (.iload_n 1, 1) := dk_27 (dk_at dksJ8_getChars_2_0 0 rfl rfl)
theorem dJ8_getChars_2_1 : decode cJ8_getChars_2 1 = .ok (.istore 5, 2) := dk_54 5 (dk_at dksJ8_getChars_2_0 1 rfl rfl)
theorem dJ8_getChars_2_3 : decode cJ8_getChars_2 3 = .ok (.iload_n 0, 1) := dk_26 (dk_at dksJ8_getChars_2_0 3 rfl rfl)
theorem dJ8_getChars_2_4 : decode cJ8_getChars_2 4 = .ok (.ifCond .ge 7, 3) := dk_156 0 7 (dk_at dksJ8_getChars_2_0 4 rfl rfl)
theorem dJ8_getChars_2_7 : decode cJ8_getChars_2 7 = .ok (.iconst 1, 1) := dk_4 (dk_at dksJ8_getChars_2_0 7 rfl rfl)
theorem dJ8_getChars_2_8 : decode cJ8_getChars_2 8 = .ok (.goto 4, 3) := dk_167 0 4 (dk_at dksJ8_getChars_2_0 8 rfl rfl)
theorem dJ8_getChars_2_11 : decode cJ8_getChars_2 11 = .ok (.iconst 0, 1) := dk_3 (dk_at dksJ8_getChars_2_0 11 rfl rfl)
theorem dJ8_getChars_2_12 : decode cJ8_getChars_2 12 = .ok (.istore 6, 2) := dk_54 6 (dk_at dksJ8_getChars_2_0 12 rfl rfl)
theorem dJ8_getChars_2_14 : decode cJ8_getChars_2 14 = .ok (.iload 6, 2) := dk_21 6 (dk_at dksJ8_getChars_2_0 14 rfl rfl)
theorem dJ8_getChars_2_16 : decode cJ8_getChars_2 16 = .ok (.ifCond .ne 6, 3) := dk_154 0 6 (dk_at dksJ8_getChars_2_0 16 rfl rfl)
theorem dJ8_getChars_2_19 : decode cJ8_getChars_2 19 = .ok (.iload_n 0, 1) := dk_26 (dk_at dksJ8_getChars_2_0 19 rfl rfl)
theorem dJ8_getChars_2_20 : decode cJ8_getChars_2 20 = .ok (.ineg, 1) := dk_116 (dk_at dksJ8_getChars_2_0 20 rfl rfl)
theorem dJ8_getChars_2_21 : decode cJ8_getChars_2 21 = .ok (.istore_n 0, 1) := dk_59 (dk_at dksJ8_getChars_2_0 21 rfl rfl)
theorem dJ8_getChars_2_22 : decode cJ8_getChars_2 22 = .ok (.iload_n 0, 1) := dk_26 (dk_at dksJ8_getChars_2_0 22 rfl rfl)
theorem dJ8_getChars_2_23 : decode cJ8_getChars_2 23 = .ok (.bipush (-100), 2) := dk_16 156 (dk_at dksJ8_getChars_2_1 0 rfl rfl)
theorem dJ8_getChars_2_25 : decode cJ8_getChars_2 25 = .ok (.if_icmp .gt 51, 3) := dk_163 0 51 (dk_at dksJ8_getChars_2_1 2 rfl rfl)
theorem dJ8_getChars_2_28 : decode cJ8_getChars_2 28 = .ok (.iload_n 0, 1) := dk_26 (dk_at dksJ8_getChars_2_1 5 rfl rfl)
theorem dJ8_getChars_2_29 : decode cJ8_getChars_2 29 = .ok (.bipush 100, 2) := dk_16 100 (dk_at dksJ8_getChars_2_1 6 rfl rfl)
theorem dJ8_getChars_2_31 : decode cJ8_getChars_2 31 = .ok (.idiv, 1) := dk_108 (dk_at dksJ8_getChars_2_1 8 rfl rfl)
theorem dJ8_getChars_2_32 : decode cJ8_getChars_2 32 = .ok (.istore_n 3, 1) := dk_62 (dk_at dksJ8_getChars_2_1 9 rfl rfl)
theorem dJ8_getChars_2_33 : decode cJ8_getChars_2 33 = .ok (.iload_n 3, 1) := dk_29 (dk_at dksJ8_getChars_2_1 10 rfl rfl)
theorem dJ8_getChars_2_34 : decode cJ8_getChars_2 34 = .ok (.bipush 100, 2) := dk_16 100 (dk_at dksJ8_getChars_2_1 11 rfl rfl)
theorem dJ8_getChars_2_36 : decode cJ8_getChars_2 36 = .ok (.imul, 1) := dk_104 (dk_at dksJ8_getChars_2_1 13 rfl rfl)
theorem dJ8_getChars_2_37 : decode cJ8_getChars_2 37 = .ok (.iload_n 0, 1) := dk_26 (dk_at dksJ8_getChars_2_1 14 rfl rfl)
theorem dJ8_getChars_2_38 : decode cJ8_getChars_2 38 = .ok (.isub, 1) := dk_100 (dk_at dksJ8_getChars_2_1 15 rfl rfl)
theorem dJ8_getChars_2_39 : decode cJ8_getChars_2 39 = .ok (.istore 4, 2) := dk_54 4 (dk_at dksJ8_getChars_2_1 16 rfl rfl)
theorem dJ8_getChars_2_41 : decode cJ8_getChars_2 41 = .ok (.iload_n 3, 1) := dk_29 (dk_at dksJ8_getChars_2_1 18 rfl rfl)
theorem dJ8_getChars_2_42 : decode cJ8_getChars_2 42 = .ok (.istore_n 0, 1) := dk_59 (dk_at dksJ8_getChars_2_1 19 rfl rfl)
theorem dJ8_getChars_2_43 : decode cJ8_getChars_2 43 = .ok (.aload_n 2, 1) := dk_44 (dk_at dksJ8_getChars_2_1 20 rfl rfl)
theorem dJ8_getChars_2_44 : decode cJ8_getChars_2 44 = .ok (.iinc 5 (-1), 3) := dk_132 5 255 (dk_at dksJ8_getChars_2_1 21 rfl rfl)
theorem dJ8_getChars_2_47 : decode cJ8_getChars_2 47 = .ok (.iload 5, 2) := dk_21 5 (dk_at dksJ8_getChars_2_2 0 rfl rfl)
theorem dJ8_getChars_2_49 : decode cJ8_getChars_2 49 = .ok (.getstatic 403, 3) := dk_178 1 147 (dk_at dksJ8_getChars_2_2 2 rfl rfl)
theorem dJ8_getChars_2_52 : decode cJ8_getChars_2 52 = .ok (.iload 4, 2) := dk_21 4 (dk_at dksJ8_getChars_2_2 5 rfl rfl)
theorem dJ8_getChars_2_54 : decode cJ8_getChars_2 54 = .ok (.baload, 1) := dk_51 (dk_at dksJ8_getChars_2_2 7 rfl rfl)
theorem dJ8_getChars_2_55 : decode cJ8_getChars_2 55 = .ok (.invokestatic 111, 3) := dk_184 0 111 (dk_at dksJ8_getChars_2_2 8 rfl rfl)
theorem dJ8_getChars_2_58 : decode cJ8_getChars_2 58 = .ok (.aload_n 2, 1) := dk_44 (dk_at dksJ8_getChars_2_2 11 rfl rfl)
theorem dJ8_getChars_2_59 : decode cJ8_getChars_2 59 = .ok (.iinc 5 (-1), 3) := dk_132 5 255 (dk_at dksJ8_getChars_2_2 12 rfl rfl)
theorem dJ8_getChars_2_62 : decode cJ8_getChars_2 62 = .ok (.iload 5, 2) := dk_21 5 (dk_at dksJ8_getChars_2_2 15 rfl rfl)
theorem dJ8_getChars_2_64 : decode cJ8_getChars_2 64 = .ok (.getstatic 407, 3) := dk_178 1 151 (dk_at dksJ8_getChars_2_2 17 rfl rfl)
theorem dJ8_getChars_2_67 : decode cJ8_getChars_2 67 = .ok (.iload 4, 2) := dk_21 4 (dk_at dksJ8_getChars_2_2 20 rfl rfl)
theorem dJ8_getChars_2_69 : decode cJ8_getChars_2 69 = .ok (.baload, 1) := dk_51 (dk_at dksJ8_getChars_2_2 22 rfl rfl)
theorem dJ8_getChars_2_70 : decode cJ8_getChars_2 70 = .ok (.invokestatic 111, 3) := dk_184 0 111 (dk_at dksJ8_getChars_2_3 0 rfl rfl)
theorem dJ8_getChars_2_73 : decode cJ8_getChars_2 73 = .ok (.goto (-51), 3) := dk_167 255 205 (dk_at dksJ8_getChars_2_3 3 rfl rfl)
theorem dJ8_getChars_2_76 : decode cJ8_getChars_2 76 = .ok (.aload_n 2, 1) := dk_44 (dk_at dksJ8_getChars_2_3 6 rfl rfl)
theorem dJ8_getChars_2_77 : decode cJ8_getChars_2 77 = .ok (.iinc 5 (-1), 3) := dk_132 5 255 (dk_at dksJ8_getChars_2_3 7 rfl rfl)
theorem dJ8_getChars_2_80 : decode cJ8_getChars_2 80 = .ok (.iload 5, 2) := dk_21 5 (dk_at dksJ8_getChars_2_3 10 rfl rfl)
theorem dJ8_getChars_2_82 : decode cJ8_getChars_2 82 = .ok (.getstatic 403, 3) := dk_178 1 147 (dk_at dksJ8_getChars_2_3 12 rfl rfl)
theorem dJ8_getChars_2_85 : decode cJ8_getChars_2 85 = .ok (.iload_n 0, 1) := dk_26 (dk_at dksJ8_getChars_2_3 15 rfl rfl)
theorem dJ8_getChars_2_86 : decode cJ8_getChars_2 86 = .ok (.ineg, 1) := dk_116 (dk_at dksJ8_getChars_2_3 16 rfl rfl)
theorem dJ8_getChars_2_87 : decode cJ8_getChars_2 87 = .ok (.baload, 1) := dk_51 (dk_at dksJ8_getChars_2_3 17 rfl rfl)
theorem dJ8_getChars_2_88 : decode cJ8_getChars_2 88 = .ok (.invokestatic 111, 3) := dk_184 0 111 (dk_at dksJ8_getChars_2_3 18 rfl rfl)
theorem dJ8_getChars_2_91 : decode cJ8_getChars_2 91 = .ok (.iload_n 0, 1) := dk_26 (dk_at dksJ8_getChars_2_3 21 rfl rfl)
theorem dJ8_getChars_2_92 : decode cJ8_getChars_2 92 = .ok (.bipush (-9), 2) := dk_16 247 (dk_at dksJ8_getChars_2_3 22 rfl rfl)
theorem dJ8_getChars_2_94 : decode cJ8_getChars_2 94 = .ok (.if_icmp .ge 18, 3) := dk_162 0 18 (dk_at dksJ8_getChars_2_4 0 rfl rfl)
theorem dJ8_getChars_2_97 : decode cJ8_getChars_2 97 = .ok (.aload_n 2, 1) := dk_44 (dk_at dksJ8_getChars_2_4 3 rfl rfl)
theorem dJ8_getChars_2_98 : decode cJ8_getChars_2 98 = .ok (.iinc 5 (-1), 3) := dk_132 5 255 (dk_at dksJ8_getChars_2_4 4 rfl rfl)
theorem dJ8_getChars_2_101 : decode cJ8_getChars_2 101 = .ok (.iload 5, 2) := dk_21 5 (dk_at dksJ8_getChars_2_4 7 rfl rfl)
theorem dJ8_getChars_2_103 : decode cJ8_getChars_2 103 = .ok (.getstatic 407, 3) := dk_178 1 151 (dk_at dksJ8_getChars_2_4 9 rfl rfl)
theorem dJ8_getChars_2_106 : decode cJ8_getChars_2 106 = .ok (.iload_n 0, 1) := dk_26 (dk_at dksJ8_getChars_2_4 12 rfl rfl)
theorem dJ8_getChars_2_107 : decode cJ8_getChars_2 107 = .ok (.ineg, 1) := dk_116 (dk_at dksJ8_getChars_2_4 13 rfl rfl)
theorem dJ8_getChars_2_108 : decode cJ8_getChars_2 108 = .ok (.baload, 1) := dk_51 (dk_at dksJ8_getChars_2_4 14 rfl rfl)
theorem dJ8_getChars_2_109 : decode cJ8_getChars_2 109 = .ok (.invokestatic 111, 3) := dk_184 0 111 (dk_at dksJ8_getChars_2_4 15 rfl rfl)
theorem dJ8_getChars_2_112 : decode cJ8_getChars_2 112 = .ok (.iload 6, 2) := dk_21 6 (dk_at dksJ8_getChars_2_4 18 rfl rfl)
theorem dJ8_getChars_2_114 : decode cJ8_getChars_2 114 = .ok (.ifCond .eq 14, 3) := dk_153 0 14 (dk_at dksJ8_getChars_2_4 20 rfl rfl)
theorem dJ8_getChars_2_117 : decode cJ8_getChars_2 117 = .ok (.aload_n 2, 1) := dk_44 (dk_at dksJ8_getChars_2_4 23 rfl rfl)
theorem dJ8_getChars_2_118 : decode cJ8_getChars_2 118 = .ok (.iinc 5 (-1), 3) := dk_132 5 255 (dk_at dksJ8_getChars_2_5 0 rfl rfl)
theorem dJ8_getChars_2_121 : decode cJ8_getChars_2 121 = .ok (.iload 5, 2) := dk_21 5 (dk_at dksJ8_getChars_2_5 3 rfl rfl)
theorem dJ8_getChars_2_123 : decode cJ8_getChars_2 123 = .ok (.bipush 45, 2) := dk_16 45 (dk_at dksJ8_getChars_2_5 5 rfl rfl)
theorem dJ8_getChars_2_125 : decode cJ8_getChars_2 125 = .ok (.invokestatic 111, 3) := dk_184 0 111 (dk_at dksJ8_getChars_2_5 7 rfl rfl)
theorem dJ8_getChars_2_128 : decode cJ8_getChars_2 128 = .ok (.iload 5, 2) := dk_21 5 (dk_at dksJ8_getChars_2_5 10 rfl rfl)
theorem dJ8_getChars_2_130 : decode cJ8_getChars_2 130 = .ok (.ireturn, 1) := dk_172 (dk_at dksJ8_getChars_2_5 12 rfl rfl)
abbrev cJ8_compress : ByteArray := prog_31_method_17_code
def yJ8_compress : MethodName := ⟨RJ8, "compress", "([BII)[B"⟩
def dkwJ8_compress_2 : List UInt8 := [25, 5, 3, 45, 3, 28, 184, 0, 123, 28, 159, 0, 6, 25, 5, 176, 45, 176]
abbrev dktJ8_compress_2 : List UInt8 := dkwJ8_compress_2 ++ []
def dkwJ8_compress_1 : List UInt8 := [27, 28, 96, 184, 0, 11, 184, 0, 126, 58, 5, 25, 5, 21, 4, 184, 0, 71, 17, 0, 255, 163, 0, 16]
abbrev dktJ8_compress_1 : List UInt8 := dkwJ8_compress_1 ++ dktJ8_compress_2
def dkwJ8_compress_0 : List UInt8 := [28, 188, 8, 78, 42, 27, 45, 3, 28, 184, 0, 123, 54, 4, 21, 4, 28, 159, 0, 47, 42, 27, 4, 120]
abbrev dktJ8_compress_0 : List UInt8 := dkwJ8_compress_0 ++ dktJ8_compress_1
theorem dksJ8_compress_0 : cJ8_compress.data.toList.drop 0 = dktJ8_compress_0 := by decide +kernel
theorem dksJ8_compress_1 : cJ8_compress.data.toList.drop 24 = dktJ8_compress_1 := dk_seg dksJ8_compress_0 24 rfl rfl
theorem dksJ8_compress_2 : cJ8_compress.data.toList.drop 48 = dktJ8_compress_2 := dk_seg dksJ8_compress_1 24 rfl rfl
theorem dJ8_compress_0 : decode cJ8_compress 0 = .ok (.iload_n 2, 1) := dk_28 (dk_at dksJ8_compress_0 0 rfl rfl)
theorem dJ8_compress_1 : decode cJ8_compress 1 = .ok (.newarray .byte, 2) := dk_188_8 (dk_at dksJ8_compress_0 1 rfl rfl)
theorem dJ8_compress_3 : decode cJ8_compress 3 = .ok (.astore_n 3, 1) := dk_78 (dk_at dksJ8_compress_0 3 rfl rfl)
theorem dJ8_compress_4 : decode cJ8_compress 4 = .ok (.aload_n 0, 1) := dk_42 (dk_at dksJ8_compress_0 4 rfl rfl)
theorem dJ8_compress_5 : decode cJ8_compress 5 = .ok (.iload_n 1, 1) := dk_27 (dk_at dksJ8_compress_0 5 rfl rfl)
theorem dJ8_compress_6 : decode cJ8_compress 6 = .ok (.aload_n 3, 1) := dk_45 (dk_at dksJ8_compress_0 6 rfl rfl)
theorem dJ8_compress_7 : decode cJ8_compress 7 = .ok (.iconst 0, 1) := dk_3 (dk_at dksJ8_compress_0 7 rfl rfl)
theorem dJ8_compress_8 : decode cJ8_compress 8 = .ok (.iload_n 2, 1) := dk_28 (dk_at dksJ8_compress_0 8 rfl rfl)
theorem dJ8_compress_9 : decode cJ8_compress 9 = .ok (.invokestatic 123, 3) := dk_184 0 123 (dk_at dksJ8_compress_0 9 rfl rfl)
theorem dJ8_compress_12 : decode cJ8_compress 12 = .ok (.istore 4, 2) := dk_54 4 (dk_at dksJ8_compress_0 12 rfl rfl)
theorem dJ8_compress_14 : decode cJ8_compress 14 = .ok (.iload 4, 2) := dk_21 4 (dk_at dksJ8_compress_0 14 rfl rfl)
theorem dJ8_compress_16 : decode cJ8_compress 16 = .ok (.iload_n 2, 1) := dk_28 (dk_at dksJ8_compress_0 16 rfl rfl)
theorem dJ8_compress_17 : decode cJ8_compress 17 = .ok (.if_icmp .eq 47, 3) := dk_159 0 47 (dk_at dksJ8_compress_0 17 rfl rfl)
theorem dJ8_compress_20 : decode cJ8_compress 20 = .ok (.aload_n 0, 1) := dk_42 (dk_at dksJ8_compress_0 20 rfl rfl)
theorem dJ8_compress_21 : decode cJ8_compress 21 = .ok (.iload_n 1, 1) := dk_27 (dk_at dksJ8_compress_0 21 rfl rfl)
theorem dJ8_compress_22 : decode cJ8_compress 22 = .ok (.iconst 1, 1) := dk_4 (dk_at dksJ8_compress_0 22 rfl rfl)
theorem dJ8_compress_23 : decode cJ8_compress 23 = .ok (.ishl, 1) := dk_120 (dk_at dksJ8_compress_0 23 rfl rfl)
theorem dJ8_compress_24 : decode cJ8_compress 24 = .ok (.iload_n 1, 1) := dk_27 (dk_at dksJ8_compress_1 0 rfl rfl)
theorem dJ8_compress_25 : decode cJ8_compress 25 = .ok (.iload_n 2, 1) := dk_28 (dk_at dksJ8_compress_1 1 rfl rfl)
theorem dJ8_compress_26 : decode cJ8_compress 26 = .ok (.iadd, 1) := dk_96 (dk_at dksJ8_compress_1 2 rfl rfl)
theorem dJ8_compress_27 : decode cJ8_compress 27 = .ok (.invokestatic 11, 3) := dk_184 0 11 (dk_at dksJ8_compress_1 3 rfl rfl)
theorem dJ8_compress_30 : decode cJ8_compress 30 = .ok (.invokestatic 126, 3) := dk_184 0 126 (dk_at dksJ8_compress_1 6 rfl rfl)
theorem dJ8_compress_33 : decode cJ8_compress 33 = .ok (.astore 5, 2) := dk_58 5 (dk_at dksJ8_compress_1 9 rfl rfl)
theorem dJ8_compress_35 : decode cJ8_compress 35 = .ok (.aload 5, 2) := dk_25 5 (dk_at dksJ8_compress_1 11 rfl rfl)
theorem dJ8_compress_37 : decode cJ8_compress 37 = .ok (.iload 4, 2) := dk_21 4 (dk_at dksJ8_compress_1 13 rfl rfl)
theorem dJ8_compress_39 : decode cJ8_compress 39 = .ok (.invokestatic 71, 3) := dk_184 0 71 (dk_at dksJ8_compress_1 15 rfl rfl)
theorem dJ8_compress_42 : decode cJ8_compress 42 = .ok (.sipush 255, 3) := dk_17 0 255 (dk_at dksJ8_compress_1 18 rfl rfl)
theorem dJ8_compress_45 : decode cJ8_compress 45 = .ok (.if_icmp .gt 16, 3) := dk_163 0 16 (dk_at dksJ8_compress_1 21 rfl rfl)
theorem dJ8_compress_48 : decode cJ8_compress 48 = .ok (.aload 5, 2) := dk_25 5 (dk_at dksJ8_compress_2 0 rfl rfl)
theorem dJ8_compress_50 : decode cJ8_compress 50 = .ok (.iconst 0, 1) := dk_3 (dk_at dksJ8_compress_2 2 rfl rfl)
theorem dJ8_compress_51 : decode cJ8_compress 51 = .ok (.aload_n 3, 1) := dk_45 (dk_at dksJ8_compress_2 3 rfl rfl)
theorem dJ8_compress_52 : decode cJ8_compress 52 = .ok (.iconst 0, 1) := dk_3 (dk_at dksJ8_compress_2 4 rfl rfl)
theorem dJ8_compress_53 : decode cJ8_compress 53 = .ok (.iload_n 2, 1) := dk_28 (dk_at dksJ8_compress_2 5 rfl rfl)
theorem dJ8_compress_54 : decode cJ8_compress 54 = .ok (.invokestatic 123, 3) := dk_184 0 123 (dk_at dksJ8_compress_2 6 rfl rfl)
theorem dJ8_compress_57 : decode cJ8_compress 57 = .ok (.iload_n 2, 1) := dk_28 (dk_at dksJ8_compress_2 9 rfl rfl)
theorem dJ8_compress_58 : decode cJ8_compress 58 = .ok (.if_icmp .eq 6, 3) := dk_159 0 6 (dk_at dksJ8_compress_2 10 rfl rfl)
theorem dJ8_compress_61 : decode cJ8_compress 61 = .ok (.aload 5, 2) := dk_25 5 (dk_at dksJ8_compress_2 13 rfl rfl)
theorem dJ8_compress_63 : decode cJ8_compress 63 = .ok (.areturn, 1) := dk_176 (dk_at dksJ8_compress_2 15 rfl rfl)
theorem dJ8_compress_64 : decode cJ8_compress 64 = .ok (.aload_n 3, 1) := dk_45 (dk_at dksJ8_compress_2 16 rfl rfl)
theorem dJ8_compress_65 : decode cJ8_compress 65 = .ok (.areturn, 1) := dk_176 (dk_at dksJ8_compress_2 17 rfl rfl)
abbrev cJ8_compress_2 : ByteArray := prog_31_method_22_code
def yJ8_compress_2 : MethodName := ⟨RJ8, "compress", "([BI[BII)I"⟩
def dkwJ8_compress_2_2 : List UInt8 := [132, 5, 1, 167, 255, 216, 21, 4, 172]
abbrev dktJ8_compress_2_2 : List UInt8 := dkwJ8_compress_2_2 ++ []
def dkwJ8_compress_2_1 : List UInt8 := [21, 6, 17, 0, 255, 164, 0, 6, 21, 5, 172, 44, 29, 21, 6, 145, 84, 132, 1, 1, 132, 3, 1]
abbrev dktJ8_compress_2_1 : List UInt8 := dkwJ8_compress_2_1 ++ dktJ8_compress_2_2
def dkwJ8_compress_2_0 : List UInt8 := [27, 21, 4, 42, 184, 0, 173, 3, 54, 5, 21, 5, 21, 4, 162, 0, 39, 42, 27, 184, 0, 71, 54, 6]
abbrev dktJ8_compress_2_0 : List UInt8 := dkwJ8_compress_2_0 ++ dktJ8_compress_2_1
theorem dksJ8_compress_2_0 : cJ8_compress_2.data.toList.drop 0 = dktJ8_compress_2_0 := by decide +kernel
theorem dksJ8_compress_2_1 : cJ8_compress_2.data.toList.drop 24 = dktJ8_compress_2_1 := dk_seg dksJ8_compress_2_0 24 rfl rfl
theorem dksJ8_compress_2_2 : cJ8_compress_2.data.toList.drop 47 = dktJ8_compress_2_2 := dk_seg dksJ8_compress_2_1 23 rfl rfl
theorem dJ8_compress_2_0 : decode cJ8_compress_2 0 = .ok (.iload_n 1, 1) := dk_27 (dk_at dksJ8_compress_2_0 0 rfl rfl)
theorem dJ8_compress_2_1 : decode cJ8_compress_2 1 = .ok (.iload 4, 2) := dk_21 4 (dk_at dksJ8_compress_2_0 1 rfl rfl)
theorem dJ8_compress_2_3 : decode cJ8_compress_2 3 = .ok (.aload_n 0, 1) := dk_42 (dk_at dksJ8_compress_2_0 3 rfl rfl)
theorem dJ8_compress_2_4 : decode cJ8_compress_2 4 = .ok (.invokestatic 173, 3) := dk_184 0 173 (dk_at dksJ8_compress_2_0 4 rfl rfl)
theorem dJ8_compress_2_7 : decode cJ8_compress_2 7 = .ok (.iconst 0, 1) := dk_3 (dk_at dksJ8_compress_2_0 7 rfl rfl)
theorem dJ8_compress_2_8 : decode cJ8_compress_2 8 = .ok (.istore 5, 2) := dk_54 5 (dk_at dksJ8_compress_2_0 8 rfl rfl)
theorem dJ8_compress_2_10 : decode cJ8_compress_2 10 = .ok (.iload 5, 2) := dk_21 5 (dk_at dksJ8_compress_2_0 10 rfl rfl)
theorem dJ8_compress_2_12 : decode cJ8_compress_2 12 = .ok (.iload 4, 2) := dk_21 4 (dk_at dksJ8_compress_2_0 12 rfl rfl)
theorem dJ8_compress_2_14 : decode cJ8_compress_2 14 = .ok (.if_icmp .ge 39, 3) := dk_162 0 39 (dk_at dksJ8_compress_2_0 14 rfl rfl)
theorem dJ8_compress_2_17 : decode cJ8_compress_2 17 = .ok (.aload_n 0, 1) := dk_42 (dk_at dksJ8_compress_2_0 17 rfl rfl)
theorem dJ8_compress_2_18 : decode cJ8_compress_2 18 = .ok (.iload_n 1, 1) := dk_27 (dk_at dksJ8_compress_2_0 18 rfl rfl)
theorem dJ8_compress_2_19 : decode cJ8_compress_2 19 = .ok (.invokestatic 71, 3) := dk_184 0 71 (dk_at dksJ8_compress_2_0 19 rfl rfl)
theorem dJ8_compress_2_22 : decode cJ8_compress_2 22 = .ok (.istore 6, 2) := dk_54 6 (dk_at dksJ8_compress_2_0 22 rfl rfl)
theorem dJ8_compress_2_24 : decode cJ8_compress_2 24 = .ok (.iload 6, 2) := dk_21 6 (dk_at dksJ8_compress_2_1 0 rfl rfl)
theorem dJ8_compress_2_26 : decode cJ8_compress_2 26 = .ok (.sipush 255, 3) := dk_17 0 255 (dk_at dksJ8_compress_2_1 2 rfl rfl)
theorem dJ8_compress_2_29 : decode cJ8_compress_2 29 = .ok (.if_icmp .le 6, 3) := dk_164 0 6 (dk_at dksJ8_compress_2_1 5 rfl rfl)
theorem dJ8_compress_2_32 : decode cJ8_compress_2 32 = .ok (.iload 5, 2) := dk_21 5 (dk_at dksJ8_compress_2_1 8 rfl rfl)
theorem dJ8_compress_2_34 : decode cJ8_compress_2 34 = .ok (.ireturn, 1) := dk_172 (dk_at dksJ8_compress_2_1 10 rfl rfl)
theorem dJ8_compress_2_35 : decode cJ8_compress_2 35 = .ok (.aload_n 2, 1) := dk_44 (dk_at dksJ8_compress_2_1 11 rfl rfl)
theorem dJ8_compress_2_36 : decode cJ8_compress_2 36 = .ok (.iload_n 3, 1) := dk_29 (dk_at dksJ8_compress_2_1 12 rfl rfl)
theorem dJ8_compress_2_37 : decode cJ8_compress_2 37 = .ok (.iload 6, 2) := dk_21 6 (dk_at dksJ8_compress_2_1 13 rfl rfl)
theorem dJ8_compress_2_39 : decode cJ8_compress_2 39 = .ok (.i2b, 1) := dk_145 (dk_at dksJ8_compress_2_1 15 rfl rfl)
theorem dJ8_compress_2_40 : decode cJ8_compress_2 40 = .ok (.bastore, 1) := dk_84 (dk_at dksJ8_compress_2_1 16 rfl rfl)
theorem dJ8_compress_2_41 : decode cJ8_compress_2 41 = .ok (.iinc 1 1, 3) := dk_132 1 1 (dk_at dksJ8_compress_2_1 17 rfl rfl)
theorem dJ8_compress_2_44 : decode cJ8_compress_2 44 = .ok (.iinc 3 1, 3) := dk_132 3 1 (dk_at dksJ8_compress_2_1 20 rfl rfl)
theorem dJ8_compress_2_47 : decode cJ8_compress_2 47 = .ok (.iinc 5 1, 3) := dk_132 5 1 (dk_at dksJ8_compress_2_2 0 rfl rfl)
theorem dJ8_compress_2_50 : decode cJ8_compress_2 50 = .ok (.goto (-40), 3) := dk_167 255 216 (dk_at dksJ8_compress_2_2 3 rfl rfl)
theorem dJ8_compress_2_53 : decode cJ8_compress_2 53 = .ok (.iload 4, 2) := dk_21 4 (dk_at dksJ8_compress_2_2 6 rfl rfl)
theorem dJ8_compress_2_55 : decode cJ8_compress_2 55 = .ok (.ireturn, 1) := dk_172 (dk_at dksJ8_compress_2_2 8 rfl rfl)
abbrev cJ8_getChar : ByteArray := prog_31_method_5_code
def yJ8_getChar : MethodName := ⟨RJ8, "getChar", "([BI)C"⟩
def dkwJ8_getChar_2 : List UInt8 := [51, 17, 0, 255, 126, 178, 0, 63, 120, 128, 146, 172]
abbrev dktJ8_getChar_2 : List UInt8 := dkwJ8_getChar_2 ++ []
def dkwJ8_getChar_1 : List UInt8 := [183, 0, 56, 191, 27, 4, 120, 60, 42, 27, 132, 1, 1, 51, 17, 0, 255, 126, 178, 0, 59, 120, 42, 27]
abbrev dktJ8_getChar_1 : List UInt8 := dkwJ8_getChar_1 ++ dktJ8_getChar_2
def dkwJ8_getChar_0 : List UInt8 := [178, 0, 44, 154, 0, 25, 27, 155, 0, 11, 27, 42, 184, 0, 48, 161, 0, 13, 187, 0, 52, 89, 18, 54]
abbrev dktJ8_getChar_0 : List UInt8 := dkwJ8_getChar_0 ++ dktJ8_getChar_1
theorem dksJ8_getChar_0 : cJ8_getChar.data.toList.drop 0 = dktJ8_getChar_0 := by decide +kernel
theorem dksJ8_getChar_1 : cJ8_getChar.data.toList.drop 24 = dktJ8_getChar_1 := dk_seg dksJ8_getChar_0 24 rfl rfl
theorem dksJ8_getChar_2 : cJ8_getChar.data.toList.drop 48 = dktJ8_getChar_2 := dk_seg dksJ8_getChar_1 24 rfl rfl
theorem dJ8_getChar_0 : decode cJ8_getChar 0 = .ok (.getstatic 44, 3) := dk_178 0 44 (dk_at dksJ8_getChar_0 0 rfl rfl)
theorem dJ8_getChar_3 : decode cJ8_getChar 3 = .ok (.ifCond .ne 25, 3) := dk_154 0 25 (dk_at dksJ8_getChar_0 3 rfl rfl)
theorem dJ8_getChar_6 : decode cJ8_getChar 6 = .ok (.iload_n 1, 1) := dk_27 (dk_at dksJ8_getChar_0 6 rfl rfl)
theorem dJ8_getChar_7 : decode cJ8_getChar 7 = .ok (.ifCond .lt 11, 3) := dk_155 0 11 (dk_at dksJ8_getChar_0 7 rfl rfl)
theorem dJ8_getChar_10 : decode cJ8_getChar 10 = .ok (.iload_n 1, 1) := dk_27 (dk_at dksJ8_getChar_0 10 rfl rfl)
theorem dJ8_getChar_11 : decode cJ8_getChar 11 = .ok (.aload_n 0, 1) := dk_42 (dk_at dksJ8_getChar_0 11 rfl rfl)
theorem dJ8_getChar_12 : decode cJ8_getChar 12 = .ok (.invokestatic 48, 3) := dk_184 0 48 (dk_at dksJ8_getChar_0 12 rfl rfl)
theorem dJ8_getChar_15 : decode cJ8_getChar 15 = .ok (.if_icmp .lt 13, 3) := dk_161 0 13 (dk_at dksJ8_getChar_0 15 rfl rfl)
theorem dJ8_getChar_18 : decode cJ8_getChar 18 = .ok (.new 52, 3) := dk_187 0 52 (dk_at dksJ8_getChar_0 18 rfl rfl)
theorem dJ8_getChar_21 : decode cJ8_getChar 21 = .ok (.dup, 1) := dk_89 (dk_at dksJ8_getChar_0 21 rfl rfl)
theorem dJ8_getChar_22 : decode cJ8_getChar 22 = .ok (.ldc 54, 2) := dk_18 54 (dk_at dksJ8_getChar_0 22 rfl rfl)
theorem dJ8_getChar_24 : decode cJ8_getChar 24 = .ok (.invokespecial 56, 3) := dk_183 0 56 (dk_at dksJ8_getChar_1 0 rfl rfl)
theorem dJ8_getChar_27 : decode cJ8_getChar 27 = .ok (.athrow, 1) := dk_191 (dk_at dksJ8_getChar_1 3 rfl rfl)
theorem dJ8_getChar_28 : decode cJ8_getChar 28 = .ok (.iload_n 1, 1) := dk_27 (dk_at dksJ8_getChar_1 4 rfl rfl)
theorem dJ8_getChar_29 : decode cJ8_getChar 29 = .ok (.iconst 1, 1) := dk_4 (dk_at dksJ8_getChar_1 5 rfl rfl)
theorem dJ8_getChar_30 : decode cJ8_getChar 30 = .ok (.ishl, 1) := dk_120 (dk_at dksJ8_getChar_1 6 rfl rfl)
theorem dJ8_getChar_31 : decode cJ8_getChar 31 = .ok (.istore_n 1, 1) := dk_60 (dk_at dksJ8_getChar_1 7 rfl rfl)
theorem dJ8_getChar_32 : decode cJ8_getChar 32 = .ok (.aload_n 0, 1) := dk_42 (dk_at dksJ8_getChar_1 8 rfl rfl)
theorem dJ8_getChar_33 : decode cJ8_getChar 33 = .ok (.iload_n 1, 1) := dk_27 (dk_at dksJ8_getChar_1 9 rfl rfl)
theorem dJ8_getChar_34 : decode cJ8_getChar 34 = .ok (.iinc 1 1, 3) := dk_132 1 1 (dk_at dksJ8_getChar_1 10 rfl rfl)
theorem dJ8_getChar_37 : decode cJ8_getChar 37 = .ok (.baload, 1) := dk_51 (dk_at dksJ8_getChar_1 13 rfl rfl)
theorem dJ8_getChar_38 : decode cJ8_getChar 38 = .ok (.sipush 255, 3) := dk_17 0 255 (dk_at dksJ8_getChar_1 14 rfl rfl)
theorem dJ8_getChar_41 : decode cJ8_getChar 41 = .ok (.iand, 1) := dk_126 (dk_at dksJ8_getChar_1 17 rfl rfl)
theorem dJ8_getChar_42 : decode cJ8_getChar 42 = .ok (.getstatic 59, 3) := dk_178 0 59 (dk_at dksJ8_getChar_1 18 rfl rfl)
theorem dJ8_getChar_45 : decode cJ8_getChar 45 = .ok (.ishl, 1) := dk_120 (dk_at dksJ8_getChar_1 21 rfl rfl)
theorem dJ8_getChar_46 : decode cJ8_getChar 46 = .ok (.aload_n 0, 1) := dk_42 (dk_at dksJ8_getChar_1 22 rfl rfl)
theorem dJ8_getChar_47 : decode cJ8_getChar 47 = .ok (.iload_n 1, 1) := dk_27 (dk_at dksJ8_getChar_1 23 rfl rfl)
theorem dJ8_getChar_48 : decode cJ8_getChar 48 = .ok (.baload, 1) := dk_51 (dk_at dksJ8_getChar_2 0 rfl rfl)
theorem dJ8_getChar_49 : decode cJ8_getChar 49 = .ok (.sipush 255, 3) := dk_17 0 255 (dk_at dksJ8_getChar_2 1 rfl rfl)
theorem dJ8_getChar_52 : decode cJ8_getChar 52 = .ok (.iand, 1) := dk_126 (dk_at dksJ8_getChar_2 4 rfl rfl)
theorem dJ8_getChar_53 : decode cJ8_getChar 53 = .ok (.getstatic 63, 3) := dk_178 0 63 (dk_at dksJ8_getChar_2 5 rfl rfl)
theorem dJ8_getChar_56 : decode cJ8_getChar 56 = .ok (.ishl, 1) := dk_120 (dk_at dksJ8_getChar_2 8 rfl rfl)
theorem dJ8_getChar_57 : decode cJ8_getChar 57 = .ok (.ior, 1) := dk_128 (dk_at dksJ8_getChar_2 9 rfl rfl)
theorem dJ8_getChar_58 : decode cJ8_getChar 58 = .ok (.i2c, 1) := dk_146 (dk_at dksJ8_getChar_2 10 rfl rfl)
theorem dJ8_getChar_59 : decode cJ8_getChar 59 = .ok (.ireturn, 1) := dk_172 (dk_at dksJ8_getChar_2 11 rfl rfl)
abbrev cJ8_coderFromArrayLen : ByteArray := prog_31_method_15_code
def yJ8_coderFromArrayLen : MethodName := ⟨RJ8, "coderFromArrayLen", "([BI)B"⟩
def dkwJ8_coderFromArrayLen_0 : List UInt8 := [27, 42, 190, 100, 16, 31, 124, 145, 172]
abbrev dktJ8_coderFromArrayLen_0 : List UInt8 := dkwJ8_coderFromArrayLen_0 ++ []
theorem dksJ8_coderFromArrayLen_0 : cJ8_coderFromArrayLen.data.toList.drop 0 = dktJ8_coderFromArrayLen_0 := by decide +kernel
theorem dJ8_coderFromArrayLen_0 : decode cJ8_coderFromArrayLen 0 = .ok (.iload_n 1, 1) := dk_27 (dk_at dksJ8_coderFromArrayLen_0 0 rfl rfl)
theorem dJ8_coderFromArrayLen_1 : decode cJ8_coderFromArrayLen 1 = .ok (.aload_n 0, 1) := dk_42 (dk_at dksJ8_coderFromArrayLen_0 1 rfl rfl)
theorem dJ8_coderFromArrayLen_2 : decode cJ8_coderFromArrayLen 2 = .ok (.arraylength, 1) := dk_190 (dk_at dksJ8_coderFromArrayLen_0 2 rfl rfl)
theorem dJ8_coderFromArrayLen_3 : decode cJ8_coderFromArrayLen 3 = .ok (.isub, 1) := dk_100 (dk_at dksJ8_coderFromArrayLen_0 3 rfl rfl)
theorem dJ8_coderFromArrayLen_4 : decode cJ8_coderFromArrayLen 4 = .ok (.bipush 31, 2) := dk_16 31 (dk_at dksJ8_coderFromArrayLen_0 4 rfl rfl)
theorem dJ8_coderFromArrayLen_6 : decode cJ8_coderFromArrayLen 6 = .ok (.iushr, 1) := dk_124 (dk_at dksJ8_coderFromArrayLen_0 6 rfl rfl)
theorem dJ8_coderFromArrayLen_7 : decode cJ8_coderFromArrayLen 7 = .ok (.i2b, 1) := dk_145 (dk_at dksJ8_coderFromArrayLen_0 7 rfl rfl)
theorem dJ8_coderFromArrayLen_8 : decode cJ8_coderFromArrayLen 8 = .ok (.ireturn, 1) := dk_172 (dk_at dksJ8_coderFromArrayLen_0 8 rfl rfl)
abbrev cJ8_fillNull : ByteArray := prog_31_method_70_code
def yJ8_fillNull : MethodName := ⟨RJ8, "fillNull", "([BII)V"⟩
def dkwJ8_fillNull_0 : List UInt8 := [42, 27, 4, 120, 28, 4, 120, 3, 184, 1, 124, 177]
abbrev dktJ8_fillNull_0 : List UInt8 := dkwJ8_fillNull_0 ++ []
theorem dksJ8_fillNull_0 : cJ8_fillNull.data.toList.drop 0 = dktJ8_fillNull_0 := by decide +kernel
theorem dJ8_fillNull_0 : decode cJ8_fillNull 0 = .ok (.aload_n 0, 1) := dk_42 (dk_at dksJ8_fillNull_0 0 rfl rfl)
theorem dJ8_fillNull_1 : decode cJ8_fillNull 1 = .ok (.iload_n 1, 1) := dk_27 (dk_at dksJ8_fillNull_0 1 rfl rfl)
theorem dJ8_fillNull_2 : decode cJ8_fillNull 2 = .ok (.iconst 1, 1) := dk_4 (dk_at dksJ8_fillNull_0 2 rfl rfl)
theorem dJ8_fillNull_3 : decode cJ8_fillNull 3 = .ok (.ishl, 1) := dk_120 (dk_at dksJ8_fillNull_0 3 rfl rfl)
theorem dJ8_fillNull_4 : decode cJ8_fillNull 4 = .ok (.iload_n 2, 1) := dk_28 (dk_at dksJ8_fillNull_0 4 rfl rfl)
theorem dJ8_fillNull_5 : decode cJ8_fillNull 5 = .ok (.iconst 1, 1) := dk_4 (dk_at dksJ8_fillNull_0 5 rfl rfl)
theorem dJ8_fillNull_6 : decode cJ8_fillNull 6 = .ok (.ishl, 1) := dk_120 (dk_at dksJ8_fillNull_0 6 rfl rfl)
theorem dJ8_fillNull_7 : decode cJ8_fillNull 7 = .ok (.iconst 0, 1) := dk_3 (dk_at dksJ8_fillNull_0 7 rfl rfl)
theorem dJ8_fillNull_8 : decode cJ8_fillNull 8 = .ok (.invokestatic 380, 3) := dk_184 1 124 (dk_at dksJ8_fillNull_0 8 rfl rfl)
theorem dJ8_fillNull_11 : decode cJ8_fillNull 11 = .ok (.return_, 1) := dk_177 (dk_at dksJ8_fillNull_0 11 rfl rfl)
abbrev cJ8_putCharSB : ByteArray := prog_31_method_71_code
def yJ8_putCharSB : MethodName := ⟨RJ8, "putCharSB", "([BII)V"⟩
def dkwJ8_putCharSB_0 : List UInt8 := [27, 42, 184, 0, 67, 42, 27, 28, 184, 0, 111, 177]
abbrev dktJ8_putCharSB_0 : List UInt8 := dkwJ8_putCharSB_0 ++ []
theorem dksJ8_putCharSB_0 : cJ8_putCharSB.data.toList.drop 0 = dktJ8_putCharSB_0 := by decide +kernel
theorem dJ8_putCharSB_0 : decode cJ8_putCharSB 0 = .ok (.iload_n 1, 1) := dk_27 (dk_at dksJ8_putCharSB_0 0 rfl rfl)
theorem dJ8_putCharSB_1 : decode cJ8_putCharSB 1 = .ok (.aload_n 0, 1) := dk_42 (dk_at dksJ8_putCharSB_0 1 rfl rfl)
theorem dJ8_putCharSB_2 : decode cJ8_putCharSB 2 = .ok (.invokestatic 67, 3) := dk_184 0 67 (dk_at dksJ8_putCharSB_0 2 rfl rfl)
theorem dJ8_putCharSB_5 : decode cJ8_putCharSB 5 = .ok (.aload_n 0, 1) := dk_42 (dk_at dksJ8_putCharSB_0 5 rfl rfl)
theorem dJ8_putCharSB_6 : decode cJ8_putCharSB 6 = .ok (.iload_n 1, 1) := dk_27 (dk_at dksJ8_putCharSB_0 6 rfl rfl)
theorem dJ8_putCharSB_7 : decode cJ8_putCharSB 7 = .ok (.iload_n 2, 1) := dk_28 (dk_at dksJ8_putCharSB_0 7 rfl rfl)
theorem dJ8_putCharSB_8 : decode cJ8_putCharSB 8 = .ok (.invokestatic 111, 3) := dk_184 0 111 (dk_at dksJ8_putCharSB_0 8 rfl rfl)
theorem dJ8_putCharSB_11 : decode cJ8_putCharSB 11 = .ok (.return_, 1) := dk_177 (dk_at dksJ8_putCharSB_0 11 rfl rfl)
abbrev cJ8_checkIndex : ByteArray := prog_31_method_91_code
def yJ8_checkIndex : MethodName := ⟨RJ8, "checkIndex", "(I[B)V"⟩
def dkwJ8_checkIndex_0 : List UInt8 := [26, 43, 184, 0, 48, 184, 1, 158, 177]
abbrev dktJ8_checkIndex_0 : List UInt8 := dkwJ8_checkIndex_0 ++ []
theorem dksJ8_checkIndex_0 : cJ8_checkIndex.data.toList.drop 0 = dktJ8_checkIndex_0 := by decide +kernel
theorem dJ8_checkIndex_0 : decode cJ8_checkIndex 0 = .ok (.iload_n 0, 1) := dk_26 (dk_at dksJ8_checkIndex_0 0 rfl rfl)
theorem dJ8_checkIndex_1 : decode cJ8_checkIndex 1 = .ok (.aload_n 1, 1) := dk_43 (dk_at dksJ8_checkIndex_0 1 rfl rfl)
theorem dJ8_checkIndex_2 : decode cJ8_checkIndex 2 = .ok (.invokestatic 48, 3) := dk_184 0 48 (dk_at dksJ8_checkIndex_0 2 rfl rfl)
theorem dJ8_checkIndex_5 : decode cJ8_checkIndex 5 = .ok (.invokestatic 414, 3) := dk_184 1 158 (dk_at dksJ8_checkIndex_0 5 rfl rfl)
theorem dJ8_checkIndex_8 : decode cJ8_checkIndex 8 = .ok (.return_, 1) := dk_177 (dk_at dksJ8_checkIndex_0 8 rfl rfl)
abbrev cJ8_newString : ByteArray := prog_31_method_69_code
def yJ8_newString : MethodName := ⟨RJ8, "newString", "([BII)Ljava/lang/String;"⟩
def dkwJ8_newString_2 : List UInt8 := [42, 27, 4, 120, 29, 4, 120, 184, 0, 126, 4, 183, 1, 7, 176]
abbrev dktJ8_newString_2 : List UInt8 := dkwJ8_newString_2 ++ []
def dkwJ8_newString_1 : List UInt8 := [184, 1, 3, 54, 4, 187, 0, 3, 89, 45, 21, 4, 183, 1, 7, 176, 27, 28, 96, 62, 187, 0, 3, 89]
abbrev dktJ8_newString_1 : List UInt8 := dkwJ8_newString_1 ++ dktJ8_newString_2
def dkwJ8_newString_0 : List UInt8 := [28, 154, 0, 7, 19, 1, 39, 176, 178, 0, 251, 153, 0, 28, 42, 27, 28, 184, 1, 1, 78, 45, 28]
abbrev dktJ8_newString_0 : List UInt8 := dkwJ8_newString_0 ++ dktJ8_newString_1
theorem dksJ8_newString_0 : cJ8_newString.data.toList.drop 0 = dktJ8_newString_0 := by decide +kernel
theorem dksJ8_newString_1 : cJ8_newString.data.toList.drop 23 = dktJ8_newString_1 := dk_seg dksJ8_newString_0 23 rfl rfl
theorem dksJ8_newString_2 : cJ8_newString.data.toList.drop 47 = dktJ8_newString_2 := dk_seg dksJ8_newString_1 24 rfl rfl
theorem dJ8_newString_0 : decode cJ8_newString 0 = .ok (.iload_n 2, 1) := dk_28 (dk_at dksJ8_newString_0 0 rfl rfl)
theorem dJ8_newString_1 : decode cJ8_newString 1 = .ok (.ifCond .ne 7, 3) := dk_154 0 7 (dk_at dksJ8_newString_0 1 rfl rfl)
theorem dJ8_newString_4 : decode cJ8_newString 4 = .ok (.ldc_w 295, 3) := dk_19 1 39 (dk_at dksJ8_newString_0 4 rfl rfl)
theorem dJ8_newString_7 : decode cJ8_newString 7 = .ok (.areturn, 1) := dk_176 (dk_at dksJ8_newString_0 7 rfl rfl)
theorem dJ8_newString_8 : decode cJ8_newString 8 = .ok (.getstatic 251, 3) := dk_178 0 251 (dk_at dksJ8_newString_0 8 rfl rfl)
theorem dJ8_newString_11 : decode cJ8_newString 11 = .ok (.ifCond .eq 28, 3) := dk_153 0 28 (dk_at dksJ8_newString_0 11 rfl rfl)
theorem dJ8_newString_14 : decode cJ8_newString 14 = .ok (.aload_n 0, 1) := dk_42 (dk_at dksJ8_newString_0 14 rfl rfl)
theorem dJ8_newString_15 : decode cJ8_newString 15 = .ok (.iload_n 1, 1) := dk_27 (dk_at dksJ8_newString_0 15 rfl rfl)
theorem dJ8_newString_16 : decode cJ8_newString 16 = .ok (.iload_n 2, 1) := dk_28 (dk_at dksJ8_newString_0 16 rfl rfl)
theorem dJ8_newString_17 : decode cJ8_newString 17 = .ok (.invokestatic 257, 3) := dk_184 1 1 (dk_at dksJ8_newString_0 17 rfl rfl)
theorem dJ8_newString_20 : decode cJ8_newString 20 = .ok (.astore_n 3, 1) := dk_78 (dk_at dksJ8_newString_0 20 rfl rfl)
theorem dJ8_newString_21 : decode cJ8_newString 21 = .ok (.aload_n 3, 1) := dk_45 (dk_at dksJ8_newString_0 21 rfl rfl)
theorem dJ8_newString_22 : decode cJ8_newString 22 = .ok (.iload_n 2, 1) := dk_28 (dk_at dksJ8_newString_0 22 rfl rfl)
theorem dJ8_newString_23 : decode cJ8_newString 23 = .ok (.invokestatic 259, 3) := dk_184 1 3 (dk_at dksJ8_newString_1 0 rfl rfl)
theorem dJ8_newString_26 : decode cJ8_newString 26 = .ok (.istore 4, 2) := dk_54 4 (dk_at dksJ8_newString_1 3 rfl rfl)
theorem dJ8_newString_28 : decode cJ8_newString 28 = .ok (.new 3, 3) := dk_187 0 3 (dk_at dksJ8_newString_1 5 rfl rfl)
theorem dJ8_newString_31 : decode cJ8_newString 31 = .ok (.dup, 1) := dk_89 (dk_at dksJ8_newString_1 8 rfl rfl)
theorem dJ8_newString_32 : decode cJ8_newString 32 = .ok (.aload_n 3, 1) := dk_45 (dk_at dksJ8_newString_1 9 rfl rfl)
theorem dJ8_newString_33 : decode cJ8_newString 33 = .ok (.iload 4, 2) := dk_21 4 (dk_at dksJ8_newString_1 10 rfl rfl)
theorem dJ8_newString_35 : decode cJ8_newString 35 = .ok (.invokespecial 263, 3) := dk_183 1 7 (dk_at dksJ8_newString_1 12 rfl rfl)
theorem dJ8_newString_38 : decode cJ8_newString 38 = .ok (.areturn, 1) := dk_176 (dk_at dksJ8_newString_1 15 rfl rfl)
theorem dJ8_newString_39 : decode cJ8_newString 39 = .ok (.iload_n 1, 1) := dk_27 (dk_at dksJ8_newString_1 16 rfl rfl)
theorem dJ8_newString_40 : decode cJ8_newString 40 = .ok (.iload_n 2, 1) := dk_28 (dk_at dksJ8_newString_1 17 rfl rfl)
theorem dJ8_newString_41 : decode cJ8_newString 41 = .ok (.iadd, 1) := dk_96 (dk_at dksJ8_newString_1 18 rfl rfl)
theorem dJ8_newString_42 : decode cJ8_newString 42 = .ok (.istore_n 3, 1) := dk_62 (dk_at dksJ8_newString_1 19 rfl rfl)
theorem dJ8_newString_43 : decode cJ8_newString 43 = .ok (.new 3, 3) := dk_187 0 3 (dk_at dksJ8_newString_1 20 rfl rfl)
theorem dJ8_newString_46 : decode cJ8_newString 46 = .ok (.dup, 1) := dk_89 (dk_at dksJ8_newString_1 23 rfl rfl)
theorem dJ8_newString_47 : decode cJ8_newString 47 = .ok (.aload_n 0, 1) := dk_42 (dk_at dksJ8_newString_2 0 rfl rfl)
theorem dJ8_newString_48 : decode cJ8_newString 48 = .ok (.iload_n 1, 1) := dk_27 (dk_at dksJ8_newString_2 1 rfl rfl)
theorem dJ8_newString_49 : decode cJ8_newString 49 = .ok (.iconst 1, 1) := dk_4 (dk_at dksJ8_newString_2 2 rfl rfl)
theorem dJ8_newString_50 : decode cJ8_newString 50 = .ok (.ishl, 1) := dk_120 (dk_at dksJ8_newString_2 3 rfl rfl)
theorem dJ8_newString_51 : decode cJ8_newString 51 = .ok (.iload_n 3, 1) := dk_29 (dk_at dksJ8_newString_2 4 rfl rfl)
theorem dJ8_newString_52 : decode cJ8_newString 52 = .ok (.iconst 1, 1) := dk_4 (dk_at dksJ8_newString_2 5 rfl rfl)
theorem dJ8_newString_53 : decode cJ8_newString 53 = .ok (.ishl, 1) := dk_120 (dk_at dksJ8_newString_2 6 rfl rfl)
theorem dJ8_newString_54 : decode cJ8_newString 54 = .ok (.invokestatic 126, 3) := dk_184 0 126 (dk_at dksJ8_newString_2 7 rfl rfl)
theorem dJ8_newString_57 : decode cJ8_newString 57 = .ok (.iconst 1, 1) := dk_4 (dk_at dksJ8_newString_2 10 rfl rfl)
theorem dJ8_newString_58 : decode cJ8_newString 58 = .ok (.invokespecial 263, 3) := dk_183 1 7 (dk_at dksJ8_newString_2 11 rfl rfl)
theorem dJ8_newString_61 : decode cJ8_newString 61 = .ok (.areturn, 1) := dk_176 (dk_at dksJ8_newString_2 14 rfl rfl)
abbrev cJ8_charAt : ByteArray := prog_31_method_83_code
def yJ8_charAt : MethodName := ⟨RJ8, "charAt", "([BI)C"⟩
def dkwJ8_charAt_0 : List UInt8 := [27, 42, 184, 0, 67, 42, 27, 184, 0, 71, 172]
abbrev dktJ8_charAt_0 : List UInt8 := dkwJ8_charAt_0 ++ []
theorem dksJ8_charAt_0 : cJ8_charAt.data.toList.drop 0 = dktJ8_charAt_0 := by decide +kernel
theorem dJ8_charAt_0 : decode cJ8_charAt 0 = .ok (.iload_n 1, 1) := dk_27 (dk_at dksJ8_charAt_0 0 rfl rfl)
theorem dJ8_charAt_1 : decode cJ8_charAt 1 = .ok (.aload_n 0, 1) := dk_42 (dk_at dksJ8_charAt_0 1 rfl rfl)
theorem dJ8_charAt_2 : decode cJ8_charAt 2 = .ok (.invokestatic 67, 3) := dk_184 0 67 (dk_at dksJ8_charAt_0 2 rfl rfl)
theorem dJ8_charAt_5 : decode cJ8_charAt 5 = .ok (.aload_n 0, 1) := dk_42 (dk_at dksJ8_charAt_0 5 rfl rfl)
theorem dJ8_charAt_6 : decode cJ8_charAt 6 = .ok (.iload_n 1, 1) := dk_27 (dk_at dksJ8_charAt_0 6 rfl rfl)
theorem dJ8_charAt_7 : decode cJ8_charAt 7 = .ok (.invokestatic 71, 3) := dk_184 0 71 (dk_at dksJ8_charAt_0 7 rfl rfl)
theorem dJ8_charAt_10 : decode cJ8_charAt 10 = .ok (.ireturn, 1) := dk_172 (dk_at dksJ8_charAt_0 10 rfl rfl)
abbrev cJ8_hashCode : ByteArray := prog_31_method_39_code
def yJ8_hashCode : MethodName := ⟨RJ8, "hashCode", "([B)I"⟩
def dkwJ8_hashCode_2 : List UInt8 := [3, 167, 0, 22, 42, 3, 184, 0, 71, 167, 0, 14, 42, 3, 42, 190, 4, 122, 3, 8, 184, 0, 220, 172]
abbrev dktJ8_hashCode_2 : List UInt8 := dkwJ8_hashCode_2 ++ []
def dkwJ8_hashCode_1 : List UInt8 := [171, 0, 0, 0, 0, 38, 0, 0, 0, 2, 0, 0, 0, 0, 0, 0, 0, 26, 0, 0, 0, 2, 0, 0, 0, 30]
abbrev dktJ8_hashCode_1 : List UInt8 := dkwJ8_hashCode_1 ++ dktJ8_hashCode_2
def dkwJ8_hashCode_0 : List UInt8 := [42, 190]
abbrev dktJ8_hashCode_0 : List UInt8 := dkwJ8_hashCode_0 ++ dktJ8_hashCode_1
theorem dksJ8_hashCode_0 : cJ8_hashCode.data.toList.drop 0 = dktJ8_hashCode_0 := by decide +kernel
theorem dksJ8_hashCode_1 : cJ8_hashCode.data.toList.drop 2 = dktJ8_hashCode_1 := dk_seg dksJ8_hashCode_0 2 rfl rfl
theorem dksJ8_hashCode_2 : cJ8_hashCode.data.toList.drop 28 = dktJ8_hashCode_2 := dk_seg dksJ8_hashCode_1 26 rfl rfl
theorem dJ8_hashCode_0 : decode cJ8_hashCode 0 = .ok (.aload_n 0, 1) := dk_42 (dk_at dksJ8_hashCode_0 0 rfl rfl)
theorem dJ8_hashCode_1 : decode cJ8_hashCode 1 = .ok (.arraylength, 1) := dk_190 (dk_at dksJ8_hashCode_0 1 rfl rfl)
theorem dJ8_hashCode_2 : decode cJ8_hashCode 2 = .ok (.lookupswitch 38 #[(0, 26), (2, 30)], 26) := by decide +kernel
theorem dJ8_hashCode_28 : decode cJ8_hashCode 28 = .ok (.iconst 0, 1) := dk_3 (dk_at dksJ8_hashCode_2 0 rfl rfl)
theorem dJ8_hashCode_29 : decode cJ8_hashCode 29 = .ok (.goto 22, 3) := dk_167 0 22 (dk_at dksJ8_hashCode_2 1 rfl rfl)
theorem dJ8_hashCode_32 : decode cJ8_hashCode 32 = .ok (.aload_n 0, 1) := dk_42 (dk_at dksJ8_hashCode_2 4 rfl rfl)
theorem dJ8_hashCode_33 : decode cJ8_hashCode 33 = .ok (.iconst 0, 1) := dk_3 (dk_at dksJ8_hashCode_2 5 rfl rfl)
theorem dJ8_hashCode_34 : decode cJ8_hashCode 34 = .ok (.invokestatic 71, 3) := dk_184 0 71 (dk_at dksJ8_hashCode_2 6 rfl rfl)
theorem dJ8_hashCode_37 : decode cJ8_hashCode 37 = .ok (.goto 14, 3) := dk_167 0 14 (dk_at dksJ8_hashCode_2 9 rfl rfl)
theorem dJ8_hashCode_40 : decode cJ8_hashCode 40 = .ok (.aload_n 0, 1) := dk_42 (dk_at dksJ8_hashCode_2 12 rfl rfl)
theorem dJ8_hashCode_41 : decode cJ8_hashCode 41 = .ok (.iconst 0, 1) := dk_3 (dk_at dksJ8_hashCode_2 13 rfl rfl)
theorem dJ8_hashCode_42 : decode cJ8_hashCode 42 = .ok (.aload_n 0, 1) := dk_42 (dk_at dksJ8_hashCode_2 14 rfl rfl)
theorem dJ8_hashCode_43 : decode cJ8_hashCode 43 = .ok (.arraylength, 1) := dk_190 (dk_at dksJ8_hashCode_2 15 rfl rfl)
theorem dJ8_hashCode_44 : decode cJ8_hashCode 44 = .ok (.iconst 1, 1) := dk_4 (dk_at dksJ8_hashCode_2 16 rfl rfl)
theorem dJ8_hashCode_45 : decode cJ8_hashCode 45 = .ok (.ishr, 1) := dk_122 (dk_at dksJ8_hashCode_2 17 rfl rfl)
theorem dJ8_hashCode_46 : decode cJ8_hashCode 46 = .ok (.iconst 0, 1) := dk_3 (dk_at dksJ8_hashCode_2 18 rfl rfl)
theorem dJ8_hashCode_47 : decode cJ8_hashCode 47 = .ok (.iconst 5, 1) := dk_8 (dk_at dksJ8_hashCode_2 19 rfl rfl)
theorem dJ8_hashCode_48 : decode cJ8_hashCode 48 = .ok (.invokestatic 220, 3) := dk_184 0 220 (dk_at dksJ8_hashCode_2 20 rfl rfl)
theorem dJ8_hashCode_51 : decode cJ8_hashCode 51 = .ok (.ireturn, 1) := dk_172 (dk_at dksJ8_hashCode_2 23 rfl rfl)
theorem q105 : (Jvm.Cond.initialized "java/lang/StringUTF16") ∈ lw_all := lw_g (lw_at lw_m1 11 rfl) rfl
theorem q278 : (Jvm.Cond.static ({ cls := "java/lang/StringUTF16", name := "newBytesFor", desc := "(I)[B" } : Jvm.MethodName)) ∈ lw_all := lw_g (lw_at lw_m1 184 rfl) rfl
theorem q279 : (Jvm.Cond.code ({ cls := "java/lang/StringUTF16", name := "newBytesFor", desc := "(I)[B" } : Jvm.MethodName) prog_31_method_2_code (1 : Nat) (Option.some (Jvm.ClassFile.FieldType.array Jvm.ClassFile.FieldType.byte))) ∈ lw_all := lw_g (lw_at lw_m1 185 rfl) rfl
theorem q280 : (Jvm.Cond.methodLink "java/lang/StringUTF16" (11 : Nat) ({ cls := "java/lang/StringUTF16", name := "newBytesLength", desc := "(I)I" } : Jvm.MethodName)) ∈ lw_all := lw_g (lw_at lw_m1 186 rfl) rfl
theorem q281 : (Jvm.Cond.static ({ cls := "java/lang/StringUTF16", name := "newBytesLength", desc := "(I)I" } : Jvm.MethodName)) ∈ lw_all := lw_g (lw_at lw_m1 187 rfl) rfl
theorem q282 : (Jvm.Cond.code ({ cls := "java/lang/StringUTF16", name := "newBytesLength", desc := "(I)I" } : Jvm.MethodName) prog_31_method_3_code (1 : Nat) (Option.some Jvm.ClassFile.FieldType.int)) ∈ lw_all := lw_g (lw_at lw_m1 188 rfl) rfl
theorem q283 : (Jvm.Cond.constant "java/lang/StringUTF16" (20 : Nat) (1073741823 : Int32)) ∈ lw_all := lw_g (lw_at lw_m1 189 rfl) rfl
theorem q465 : (Jvm.Cond.static ({ cls := "java/lang/StringUTF16", name := "putCharsAt", desc := "([BICCCC)I" } : Jvm.MethodName)) ∈ lw_all := lw_g (lw_at lw_m2 131 rfl) rfl
theorem q466 : (Jvm.Cond.code ({ cls := "java/lang/StringUTF16", name := "putCharsAt", desc := "([BICCCC)I" } : Jvm.MethodName) prog_31_method_81_code (7 : Nat) (Option.some Jvm.ClassFile.FieldType.int)) ∈ lw_all := lw_g (lw_at lw_m2 132 rfl) rfl
theorem q467 : (Jvm.Cond.methodLink "java/lang/StringUTF16" (96 : Nat) ({ cls := "java/lang/StringUTF16", name := "checkBoundsBeginEnd", desc := "(II[B)V" } : Jvm.MethodName)) ∈ lw_all := lw_g (lw_at lw_m2 133 rfl) rfl
theorem q468 : (Jvm.Cond.static ({ cls := "java/lang/StringUTF16", name := "checkBoundsBeginEnd", desc := "(II[B)V" } : Jvm.MethodName)) ∈ lw_all := lw_g (lw_at lw_m2 134 rfl) rfl
theorem q469 : (Jvm.Cond.code ({ cls := "java/lang/StringUTF16", name := "checkBoundsBeginEnd", desc := "(II[B)V" } : Jvm.MethodName) prog_31_method_93_code (3 : Nat) (Option.none : Option Jvm.ClassFile.FieldType)) ∈ lw_all := lw_g (lw_at lw_m2 135 rfl) rfl
theorem q470 : (Jvm.Cond.methodLink "java/lang/StringUTF16" (48 : Nat) ({ cls := "java/lang/StringUTF16", name := "length", desc := "([B)I" } : Jvm.MethodName)) ∈ lw_all := lw_g (lw_at lw_m2 136 rfl) rfl
theorem q471 : (Jvm.Cond.static ({ cls := "java/lang/StringUTF16", name := "length", desc := "([B)I" } : Jvm.MethodName)) ∈ lw_all := lw_g (lw_at lw_m2 137 rfl) rfl
theorem q472 : (Jvm.Cond.code ({ cls := "java/lang/StringUTF16", name := "length", desc := "([B)I" } : Jvm.MethodName) prog_31_method_6_code (1 : Nat) (Option.some Jvm.ClassFile.FieldType.int)) ∈ lw_all := lw_g (lw_at lw_m2 138 rfl) rfl
theorem q473 : (Jvm.Cond.methodLink "java/lang/StringUTF16" (241 : Nat) ({ cls := "java/lang/String", name := "checkBoundsBeginEnd", desc := "(III)V" } : Jvm.MethodName)) ∈ lw_all := lw_g (lw_at lw_m2 139 rfl) rfl
theorem q481 : (Jvm.Cond.methodLink "java/lang/StringUTF16" (111 : Nat) ({ cls := "java/lang/StringUTF16", name := "putChar", desc := "([BII)V" } : Jvm.MethodName)) ∈ lw_all := lw_g (lw_at lw_m2 147 rfl) rfl
theorem q482 : (Jvm.Cond.static ({ cls := "java/lang/StringUTF16", name := "putChar", desc := "([BII)V" } : Jvm.MethodName)) ∈ lw_all := lw_g (lw_at lw_m2 148 rfl) rfl
theorem q483 : (Jvm.Cond.code ({ cls := "java/lang/StringUTF16", name := "putChar", desc := "([BII)V" } : Jvm.MethodName) prog_31_method_4_code (3 : Nat) (Option.none : Option Jvm.ClassFile.FieldType)) ∈ lw_all := lw_g (lw_at lw_m2 149 rfl) rfl
theorem q484 : (Jvm.Cond.fieldLink "java/lang/StringUTF16" (44 : Nat) "java/lang/StringUTF16" "$assertionsDisabled" "Z") ∈ lw_all := lw_g (lw_at lw_m2 150 rfl) rfl
theorem q485 : (Jvm.Cond.laysStatic "java/lang/StringUTF16" "$assertionsDisabled" "Z") ∈ lw_tbl := lw_at lw_m2 151 rfl
theorem q486 : (Jvm.Cond.fieldLink "java/lang/StringUTF16" (59 : Nat) "java/lang/StringUTF16" "HI_BYTE_SHIFT" "I") ∈ lw_all := lw_g (lw_at lw_m2 152 rfl) rfl
theorem q487 : (Jvm.Cond.laysStatic "java/lang/StringUTF16" "HI_BYTE_SHIFT" "I") ∈ lw_tbl := lw_at lw_m2 153 rfl
theorem q488 : (Jvm.Cond.fieldLink "java/lang/StringUTF16" (63 : Nat) "java/lang/StringUTF16" "LO_BYTE_SHIFT" "I") ∈ lw_all := lw_g (lw_at lw_m2 154 rfl) rfl
theorem q489 : (Jvm.Cond.laysStatic "java/lang/StringUTF16" "LO_BYTE_SHIFT" "I") ∈ lw_tbl := lw_at lw_m2 155 rfl
theorem q516 : (Jvm.Cond.static ({ cls := "java/lang/StringUTF16", name := "inflate", desc := "([BI[BII)V" } : Jvm.MethodName)) ∈ lw_all := lw_g (lw_at lw_m2 182 rfl) rfl
theorem q517 : (Jvm.Cond.code ({ cls := "java/lang/StringUTF16", name := "inflate", desc := "([BI[BII)V" } : Jvm.MethodName) prog_31_method_86_code (6 : Nat) (Option.none : Option Jvm.ClassFile.FieldType)) ∈ lw_all := lw_g (lw_at lw_m2 183 rfl) rfl
theorem q518 : (Jvm.Cond.methodLink "java/lang/StringUTF16" (173 : Nat) ({ cls := "java/lang/StringUTF16", name := "checkBoundsOffCount", desc := "(II[B)V" } : Jvm.MethodName)) ∈ lw_all := lw_g (lw_at lw_m2 184 rfl) rfl
theorem q519 : (Jvm.Cond.static ({ cls := "java/lang/StringUTF16", name := "checkBoundsOffCount", desc := "(II[B)V" } : Jvm.MethodName)) ∈ lw_all := lw_g (lw_at lw_m2 185 rfl) rfl
theorem q520 : (Jvm.Cond.code ({ cls := "java/lang/StringUTF16", name := "checkBoundsOffCount", desc := "(II[B)V" } : Jvm.MethodName) prog_31_method_94_code (3 : Nat) (Option.none : Option Jvm.ClassFile.FieldType)) ∈ lw_all := lw_g (lw_at lw_m2 186 rfl) rfl
theorem q521 : (Jvm.Cond.methodLink "java/lang/StringUTF16" (419 : Nat) ({ cls := "java/lang/String", name := "checkBoundsOffCount", desc := "(III)I" } : Jvm.MethodName)) ∈ lw_all := lw_g (lw_at lw_m2 187 rfl) rfl
theorem q551 : (Jvm.Cond.static ({ cls := "java/lang/StringUTF16", name := "getChars", desc := "(III[B)I" } : Jvm.MethodName)) ∈ lw_all := lw_g (lw_at lw_m2 217 rfl) rfl
theorem q552 : (Jvm.Cond.code ({ cls := "java/lang/StringUTF16", name := "getChars", desc := "(III[B)I" } : Jvm.MethodName) prog_31_method_77_code (5 : Nat) (Option.some Jvm.ClassFile.FieldType.int)) ∈ lw_all := lw_g (lw_at lw_m2 218 rfl) rfl
theorem q553 : (Jvm.Cond.methodLink "java/lang/StringUTF16" (393 : Nat) ({ cls := "java/lang/StringUTF16", name := "getChars", desc := "(II[B)I" } : Jvm.MethodName)) ∈ lw_all := lw_g (lw_at lw_m2 219 rfl) rfl
theorem q554 : (Jvm.Cond.static ({ cls := "java/lang/StringUTF16", name := "getChars", desc := "(II[B)I" } : Jvm.MethodName)) ∈ lw_all := lw_g (lw_at lw_m2 220 rfl) rfl
theorem q555 : (Jvm.Cond.code ({ cls := "java/lang/StringUTF16", name := "getChars", desc := "(II[B)I" } : Jvm.MethodName) prog_31_method_89_code (7 : Nat) (Option.some Jvm.ClassFile.FieldType.int)) ∈ lw_all := lw_g (lw_at lw_m2 221 rfl) rfl
theorem q556 : (Jvm.Cond.fieldLink "java/lang/StringUTF16" (403 : Nat) "java/lang/Integer" "DigitOnes" "[B") ∈ lw_all := lw_g (lw_at lw_m2 222 rfl) rfl
theorem q557 : (Jvm.Cond.fieldLink "java/lang/StringUTF16" (407 : Nat) "java/lang/Integer" "DigitTens" "[B") ∈ lw_all := lw_g (lw_at lw_m2 223 rfl) rfl
theorem q636 : (Jvm.Cond.static ({ cls := "java/lang/StringUTF16", name := "compress", desc := "([BII)[B" } : Jvm.MethodName)) ∈ lw_all := lw_g (lw_at lw_m3 62 rfl) rfl
theorem q637 : (Jvm.Cond.code ({ cls := "java/lang/StringUTF16", name := "compress", desc := "([BII)[B" } : Jvm.MethodName) prog_31_method_17_code (6 : Nat) (Option.some (Jvm.ClassFile.FieldType.array Jvm.ClassFile.FieldType.byte))) ∈ lw_all := lw_g (lw_at lw_m3 63 rfl) rfl
theorem q638 : (Jvm.Cond.methodLink "java/lang/StringUTF16" (123 : Nat) ({ cls := "java/lang/StringUTF16", name := "compress", desc := "([BI[BII)I" } : Jvm.MethodName)) ∈ lw_all := lw_g (lw_at lw_m3 64 rfl) rfl
theorem q639 : (Jvm.Cond.static ({ cls := "java/lang/StringUTF16", name := "compress", desc := "([BI[BII)I" } : Jvm.MethodName)) ∈ lw_all := lw_g (lw_at lw_m3 65 rfl) rfl
theorem q640 : (Jvm.Cond.code ({ cls := "java/lang/StringUTF16", name := "compress", desc := "([BI[BII)I" } : Jvm.MethodName) prog_31_method_22_code (7 : Nat) (Option.some Jvm.ClassFile.FieldType.int)) ∈ lw_all := lw_g (lw_at lw_m3 66 rfl) rfl
theorem q641 : (Jvm.Cond.methodLink "java/lang/StringUTF16" (71 : Nat) ({ cls := "java/lang/StringUTF16", name := "getChar", desc := "([BI)C" } : Jvm.MethodName)) ∈ lw_all := lw_g (lw_at lw_m3 67 rfl) rfl
theorem q642 : (Jvm.Cond.static ({ cls := "java/lang/StringUTF16", name := "getChar", desc := "([BI)C" } : Jvm.MethodName)) ∈ lw_all := lw_g (lw_at lw_m3 68 rfl) rfl
theorem q643 : (Jvm.Cond.code ({ cls := "java/lang/StringUTF16", name := "getChar", desc := "([BI)C" } : Jvm.MethodName) prog_31_method_5_code (2 : Nat) (Option.some Jvm.ClassFile.FieldType.char)) ∈ lw_all := lw_g (lw_at lw_m3 69 rfl) rfl
theorem q644 : (Jvm.Cond.methodLink "java/lang/StringUTF16" (126 : Nat) ({ cls := "java/util/Arrays", name := "copyOfRange", desc := "([BII)[B" } : Jvm.MethodName)) ∈ lw_all := lw_g (lw_at lw_m3 70 rfl) rfl
theorem q646 : (Jvm.Cond.static ({ cls := "java/lang/StringUTF16", name := "coderFromArrayLen", desc := "([BI)B" } : Jvm.MethodName)) ∈ lw_all := lw_g (lw_at lw_m3 72 rfl) rfl
theorem q647 : (Jvm.Cond.code ({ cls := "java/lang/StringUTF16", name := "coderFromArrayLen", desc := "([BI)B" } : Jvm.MethodName) prog_31_method_15_code (2 : Nat) (Option.some Jvm.ClassFile.FieldType.byte)) ∈ lw_all := lw_g (lw_at lw_m3 73 rfl) rfl
theorem q2036 : (Jvm.Cond.static ({ cls := "java/lang/StringUTF16", name := "fillNull", desc := "([BII)V" } : Jvm.MethodName)) ∈ lw_all := lw_g (lw_at lw_m9 22 rfl) rfl
theorem q2037 : (Jvm.Cond.code ({ cls := "java/lang/StringUTF16", name := "fillNull", desc := "([BII)V" } : Jvm.MethodName) prog_31_method_70_code (3 : Nat) (Option.none : Option Jvm.ClassFile.FieldType)) ∈ lw_all := lw_g (lw_at lw_m9 23 rfl) rfl
theorem q2038 : (Jvm.Cond.methodLink "java/lang/StringUTF16" (380 : Nat) ({ cls := "java/util/Arrays", name := "fill", desc := "([BIIB)V" } : Jvm.MethodName)) ∈ lw_all := lw_g (lw_at lw_m9 24 rfl) rfl
theorem q2050 : (Jvm.Cond.static ({ cls := "java/lang/StringUTF16", name := "putCharSB", desc := "([BII)V" } : Jvm.MethodName)) ∈ lw_all := lw_g (lw_at lw_m9 36 rfl) rfl
theorem q2051 : (Jvm.Cond.code ({ cls := "java/lang/StringUTF16", name := "putCharSB", desc := "([BII)V" } : Jvm.MethodName) prog_31_method_71_code (3 : Nat) (Option.none : Option Jvm.ClassFile.FieldType)) ∈ lw_all := lw_g (lw_at lw_m9 37 rfl) rfl
theorem q2052 : (Jvm.Cond.methodLink "java/lang/StringUTF16" (67 : Nat) ({ cls := "java/lang/StringUTF16", name := "checkIndex", desc := "(I[B)V" } : Jvm.MethodName)) ∈ lw_all := lw_g (lw_at lw_m9 38 rfl) rfl
theorem q2053 : (Jvm.Cond.static ({ cls := "java/lang/StringUTF16", name := "checkIndex", desc := "(I[B)V" } : Jvm.MethodName)) ∈ lw_all := lw_g (lw_at lw_m9 39 rfl) rfl
theorem q2054 : (Jvm.Cond.code ({ cls := "java/lang/StringUTF16", name := "checkIndex", desc := "(I[B)V" } : Jvm.MethodName) prog_31_method_91_code (2 : Nat) (Option.none : Option Jvm.ClassFile.FieldType)) ∈ lw_all := lw_g (lw_at lw_m9 40 rfl) rfl
theorem q2055 : (Jvm.Cond.methodLink "java/lang/StringUTF16" (414 : Nat) ({ cls := "java/lang/String", name := "checkIndex", desc := "(II)V" } : Jvm.MethodName)) ∈ lw_all := lw_g (lw_at lw_m9 41 rfl) rfl
theorem q2237 : (Jvm.Cond.static ({ cls := "java/lang/StringUTF16", name := "newString", desc := "([BII)Ljava/lang/String;" } : Jvm.MethodName)) ∈ lw_all := lw_g (lw_at lw_m9 223 rfl) rfl
theorem q2238 : (Jvm.Cond.code ({ cls := "java/lang/StringUTF16", name := "newString", desc := "([BII)Ljava/lang/String;" } : Jvm.MethodName) prog_31_method_69_code (5 : Nat) (Option.some (Jvm.ClassFile.FieldType.object "java/lang/String"))) ∈ lw_all := lw_g (lw_at lw_m9 224 rfl) rfl
theorem q2239 : (Jvm.Cond.stringRef "java/lang/StringUTF16" (295 : Nat) "") ∈ lw_tbl := lw_at lw_m9 225 rfl
theorem q2240 : (Jvm.Cond.fieldLink "java/lang/StringUTF16" (251 : Nat) "java/lang/String" "COMPACT_STRINGS" "Z") ∈ lw_all := lw_g (lw_at lw_m9 226 rfl) rfl
theorem q2241 : (Jvm.Cond.methodLink "java/lang/StringUTF16" (257 : Nat) ({ cls := "java/lang/StringUTF16", name := "compress", desc := "([BII)[B" } : Jvm.MethodName)) ∈ lw_all := lw_g (lw_at lw_m9 227 rfl) rfl
theorem q2242 : (Jvm.Cond.methodLink "java/lang/StringUTF16" (259 : Nat) ({ cls := "java/lang/StringUTF16", name := "coderFromArrayLen", desc := "([BI)B" } : Jvm.MethodName)) ∈ lw_all := lw_g (lw_at lw_m9 228 rfl) rfl
theorem q2243 : (Jvm.Cond.classLink "java/lang/StringUTF16" (3 : Nat) "java/lang/String") ∈ lw_all := lw_g (lw_at lw_m9 229 rfl) rfl
theorem q2244 : (Jvm.Cond.methodLink "java/lang/StringUTF16" (263 : Nat) ({ cls := "java/lang/String", name := "<init>", desc := "([BB)V" } : Jvm.MethodName)) ∈ lw_all := lw_g (lw_at lw_m9 230 rfl) rfl
theorem q2312 : (Jvm.Cond.static ({ cls := "java/lang/StringUTF16", name := "charAt", desc := "([BI)C" } : Jvm.MethodName)) ∈ lw_all := lw_g (lw_at lw_m10 58 rfl) rfl
theorem q2313 : (Jvm.Cond.code ({ cls := "java/lang/StringUTF16", name := "charAt", desc := "([BI)C" } : Jvm.MethodName) prog_31_method_83_code (2 : Nat) (Option.some Jvm.ClassFile.FieldType.char)) ∈ lw_all := lw_g (lw_at lw_m10 59 rfl) rfl
theorem q2483 : (Jvm.Cond.static ({ cls := "java/lang/StringUTF16", name := "hashCode", desc := "([B)I" } : Jvm.MethodName)) ∈ lw_all := lw_g (lw_at lw_m10 229 rfl) rfl
theorem q2484 : (Jvm.Cond.code ({ cls := "java/lang/StringUTF16", name := "hashCode", desc := "([B)I" } : Jvm.MethodName) prog_31_method_39_code (1 : Nat) (Option.some Jvm.ClassFile.FieldType.int)) ∈ lw_all := lw_g (lw_at lw_m10 230 rfl) rfl
theorem q2485 : (Jvm.Cond.methodLink "java/lang/StringUTF16" (220 : Nat) ({ cls := "jdk/internal/util/ArraysSupport", name := "vectorizedHashCode", desc := "(Ljava/lang/Object;IIII)I" } : Jvm.MethodName)) ∈ lw_all := lw_g (lw_at lw_m10 231 rfl) rfl

/-! java/lang/Throwable -/
set_option maxRecDepth 100000
def RJ9 : String := "java/lang/Throwable"
def TJ9 : u_T := fun k => match k with
  | 0 => ("java/lang/Throwable", "cause", "Ljava/lang/Throwable;", false)
  | 1 => ("java/lang/Throwable", "stackTrace", "[Ljava/lang/StackTraceElement;", false)
  | 2 => ("java/lang/Throwable", "suppressedExceptions", "Ljava/util/List;", false)
  | 3 => ("java/lang/Throwable", "detailMessage", "Ljava/lang/String;", false)
  | _ => ("java/lang/Throwable", "backtrace", "Ljava/lang/Object;", false)
def tyJ9 : Nat → FieldType := fun k => match k with
  | 0 => .object "java/lang/Throwable"
  | 1 => .array (.object "java/lang/StackTraceElement")
  | 2 => .object "java/util/List"
  | 3 => .object "java/lang/String"
  | _ => .object "java/lang/Object"
abbrev wsJ90 : List Cond := u_ws RJ9 TJ9 5
theorem nmJ9 : ∀ a, a < 5 → ∀ b, b < 5 → a ≠ b → (TJ9 a).2.1 ≠ (TJ9 b).2.1 := by decide +kernel
theorem tyJ9_ok : ∀ k, k < 5 → parseFieldDescriptor (TJ9 k).2.2.1 = some (tyJ9 k) := by decide +kernel
abbrev cJ9_init : ByteArray := prog_34_method_1_code
def yJ9_init : MethodName := ⟨RJ9, "<init>", "()V"⟩
def dkwJ9_init_1 : List UInt8 := [182, 0, 27, 87, 177]
abbrev dktJ9_init_1 : List UInt8 := dkwJ9_init_1 ++ []
def dkwJ9_init_0 : List UInt8 := [42, 183, 0, 1, 42, 42, 181, 0, 7, 42, 178, 0, 13, 181, 0, 17, 42, 178, 0, 20, 181, 0, 24, 42]
abbrev dktJ9_init_0 : List UInt8 := dkwJ9_init_0 ++ dktJ9_init_1
theorem dksJ9_init_0 : cJ9_init.data.toList.drop 0 = dktJ9_init_0 := by decide +kernel
theorem dksJ9_init_1 : cJ9_init.data.toList.drop 24 = dktJ9_init_1 := dk_seg dksJ9_init_0 24 rfl rfl
theorem dJ9_init_0 : decode cJ9_init 0 = .ok (.aload_n 0, 1) := dk_42 (dk_at dksJ9_init_0 0 rfl rfl)
theorem dJ9_init_1 : decode cJ9_init 1 = .ok (.invokespecial 1, 3) := dk_183 0 1 (dk_at dksJ9_init_0 1 rfl rfl)
theorem dJ9_init_4 : decode cJ9_init 4 = .ok (.aload_n 0, 1) := dk_42 (dk_at dksJ9_init_0 4 rfl rfl)
theorem dJ9_init_5 : decode cJ9_init 5 = .ok (.aload_n 0, 1) := dk_42 (dk_at dksJ9_init_0 5 rfl rfl)
theorem dJ9_init_6 : decode cJ9_init 6 = .ok (.putfield 7, 3) := dk_181 0 7 (dk_at dksJ9_init_0 6 rfl rfl)
theorem dJ9_init_9 : decode cJ9_init 9 = .ok (.aload_n 0, 1) := dk_42 (dk_at dksJ9_init_0 9 rfl rfl)
theorem dJ9_init_10 : decode cJ9_init 10 = .ok (.getstatic 13, 3) := dk_178 0 13 (dk_at dksJ9_init_0 10 rfl rfl)
theorem dJ9_init_13 : decode cJ9_init 13 = .ok (.putfield 17, 3) := dk_181 0 17 (dk_at dksJ9_init_0 13 rfl rfl)
theorem dJ9_init_16 : decode cJ9_init 16 = .ok (.aload_n 0, 1) := dk_42 (dk_at dksJ9_init_0 16 rfl rfl)
theorem dJ9_init_17 : decode cJ9_init 17 = .ok (.getstatic 20, 3) := dk_178 0 20 (dk_at dksJ9_init_0 17 rfl rfl)
theorem dJ9_init_20 : decode cJ9_init 20 = .ok (.putfield 24, 3) := dk_181 0 24 (dk_at dksJ9_init_0 20 rfl rfl)
theorem dJ9_init_23 : decode cJ9_init 23 = .ok (.aload_n 0, 1) := dk_42 (dk_at dksJ9_init_0 23 rfl rfl)
theorem dJ9_init_24 : decode cJ9_init 24 = .ok (.invokevirtual 27, 3) := dk_182 0 27 (dk_at dksJ9_init_1 0 rfl rfl)
theorem dJ9_init_27 : decode cJ9_init 27 = .ok (.pop, 1) := dk_87 (dk_at dksJ9_init_1 3 rfl rfl)
theorem dJ9_init_28 : decode cJ9_init 28 = .ok (.return_, 1) := dk_177 (dk_at dksJ9_init_1 4 rfl rfl)
abbrev cJ9_init_2 : ByteArray := prog_34_method_2_code
def yJ9_init_2 : MethodName := ⟨RJ9, "<init>", "(Ljava/lang/String;)V"⟩
def dkwJ9_init_2_1 : List UInt8 := [182, 0, 27, 87, 42, 43, 181, 0, 31, 177]
abbrev dktJ9_init_2_1 : List UInt8 := dkwJ9_init_2_1 ++ []
def dkwJ9_init_2_0 : List UInt8 := [42, 183, 0, 1, 42, 42, 181, 0, 7, 42, 178, 0, 13, 181, 0, 17, 42, 178, 0, 20, 181, 0, 24, 42]
abbrev dktJ9_init_2_0 : List UInt8 := dkwJ9_init_2_0 ++ dktJ9_init_2_1
theorem dksJ9_init_2_0 : cJ9_init_2.data.toList.drop 0 = dktJ9_init_2_0 := by decide +kernel
theorem dksJ9_init_2_1 : cJ9_init_2.data.toList.drop 24 = dktJ9_init_2_1 := dk_seg dksJ9_init_2_0 24 rfl rfl
theorem dJ9_init_2_0 : decode cJ9_init_2 0 = .ok (.aload_n 0, 1) := dk_42 (dk_at dksJ9_init_2_0 0 rfl rfl)
theorem dJ9_init_2_1 : decode cJ9_init_2 1 = .ok (.invokespecial 1, 3) := dk_183 0 1 (dk_at dksJ9_init_2_0 1 rfl rfl)
theorem dJ9_init_2_4 : decode cJ9_init_2 4 = .ok (.aload_n 0, 1) := dk_42 (dk_at dksJ9_init_2_0 4 rfl rfl)
theorem dJ9_init_2_5 : decode cJ9_init_2 5 = .ok (.aload_n 0, 1) := dk_42 (dk_at dksJ9_init_2_0 5 rfl rfl)
theorem dJ9_init_2_6 : decode cJ9_init_2 6 = .ok (.putfield 7, 3) := dk_181 0 7 (dk_at dksJ9_init_2_0 6 rfl rfl)
theorem dJ9_init_2_9 : decode cJ9_init_2 9 = .ok (.aload_n 0, 1) := dk_42 (dk_at dksJ9_init_2_0 9 rfl rfl)
theorem dJ9_init_2_10 : decode cJ9_init_2 10 = .ok (.getstatic 13, 3) := dk_178 0 13 (dk_at dksJ9_init_2_0 10 rfl rfl)
theorem dJ9_init_2_13 : decode cJ9_init_2 13 = .ok (.putfield 17, 3) := dk_181 0 17 (dk_at dksJ9_init_2_0 13 rfl rfl)
theorem dJ9_init_2_16 : decode cJ9_init_2 16 = .ok (.aload_n 0, 1) := dk_42 (dk_at dksJ9_init_2_0 16 rfl rfl)
theorem dJ9_init_2_17 : decode cJ9_init_2 17 = .ok (.getstatic 20, 3) := dk_178 0 20 (dk_at dksJ9_init_2_0 17 rfl rfl)
theorem dJ9_init_2_20 : decode cJ9_init_2 20 = .ok (.putfield 24, 3) := dk_181 0 24 (dk_at dksJ9_init_2_0 20 rfl rfl)
theorem dJ9_init_2_23 : decode cJ9_init_2 23 = .ok (.aload_n 0, 1) := dk_42 (dk_at dksJ9_init_2_0 23 rfl rfl)
theorem dJ9_init_2_24 : decode cJ9_init_2 24 = .ok (.invokevirtual 27, 3) := dk_182 0 27 (dk_at dksJ9_init_2_1 0 rfl rfl)
theorem dJ9_init_2_27 : decode cJ9_init_2 27 = .ok (.pop, 1) := dk_87 (dk_at dksJ9_init_2_1 3 rfl rfl)
theorem dJ9_init_2_28 : decode cJ9_init_2 28 = .ok (.aload_n 0, 1) := dk_42 (dk_at dksJ9_init_2_1 4 rfl rfl)
theorem dJ9_init_2_29 : decode cJ9_init_2 29 = .ok (.aload_n 1, 1) := dk_43 (dk_at dksJ9_init_2_1 5 rfl rfl)
theorem dJ9_init_2_30 : decode cJ9_init_2 30 = .ok (.putfield 31, 3) := dk_181 0 31 (dk_at dksJ9_init_2_1 6 rfl rfl)
theorem dJ9_init_2_33 : decode cJ9_init_2 33 = .ok (.return_, 1) := dk_177 (dk_at dksJ9_init_2_1 9 rfl rfl)
abbrev cJ9_init_3 : ByteArray := prog_34_method_4_code
def yJ9_init_3 : MethodName := ⟨RJ9, "<init>", "(Ljava/lang/Throwable;)V"⟩
def dkwJ9_init_3_2 : List UInt8 := [181, 0, 7, 177]
abbrev dktJ9_init_3_2 : List UInt8 := dkwJ9_init_3_2 ++ []
def dkwJ9_init_3_1 : List UInt8 := [182, 0, 27, 87, 42, 43, 199, 0, 7, 1, 167, 0, 7, 43, 182, 0, 35, 181, 0, 31, 42, 43]
abbrev dktJ9_init_3_1 : List UInt8 := dkwJ9_init_3_1 ++ dktJ9_init_3_2
def dkwJ9_init_3_0 : List UInt8 := [42, 183, 0, 1, 42, 42, 181, 0, 7, 42, 178, 0, 13, 181, 0, 17, 42, 178, 0, 20, 181, 0, 24, 42]
abbrev dktJ9_init_3_0 : List UInt8 := dkwJ9_init_3_0 ++ dktJ9_init_3_1
theorem dksJ9_init_3_0 : cJ9_init_3.data.toList.drop 0 = dktJ9_init_3_0 := by decide +kernel
theorem dksJ9_init_3_1 : cJ9_init_3.data.toList.drop 24 = dktJ9_init_3_1 := dk_seg dksJ9_init_3_0 24 rfl rfl
theorem dksJ9_init_3_2 : cJ9_init_3.data.toList.drop 46 = dktJ9_init_3_2 := dk_seg dksJ9_init_3_1 22 rfl rfl
theorem dJ9_init_3_0 : decode cJ9_init_3 0 = .ok (.aload_n 0, 1) := dk_42 (dk_at dksJ9_init_3_0 0 rfl rfl)
theorem dJ9_init_3_1 : decode cJ9_init_3 1 = .ok (.invokespecial 1, 3) := dk_183 0 1 (dk_at dksJ9_init_3_0 1 rfl rfl)
theorem dJ9_init_3_4 : decode cJ9_init_3 4 = .ok (.aload_n 0, 1) := dk_42 (dk_at dksJ9_init_3_0 4 rfl rfl)
theorem dJ9_init_3_5 : decode cJ9_init_3 5 = .ok (.aload_n 0, 1) := dk_42 (dk_at dksJ9_init_3_0 5 rfl rfl)
theorem dJ9_init_3_6 : decode cJ9_init_3 6 = .ok (.putfield 7, 3) := dk_181 0 7 (dk_at dksJ9_init_3_0 6 rfl rfl)
theorem dJ9_init_3_9 : decode cJ9_init_3 9 = .ok (.aload_n 0, 1) := dk_42 (dk_at dksJ9_init_3_0 9 rfl rfl)
theorem dJ9_init_3_10 : decode cJ9_init_3 10 = .ok (.getstatic 13, 3) := dk_178 0 13 (dk_at dksJ9_init_3_0 10 rfl rfl)
theorem dJ9_init_3_13 : decode cJ9_init_3 13 = .ok (.putfield 17, 3) := dk_181 0 17 (dk_at dksJ9_init_3_0 13 rfl rfl)
theorem dJ9_init_3_16 : decode cJ9_init_3 16 = .ok (.aload_n 0, 1) := dk_42 (dk_at dksJ9_init_3_0 16 rfl rfl)
theorem dJ9_init_3_17 : decode cJ9_init_3 17 = .ok (.getstatic 20, 3) := dk_178 0 20 (dk_at dksJ9_init_3_0 17 rfl rfl)
theorem dJ9_init_3_20 : decode cJ9_init_3 20 = .ok (.putfield 24, 3) := dk_181 0 24 (dk_at dksJ9_init_3_0 20 rfl rfl)
theorem dJ9_init_3_23 : decode cJ9_init_3 23 = .ok (.aload_n 0, 1) := dk_42 (dk_at dksJ9_init_3_0 23 rfl rfl)
theorem dJ9_init_3_24 : decode cJ9_init_3 24 = .ok (.invokevirtual 27, 3) := dk_182 0 27 (dk_at dksJ9_init_3_1 0 rfl rfl)
theorem dJ9_init_3_27 : decode cJ9_init_3 27 = .ok (.pop, 1) := dk_87 (dk_at dksJ9_init_3_1 3 rfl rfl)
theorem dJ9_init_3_28 : decode cJ9_init_3 28 = .ok (.aload_n 0, 1) := dk_42 (dk_at dksJ9_init_3_1 4 rfl rfl)
theorem dJ9_init_3_29 : decode cJ9_init_3 29 = .ok (.aload_n 1, 1) := dk_43 (dk_at dksJ9_init_3_1 5 rfl rfl)
theorem dJ9_init_3_30 : decode cJ9_init_3 30 = .ok (.ifnonnull 7, 3) := dk_199 0 7 (dk_at dksJ9_init_3_1 6 rfl rfl)
theorem dJ9_init_3_33 : decode cJ9_init_3 33 = .ok (.aconst_null, 1) := dk_1 (dk_at dksJ9_init_3_1 9 rfl rfl)
theorem dJ9_init_3_34 : decode cJ9_init_3 34 = .ok (.goto 7, 3) := dk_167 0 7 (dk_at dksJ9_init_3_1 10 rfl rfl)
theorem dJ9_init_3_37 : decode cJ9_init_3 37 = .ok (.aload_n 1, 1) := dk_43 (dk_at dksJ9_init_3_1 13 rfl rfl)
theorem dJ9_init_3_38 : decode cJ9_init_3 38 = .ok (.invokevirtual 35, 3) := dk_182 0 35 (dk_at dksJ9_init_3_1 14 rfl rfl)
theorem dJ9_init_3_41 : decode cJ9_init_3 41 = .ok (.putfield 31, 3) := dk_181 0 31 (dk_at dksJ9_init_3_1 17 rfl rfl)
theorem dJ9_init_3_44 : decode cJ9_init_3 44 = .ok (.aload_n 0, 1) := dk_42 (dk_at dksJ9_init_3_1 20 rfl rfl)
theorem dJ9_init_3_45 : decode cJ9_init_3 45 = .ok (.aload_n 1, 1) := dk_43 (dk_at dksJ9_init_3_1 21 rfl rfl)
theorem dJ9_init_3_46 : decode cJ9_init_3 46 = .ok (.putfield 7, 3) := dk_181 0 7 (dk_at dksJ9_init_3_2 0 rfl rfl)
theorem dJ9_init_3_49 : decode cJ9_init_3 49 = .ok (.return_, 1) := dk_177 (dk_at dksJ9_init_3_2 3 rfl rfl)
abbrev cJ9_toString : ByteArray := prog_34_method_11_code
def yJ9_toString : MethodName := ⟨RJ9, "toString", "()Ljava/lang/String;"⟩
def dkwJ9_toString_1 : List UInt8 := [43, 182, 0, 49, 18, 81, 182, 0, 49, 44, 182, 0, 49, 182, 0, 60, 167, 0, 4, 43, 176]
abbrev dktJ9_toString_1 : List UInt8 := dkwJ9_toString_1 ++ []
def dkwJ9_toString_0 : List UInt8 := [42, 182, 0, 69, 182, 0, 73, 76, 42, 182, 0, 78, 77, 44, 198, 0, 29, 187, 0, 44, 89, 183, 0, 46]
abbrev dktJ9_toString_0 : List UInt8 := dkwJ9_toString_0 ++ dktJ9_toString_1
theorem dksJ9_toString_0 : cJ9_toString.data.toList.drop 0 = dktJ9_toString_0 := by decide +kernel
theorem dksJ9_toString_1 : cJ9_toString.data.toList.drop 24 = dktJ9_toString_1 := dk_seg dksJ9_toString_0 24 rfl rfl
theorem dJ9_toString_0 : decode cJ9_toString 0 = .ok (.aload_n 0, 1) := dk_42 (dk_at dksJ9_toString_0 0 rfl rfl)
theorem dJ9_toString_1 : decode cJ9_toString 1 = .ok (.invokevirtual 69, 3) := dk_182 0 69 (dk_at dksJ9_toString_0 1 rfl rfl)
theorem dJ9_toString_4 : decode cJ9_toString 4 = .ok (.invokevirtual 73, 3) := dk_182 0 73 (dk_at dksJ9_toString_0 4 rfl rfl)
theorem dJ9_toString_7 : decode cJ9_toString 7 = .ok (.astore_n 1, 1) := dk_76 (dk_at dksJ9_toString_0 7 rfl rfl)
theorem dJ9_toString_8 : decode cJ9_toString 8 = .ok (.aload_n 0, 1) := dk_42 (dk_at dksJ9_toString_0 8 rfl rfl)
theorem dJ9_toString_9 : decode cJ9_toString 9 = .ok (.invokevirtual 78, 3) := dk_182 0 78 (dk_at dksJ9_toString_0 9 rfl rfl)
theorem dJ9_toString_12 : decode cJ9_toString 12 = .ok (.astore_n 2, 1) := dk_77 (dk_at dksJ9_toString_0 12 rfl rfl)
theorem dJ9_toString_13 : decode cJ9_toString 13 = .ok (.aload_n 2, 1) := dk_44 (dk_at dksJ9_toString_0 13 rfl rfl)
theorem dJ9_toString_14 : decode cJ9_toString 14 = .ok (.ifnull 29, 3) := dk_198 0 29 (dk_at dksJ9_toString_0 14 rfl rfl)
theorem dJ9_toString_17 : decode cJ9_toString 17 = .ok (.new 44, 3) := dk_187 0 44 (dk_at dksJ9_toString_0 17 rfl rfl)
theorem dJ9_toString_20 : decode cJ9_toString 20 = .ok (.dup, 1) := dk_89 (dk_at dksJ9_toString_0 20 rfl rfl)
theorem dJ9_toString_21 : decode cJ9_toString 21 = .ok (.invokespecial 46, 3) := dk_183 0 46 (dk_at dksJ9_toString_0 21 rfl rfl)
theorem dJ9_toString_24 : decode cJ9_toString 24 = .ok (.aload_n 1, 1) := dk_43 (dk_at dksJ9_toString_1 0 rfl rfl)
theorem dJ9_toString_25 : decode cJ9_toString 25 = .ok (.invokevirtual 49, 3) := dk_182 0 49 (dk_at dksJ9_toString_1 1 rfl rfl)
theorem dJ9_toString_28 : decode cJ9_toString 28 = .ok (.ldc 81, 2) := dk_18 81 (dk_at dksJ9_toString_1 4 rfl rfl)
theorem dJ9_toString_30 : decode cJ9_toString 30 = .ok (.invokevirtual 49, 3) := dk_182 0 49 (dk_at dksJ9_toString_1 6 rfl rfl)
theorem dJ9_toString_33 : decode cJ9_toString 33 = .ok (.aload_n 2, 1) := dk_44 (dk_at dksJ9_toString_1 9 rfl rfl)
theorem dJ9_toString_34 : decode cJ9_toString 34 = .ok (.invokevirtual 49, 3) := dk_182 0 49 (dk_at dksJ9_toString_1 10 rfl rfl)
theorem dJ9_toString_37 : decode cJ9_toString 37 = .ok (.invokevirtual 60, 3) := dk_182 0 60 (dk_at dksJ9_toString_1 13 rfl rfl)
theorem dJ9_toString_40 : decode cJ9_toString 40 = .ok (.goto 4, 3) := dk_167 0 4 (dk_at dksJ9_toString_1 16 rfl rfl)
theorem dJ9_toString_43 : decode cJ9_toString 43 = .ok (.aload_n 1, 1) := dk_43 (dk_at dksJ9_toString_1 19 rfl rfl)
theorem dJ9_toString_44 : decode cJ9_toString 44 = .ok (.areturn, 1) := dk_176 (dk_at dksJ9_toString_1 20 rfl rfl)
abbrev cJ9_getLocalizedMessage : ByteArray := prog_34_method_7_code
def yJ9_getLocalizedMessage : MethodName := ⟨RJ9, "getLocalizedMessage", "()Ljava/lang/String;"⟩
theorem dJ9_getLocalizedMessage_0 : decode cJ9_getLocalizedMessage 0 = .ok (.aload_n 0, 1) := by decide +kernel
theorem dJ9_getLocalizedMessage_1 : decode cJ9_getLocalizedMessage 1 = .ok (.invokevirtual 39, 3) := by decide +kernel
theorem dJ9_getLocalizedMessage_4 : decode cJ9_getLocalizedMessage 4 = .ok (.areturn, 1) := by decide +kernel
abbrev cJ9_getMessage : ByteArray := prog_34_method_6_code
def yJ9_getMessage : MethodName := ⟨RJ9, "getMessage", "()Ljava/lang/String;"⟩
theorem dJ9_getMessage_0 : decode cJ9_getMessage 0 = .ok (.aload_n 0, 1) := by decide +kernel
theorem dJ9_getMessage_1 : decode cJ9_getMessage 1 = .ok (.getfield 31, 3) := by decide +kernel
theorem dJ9_getMessage_4 : decode cJ9_getMessage 4 = .ok (.areturn, 1) := by decide +kernel
theorem q107 : (Jvm.Cond.initialized "java/lang/Throwable") ∈ lw_all := lw_g (lw_at lw_m1 13 rfl) rfl
theorem q368 : (Jvm.Cond.declares ({ cls := "java/lang/Throwable", name := "<init>", desc := "()V" } : Jvm.MethodName)) ∈ lw_tbl := lw_at lw_m2 34 rfl
theorem q369 : (Jvm.Cond.declares ({ cls := "java/lang/Throwable", name := "<init>", desc := "(Ljava/lang/String;)V" } : Jvm.MethodName)) ∈ lw_tbl := lw_at lw_m2 35 rfl
theorem q373 : (Jvm.Cond.lays "java/lang/Throwable" "java/lang/Throwable" "cause" "Ljava/lang/Throwable;") ∈ lw_all := lw_g (lw_at lw_m2 39 rfl) rfl
theorem q375 : (Jvm.Cond.lays "java/lang/Throwable" "java/lang/Throwable" "stackTrace" "[Ljava/lang/StackTraceElement;") ∈ lw_all := lw_g (lw_at lw_m2 41 rfl) rfl
theorem q377 : (Jvm.Cond.lays "java/lang/Throwable" "java/lang/Throwable" "suppressedExceptions" "Ljava/util/List;") ∈ lw_all := lw_g (lw_at lw_m2 43 rfl) rfl
theorem q379 : (Jvm.Cond.lays "java/lang/Throwable" "java/lang/Throwable" "detailMessage" "Ljava/lang/String;") ∈ lw_all := lw_g (lw_at lw_m2 45 rfl) rfl
theorem q381 : (Jvm.Cond.lays "java/lang/Throwable" "java/lang/Throwable" "backtrace" "Ljava/lang/Object;") ∈ lw_all := lw_g (lw_at lw_m2 47 rfl) rfl
theorem q382 : (Jvm.Cond.fieldLink "java/lang/Throwable" (198 : Nat) "java/lang/Throwable" "backtrace" "Ljava/lang/Object;") ∈ lw_all := lw_g (lw_at lw_m2 48 rfl) rfl
theorem q383 : (Jvm.Cond.superclass "java/lang/Throwable" "java/lang/Object") ∈ lw_all := lw_g (lw_at lw_m2 49 rfl) rfl
theorem q384 : (Jvm.Cond.instanceMethod ({ cls := "java/lang/Throwable", name := "<init>", desc := "()V" } : Jvm.MethodName)) ∈ lw_all := lw_g (lw_at lw_m2 50 rfl) rfl
theorem q385 : (Jvm.Cond.code ({ cls := "java/lang/Throwable", name := "<init>", desc := "()V" } : Jvm.MethodName) prog_34_method_1_code (1 : Nat) (Option.none : Option Jvm.ClassFile.FieldType)) ∈ lw_all := lw_g (lw_at lw_m2 51 rfl) rfl
theorem q386 : (Jvm.Cond.methodLink "java/lang/Throwable" (1 : Nat) ({ cls := "java/lang/Object", name := "<init>", desc := "()V" } : Jvm.MethodName)) ∈ lw_all := lw_g (lw_at lw_m2 52 rfl) rfl
theorem q387 : (Jvm.Cond.fieldLink "java/lang/Throwable" (13 : Nat) "java/lang/Throwable" "UNASSIGNED_STACK" "[Ljava/lang/StackTraceElement;") ∈ lw_all := lw_g (lw_at lw_m2 53 rfl) rfl
theorem q388 : (Jvm.Cond.laysStatic "java/lang/Throwable" "UNASSIGNED_STACK" "[Ljava/lang/StackTraceElement;") ∈ lw_tbl := lw_at lw_m2 54 rfl
theorem q389 : (Jvm.Cond.fieldLink "java/lang/Throwable" (20 : Nat) "java/lang/Throwable" "SUPPRESSED_SENTINEL" "Ljava/util/List;") ∈ lw_all := lw_g (lw_at lw_m2 55 rfl) rfl
theorem q390 : (Jvm.Cond.laysStatic "java/lang/Throwable" "SUPPRESSED_SENTINEL" "Ljava/util/List;") ∈ lw_tbl := lw_at lw_m2 56 rfl
theorem q391 : (Jvm.Cond.methodLink "java/lang/Throwable" (27 : Nat) ({ cls := "java/lang/Throwable", name := "fillInStackTrace", desc := "()Ljava/lang/Throwable;" } : Jvm.MethodName)) ∈ lw_all := lw_g (lw_at lw_m2 57 rfl) rfl
theorem q392 : (Jvm.Cond.instanceMethod ({ cls := "java/lang/Throwable", name := "fillInStackTrace", desc := "()Ljava/lang/Throwable;" } : Jvm.MethodName)) ∈ lw_all := lw_g (lw_at lw_m2 58 rfl) rfl
theorem q393 : (Jvm.Cond.sameMethod "java/lang/Throwable" "java/lang/Throwable" "fillInStackTrace" "()Ljava/lang/Throwable;") ∈ lw_all := lw_g (lw_at lw_m2 59 rfl) rfl
theorem q400 : (Jvm.Cond.codeSync ({ cls := "java/lang/Throwable", name := "fillInStackTrace", desc := "()Ljava/lang/Throwable;" } : Jvm.MethodName) prog_34_method_18_code (1 : Nat) (Option.some (Jvm.ClassFile.FieldType.object "java/lang/Throwable"))) ∈ lw_all := lw_g (lw_at lw_m2 66 rfl) rfl
theorem q401 : (Jvm.Cond.methodLink "java/lang/Throwable" (202 : Nat) ({ cls := "java/lang/Throwable", name := "fillInStackTrace", desc := "(I)Ljava/lang/Throwable;" } : Jvm.MethodName)) ∈ lw_all := lw_g (lw_at lw_m2 67 rfl) rfl
theorem q402 : (Jvm.Cond.privateMethod ({ cls := "java/lang/Throwable", name := "fillInStackTrace", desc := "(I)Ljava/lang/Throwable;" } : Jvm.MethodName)) ∈ lw_tbl := lw_at lw_m2 68 rfl
theorem q403 : (Jvm.Cond.instanceMethod ({ cls := "java/lang/Throwable", name := "fillInStackTrace", desc := "(I)Ljava/lang/Throwable;" } : Jvm.MethodName)) ∈ lw_all := lw_g (lw_at lw_m2 69 rfl) rfl
theorem q404 : (Jvm.Cond.instantiable "java/lang/Throwable" (6 : Nat)) ∈ lw_all := lw_g (lw_at lw_m2 70 rfl) rfl
theorem q405 : (Jvm.Cond.native ({ cls := "java/lang/Throwable", name := "fillInStackTrace", desc := "(I)Ljava/lang/Throwable;" } : Jvm.MethodName)) ∈ lw_all := lw_g (lw_at lw_m2 71 rfl) rfl
theorem q620 : (Jvm.Cond.instanceMethod ({ cls := "java/lang/Throwable", name := "<init>", desc := "(Ljava/lang/String;)V" } : Jvm.MethodName)) ∈ lw_all := lw_g (lw_at lw_m3 46 rfl) rfl
theorem q621 : (Jvm.Cond.code ({ cls := "java/lang/Throwable", name := "<init>", desc := "(Ljava/lang/String;)V" } : Jvm.MethodName) prog_34_method_2_code (2 : Nat) (Option.none : Option Jvm.ClassFile.FieldType)) ∈ lw_all := lw_g (lw_at lw_m3 47 rfl) rfl
theorem q622 : (Jvm.Cond.fieldLink "java/lang/Throwable" (198 : Nat) "java/lang/Throwable" "backtrace" "Ljava/lang/Object;") ∈ lw_all := lw_g (lw_at lw_m3 48 rfl) rfl
theorem q623 : (Jvm.Cond.fieldLink "java/lang/Throwable" (31 : Nat) "java/lang/Throwable" "detailMessage" "Ljava/lang/String;") ∈ lw_all := lw_g (lw_at lw_m3 49 rfl) rfl
theorem q624 : (Jvm.Cond.fieldLink "java/lang/Throwable" (7 : Nat) "java/lang/Throwable" "cause" "Ljava/lang/Throwable;") ∈ lw_all := lw_g (lw_at lw_m3 50 rfl) rfl
theorem q625 : (Jvm.Cond.fieldLink "java/lang/Throwable" (17 : Nat) "java/lang/Throwable" "stackTrace" "[Ljava/lang/StackTraceElement;") ∈ lw_all := lw_g (lw_at lw_m3 51 rfl) rfl
theorem q626 : (Jvm.Cond.fieldLink "java/lang/Throwable" (24 : Nat) "java/lang/Throwable" "suppressedExceptions" "Ljava/util/List;") ∈ lw_all := lw_g (lw_at lw_m3 52 rfl) rfl
theorem q627 : (Jvm.Cond.soleField "java/lang/Throwable" "backtrace") ∈ lw_all := lw_g (lw_at lw_m3 53 rfl) rfl
theorem q628 : (Jvm.Cond.soleField "java/lang/Throwable" "detailMessage") ∈ lw_all := lw_g (lw_at lw_m3 54 rfl) rfl
theorem q629 : (Jvm.Cond.soleField "java/lang/Throwable" "cause") ∈ lw_all := lw_g (lw_at lw_m3 55 rfl) rfl
theorem q630 : (Jvm.Cond.soleField "java/lang/Throwable" "stackTrace") ∈ lw_all := lw_g (lw_at lw_m3 56 rfl) rfl
theorem q632 : (Jvm.Cond.soleField "java/lang/Throwable" "depth") ∈ lw_all := lw_g (lw_at lw_m3 58 rfl) rfl
theorem q633 : (Jvm.Cond.soleField "java/lang/Throwable" "suppressedExceptions") ∈ lw_all := lw_g (lw_at lw_m3 59 rfl) rfl
theorem q852 : (Jvm.Cond.instanceMethod ({ cls := "java/lang/Throwable", name := "<init>", desc := "(Ljava/lang/Throwable;)V" } : Jvm.MethodName)) ∈ lw_all := lw_g (lw_at lw_m4 38 rfl) rfl
theorem q853 : (Jvm.Cond.code ({ cls := "java/lang/Throwable", name := "<init>", desc := "(Ljava/lang/Throwable;)V" } : Jvm.MethodName) prog_34_method_4_code (2 : Nat) (Option.none : Option Jvm.ClassFile.FieldType)) ∈ lw_all := lw_g (lw_at lw_m4 39 rfl) rfl
theorem q854 : (Jvm.Cond.methodLink "java/lang/Throwable" (35 : Nat) ({ cls := "java/lang/Throwable", name := "toString", desc := "()Ljava/lang/String;" } : Jvm.MethodName)) ∈ lw_all := lw_g (lw_at lw_m4 40 rfl) rfl
theorem q855 : (Jvm.Cond.instanceMethod ({ cls := "java/lang/Throwable", name := "toString", desc := "()Ljava/lang/String;" } : Jvm.MethodName)) ∈ lw_all := lw_g (lw_at lw_m4 41 rfl) rfl
theorem q856 : (Jvm.Cond.sameMethod "java/lang/Throwable" "java/lang/Throwable" "toString" "()Ljava/lang/String;") ∈ lw_all := lw_g (lw_at lw_m4 42 rfl) rfl
theorem q864 : (Jvm.Cond.code ({ cls := "java/lang/Throwable", name := "toString", desc := "()Ljava/lang/String;" } : Jvm.MethodName) prog_34_method_11_code (3 : Nat) (Option.some (Jvm.ClassFile.FieldType.object "java/lang/String"))) ∈ lw_all := lw_g (lw_at lw_m4 50 rfl) rfl
theorem q865 : (Jvm.Cond.methodLink "java/lang/Throwable" (69 : Nat) ({ cls := "java/lang/Object", name := "getClass", desc := "()Ljava/lang/Class;" } : Jvm.MethodName)) ∈ lw_all := lw_g (lw_at lw_m4 51 rfl) rfl
theorem q898 : (Jvm.Cond.methodLink "java/lang/Throwable" (78 : Nat) ({ cls := "java/lang/Throwable", name := "getLocalizedMessage", desc := "()Ljava/lang/String;" } : Jvm.MethodName)) ∈ lw_all := lw_g (lw_at lw_m4 84 rfl) rfl
theorem q899 : (Jvm.Cond.instanceMethod ({ cls := "java/lang/Throwable", name := "getLocalizedMessage", desc := "()Ljava/lang/String;" } : Jvm.MethodName)) ∈ lw_all := lw_g (lw_at lw_m4 85 rfl) rfl
theorem q900 : (Jvm.Cond.sameMethod "java/lang/Throwable" "java/lang/Throwable" "getLocalizedMessage" "()Ljava/lang/String;") ∈ lw_all := lw_g (lw_at lw_m4 86 rfl) rfl
theorem q908 : (Jvm.Cond.code ({ cls := "java/lang/Throwable", name := "getLocalizedMessage", desc := "()Ljava/lang/String;" } : Jvm.MethodName) prog_34_method_7_code (1 : Nat) (Option.some (Jvm.ClassFile.FieldType.object "java/lang/String"))) ∈ lw_all := lw_g (lw_at lw_m4 94 rfl) rfl
theorem q909 : (Jvm.Cond.methodLink "java/lang/Throwable" (39 : Nat) ({ cls := "java/lang/Throwable", name := "getMessage", desc := "()Ljava/lang/String;" } : Jvm.MethodName)) ∈ lw_all := lw_g (lw_at lw_m4 95 rfl) rfl
theorem q910 : (Jvm.Cond.instanceMethod ({ cls := "java/lang/Throwable", name := "getMessage", desc := "()Ljava/lang/String;" } : Jvm.MethodName)) ∈ lw_all := lw_g (lw_at lw_m4 96 rfl) rfl
theorem q911 : (Jvm.Cond.sameMethod "java/lang/Throwable" "java/lang/Throwable" "getMessage" "()Ljava/lang/String;") ∈ lw_all := lw_g (lw_at lw_m4 97 rfl) rfl
theorem q919 : (Jvm.Cond.code ({ cls := "java/lang/Throwable", name := "getMessage", desc := "()Ljava/lang/String;" } : Jvm.MethodName) prog_34_method_6_code (1 : Nat) (Option.some (Jvm.ClassFile.FieldType.object "java/lang/String"))) ∈ lw_all := lw_g (lw_at lw_m4 105 rfl) rfl
theorem q920 : (Jvm.Cond.classLink "java/lang/Throwable" (44 : Nat) "java/lang/StringBuilder") ∈ lw_all := lw_g (lw_at lw_m4 106 rfl) rfl
theorem q921 : (Jvm.Cond.methodLink "java/lang/Throwable" (46 : Nat) ({ cls := "java/lang/StringBuilder", name := "<init>", desc := "()V" } : Jvm.MethodName)) ∈ lw_all := lw_g (lw_at lw_m4 107 rfl) rfl
theorem q922 : (Jvm.Cond.methodLink "java/lang/Throwable" (49 : Nat) ({ cls := "java/lang/StringBuilder", name := "append", desc := "(Ljava/lang/String;)Ljava/lang/StringBuilder;" } : Jvm.MethodName)) ∈ lw_all := lw_g (lw_at lw_m4 108 rfl) rfl
theorem q923 : (Jvm.Cond.stringRef "java/lang/Throwable" (81 : Nat) ": ") ∈ lw_tbl := lw_at lw_m4 109 rfl
theorem q924 : (Jvm.Cond.methodLink "java/lang/Throwable" (60 : Nat) ({ cls := "java/lang/StringBuilder", name := "toString", desc := "()Ljava/lang/String;" } : Jvm.MethodName)) ∈ lw_all := lw_g (lw_at lw_m4 110 rfl) rfl
theorem q3073 : (Jvm.Cond.sameMethod "java/lang/Throwable" "java/lang/Throwable" "fillInStackTrace" "(I)Ljava/lang/Throwable;") ∈ lw_all := lw_g (lw_at lw_m13 99 rfl) rfl
theorem q3132 : (Jvm.Cond.castable "java/lang/Throwable" "java/lang/Object") ∈ lw_tbl := lw_at lw_m13 158 rfl
theorem in_J9 : ∀ w ∈ wsJ90, w ∈ lw_all := lw_in wsJ90 [373, 375, 377, 379, 381] (by decide +kernel) (by decide +kernel)

theorem q1457 : (Jvm.Cond.interfaceMethod "ClaimRegistry$ClaimTest" "ClaimRegistry$ClaimTest" "matches" "(LClaimRegistry$Claim;)Z") ∈ lw_tbl := lw_at lw_m6 163 rfl
set_option maxRecDepth 100000
theorem q1458 : (Jvm.Cond.declares ({ cls := "ClaimRegistry$ClaimTest", name := "matches", desc := "(LClaimRegistry$Claim;)Z" } : Jvm.MethodName)) ∈ lw_tbl := lw_at lw_m6 164 rfl

theorem q1431 : (Jvm.Cond.interfaceMethod "ClaimRegistry$ClaimValue" "ClaimRegistry$ClaimValue" "of" "(LClaimRegistry$Claim;)I") ∈ lw_tbl := lw_at lw_m6 137 rfl
set_option maxRecDepth 100000
theorem q1432 : (Jvm.Cond.declares ({ cls := "ClaimRegistry$ClaimValue", name := "of", desc := "(LClaimRegistry$Claim;)I" } : Jvm.MethodName)) ∈ lw_tbl := lw_at lw_m6 138 rfl

theorem q447 : (Jvm.Cond.sameMethod "[B" "java/lang/Object" "clone" "()Ljava/lang/Object;") ∈ lw_all := lw_g (lw_at lw_m2 113 rfl) rfl
set_option maxRecDepth 100000
theorem q450 : (Jvm.Cond.selects "[B" ({ cls := "[B", name := "clone", desc := "()Ljava/lang/Object;" } : Jvm.MethodName) ({ cls := "java/lang/Object", name := "clone", desc := "()Ljava/lang/Object;" } : Jvm.MethodName)) ∈ lw_all := lw_g (lw_at lw_m2 116 rfl) rfl
theorem q451 : (Jvm.Cond.castable "[B" "java/lang/Cloneable") ∈ lw_tbl := lw_at lw_m2 117 rfl
theorem q3138 : (Jvm.Cond.castable "[B" "java/lang/Object") ∈ lw_tbl := lw_at lw_m13 164 rfl

theorem q3139 : (Jvm.Cond.castable "[C" "java/lang/Object") ∈ lw_tbl := lw_at lw_m13 165 rfl
set_option maxRecDepth 100000

theorem q3137 : (Jvm.Cond.castable "[I" "java/lang/Object") ∈ lw_tbl := lw_at lw_m13 163 rfl
set_option maxRecDepth 100000

theorem q3140 : (Jvm.Cond.castable "[J" "java/lang/Object") ∈ lw_tbl := lw_at lw_m13 166 rfl
set_option maxRecDepth 100000

theorem q3133 : (Jvm.Cond.sameMethod "[Ljava/lang/Object;" "java/lang/Object" "getClass" "()Ljava/lang/Class;") ∈ lw_all := lw_g (lw_at lw_m13 159 rfl) rfl
set_option maxRecDepth 100000
theorem q3134 : (Jvm.Cond.selects "[Ljava/lang/Object;" ({ cls := "java/lang/Object", name := "getClass", desc := "()Ljava/lang/Class;" } : Jvm.MethodName) ({ cls := "java/lang/Object", name := "getClass", desc := "()Ljava/lang/Class;" } : Jvm.MethodName)) ∈ lw_all := lw_g (lw_at lw_m13 160 rfl) rfl
theorem q3136 : (Jvm.Cond.castable "[Ljava/lang/Object;" "java/lang/Object") ∈ lw_tbl := lw_at lw_m13 162 rfl

theorem q132 : (Jvm.Cond.initialized "java/lang/Integer$IntegerCache") ∈ lw_all := lw_g (lw_at lw_m1 38 rfl) rfl
set_option maxRecDepth 100000
theorem q1147 : (Jvm.Cond.laysStatic "java/lang/Integer$IntegerCache" "high" "I") ∈ lw_tbl := lw_at lw_m5 93 rfl
theorem q1149 : (Jvm.Cond.laysStatic "java/lang/Integer$IntegerCache" "cache" "[Ljava/lang/Integer;") ∈ lw_tbl := lw_at lw_m5 95 rfl

theorem q116 : (Jvm.Cond.initialized "java/lang/System") ∈ lw_all := lw_g (lw_at lw_m1 22 rfl) rfl
set_option maxRecDepth 100000
theorem q457 : (Jvm.Cond.static ({ cls := "java/lang/System", name := "arraycopy", desc := "(Ljava/lang/Object;ILjava/lang/Object;II)V" } : Jvm.MethodName)) ∈ lw_all := lw_g (lw_at lw_m2 123 rfl) rfl
theorem q458 : (Jvm.Cond.native ({ cls := "java/lang/System", name := "arraycopy", desc := "(Ljava/lang/Object;ILjava/lang/Object;II)V" } : Jvm.MethodName)) ∈ lw_all := lw_g (lw_at lw_m2 124 rfl) rfl

theorem q122 : (Jvm.Cond.initialized "java/util/AbstractList$ListItr") ∈ lw_all := lw_g (lw_at lw_m1 28 rfl) rfl
set_option maxRecDepth 100000
theorem q749 : (Jvm.Cond.castable "java/util/AbstractList$ListItr" "java/util/Iterator") ∈ lw_tbl := lw_at lw_m3 175 rfl
theorem q750 : (Jvm.Cond.selects "java/util/AbstractList$ListItr" ({ cls := "java/util/Iterator", name := "hasNext", desc := "()Z" } : Jvm.MethodName) ({ cls := "java/util/AbstractList$Itr", name := "hasNext", desc := "()Z" } : Jvm.MethodName)) ∈ lw_all := lw_g (lw_at lw_m3 176 rfl) rfl
theorem q751 : (Jvm.Cond.unhidden "java/util/AbstractList$ListItr" "hasNext" "()Z") ∈ lw_tbl := lw_at lw_m3 177 rfl
theorem q795 : (Jvm.Cond.selects "java/util/AbstractList$ListItr" ({ cls := "java/util/Iterator", name := "next", desc := "()Ljava/lang/Object;" } : Jvm.MethodName) ({ cls := "java/util/AbstractList$Itr", name := "next", desc := "()Ljava/lang/Object;" } : Jvm.MethodName)) ∈ lw_all := lw_g (lw_at lw_m3 221 rfl) rfl
theorem q796 : (Jvm.Cond.unhidden "java/util/AbstractList$ListItr" "next" "()Ljava/lang/Object;") ∈ lw_tbl := lw_at lw_m3 222 rfl
theorem q803 : (Jvm.Cond.selects "java/util/AbstractList$ListItr" ({ cls := "java/util/AbstractList$Itr", name := "checkForComodification", desc := "()V" } : Jvm.MethodName) ({ cls := "java/util/AbstractList$Itr", name := "checkForComodification", desc := "()V" } : Jvm.MethodName)) ∈ lw_all := lw_g (lw_at lw_m3 229 rfl) rfl
theorem q883 : (Jvm.Cond.selects "java/util/AbstractList$ListItr" ({ cls := "java/lang/Object", name := "getClass", desc := "()Ljava/lang/Class;" } : Jvm.MethodName) ({ cls := "java/lang/Object", name := "getClass", desc := "()Ljava/lang/Class;" } : Jvm.MethodName)) ∈ lw_all := lw_g (lw_at lw_m4 69 rfl) rfl
theorem q1247 : (Jvm.Cond.selects "java/util/AbstractList$ListItr" ({ cls := "java/util/Iterator", name := "remove", desc := "()V" } : Jvm.MethodName) ({ cls := "java/util/AbstractList$Itr", name := "remove", desc := "()V" } : Jvm.MethodName)) ∈ lw_all := lw_g (lw_at lw_m5 193 rfl) rfl
theorem q1248 : (Jvm.Cond.unhidden "java/util/AbstractList$ListItr" "remove" "()V") ∈ lw_tbl := lw_at lw_m5 194 rfl
theorem q3113 : (Jvm.Cond.castable "java/util/AbstractList$ListItr" "java/lang/Object") ∈ lw_tbl := lw_at lw_m13 139 rfl
theorem q3142 : (Jvm.Cond.fieldLink "java/util/AbstractList$ListItr" (1 : Nat) "java/util/AbstractList$ListItr" "this$0" "Ljava/util/AbstractList;") ∈ lw_all := lw_g (lw_at lw_m13 168 rfl) rfl
theorem q3147 : (Jvm.Cond.fieldLink "java/util/AbstractList$ListItr" (13 : Nat) "java/util/AbstractList$ListItr" "cursor" "I") ∈ lw_all := lw_g (lw_at lw_m13 173 rfl) rfl
theorem q3148 : (Jvm.Cond.sameField "java/util/AbstractList$ListItr" "java/util/AbstractList$Itr" "cursor" "I") ∈ lw_all := lw_g (lw_at lw_m13 174 rfl) rfl

theorem q747 : (Jvm.Cond.interfaceMethod "java/util/Iterator" "java/util/Iterator" "hasNext" "()Z") ∈ lw_tbl := lw_at lw_m3 173 rfl
set_option maxRecDepth 100000
theorem q748 : (Jvm.Cond.declares ({ cls := "java/util/Iterator", name := "hasNext", desc := "()Z" } : Jvm.MethodName)) ∈ lw_tbl := lw_at lw_m3 174 rfl
theorem q793 : (Jvm.Cond.interfaceMethod "java/util/Iterator" "java/util/Iterator" "next" "()Ljava/lang/Object;") ∈ lw_tbl := lw_at lw_m3 219 rfl
theorem q794 : (Jvm.Cond.declares ({ cls := "java/util/Iterator", name := "next", desc := "()Ljava/lang/Object;" } : Jvm.MethodName)) ∈ lw_tbl := lw_at lw_m3 220 rfl
theorem q1245 : (Jvm.Cond.interfaceMethod "java/util/Iterator" "java/util/Iterator" "remove" "()V") ∈ lw_tbl := lw_at lw_m5 191 rfl
theorem q1246 : (Jvm.Cond.declares ({ cls := "java/util/Iterator", name := "remove", desc := "()V" } : Jvm.MethodName)) ∈ lw_tbl := lw_at lw_m5 192 rfl

theorem q2450 : (Jvm.Cond.interfaceMethod "jdk/internal/access/JavaLangAccess" "jdk/internal/access/JavaLangAccess" "getUTF16Char" "([BI)C") ∈ lw_tbl := lw_at lw_m10 196 rfl
set_option maxRecDepth 100000
theorem q2451 : (Jvm.Cond.declares ({ cls := "jdk/internal/access/JavaLangAccess", name := "getUTF16Char", desc := "([BI)C" } : Jvm.MethodName)) ∈ lw_tbl := lw_at lw_m10 197 rfl

theorem q202 : (Jvm.Cond.arrayOver (Jvm.ClassFile.FieldType.object "java/lang/Object")) ∈ lw_tbl := lw_at lw_m1 108 rfl
set_option maxRecDepth 100000
theorem q263 : (Jvm.Cond.arrayClass Jvm.ClassFile.FieldType.int) ∈ lw_all := lw_g (lw_at lw_m1 169 rfl) rfl
theorem q298 : (Jvm.Cond.arrayClass Jvm.ClassFile.FieldType.byte) ∈ lw_all := lw_g (lw_at lw_m1 204 rfl) rfl
theorem q2625 : (Jvm.Cond.arrayClass Jvm.ClassFile.FieldType.char) ∈ lw_all := lw_g (lw_at lw_m11 131 rfl) rfl
theorem q3072 : (Jvm.Cond.arrayClass Jvm.ClassFile.FieldType.long) ∈ lw_all := lw_g (lw_at lw_m13 98 rfl) rfl
theorem q3141 : (Jvm.Cond.arrayClass Jvm.ClassFile.FieldType.short) ∈ lw_all := lw_g (lw_at lw_m13 167 rfl) rfl
